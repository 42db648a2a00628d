/-! State.record: printed by gen/s5.py -/
set_option maxRecDepth 100000
theorem lst_a (v : Nat) : ∀ n, n ≤ 12 → (fo (fun j a => if a = 12 ∧ v.testBit j = true then j else a) n 12 = 12 ∧ ∀ j, j < n → v.testBit j = false) ∨ (fo (fun j a => if a = 12 ∧ v.testBit j = true then j else a) n 12 < n ∧ v.testBit (fo (fun j a => if a = 12 ∧ v.testBit j = true then j else a) n 12) = true ∧ ∀ j, j < fo (fun j a => if a = 12 ∧ v.testBit j = true then j else a) n 12 → v.testBit j = false) := by
  intro n
  induction n with
  | zero => intro _; exact Or.inl ⟨rfl, fun j hj => absurd hj (Nat.not_lt_zero _)⟩
  | succ n ih =>
    intro h
    have e : fo (fun j a => if a = 12 ∧ v.testBit j = true then j else a) (n + 1) 12 = if fo (fun j a => if a = 12 ∧ v.testBit j = true then j else a) n 12 = 12 ∧ v.testBit n = true then n else fo (fun j a => if a = 12 ∧ v.testBit j = true then j else a) n 12 := rfl
    rw [e]
    rcases ih (by omega) with ⟨h1, h2⟩ | ⟨h1, h2, h3⟩
    · by_cases hb : v.testBit n = true
      · rw [if_pos ⟨h1, hb⟩]
        exact Or.inr ⟨by omega, hb, h2⟩
      · rw [if_neg (fun z => hb z.2)]
        refine Or.inl ⟨h1, fun j hj => ?_⟩
        rcases Nat.lt_or_ge j n with q | q
        · exact h2 j q
        · rw [show j = n by omega]; exact Bool.eq_false_iff.mpr hb
    · rw [if_neg (fun z => by omega)]
      exact Or.inr ⟨by omega, h2, h3⟩
/-- the next one of a set of small numbers -/
theorem nsb_on {p : Nat → Bool} {n i : Nat} (hn : n < 12) (hi : i < 12) : (nsb (msk p n) i = -1 ∧ ∀ k, i ≤ k → k < n → p k = false) ∨ ∃ k, nsb (msk p n) i = nI k ∧ i ≤ k ∧ k < n ∧ p k = true ∧ ∀ j, i ≤ j → j < k → p j = false := by
  have hb : ∀ j, (msk p n / 2 ^ i * 2 ^ i).testBit j = (decide (i ≤ j) && (decide (j < n) && p j)) := fun j => by
    rw [Nat.testBit_mul_two_pow, Nat.testBit_div_two_pow]
    by_cases q : i ≤ j
    · rw [show j - i + i = j by omega, msk_bit]
    · simp [q]
  unfold nsb
  generalize hw : msk p n / 2 ^ i * 2 ^ i = w at hb
  by_cases h0 : w = 0
  · rw [if_pos h0]
    refine Or.inl ⟨rfl, fun k h1 h2 => ?_⟩
    have := hb k
    rw [h0, Nat.zero_testBit] at this
    simpa [h1, h2] using this.symm
  · rw [if_neg h0]
    rcases lst_a w 12 (Nat.le_refl _) with ⟨-, h2⟩ | ⟨h1, h2, h3⟩
    · refine absurd (Nat.eq_of_testBit_eq (fun j => ?_)) h0
      rw [Nat.zero_testBit]
      rcases Nat.lt_or_ge j 12 with q | q
      · exact h2 j q
      · rw [hb, decide_eq_false (show ¬ j < n by omega)]; simp
    · have e := hb (lst w)
      have e2 : w.testBit (lst w) = true := h2
      rw [e2] at e
      simp only [Bool.true_eq, Bool.and_eq_true, decide_eq_true_eq] at e
      refine Or.inr ⟨lst w, rfl, e.1, e.2.1, e.2.2, fun j q1 q2 => ?_⟩
      have := hb j
      rw [show w.testBit j = false from h3 j q2] at this
      simpa [q1, show j < n from Nat.lt_trans q2 e.2.1] using this.symm
def smf (P S : Nat → Int32) (m t : Nat) : Nat → Int32 → Int32 := fun k s => s + (if S (25 + k) = 0 then nI 0 else hO P (wav P k) m (sxA S k t) (syA S k t) t)
/-- a row when the sources below j are in it -/
def SMj (P S : Nat → Int32) (j m t : Nat) : Int32 := if t < ofs P m then nI 0 else fo (smf P S m (t - ofs P m)) j (nI 0)
theorem SMj_off {P S : Nat → Int32} {j k : Nat} (hjk : j ≤ k) (h : ∀ i, j ≤ i → i < k → S (25 + i) = 0) (m t : Nat) : SMj P S k m t = SMj P S j m t := by
  unfold SMj
  by_cases q : t < ofs P m
  · rw [if_pos q, if_pos q]
  · rw [if_neg q, if_neg q]
    induction k with
    | zero => rw [show j = 0 by omega]
    | succ k ih =>
      rcases Nat.lt_or_ge j (k + 1) with r | r
      · show smf P S m (t - ofs P m) k (fo (smf P S m (t - ofs P m)) k (nI 0)) = _
        unfold smf
        rw [if_pos (h k (by omega) (by omega)), i_add0]
        exact ih (by omega) (fun i h1 h2 => h i h1 (by omega))
      · rw [show j = k + 1 by omega]
theorem SMj_on {P S : Nat → Int32} {k : Nat} (h : ¬ S (25 + k) = 0) (m t : Nat) : SMj P S (k + 1) m t = SMj P S k m t + (if t < ofs P m then nI 0 else hO P (wav P k) m (sxA S k (t - ofs P m)) (syA S k (t - ofs P m)) (t - ofs P m)) := by
  unfold SMj
  by_cases q : t < ofs P m
  · rw [if_pos q, if_pos q, if_pos q, i_add0]
  · rw [if_neg q, if_neg q, if_neg q]
    show smf P S m (t - ofs P m) k _ = _
    unfold smf
    rw [if_neg h]
theorem flt_mul {P h : Nat → Int32} {g : Int32} (t : Nat) : flt P (fun t => g * h t) t = g * flt P h t := by
  unfold flt
  by_cases q : nP P = 0
  · rw [if_pos q, if_pos q]
  · rw [if_neg q, if_neg q]
    have key : ∀ n, fo (fun i s => s + P (78 + i) * (g * h (t - i))) n (nI 0) = g * fo (fun i s => s + P (78 + i) * h (t - i)) n (nI 0) := by
      intro n
      induction n with
      | zero => show nI 0 = g * nI 0; rw [nI_0, Int32.mul_zero]
      | succ n ih =>
        show fo (fun i s => s + P (78 + i) * (g * h (t - i))) n (nI 0) + P (78 + n) * (g * h (t - n)) = g * (fo (fun i s => s + P (78 + i) * h (t - i)) n (nI 0) + P (78 + n) * h (t - n))
        rw [ih, Int32.mul_add, ← Int32.mul_assoc, ← Int32.mul_assoc, Int32.mul_comm (P (78 + n)) g]
    exact key _
theorem raw_e {P S : Nat → Int32} {m : Nat} : rawA P S m = fun t => nI (gain P m) * SMj P S (nS P) m t := by
  funext t
  unfold rawA SMj
  by_cases q : t < ofs P m
  · rw [if_pos q, if_pos q, nI_0, Int32.mul_zero]
  · rw [if_neg q, if_neg q]; rfl
/-- the rows have these values -/
def RS (P S S' : Nat → Int32) (f : Nat → Nat → Int32) (n : Nat) : Prop := (∀ i, i < 55 → S' i = S i) ∧ ∀ m, m < n → ∀ t, t < nT P → S' (55 + 200 * m + t) = f m t
theorem RS.vs {P S S' : Nat → Int32} {f : Nat → Nat → Int32} {n : Nat} (h : RS P S S' f n) (hV : VS S) : VS S' := lowS.vs (fun i _ hi => h.1 i hi) hV
theorem rcd_e {P S S' : Nat → Int32} (hT : nT P ≤ 200) (h : RS P S S' (fun m t => bnd P (nI (gain P m) * flt P (SMj P S (nS P) m) t)) (nM P)) : (∀ i, i < 55 → rcd P (rawA P S) S i = va_up S' 0 (nI 0) i) ∧ ∀ m, m < nM P → ∀ t, t < nT P → rcd P (rawA P S) S (55 + 200 * m + t) = va_up S' 0 (nI 0) (55 + 200 * m + t) := by
  refine ⟨fun i hi => ?_, fun m hm t ht => ?_⟩
  · by_cases q : i = 0
    · subst q; rw [va_up_self]; unfold rcd rcp; rw [if_pos rfl]
    · rw [va_up_ne _ _ q, h.1 i hi]
      exact rcp_lo (by omega) hi
  · rw [va_up_ne _ _ (by omega), h.2 m hm t ht]
    unfold rcd rcp
    rw [if_neg (by omega), show (55 + 200 * m + t - 55) / 200 = m by omega, show (55 + 200 * m + t - 55) % 200 = t by omega, if_pos ⟨by omega, ht, Or.inl hm⟩, raw_e, flt_mul]
theorem nX3_record : notMH yX3_record 0 := by decide +kernel
set_option maxHeartbeats 800000 in
theorem mX3_record (l : Launch) (D : DD) (u : Nat → Nat) (P T : Nat → Int32) (o : Nat) (g : Nat → Nat) (S : Nat → Int32) (pw : Option Nat)  (hC : VC P) (hV : VS S) (hA : AP g u P) : Ct l yX3_record cX3_record 6 none { frames := 8, cells := 0, slots := 0, locals := 182 } D [.ref (g 0)] (fun H => KH D H ∧ UR D u P T o H ∧ SR D g u P S pw H) (OA g (nM P)) (fun r H H1 => r = none ∧ SR D g u P (rcd P (rawA P S) S) none H1) := by
  refine Ct.of (by decide +kernel) (Nat.le_of_ble_eq_true rfl) (fun K Qf hkl X hM hQ => ?_)
  subst hkl
  obtain ⟨hK, hU, hR⟩ := hM
  have hz : (kS K).heap.size ≤ (kS K).heap.size := Nat.le_refl _
  have hP := hC.v
  have l0 := hP.l0
  have l1 := hP.l1
  have l2 := hP.l2
  have l4 := hP.l4
  have l5 := hP.l5
  have l8 := hP.l8
  have l9 := hP.l9
  have l10 := hP.l10
  have l71 := hP.l71
  have l76 := hP.l76
  have l77 := hP.l77
  have hx1 := hC.x1
  have hy1 := hC.y1
  have ht1 := hC.t1
  have he1 := hC.e1
  have hm1 := hC.m1
  have hcc : nC P ≤ 144 := Nat.mul_le_mul l9 l10
  refine vv_sub (lv' := [(0, .ref (g 0))]) [0] rfl ?_
  refine vv_aload_n X dX3_record_0 rfl 0 rfl ?_
  refine vv_getf (C := RX3) (T := TX3) (N := 8) (ref := "AcousticCamera$State") X hR.ob in_X3 CL_X3 5 (by decide) q1697 rfl rfl dX3_record_1 ?_
  refine vv_astore_n (lv' := [(1, .ref (g 7)), (0, .ref (g 0))]) X dX3_record_4 rfl (by decide) rfl ?_
  refine vv_aload_n X dX3_record_5 rfl 0 rfl ?_
  refine vv_alen (ty := 5) X hR.ra rfl dX3_record_6 ?_
  refine vv_istore_n (lv' := [(2, .int (nI (nM P))), (1, .ref (g 7)), (0, .ref (g 0))]) X dX3_record_7 rfl (by decide) rfl ?_
  refine vv_iconst (v := nI 0) X dX3_record_8 (by decide) ?_
  refine vv_istore_n (lv' := [(3, .int (nI 0)), (2, .int (nI (nM P))), (1, .ref (g 7)), (0, .ref (g 0))]) X dX3_record_9 rfl (by decide) rfl ?_
  have hx_1 : ∀ (H : Heap) (S' : Nat → Int32) (hK : KH D H) (hU : UR D u P T o H) (hR : SR D g u P S' pw H) (hz : (kS K).heap.size ≤ H.size) (hRS : RS P S S' (fun _ _ => nI 0) (nM P)), V K 6 (OA g (nM P)) H 0 0 Qf 49 [(0, .ref (g 0)), (1, .ref (g 7)), (2, .int (nI (nM P))), (3, .int (nI (nM P)))] [] := by
    intro H S' hK hU hR hz hRS
    refine vv_aload_n X dX3_record_49 rfl 0 rfl ?_
    refine vv_getf (C := RX3) (T := TX3) (N := 8) (ref := "AcousticCamera$State") X hR.ob in_X3 CL_X3 2 (by decide) q1691 rfl rfl dX3_record_50 ?_
    refine vv_iconst (v := nI 0) X dX3_record_53 (by decide) ?_
    refine vv_callVp X (mJ21_nextSetBit (kL K) D (g 3) (g 4) (onm P S') 0 (by exact on_lt hP _) (by omega)) q1724 q1725 q1726 q164 q1727 nJ21_nextSetBit ⟨(Nat.le_of_ble_eq_true rfl), (Nat.le_of_ble_eq_true rfl)⟩ dX3_record_54 rfl (Nat.le_of_ble_eq_true rfl) (recv X hR.on.1 CL_J21) ⟨hK, hR.on⟩ ⟨(Nat.le_of_ble_eq_true rfl), (Nat.le_of_ble_eq_true rfl)⟩ ?_
    refine vv_eqi (show _ = nsb (onm P S) 0 from by rw [onm_cg l5 hRS.1]) ?_
    refine vv_istore_n (lv' := [(1, .int (nsb (onm P S) 0)), (0, .ref (g 0)), (2, .int (nI (nM P))), (3, .int (nI (nM P)))]) X dX3_record_57 rfl (by decide) rfl ?_
    have hfin : ∀ (H : Heap) (S' : Nat → Int32), KH D H → UR D u P T o H → SR D g u P S' pw H → (kS K).heap.size ≤ H.size → RS P S S' (fun m t => SMj P S (nS P) m t) (nM P) → V K 6 (OA g (nM P)) H 0 0 Qf 104 [(0, .ref (g 0))] [] := by
      intro H S' hK hU hR hz hRS
      refine vv_iconst (v := nI 0) X dX3_record_104 (by decide) ?_
      refine vv_istore_n (lv' := [(1, .int (nI 0)), (0, .ref (g 0))]) X dX3_record_105 rfl (by decide) rfl ?_
      have hx_2 : ∀ (H : Heap) (S' : Nat → Int32) (hK : KH D H) (hU : UR D u P T o H) (hR : SR D g u P S' pw H) (hz : (kS K).heap.size ≤ H.size) (hlo : ∀ i, i < 55 → S' i = S i) (hol : ∀ m, m < nM P → ∀ t, t < nT P → S' (55 + 200 * m + t) = if m < (nM P) then (fun m t => bnd P (nI (gain P m) * flt P (SMj P S (nS P) m) t)) m t else SMj P S (nS P) m t), V K 6 (OA g (nM P)) H 0 0 Qf 126 [(0, .ref (g 0)), (1, .int (nI (nM P)))] [] := by
        intro H S' hK hU hR hz hlo hol
        refine vv_aload_n X dX3_record_126 rfl 0 rfl ?_
        refine vv_iconst (v := nI 0) X dX3_record_127 (by decide) ?_
        refine vv_putf (C := RX3) (T := TX3) (N := 8) (ref := "AcousticCamera$State") X hR.ob in_X3 CL_X3 tyX3 tyX3_ok nmX3 6 (by decide) q1699 rfl rfl rfl rfl (Nat.le_of_ble_eq_true rfl) (Or.inl (OA.of (Or.inl (by decide)))) dX3_record_128 (fun H hc ho => ?_)
        replace hK := hK.ch hc (hR.kn X hK 0 (Or.inl (by decide)))
        replace hU := hU.own hA l4 (Q := (· = 0)) (fun k hk => by subst hk; exact Or.inl (by decide)) hc.own
        replace hz := Nat.le_trans hz (Nat.le_of_eq hc.1.symm)
        replace hR := hR.put0 hA l4 l5 (x := nI 0) hc ho
        clear hc ho
        refine vv_aload_n X dX3_record_131 rfl 0 rfl ?_
        refine vv_null X dX3_record_132 ?_
        refine vv_putf (C := RX3) (T := TX3) (N := 8) (ref := "AcousticCamera$State") X hR.ob in_X3 CL_X3 tyX3 tyX3_ok nmX3 7 (by decide) q1701 rfl rfl rfl rfl (Nat.le_of_ble_eq_true rfl) (Or.inl (OA.of (Or.inl (by decide)))) dX3_record_133 (fun H hc ho => ?_)
        replace hK := hK.ch hc (hR.kn X hK 0 (Or.inl (by decide)))
        replace hU := hU.own hA l4 (Q := (· = 0)) (fun k hk => by subst hk; exact Or.inl (by decide)) hc.own
        replace hz := Nat.le_trans hz (Nat.le_of_eq hc.1.symm)
        replace hR := hR.putP hA l4 l5 (pw' := none) hc ho
        clear hc ho
        exact vv_vret X hQ dX3_record_136 (Nat.le_of_ble_eq_true rfl) (Nat.le_of_ble_eq_true rfl) (⟨rfl, hR.cg l4 l5 (rcd_e l2 ⟨hlo, fun m hm t ht => by rw [hol m hm t ht, if_pos hm]⟩).1 (rcd_e l2 ⟨hlo, fun m hm t ht => by rw [hol m hm t ht, if_pos hm]⟩).2⟩)
      have hl_3 : ∀ (n_i i : Nat) (H : Heap) (S' : Nat → Int32), i + n_i = nM P → (KH D H) → (UR D u P T o H) → (SR D g u P S' pw H) → ((kS K).heap.size ≤ H.size) → (∀ i, i < 55 → S' i = S i) → (∀ m, m < nM P → ∀ t, t < nT P → S' (55 + 200 * m + t) = if m < i then (fun m t => bnd P (nI (gain P m) * flt P (SMj P S (nS P) m) t)) m t else SMj P S (nS P) m t) → V K 6 (OA g (nM P)) H 0 0 Qf 106 [(0, .ref (g 0)), (1, .int (nI i))] [] := by
        intro n_i
        induction n_i with
        | zero =>
          intro i H S' hi hK hU hR hz hlo hol
          obtain rfl : i = nM P := by omega
          refine vv_iload_n X dX3_record_106 rfl 1 rfl ?_
          refine vv_aload_n X dX3_record_107 rfl 0 rfl ?_
          refine vv_getf (C := RX3) (T := TX3) (N := 8) (ref := "AcousticCamera$State") X hR.ob in_X3 CL_X3 5 (by decide) q1697 rfl rfl dX3_record_108 ?_
          refine vv_alen (ty := 5) X hR.ra rfl dX3_record_111 ?_
          refine vn_ge (tgt := 126) X (by omega) (by omega) dX3_record_112 (by decide) (fun c_112 => ?_) (fun c_112 => ?_)
          · exact hx_2 H S' hK hU hR hz hlo hol
          · exact absurd c_112 (by omega)
        | succ n_i ihi =>
          intro i H S' hi hK hU hR hz hlo hol
          refine vv_iload_n X dX3_record_106 rfl 1 rfl ?_
          refine vv_aload_n X dX3_record_107 rfl 0 rfl ?_
          refine vv_getf (C := RX3) (T := TX3) (N := 8) (ref := "AcousticCamera$State") X hR.ob in_X3 CL_X3 5 (by decide) q1697 rfl rfl dX3_record_108 ?_
          refine vv_alen (ty := 5) X hR.ra rfl dX3_record_111 ?_
          refine vn_ge (tgt := 126) X (by omega) (by omega) dX3_record_112 (by decide) (fun c_112 => ?_) (fun c_112 => ?_)
          · exact absurd hi (by omega)
          · refine vv_aload_n X dX3_record_115 rfl 0 rfl ?_
            refine vv_iload_n X dX3_record_116 rfl 1 rfl ?_
            refine vv_callV X (mX3_finish (kL K) D u P T o g S' pw i hC (lowS.vs (fun i _ hi => hlo i hi) hV) hA (by omega)) q1765 q1767 qs34 q150 q1768 nX3_finish ⟨(Nat.le_of_ble_eq_true rfl), (Nat.le_of_ble_eq_true rfl)⟩ dX3_record_117 rfl (Nat.le_of_ble_eq_true rfl) (recv X hR.ob CL_X3) ⟨hK, hU, hR⟩ (fun _ z => Or.inl z) ⟨(Nat.le_of_ble_eq_true rfl), (Nat.le_of_ble_eq_true rfl)⟩ (fun v_ H hq hz_ hk => ?_)
            obtain ⟨rfl, S3, hR2, hRW⟩ := hq
            replace hK := hK.to hk (hR.knA X hK)
            replace hU := hU.to hA hk
            replace hz := Nat.le_trans hz hz_
            clear hk hz_ hR
            have hR := hR2
            clear hR2
            have hnew : ∀ m, m < nM P → ∀ t, t < nT P → S3 (55 + 200 * m + t) = if m < i + 1 then (fun m t => bnd P (nI (gain P m) * flt P (SMj P S (nS P) m) t)) m t else SMj P S (nS P) m t := fun m hm t ht => by
              by_cases q : m = i
              · subst q
                rw [if_pos (by omega), hRW.2.2 t ht]
                refine congrArg (fun z => bnd P (nI (gain P m) * z)) (flt_congr (fun x hx => ?_))
                rw [hol m hm x (by omega), if_neg (Nat.lt_irrefl _)]
              · rw [hRW.2.1 m hm q t ht, hol m hm t ht]
                by_cases r : m < i
                · rw [if_pos r, if_pos (by omega)]
                · rw [if_neg r, if_neg (by omega)]
            refine vv_iinc (v := nI (i + 1)) (lv' := [(1, .int (nI (i + 1))), (0, .ref (g 0))]) X dX3_record_120 (k := 1) rfl (nI_add _ 1) (by decide) rfl ?_
            refine vv_goto (tgt := 106) X dX3_record_123 (by decide) ?_
            refine vv_sub [1, 0] rfl ?_
            exact ihi (i + 1) H S3 (by omega) (hK) (hU) (hR) (hz) (fun x hx => (hRW.1 x hx).trans (hlo x hx)) (hnew)
      refine vv_sub [1, 0] rfl ?_
      exact hl_3 (nM P) 0 H S' (by first | omega | assumption) (hK) (hU) (hR) (hz) (hRS.1) (fun m hm t ht => by rw [if_neg (Nat.not_lt_zero _)]; exact hRS.2 m hm t ht)
    have key : ∀ (n j : Nat), nS P - j ≤ n → j ≤ nS P → ∀ (H : Heap) (S' : Nat → Int32), KH D H → UR D u P T o H → SR D g u P S' pw H → (kS K).heap.size ≤ H.size → RS P S S' (fun m t => SMj P S j m t) (nM P) → V K 6 (OA g (nM P)) H 0 0 Qf 58 [(0, .ref (g 0)), (1, .int (nsb (onm P S) j))] [] := by
      intro n
      induction n with
      | zero =>
        intro j hn hj H S' hK hU hR hz hRS
        rcases nsb_on (p := fun k => decide (S (25 + k) ≠ 0)) (n := nS P) (i := j) (by omega) (by omega) with ⟨e1, e2⟩ | ⟨k, e1, e2, e3, e4, e5⟩
        · have e1 : nsb (onm P S) j = -1 := e1
          rw [e1]
          refine vv_iload_n X dX3_record_58 rfl 1 rfl ?_
          refine vv_if_lt (tgt := 104) X dX3_record_59 (by decide) (fun c_59 => ?_) (fun c_59 => ?_)
          · refine vv_sub (lv' := [(0, .ref (g 0))]) [0] rfl ?_
            exact hfin H S' hK hU hR hz ⟨hRS.1, fun m hm t ht => (hRS.2 m hm t ht).trans (SMj_off hj (fun i h1 h2 => by have := e2 i h1 h2; simpa using this) m t).symm⟩
          · exact absurd (by decide) c_59
        · exact absurd e3 (by omega)
      | succ n ih =>
        intro j hn hj H S' hK hU hR hz hRS
        rcases nsb_on (p := fun k => decide (S (25 + k) ≠ 0)) (n := nS P) (i := j) (by omega) (by omega) with ⟨e1, e2⟩ | ⟨k, e1, e2, e3, e4, e5⟩
        · have e1 : nsb (onm P S) j = -1 := e1
          rw [e1]
          refine vv_iload_n X dX3_record_58 rfl 1 rfl ?_
          refine vv_if_lt (tgt := 104) X dX3_record_59 (by decide) (fun c_59 => ?_) (fun c_59 => ?_)
          · refine vv_sub (lv' := [(0, .ref (g 0))]) [0] rfl ?_
            exact hfin H S' hK hU hR hz ⟨hRS.1, fun m hm t ht => (hRS.2 m hm t ht).trans (SMj_off hj (fun i h1 h2 => by have := e2 i h1 h2; simpa using this) m t).symm⟩
          · exact absurd (by decide) c_59
        · have e1 : nsb (onm P S) j = nI k := e1
          rw [e1]
          have e4 : ¬ S (25 + k) = 0 := by simpa using e4
          have hoff : ∀ i, j ≤ i → i < k → S (25 + i) = 0 := fun i h1 h2 => by have := e5 i h1 h2; simpa using this
          have hRS : RS P S S' (fun m t => SMj P S k m t) (nM P) := ⟨hRS.1, fun m hm t ht => (hRS.2 m hm t ht).trans (SMj_off e2 hoff m t).symm⟩
          refine vv_iload_n X dX3_record_58 rfl 1 rfl ?_
          refine vn_if_lt (tgt := 104) X (by omega) dX3_record_59 (by decide) ?_
          refine vv_iconst (v := nI 0) X dX3_record_62 (by decide) ?_
          refine vv_istore_n (lv' := [(2, .int (nI 0)), (0, .ref (g 0)), (1, .int (nI k))]) X dX3_record_63 rfl (by decide) rfl ?_
          have hx_4 : ∀ (H : Heap) (S' : Nat → Int32) (hK : KH D H) (hU : UR D u P T o H) (hR : SR D g u P S' pw H) (hz : (kS K).heap.size ≤ H.size) (hlo : ∀ i, i < 55 → S' i = S i) (hol : ∀ m, m < nM P → ∀ t, t < nT P → S' (55 + 200 * m + t) = if m < (nM P) then SMj P S (k + 1) m t else SMj P S k m t), V K 6 (OA g (nM P)) H 0 0 Qf 90 [(0, .ref (g 0)), (1, .int (nI k)), (2, .int (nI (nM P)))] [] := by
            intro H S' hK hU hR hz hlo hol
            refine vv_aload_n X dX3_record_90 rfl 0 rfl ?_
            refine vv_getf (C := RX3) (T := TX3) (N := 8) (ref := "AcousticCamera$State") X hR.ob in_X3 CL_X3 2 (by decide) q1691 rfl rfl dX3_record_91 ?_
            refine vv_iload_n X dX3_record_94 rfl 1 rfl ?_
            refine vv_iconst (v := nI 1) X dX3_record_95 (by decide) ?_
            refine vn_add X dX3_record_96 ?_
            refine vv_callVp X (mJ21_nextSetBit (kL K) D (g 3) (g 4) (onm P S') (k + 1) (by exact on_lt hP _) (by omega)) q1724 q1725 q1726 q164 q1727 nJ21_nextSetBit ⟨(Nat.le_of_ble_eq_true rfl), (Nat.le_of_ble_eq_true rfl)⟩ dX3_record_97 rfl (Nat.le_of_ble_eq_true rfl) (recv X hR.on.1 CL_J21) ⟨hK, hR.on⟩ ⟨(Nat.le_of_ble_eq_true rfl), (Nat.le_of_ble_eq_true rfl)⟩ ?_
            refine vv_eqi (show _ = nsb (onm P S) (k + 1) from by rw [onm_cg l5 hlo]) ?_
            refine vv_istore_n (lv' := [(1, .int (nsb (onm P S) (k + 1))), (0, .ref (g 0)), (2, .int (nI (nM P)))]) X dX3_record_100 rfl (by decide) rfl ?_
            refine vv_goto (tgt := 58) X dX3_record_101 (by decide) ?_
            refine vv_sub (lv' := [(0, .ref (g 0)), (1, .int (nsb (onm P S) (k + 1)))]) [1, 0] rfl ?_
            exact ih (k + 1) (by omega) (by omega) H S' hK hU hR hz ⟨hlo, fun m hm t ht => by rw [hol m hm t ht, if_pos hm]⟩
          have hl_5 : ∀ (n_i i : Nat) (H : Heap) (S' : Nat → Int32), i + n_i = nM P → (KH D H) → (UR D u P T o H) → (SR D g u P S' pw H) → ((kS K).heap.size ≤ H.size) → (∀ i, i < 55 → S' i = S i) → (∀ m, m < nM P → ∀ t, t < nT P → S' (55 + 200 * m + t) = if m < i then SMj P S (k + 1) m t else SMj P S k m t) → V K 6 (OA g (nM P)) H 0 0 Qf 64 [(0, .ref (g 0)), (1, .int (nI k)), (2, .int (nI i))] [] := by
            intro n_i
            induction n_i with
            | zero =>
              intro i H S' hi hK hU hR hz hlo hol
              obtain rfl : i = nM P := by omega
              refine vv_iload_n X dX3_record_64 rfl 2 rfl ?_
              refine vv_aload_n X dX3_record_65 rfl 0 rfl ?_
              refine vv_getf (C := RX3) (T := TX3) (N := 8) (ref := "AcousticCamera$State") X hR.ob in_X3 CL_X3 5 (by decide) q1697 rfl rfl dX3_record_66 ?_
              refine vv_alen (ty := 5) X hR.ra rfl dX3_record_69 ?_
              refine vn_ge (tgt := 90) X (by omega) (by omega) dX3_record_70 (by decide) (fun c_70 => ?_) (fun c_70 => ?_)
              · exact hx_4 H S' hK hU hR hz hlo hol
              · exact absurd c_70 (by omega)
            | succ n_i ihi =>
              intro i H S' hi hK hU hR hz hlo hol
              refine vv_iload_n X dX3_record_64 rfl 2 rfl ?_
              refine vv_aload_n X dX3_record_65 rfl 0 rfl ?_
              refine vv_getf (C := RX3) (T := TX3) (N := 8) (ref := "AcousticCamera$State") X hR.ob in_X3 CL_X3 5 (by decide) q1697 rfl rfl dX3_record_66 ?_
              refine vv_alen (ty := 5) X hR.ra rfl dX3_record_69 ?_
              refine vn_ge (tgt := 90) X (by omega) (by omega) dX3_record_70 (by decide) (fun c_70 => ?_) (fun c_70 => ?_)
              · exact absurd hi (by omega)
              · refine vv_aload_n X dX3_record_73 rfl 0 rfl ?_
                refine vv_aload_n X dX3_record_74 rfl 0 rfl ?_
                refine vv_getf (C := RX3) (T := TX3) (N := 8) (ref := "AcousticCamera$State") X hR.ob in_X3 CL_X3 3 (by decide) q1693 rfl rfl dX3_record_75 ?_
                refine vv_iload_n X dX3_record_78 rfl 1 rfl ?_
                refine vv_aald (ty := 8) X hR.sa rfl rfl (k) (by omega) (by omega) rfl dX3_record_79 (v := .ref (g (30 + k))) rfl ?_
                refine vv_iload_n X dX3_record_80 rfl 2 rfl ?_
                refine vv_callV X (mX3_add (kL K) D u P T o g S' pw _ _ _ _ _ _ _ _ _ _ _ i hC (lowS.vs (fun i _ hi => hlo i hi) hV) hA (hP.amp k (by omega)).2 (hC.per1 k (by omega)).1 (hP.per k (by omega)).2 (hP.pha k (by omega)).2 (hP.frm k (by omega)).2 (fun j hj e => hA.2.2 j _ hj (Or.inl ⟨by omega, by omega⟩) e.symm) (fun j hj e => hA.2.2 j _ hj (Or.inr ⟨by omega, by omega⟩) e.symm) (by omega) (fun t ht => sx_rg (lowS.vs (fun i _ hi => hlo i hi) hV) (by omega) ht) (fun t ht => sy_rg (lowS.vs (fun i _ hi => hlo i hi) hV) (by omega) ht)) q1735 q1737 qs31 q150 q1738 nX3_add ⟨(Nat.le_of_ble_eq_true rfl), (Nat.le_of_ble_eq_true rfl)⟩ dX3_record_81 rfl (Nat.le_of_ble_eq_true rfl) (recv X hR.ob CL_X3) ⟨hK, hU, hR, (hR.src k (by omega))⟩ (fun _ z => Or.inl z) ⟨(Nat.le_of_ble_eq_true rfl), (Nat.le_of_ble_eq_true rfl)⟩ (fun v_ H hq hz_ hk => ?_)
                obtain ⟨rfl, S3, hR2, hRW⟩ := hq
                replace hK := hK.to hk (hR.knA X hK)
                replace hU := hU.to hA hk
                replace hz := Nat.le_trans hz hz_
                clear hk hz_ hR
                have hR := hR2
                clear hR2
                have hnew : ∀ m, m < nM P → ∀ t, t < nT P → S3 (55 + 200 * m + t) = if m < i + 1 then SMj P S (k + 1) m t else SMj P S k m t := fun m hm t ht => by
                  by_cases q : m = i
                  · subst q
                    rw [if_pos (by omega), hRW.2.2 t ht]
                    dsimp only
                    rw [SMj_on e4, hol m hm t ht, if_neg (Nat.lt_irrefl _), wvg_P, hlo (31 + k) (by omega), hlo (37 + k) (by omega), hlo (43 + k) (by omega), hlo (49 + k) (by omega)]; rfl
                  · rw [hRW.2.1 m hm q t ht, hol m hm t ht]
                    by_cases r : m < i
                    · rw [if_pos r, if_pos (by omega)]
                    · rw [if_neg r, if_neg (by omega)]
                refine vv_iinc (v := nI (i + 1)) (lv' := [(2, .int (nI (i + 1))), (0, .ref (g 0)), (1, .int (nI k))]) X dX3_record_84 (k := 2) rfl (nI_add _ 1) (by decide) rfl ?_
                refine vv_goto (tgt := 64) X dX3_record_87 (by decide) ?_
                refine vv_sub [1, 2, 0] rfl ?_
                exact ihi (i + 1) H S3 (by omega) (hK) (hU) (hR) (hz) (fun x hx => (hRW.1 x hx).trans (hlo x hx)) (hnew)
          refine vv_sub [1, 2, 0] rfl ?_
          exact hl_5 (nM P) 0 H S' (by first | omega | assumption) (hK) (hU) (hR) (hz) (hRS.1) (fun m hm t ht => by rw [if_neg (Nat.not_lt_zero _)]; exact hRS.2 m hm t ht)
    refine vv_sub (lv' := [(0, .ref (g 0)), (1, .int (nsb (onm P S) 0))]) [1, 0] rfl ?_
    exact key _ 0 (Nat.le_refl _) (Nat.zero_le _) H S' hK hU hR hz ⟨hRS.1, fun m hm t ht => (hRS.2 m hm t ht).trans (by show nI 0 = SMj P S 0 m t; unfold SMj; split <;> rfl)⟩
  have hl_6 : ∀ (n_i i : Nat) (H : Heap) (S' : Nat → Int32), i + n_i = nM P → (KH D H) → (UR D u P T o H) → (SR D g u P S' pw H) → ((kS K).heap.size ≤ H.size) → (RS P S S' (fun _ _ => nI 0) i) → V K 6 (OA g (nM P)) H 0 0 Qf 10 [(0, .ref (g 0)), (1, .ref (g 7)), (2, .int (nI (nM P))), (3, .int (nI i))] [] := by
    intro n_i
    induction n_i with
    | zero =>
      intro i H S' hi hK hU hR hz hRS
      obtain rfl : i = nM P := by omega
      refine vv_iload_n X dX3_record_10 rfl 3 rfl ?_
      refine vv_iload_n X dX3_record_11 rfl 2 rfl ?_
      refine vn_ge (tgt := 49) X (by omega) (by omega) dX3_record_12 (by decide) (fun c_12 => ?_) (fun c_12 => ?_)
      · exact hx_1 H S' hK hU hR hz hRS
      · exact absurd c_12 (by omega)
    | succ n_i ihi =>
      intro i H S' hi hK hU hR hz hRS
      refine vv_iload_n X dX3_record_10 rfl 3 rfl ?_
      refine vv_iload_n X dX3_record_11 rfl 2 rfl ?_
      refine vn_ge (tgt := 49) X (by omega) (by omega) dX3_record_12 (by decide) (fun c_12 => ?_) (fun c_12 => ?_)
      · exact absurd hi (by omega)
      · refine vv_aload_n X dX3_record_15 rfl 1 rfl ?_
        refine vv_iload_n X dX3_record_16 rfl 3 rfl ?_
        refine vv_aald (ty := 5) X hR.ra rfl rfl (i) (by omega) (by omega) rfl dX3_record_17 (v := .ref (g (10 + i))) rfl ?_
        refine vv_astore (lv' := [(4, .ref (g (10 + i))), (0, .ref (g 0)), (1, .ref (g 7)), (2, .int (nI (nM P))), (3, .int (nI i))]) X dX3_record_18 (by decide) rfl ?_
        refine vv_iconst (v := nI 0) X dX3_record_20 (by decide) ?_
        refine vv_istore (lv' := [(5, .int (nI 0)), (4, .ref (g (10 + i))), (0, .ref (g 0)), (1, .ref (g 7)), (2, .int (nI (nM P))), (3, .int (nI i))]) X dX3_record_21 (by decide) rfl ?_
        have hx_7 : ∀ (H : Heap) (S' : Nat → Int32) (hK : KH D H) (hU : UR D u P T o H) (hR : SR D g u P S' pw H) (hz : (kS K).heap.size ≤ H.size) (hlo : ∀ i, i < 55 → S' i = S i) (hol : ∀ k, k < i → ∀ t, t < nT P → S' (55 + 200 * k + t) = nI 0) (hne : ∀ t, t < (nT P) → S' (55 + 200 * i + t) = nI 0), V K 6 (OA g (nM P)) H 0 0 Qf 43 [(0, .ref (g 0)), (1, .ref (g 7)), (2, .int (nI (nM P))), (3, .int (nI i)), (4, .ref (g (10 + i))), (5, .int (nI (nT P)))] [] := by
          intro H S' hK hU hR hz hlo hol hne
          refine vv_iinc (v := nI (i + 1)) (lv' := [(3, .int (nI (i + 1))), (0, .ref (g 0)), (1, .ref (g 7)), (2, .int (nI (nM P))), (4, .ref (g (10 + i))), (5, .int (nI (nT P)))]) X dX3_record_43 (k := 3) rfl (nI_add _ 1) (by decide) rfl ?_
          refine vv_goto (tgt := 10) X dX3_record_46 (by decide) ?_
          refine vv_sub [1, 2, 3, 0] rfl ?_
          exact ihi (i + 1) H S' (by omega) (hK) (hU) (hR) (hz) (⟨hlo, fun k hk t ht => (Nat.lt_or_ge k i).elim (fun z => hol k z t ht) (fun z => by rw [show k = i by omega]; exact hne t ht)⟩)
        have hl_8 : ∀ (n_j j : Nat) (H : Heap) (S' : Nat → Int32), j + n_j = nT P → (KH D H) → (UR D u P T o H) → (SR D g u P S' pw H) → ((kS K).heap.size ≤ H.size) → (∀ i, i < 55 → S' i = S i) → (∀ k, k < i → ∀ t, t < nT P → S' (55 + 200 * k + t) = nI 0) → (∀ t, t < j → S' (55 + 200 * i + t) = nI 0) → V K 6 (OA g (nM P)) H 0 0 Qf 23 [(0, .ref (g 0)), (1, .ref (g 7)), (2, .int (nI (nM P))), (3, .int (nI i)), (4, .ref (g (10 + i))), (5, .int (nI j))] [] := by
          intro n_j
          induction n_j with
          | zero =>
            intro j H S' hj hK hU hR hz hlo hol hne
            obtain rfl : j = nT P := by omega
            refine vv_iload X dX3_record_23 5 rfl ?_
            refine vv_aload X dX3_record_25 4 rfl ?_
            refine vv_alen (ty := 0) X (hR.row i (by omega)) rfl dX3_record_27 ?_
            refine vn_ge (tgt := 43) X (by omega) (by omega) dX3_record_28 (by decide) (fun c_28 => ?_) (fun c_28 => ?_)
            · exact hx_7 H S' hK hU hR hz hlo hol hne
            · exact absurd c_28 (by omega)
          | succ n_j ihj =>
            intro j H S' hj hK hU hR hz hlo hol hne
            refine vv_iload X dX3_record_23 5 rfl ?_
            refine vv_aload X dX3_record_25 4 rfl ?_
            refine vv_alen (ty := 0) X (hR.row i (by omega)) rfl dX3_record_27 ?_
            refine vn_ge (tgt := 43) X (by omega) (by omega) dX3_record_28 (by decide) (fun c_28 => ?_) (fun c_28 => ?_)
            · exact absurd hj (by omega)
            · refine vv_aload X dX3_record_31 4 rfl ?_
              refine vv_iload X dX3_record_33 5 rfl ?_
              refine vv_iconst (v := nI 0) X dX3_record_35 (by decide) ?_
              refine vv_iast X (hR.row i (by omega)) (j) (by omega) (by omega) rfl (Or.inl (OA.of (Or.inr ⟨by omega, by omega⟩))) dX3_record_36 (fun H hc ho => ?_)
              replace hK := hK.ch hc (hR.kn X hK _ (Or.inr ⟨by omega, by omega⟩))
              replace hU := hU.own hA l4 (Q := (· = (10 + i))) (fun k hk => by subst hk; exact Or.inr ⟨by omega, by omega⟩) hc.own
              replace hz := Nat.le_trans hz (Nat.le_of_eq hc.1.symm)
              replace hR := hR.putR hA l4 l5 l2 (m := i) (t := j) (x := nI 0) (by omega) (by omega) hc ho
              clear hc ho
              refine vv_iinc (v := nI (j + 1)) (lv' := [(5, .int (nI (j + 1))), (0, .ref (g 0)), (1, .ref (g 7)), (2, .int (nI (nM P))), (3, .int (nI i)), (4, .ref (g (10 + i)))]) X dX3_record_37 (k := 5) rfl (nI_add _ 1) (by decide) rfl ?_
              refine vv_goto (tgt := 23) X dX3_record_40 (by decide) ?_
              refine vv_sub [1, 2, 3, 4, 5, 0] rfl ?_
              exact ihj (j + 1) H (va_up S' (55 + 200 * i + j) (nI 0)) (by omega) (hK) (hU) (hR) (hz) (fun k hk => (va_up_ne _ _ (by omega)).trans (hlo k hk)) (fun k hk t ht => (va_up_ne _ _ (by omega)).trans (hol k hk t ht)) (fun t ht => by
                          by_cases z : t = j
                          · subst z; exact va_up_self _ _ _
                          · exact (va_up_ne _ _ (by omega)).trans (hne t (by omega)))
        refine vv_sub [2, 3, 4, 5, 1, 0] rfl ?_
        exact hl_8 (nT P) 0 H S' (by first | omega | assumption) (hK) (hU) (hR) (hz) (hRS.1) (hRS.2) (fun t ht => absurd ht (Nat.not_lt_zero _))
  refine vv_sub [3, 2, 1, 0] rfl ?_
  exact hl_6 (nM P) 0 ((kS K).heap) S (by first | omega | assumption) (hK) (hU) (hR) (Nat.le_refl _) (⟨fun _ _ => rfl, fun m hm => absurd hm (Nat.not_lt_zero _)⟩)
