/-! AcousticCamera: what-if questions, undo, save, restore: printed by gen/s36.py -/
set_option maxRecDepth 100000
theorem mum_on {P S : Nat → Int32} {m : Nat} (hm : m < nM P) (hn : nM P ≤ 12) : mum P S ||| 2 ^ m = mum P (va_up S (1 + m) (nI 1)) := by
  have := mum_up (S := S) hm hn True
  rw [if_pos trivial, b2_y trivial] at this
  exact this
theorem onm_off {P S : Nat → Int32} {k : Nat} (hk : k < nS P) (hn : nS P ≤ 6) : clr (onm P S) k = onm P (va_up S (25 + k) (nI 0)) := by
  have := onm_up (S := S) hk hn False
  rw [if_neg (fun z => z), b2_n (fun z => z)] at this
  exact this
/-- no source heard -/
def offS (S : Nat → Int32) : Nat → Int32 := fun i => if 25 ≤ i ∧ i < 31 then nI 0 else S i
theorem offS_ne {S : Nat → Int32} {i : Nat} (h : i < 25 ∨ 31 ≤ i) : offS S i = S i := if_neg (by omega)
theorem offS_at {S : Nat → Int32} {k : Nat} (h : k < 6) : offS S (25 + k) = nI 0 := if_pos ⟨by omega, by omega⟩
theorem offS_on {P S : Nat → Int32} (hn : nS P ≤ 6) : 0 = onm P (offS S) := msk_eq (fun j => by
  rw [Nat.zero_testBit]
  by_cases q : j < nS P
  · rw [offS_at (by omega)]; simp [nI_0]
  · simp [q])
theorem offS_vs {S : Nat → Int32} (h : VS S) : VS (offS S) := VS.mk' fun i => by
  by_cases q : 25 ≤ i ∧ i < 31
  · rw [show offS S i = nI 0 from if_pos q]; exact vok_b (by omega) (Or.inl nI_0)
  · rw [offS_ne (by omega)]; exact h.ok i
theorem bnd_0 (P : Nat → Int32) (hL : pL P < 2 ^ 30) : bnd P (nI 0) = nI 0 := by
  have e0 := nI_toInt (n := 0) (by decide)
  have eL := nI_toInt (n := pL P) (by omega)
  have eN : (-nI (pL P)).toInt = -(pL P : Int) := by rw [← Int32.zero_sub, ← nI_0, pk_sub_toInt (by decide) hL]; omega
  unfold bnd
  by_cases h : nI 0 < nI (pL P)
  · rw [if_pos h]
    have h1 : 0 < pL P := by rw [Int32.lt_iff_toInt_lt, e0, eL] at h; omega
    rw [if_pos (by rw [Int32.lt_iff_toInt_lt, eN, e0]; omega)]
  · rw [if_neg h]
    have h1 : pL P = 0 := by rw [Int32.lt_iff_toInt_lt, e0, eL] at h; omega
    rw [h1]; decide
theorem flt_0 (P : Nat → Int32) (t : Nat) : flt P (fun _ => nI 0) t = nI 0 := by
  have := flt_mul (P := P) (h := fun _ => nI 0) (g := nI 0) t
  simp only [nI_0, Int32.zero_mul] at this ⊢
  exact this
theorem rcd_off {P S : Nat → Int32} (ho : ∀ k, k < nS P → S (25 + k) = 0) (hT : nT P ≤ 200) (hL : pL P < 2 ^ 30) {m t : Nat} (hm : m < nM P) (ht : t < nT P) : rcd P (rawA P S) S (55 + 200 * m + t) = nI 0 := by
  unfold rcd rcp
  rw [if_neg (by omega), show (55 + 200 * m + t - 55) / 200 = m by omega, show (55 + 200 * m + t - 55) % 200 = t by omega, if_pos ⟨by omega, ht, Or.inl hm⟩, raw_e, flt_mul]
  rw [show flt P (SMj P S (nS P) m) t = nI 0 from (flt_congr (g := fun _ => nI 0) (fun x hx => (SMj_off (Nat.zero_le _) (fun i _ hi => ho i hi) m x).trans (by unfold SMj; split <;> rfl))).trans (flt_0 P t)]
  rw [nI_0, Int32.mul_zero, ← nI_0]
  exact bnd_0 P hL
theorem pt_row {P S : Nat → Int32} {k p m t : Nat} {r : Nat → Int32} (hT : nT P ≤ 200) (hm : m < nM P) (ht : t < nT P) (hr : ∀ t, t < nT P → r t = nI 0 + (if t < ofs P m then nI 0 else hO P (wvg 0 100 p 0 0) m (cx P k + nI 0 * nI (t - ofs P m) / nI 100) (cy P k + nI 0 * nI (t - ofs P m) / nI 100) (t - ofs P m))) : bnd P (nI (gain P m) * flt P r t) = rcd P (rawP P k p) S (55 + 200 * m + t) := by
  unfold rcd rcp
  rw [if_neg (by omega), show (55 + 200 * m + t - 55) / 200 = m by omega, show (55 + 200 * m + t - 55) % 200 = t by omega, if_pos ⟨by omega, ht, Or.inl hm⟩, ← flt_mul]
  refine congrArg (fun z => bnd P z) (flt_congr (fun x hx => ?_))
  show nI (gain P m) * r x = rawP P k p m x
  rw [hr x (by omega)]
  unfold rawP
  by_cases q : x < ofs P m
  · rw [if_pos q, if_pos q, nI_0, Int32.add_zero, Int32.mul_zero]
  · rw [if_neg q, if_neg q, wvg_p, mv_0, mv_0, nI_0, Int32.zero_add]
theorem off_lo {P S : Nat → Int32} {r r2 : Nat → Nat → Int32} {i : Nat} (hi : i < 55) : offS (rcd P r S) i = rcd P r2 (offS S) i := by
  by_cases z : i = 0
  · subst z
    rw [offS_ne (by omega)]
    unfold rcd rcp
    rw [if_pos rfl, if_pos rfl]
  · rw [show rcd P r2 (offS S) i = offS S i from rcp_lo (by omega) hi]
    by_cases q : 25 ≤ i ∧ i < 31
    · rw [show offS (rcd P r S) i = nI 0 from if_pos q, show offS S i = nI 0 from if_pos q]
    · rw [offS_ne (by omega), offS_ne (by omega)]
      exact rcp_lo (by omega) hi
section CGS
variable {P S S' : Nat → Int32}
theorem mxd_cgS (e : ∀ i, (i < 25 ∨ 31 ≤ i) → S' i = S i) (dl : Nat → Nat) {n : Nat} (hn : n ≤ 12) : mxd S' dl n = mxd S dl n := fo_congr _ (fun k hk x => by rw [e (1 + k) (by omega)])
theorem win_cgS (e : ∀ i, (i < 25 ∨ 31 ≤ i) → S' i = S i) (dl : Nat → Nat) (hn : nM P ≤ 12) : win P S' dl = win P S dl := by unfold win; rw [mxd_cgS e dl hn]
theorem bm_cgS (e : ∀ i, (i < 25 ∨ 31 ≤ i) → S' i = S i) (dl : Nat → Nat) (t : Nat) (hn : nM P ≤ 12) : bm P S' dl t = bm P S dl t := fo_congr _ (fun k hk x => by unfold bm1 wgt; rw [e (1 + k) (by omega), e (13 + k) (by omega), e (55 + 200 * k + t + dl k) (by omega)])
theorem en_cgS (e : ∀ i, (i < 25 ∨ 31 ≤ i) → S' i = S i) (dl : Nat → Nat) (a n : Nat) (hn : nM P ≤ 12) : en P S' dl a n = en P S dl a n := fo_congr _ (fun k hk x => by rw [bm_cgS e dl _ hn])
theorem pwc_cgS (e : ∀ i, (i < 25 ∨ 31 ≤ i) → S' i = S i) (hn : nM P ≤ 12) : pwc P S' = pwc P S := by
  funext c
  unfold pwc pwr
  rw [win_cgS e _ hn, en_cgS e _ _ _ hn]
end CGS
theorem pwc_off (P S : Nat → Int32) (hn : nM P ≤ 12) : pwc P (offS S) = pwc P S := pwc_cgS (fun i h => offS_ne h) hn

set_option maxHeartbeats 800000 in
theorem mX1_bestWithout (l : Launch) (D : DD) (u : Nat → Nat) (P T : Nat → Int32) (o : Nat) (gq : Nat → Nat) (S : Nat → Int32) (pw : Option Nat) (c : Nat) (v0 v1 v2 v3 v5 v6 v7 : Value) (m : Nat) (hC : VC P) (hV : VS S) (hAq : AP gq u P) (ho : o < 4096) (hm : m < nM P) : Ct l yX1_bestWithout cX1_bestWithout 3 (some .int) { frames := 9, cells := 35, slots := 5003, locals := 3121 } D [.ref c, .int (nI m)] (fun H => KH D H ∧ oB D H c 0 [v0, v1, v2, v3, .ref (gq 0), v5, v6, v7] ∧ UR D u P T o H ∧ SR D gq u P S pw H) (fun _ => False) (fun r H H1 => r = some (.int (nI (bsN (pwc P (va_up S (1 + m) (nI 1))) (nC P))))) := by
  refine Ct.of (by decide +kernel) (Nat.le_of_ble_eq_true rfl) (fun K Qf hkl X hM hQ => ?_)
  subst hkl
  obtain ⟨hK, hcm, hU, hRq⟩ := hM
  have hz : (kS K).heap.size ≤ (kS K).heap.size := Nat.le_refl _
  have hP := hC.v
  have l0 := hP.l0
  have l1 := hP.l1
  have l2 := hP.l2
  have l4 := hP.l4
  have l5 := hP.l5
  have l8 := hP.l8
  have l9 := hP.l9
  have l10 := hP.l10
  have l71 := hP.l71
  have l76 := hP.l76
  have l77 := hP.l77
  have hx1 := hC.x1
  have hy1 := hC.y1
  have ht1 := hC.t1
  have he1 := hC.e1
  have hm1 := hC.m1
  have hcc : nC P ≤ 144 := Nat.mul_le_mul l9 l10
  refine vv_sub (lv' := [(0, .ref c), (1, .int (nI m))]) [0, 1] rfl ?_
  refine vv_aload_n X dX1_bestWithout_0 rfl 0 rfl ?_
  refine vv_iload_n X dX1_bestWithout_1 rfl 1 rfl ?_
  refine vv_callVp X (mX1_withMic (kL K) D u P T o gq S pw c v0 v1 v2 v3 v5 v6 v7 m hC hV (by omega)) q1793 q1795 qs35 q137 q1796 nX1_withMic ⟨(Nat.le_of_ble_eq_true rfl), (Nat.le_of_ble_eq_true rfl)⟩ dX1_bestWithout_2 rfl (Nat.le_of_ble_eq_true rfl) (recv X hcm CL_X1) ⟨hK, hcm, hU, hRq⟩ ⟨(Nat.le_of_ble_eq_true rfl), (Nat.le_of_ble_eq_true rfl)⟩ ?_
  refine vv_callV X (mX3_copy (kL K) D u P T o gq S pw hC hV hAq ho) q2706 q2707 q2708 q150 q2709 nX3_copy ⟨(Nat.le_of_ble_eq_true rfl), (Nat.le_of_ble_eq_true rfl)⟩ dX1_bestWithout_5 rfl (Nat.le_of_ble_eq_true rfl) (recv X hRq.ob CL_X3) ⟨hK, hU, hRq⟩ (fun _ z => z.elim) ⟨(Nat.le_of_ble_eq_true rfl), (Nat.le_of_ble_eq_true rfl)⟩ (fun v_ H hq hz_ hk => ?_)
  
  obtain ⟨g, rfl, hR, hA, hge9, hsh9⟩ := hq
  have hge0 : ∀ k, UK (nM P) k → (kS K).heap.size ≤ g k := fun k hk => Nat.le_trans hz (hge9 k hk)
  have ncg : ∀ k, UK (nM P) k → c ≠ g k := fun k hk e => by have h9 := hge9 k hk; have h8 := hcm.lt; omega
  replace hcm := hcm.kept (hk _ hcm.lt (fun z => z))
  replace hK := hK.to hk (fun _ z => z.elim)
  replace hU := hU.kept (fun q hl _ => hk q hl (fun z => z))
  replace hz := Nat.le_trans hz hz_
  clear hk hz_ hge9
  refine vv_astore_n (lv' := [(2, .ref (g 0)), (0, .ref c), (1, .int (nI m))]) X dX1_bestWithout_8 rfl (by decide) rfl ?_
  refine vv_aload_n X dX1_bestWithout_9 rfl 0 rfl ?_
  refine vv_getfN (C := RX3) (T := TX3) (N := 8) (ref := "AcousticCamera$State") X hR.ob in_X3 CL_X3 1 (by decide) q1690 rfl rfl dX1_bestWithout_10 ?_
  refine vv_iload_n X dX1_bestWithout_13 rfl 2 rfl ?_
  refine vv_callV X (mJ21_set (kL K) D (g 1) (g 2) (mum P S) m (by omega)) q2747 q1473 q1474 q164 q1475 nJ21_set ⟨(Nat.le_of_ble_eq_true rfl), (Nat.le_of_ble_eq_true rfl)⟩ dX1_bestWithout_14 rfl (Nat.le_of_ble_eq_true rfl) (recv X hR.mu.1 CL_J21) ⟨hK, hR.mu⟩ (fun q z => by rcases z with rfl | rfl; exact (Or.inr (hge0 _ (Or.inl (by decide)))); exact (Or.inr (hge0 _ (Or.inl (by decide))))) ⟨(Nat.le_of_ble_eq_true rfl), (Nat.le_of_ble_eq_true rfl)⟩ (fun v_ H hq hz_ hk => ?_)
  obtain ⟨rfl, hB9⟩ := hq
  replace hcm := hcm.kept (hk _ hcm.lt (fun z => z.elim (ncg _ (Or.inl (by decide))) ((ncg _ (Or.inl (by decide))))))
  have hR2 := hR.putM hA l4 hk (S' := va_up S (1 + m) (nI 1)) (fun i hi => va_up_ne _ _ (by omega)) (by rw [← mum_on (S := S) hm l4]; exact hB9)
  replace hU := hU.own hA l4 (Q := fun k => k = 1 ∨ k = 2) (fun k hk => by rcases hk with rfl | rfl <;> exact Or.inl (by decide)) (fun q hl hq => hk q hl (fun z => z.elim (hq 1 (Or.inl rfl)) (hq 2 (Or.inr rfl))))
  replace hK := hK.to hk (fun q z => by rcases z with rfl | rfl; exact hR.kn X hK 1 (Or.inl (by decide)); exact hR.kn X hK 2 (Or.inl (by decide)))
  replace hz := Nat.le_trans hz hz_
  clear hk hz_ hB9 hR
  have hR := hR2
  clear hR2
  refine vv_aload_n X dX1_bestWithout_17 rfl 0 rfl ?_
  refine vv_null X dX1_bestWithout_18 ?_
  refine vv_putfN (C := RX3) (T := TX3) (N := 8) (ref := "AcousticCamera$State") X hR.ob in_X3 CL_X3 tyX3 tyX3_ok nmX3 7 (by decide) q1702 rfl rfl rfl rfl (Nat.le_of_ble_eq_true rfl) (Or.inr (hge0 _ (Or.inl (by decide)))) dX1_bestWithout_19 (fun H hc ho => ?_)
  replace hcm := hcm.kept (hc.2 _ (ncg _ (Or.inl (by decide))))
  replace hK := hK.ch hc (hR.kn X hK 0 (Or.inl (by decide)))
  replace hU := hU.own hA l4 (Q := (· = 0)) (fun k hk => by subst hk; exact Or.inl (by decide)) hc.own
  replace hz := Nat.le_trans hz (Nat.le_of_eq hc.1.symm)
  replace hR := hR.putP hA l4 l5 (pw' := none) hc ho
  clear hc ho
  have hPK : PK D P (va_up S (1 + m) (nI 1)) none H := fun q e => by cases e
  refine vv_aload_n X dX1_bestWithout_22 rfl 0 rfl ?_
  refine vv_callV X (mX3_best (kL K) D u P T o g (va_up S (1 + m) (nI 1)) none hC (hV.up (vok_b (by omega) (Or.inr (by decide)))) hA) q1993 q1994 q1995 q150 q1996 nX3_best ⟨(Nat.le_of_ble_eq_true rfl), (Nat.le_of_ble_eq_true rfl)⟩ dX1_bestWithout_23 rfl (Nat.le_of_ble_eq_true rfl) (recv X hR.ob CL_X3) ⟨hK, hU, hR, hPK⟩ (fun q z => by rcases z with rfl; exact (Or.inr (hge0 _ (Or.inl (by decide))))) ⟨(Nat.le_of_ble_eq_true rfl), (Nat.le_of_ble_eq_true rfl)⟩ (fun v_ H hq hz_ hk => ?_)
  obtain ⟨rfl, a_1, hR2, hPK2, hold, hnew⟩ := hq
  replace hcm := hcm.kept (hk _ hcm.lt (ncg _ (Or.inl (by decide))))
  replace hK := hK.to hk (fun q z => by rcases z with rfl; exact hR.kn X hK 0 (Or.inl (by decide)))
  replace hU := hU.own hA l4 (Q := (· = 0)) (fun k hk => by subst hk; exact Or.inl (by decide)) (fun q hl hq => hk q hl (hq 0 rfl))
  replace hz := Nat.le_trans hz hz_
  have hp_2 : lA D H a_1 (nC P) (pwc P (va_up S (1 + m) (nI 1))) := hPK2 a_1 rfl
  clear hk hz_ hR
  have hR := hR2
  clear hR2 hPK2
  exact vv_iret X hQ dX1_bestWithout_26 (Nat.le_of_ble_eq_true rfl) (Nat.le_of_ble_eq_true rfl) (rfl)
set_option maxHeartbeats 800000 in
theorem mX1_bestIfOff (l : Launch) (D : DD) (u : Nat → Nat) (P T : Nat → Int32) (o : Nat) (gq : Nat → Nat) (S : Nat → Int32) (pw : Option Nat) (c : Nat) (v0 v1 v2 v3 v5 v6 v7 : Value) (m : Nat) (hC : VC P) (hV : VS S) (hAq : AP gq u P) (ho : o < 4096) (hm : m < nS P) : Ct l yX1_bestIfOff cX1_bestIfOff 3 (some .int) { frames := 9, cells := 35, slots := 5003, locals := 3121 } D [.ref c, .int (nI m)] (fun H => KH D H ∧ oB D H c 0 [v0, v1, v2, v3, .ref (gq 0), v5, v6, v7] ∧ UR D u P T o H ∧ SR D gq u P S pw H) (fun _ => False) (fun r H H1 => r = some (.int (nI (bsN (pwc P (rcd P (rawA P (va_up S (25 + m) (nI 0))) (va_up S (25 + m) (nI 0)))) (nC P))))) := by
  refine Ct.of (by decide +kernel) (Nat.le_of_ble_eq_true rfl) (fun K Qf hkl X hM hQ => ?_)
  subst hkl
  obtain ⟨hK, hcm, hU, hRq⟩ := hM
  have hz : (kS K).heap.size ≤ (kS K).heap.size := Nat.le_refl _
  have hP := hC.v
  have l0 := hP.l0
  have l1 := hP.l1
  have l2 := hP.l2
  have l4 := hP.l4
  have l5 := hP.l5
  have l8 := hP.l8
  have l9 := hP.l9
  have l10 := hP.l10
  have l71 := hP.l71
  have l76 := hP.l76
  have l77 := hP.l77
  have hx1 := hC.x1
  have hy1 := hC.y1
  have ht1 := hC.t1
  have he1 := hC.e1
  have hm1 := hC.m1
  have hcc : nC P ≤ 144 := Nat.mul_le_mul l9 l10
  refine vv_sub (lv' := [(0, .ref c), (1, .int (nI m))]) [0, 1] rfl ?_
  refine vv_aload_n X dX1_bestIfOff_0 rfl 0 rfl ?_
  refine vv_iload_n X dX1_bestIfOff_1 rfl 1 rfl ?_
  refine vv_callVp X (mX1_withSource (kL K) D u P T o gq S pw c v0 v1 v2 v3 v5 v6 v7 m hC hV (by omega)) q1858 q1860 qs38 q137 q1861 nX1_withSource ⟨(Nat.le_of_ble_eq_true rfl), (Nat.le_of_ble_eq_true rfl)⟩ dX1_bestIfOff_2 rfl (Nat.le_of_ble_eq_true rfl) (recv X hcm CL_X1) ⟨hK, hcm, hU, hRq⟩ ⟨(Nat.le_of_ble_eq_true rfl), (Nat.le_of_ble_eq_true rfl)⟩ ?_
  refine vv_callV X (mX3_copy (kL K) D u P T o gq S pw hC hV hAq ho) q2706 q2707 q2708 q150 q2709 nX3_copy ⟨(Nat.le_of_ble_eq_true rfl), (Nat.le_of_ble_eq_true rfl)⟩ dX1_bestIfOff_5 rfl (Nat.le_of_ble_eq_true rfl) (recv X hRq.ob CL_X3) ⟨hK, hU, hRq⟩ (fun _ z => z.elim) ⟨(Nat.le_of_ble_eq_true rfl), (Nat.le_of_ble_eq_true rfl)⟩ (fun v_ H hq hz_ hk => ?_)
  
  obtain ⟨g, rfl, hR, hA, hge9, hsh9⟩ := hq
  have hge0 : ∀ k, UK (nM P) k → (kS K).heap.size ≤ g k := fun k hk => Nat.le_trans hz (hge9 k hk)
  have ncg : ∀ k, UK (nM P) k → c ≠ g k := fun k hk e => by have h9 := hge9 k hk; have h8 := hcm.lt; omega
  replace hcm := hcm.kept (hk _ hcm.lt (fun z => z))
  replace hK := hK.to hk (fun _ z => z.elim)
  replace hU := hU.kept (fun q hl _ => hk q hl (fun z => z))
  replace hz := Nat.le_trans hz hz_
  clear hk hz_ hge9
  refine vv_astore_n (lv' := [(2, .ref (g 0)), (0, .ref c), (1, .int (nI m))]) X dX1_bestIfOff_8 rfl (by decide) rfl ?_
  refine vv_aload_n X dX1_bestIfOff_9 rfl 0 rfl ?_
  refine vv_getfN (C := RX3) (T := TX3) (N := 8) (ref := "AcousticCamera$State") X hR.ob in_X3 CL_X3 2 (by decide) q1692 rfl rfl dX1_bestIfOff_10 ?_
  refine vv_iload_n X dX1_bestIfOff_13 rfl 2 rfl ?_
  refine vv_callV X (mJ21_clear_2 (kL K) D (g 3) (g 4) (onm P S) m (on_lt hP _) (by omega)) q2755 q2756 q2757 q164 q2758 nJ21_clear_2 ⟨(Nat.le_of_ble_eq_true rfl), (Nat.le_of_ble_eq_true rfl)⟩ dX1_bestIfOff_14 rfl (Nat.le_of_ble_eq_true rfl) (recv X hR.on.1 CL_J21) ⟨hK, hR.on⟩ (fun q z => by rcases z with rfl | rfl; exact (Or.inr (hge0 _ (Or.inl (by decide)))); exact (Or.inr (hge0 _ (Or.inl (by decide))))) ⟨(Nat.le_of_ble_eq_true rfl), (Nat.le_of_ble_eq_true rfl)⟩ (fun v_ H hq hz_ hk => ?_)
  obtain ⟨rfl, hB9⟩ := hq
  replace hcm := hcm.kept (hk _ hcm.lt (fun z => z.elim (ncg _ (Or.inl (by decide))) ((ncg _ (Or.inl (by decide))))))
  have hR2 := hR.putO hA l4 l5 hk (S' := va_up S (25 + m) (nI 0)) (fun i hi => va_up_ne _ _ (by omega)) (by rw [← onm_off (S := S) hm l5]; exact hB9)
  replace hU := hU.own hA l4 (Q := fun k => k = 3 ∨ k = 4) (fun k hk => by rcases hk with rfl | rfl <;> exact Or.inl (by decide)) (fun q hl hq => hk q hl (fun z => z.elim (hq 3 (Or.inl rfl)) (hq 4 (Or.inr rfl))))
  replace hK := hK.to hk (fun q z => by rcases z with rfl | rfl; exact hR.kn X hK 3 (Or.inl (by decide)); exact hR.kn X hK 4 (Or.inl (by decide)))
  replace hz := Nat.le_trans hz hz_
  clear hk hz_ hB9 hR
  have hR := hR2
  clear hR2
  refine vv_aload_n X dX1_bestIfOff_17 rfl 0 rfl ?_
  refine vv_callV X (mX3_record (kL K) D u P T o g (va_up S (25 + m) (nI 0)) pw hC (hV.up (vok_b (by omega) (Or.inl nI_0))) hA) q1720 q1721 q1722 q150 q1723 nX3_record ⟨(Nat.le_of_ble_eq_true rfl), (Nat.le_of_ble_eq_true rfl)⟩ dX1_bestIfOff_18 rfl (Nat.le_of_ble_eq_true rfl) (recv X hR.ob CL_X3) ⟨hK, hU, hR⟩ (fun q z => by obtain ⟨k_, h_, e_⟩ := z; rw [e_]; exact Or.inr (hge0 k_ h_)) ⟨(Nat.le_of_ble_eq_true rfl), (Nat.le_of_ble_eq_true rfl)⟩ (fun v_ H hq hz_ hk => ?_)
  obtain ⟨rfl, hR2⟩ := hq
  replace hcm := hcm.kept (hk _ hcm.lt (fun z => by obtain ⟨k_, hk_, e_⟩ := z; exact ncg k_ hk_ e_))
  replace hK := hK.to hk (hR.knA X hK)
  replace hU := hU.to hA hk
  replace hz := Nat.le_trans hz hz_
  clear hk hz_ hR
  have hR := hR2
  clear hR2
  have hPK : PK D P (rcd P (rawA P (va_up S (25 + m) (nI 0))) (va_up S (25 + m) (nI 0))) none H := fun q e => by cases e
  refine vv_aload_n X dX1_bestIfOff_21 rfl 0 rfl ?_
  refine vv_callV X (mX3_best (kL K) D u P T o g (rcd P (rawA P (va_up S (25 + m) (nI 0))) (va_up S (25 + m) (nI 0))) none hC (lowS.vs lowS.rcp (hV.up (vok_b (by omega) (Or.inl nI_0)))) hA) q1993 q1994 q1995 q150 q1996 nX3_best ⟨(Nat.le_of_ble_eq_true rfl), (Nat.le_of_ble_eq_true rfl)⟩ dX1_bestIfOff_22 rfl (Nat.le_of_ble_eq_true rfl) (recv X hR.ob CL_X3) ⟨hK, hU, hR, hPK⟩ (fun q z => by rcases z with rfl; exact (Or.inr (hge0 _ (Or.inl (by decide))))) ⟨(Nat.le_of_ble_eq_true rfl), (Nat.le_of_ble_eq_true rfl)⟩ (fun v_ H hq hz_ hk => ?_)
  obtain ⟨rfl, a_1, hR2, hPK2, hold, hnew⟩ := hq
  replace hcm := hcm.kept (hk _ hcm.lt (ncg _ (Or.inl (by decide))))
  replace hK := hK.to hk (fun q z => by rcases z with rfl; exact hR.kn X hK 0 (Or.inl (by decide)))
  replace hU := hU.own hA l4 (Q := (· = 0)) (fun k hk => by subst hk; exact Or.inl (by decide)) (fun q hl hq => hk q hl (hq 0 rfl))
  replace hz := Nat.le_trans hz hz_
  have hp_2 : lA D H a_1 (nC P) (pwc P (rcd P (rawA P (va_up S (25 + m) (nI 0))) (va_up S (25 + m) (nI 0)))) := hPK2 a_1 rfl
  clear hk hz_ hR
  have hR := hR2
  clear hR2 hPK2
  exact vv_iret X hQ dX1_bestIfOff_25 (Nat.le_of_ble_eq_true rfl) (Nat.le_of_ble_eq_true rfl) (rfl)
theorem nX1_undoable : notMH yX1_undoable 0 := by decide +kernel
set_option maxHeartbeats 800000 in
theorem mX1_undoable (l : Launch) (D : DD) (c b a h n : Nat) (F : Nat → Option Nat) (v0 v1 v2 v3 v4 v6 v7 : Value) (hh : h < 17) (hn6 : n ≤ 6) : Cp l yX1_undoable cX1_undoable 1 (some .int) { frames := 3, cells := 0, slots := 0, locals := 54 } D [.ref c] (fun H => KH D H ∧ oB D H c 0 [v0, v1, v2, v3, v4, .ref b, v6, v7] ∧ oB D H b 10 [.ref a, .int (nI h), .int (nI ((h + n) % 17))] ∧ qA D H a 9 17 F) (.int (nI n)) := by
  refine Ct.of (by decide +kernel) (Nat.le_of_ble_eq_true rfl) (fun K Qf hkl X hM hQ => ?_)
  subst hkl
  obtain ⟨hK, hcm, hd, he⟩ := hM
  refine vv_sub (lv' := [(0, .ref c)]) [0] rfl ?_
  refine vv_aload_n X dX1_undoable_0 rfl 0 rfl ?_
  refine vv_getf (C := RX1) (T := TX1) (N := 8) (ref := "AcousticCamera") X hcm in_X1 CL_X1 5 (by decide) q260 rfl rfl dX1_undoable_1 ?_
  refine vv_callVp X (mJ1_size (kL K) D b a h ((h + n) % 17) F (by omega) (by omega)) q351 q352 q353 q139 q354 nJ1_size ⟨(Nat.le_of_ble_eq_true rfl), (Nat.le_of_ble_eq_true rfl)⟩ dX1_undoable_4 rfl (Nat.le_of_ble_eq_true rfl) (recv X hd CL_J1) ⟨hd, he⟩ ⟨(Nat.le_of_ble_eq_true rfl), (Nat.le_of_ble_eq_true rfl)⟩ ?_
  exact vv_iret X hQ dX1_undoable_7 (Nat.le_of_ble_eq_true rfl) (Nat.le_of_ble_eq_true rfl) (pq (by rw [show ((h + n) % 17 + 17 - h) % 17 = n by omega]))
theorem nX1_undo : notMH yX1_undo 0 := by decide +kernel
set_option maxHeartbeats 800000 in
theorem xX1_undo (l : Launch) (D : DD) (hl : l.stackTraces = false) (c b a h n : Nat) (F : Nat → Option Nat) (v0 v1 v2 v3 v4 v6 v7 : Value) (hh : h < 17) (hn6 : n = 0) : Cx l yX1_undo cX1_undo 1 (some .int) { frames := 7, cells := 1, slots := 6, locals := 109 } D [.ref c] (fun H => KH D H ∧ oB D H c 0 [v0, v1, v2, v3, v4, .ref b, v6, v7] ∧ oB D H b 10 [.ref a, .int (nI h), .int (nI ((h + n) % 17))] ∧ qA D H a 9 17 F) (fun _ => False) (fun r H H1 => False) (fun Xn q H H1 => Xn = "java/lang/IllegalStateException") := by
  refine Cx.of (by decide +kernel) (Nat.le_of_ble_eq_true rfl) (fun K Qf hkl X ht hM hQ => ?_)
  subst hkl
  obtain ⟨hK, hcm, hd, he⟩ := hM
  have hz : (kS K).heap.size ≤ (kS K).heap.size := Nat.le_refl _
  refine vv_sub (lv' := [(0, .ref c)]) [0] rfl ?_
  refine vv_aload_n X dX1_undo_0 rfl 0 rfl ?_
  refine vv_getf (C := RX1) (T := TX1) (N := 8) (ref := "AcousticCamera") X hcm in_X1 CL_X1 5 (by decide) q260 rfl rfl dX1_undo_1 ?_
  refine vv_callVp X (mJ1_isEmpty (kL K) D b a h ((h + n) % 17) F (by omega) (by omega)) q2876 q2877 q2878 q139 q2879 nJ1_isEmpty ⟨(Nat.le_of_ble_eq_true rfl), (Nat.le_of_ble_eq_true rfl)⟩ dX1_undo_4 rfl (Nat.le_of_ble_eq_true rfl) (recv X hd CL_J1) ⟨hd, he⟩ ⟨(Nat.le_of_ble_eq_true rfl), (Nat.le_of_ble_eq_true rfl)⟩ ?_
  refine vb_ne (tgt := 14) X dX1_undo_7 (by decide) (fun c_7 => ?_) (fun c_7 => ?_)
  · refine vv_iconst (v := nI 0) X dX1_undo_14 (by decide) ?_
    refine vx_cS X (xX1_checkState (kL K) D hl False (fun z => z)) q1801 q1802 q137 q1803 nX1_checkState ⟨(Nat.le_of_ble_eq_true rfl), (Nat.le_of_ble_eq_true rfl)⟩ dX1_undo_15 rfl (Nat.le_of_ble_eq_true rfl) hK (fun _ z => z.elim) ⟨(Nat.le_of_ble_eq_true rfl), (Nat.le_of_ble_eq_true rfl)⟩ (fun Xn q H hq hz_ hk hXO => ?_) (fun v_ H hq hz_ hk => hq.elim)
    obtain rfl := hq
    exact vt_out X (fun x hx => (ht x hx).elim) hQ hXO (Nat.le_of_ble_eq_true rfl) (Nat.le_of_ble_eq_true rfl) (rfl)
  · exact absurd (by omega) c_7
set_option maxHeartbeats 800000 in
theorem mX1_undo (l : Launch) (D : DD) (c b a h n : Nat) (F : Nat → Option Nat) (v0 v1 v2 v3 v4 v6 v7 : Value) (x1 : Nat) (w0 w1 w2 w3 w4 w5 w6 w7 : Value) (hh : h < 17) (hn6 : n ≤ 6) (hn1 : 1 ≤ n) (hx1 : F ((h + n + 16) % 17) = some x1) (hka : KN D a) : Ct l yX1_undo cX1_undo 1 (some .int) { frames := 4, cells := 0, slots := 0, locals := 77 } D [.ref c] (fun H => KH D H ∧ oB D H c 0 [v0, v1, v2, v3, v4, .ref b, v6, v7] ∧ oB D H b 10 [.ref a, .int (nI h), .int (nI ((h + n) % 17))] ∧ qA D H a 9 17 F ∧ oB D H x1 2 [w0, w1, w2, w3, w4, w5, w6, w7]) (fun q => q = c ∨ q = b ∨ q = a) (fun r H H1 => r = some (.int (nI (n - 1))) ∧ oB D H1 c 0 [v0, v1, v2, v3, .ref x1, .ref b, v6, v7] ∧ oB D H1 b 10 [.ref a, .int (nI h), .int (nI ((h + (n - 1)) % 17))] ∧ qA D H1 a 9 17 (va_up F ((h + n + 16) % 17) none)) := by
  refine Ct.of (by decide +kernel) (Nat.le_of_ble_eq_true rfl) (fun K Qf hkl X hM hQ => ?_)
  subst hkl
  obtain ⟨hK, hcm, hd, he, hx⟩ := hM
  have hz : (kS K).heap.size ≤ (kS K).heap.size := Nat.le_refl _
  refine vv_sub (lv' := [(0, .ref c)]) [0] rfl ?_
  refine vv_aload_n X dX1_undo_0 rfl 0 rfl ?_
  refine vv_getf (C := RX1) (T := TX1) (N := 8) (ref := "AcousticCamera") X hcm in_X1 CL_X1 5 (by decide) q260 rfl rfl dX1_undo_1 ?_
  refine vv_callVp X (mJ1_isEmpty (kL K) D b a h ((h + n) % 17) F (by omega) (by omega)) q2876 q2877 q2878 q139 q2879 nJ1_isEmpty ⟨(Nat.le_of_ble_eq_true rfl), (Nat.le_of_ble_eq_true rfl)⟩ dX1_undo_4 rfl (Nat.le_of_ble_eq_true rfl) (recv X hd CL_J1) ⟨hd, he⟩ ⟨(Nat.le_of_ble_eq_true rfl), (Nat.le_of_ble_eq_true rfl)⟩ ?_
  refine vb_ne (tgt := 14) X dX1_undo_7 (by decide) (fun c_7 => ?_) (fun c_7 => ?_)
  · exact absurd c_7 (by omega)
  · refine vv_iconst (v := nI 1) X dX1_undo_10 (by decide) ?_
    refine vv_goto (tgt := 15) X dX1_undo_11 (by decide) ?_
    refine vv_callSv X (mX1_checkState (kL K) D True trivial) q1801 q1802 q137 q1803 nX1_checkState ⟨(Nat.le_of_ble_eq_true rfl), (Nat.le_of_ble_eq_true rfl)⟩ dX1_undo_15 rfl (Nat.le_of_ble_eq_true rfl) trivial ⟨(Nat.le_of_ble_eq_true rfl), (Nat.le_of_ble_eq_true rfl)⟩ ?_
    refine vv_aload_n X dX1_undo_18 rfl 0 rfl ?_
    refine vv_aload_n X dX1_undo_19 rfl 0 rfl ?_
    refine vv_getf (C := RX1) (T := TX1) (N := 8) (ref := "AcousticCamera") X hcm in_X1 CL_X1 5 (by decide) q260 rfl rfl dX1_undo_20 ?_
    refine vv_callV X (mJ1_removeLast (kL K) D b a h ((h + n) % 17) F x1 (by omega) (by omega) (by rw [show ((h + n) % 17 + 16) % 17 = (h + n + 16) % 17 by omega]; exact hx1) hka) q2880 q2881 q2882 q139 q2883 nJ1_removeLast ⟨(Nat.le_of_ble_eq_true rfl), (Nat.le_of_ble_eq_true rfl)⟩ dX1_undo_23 rfl (Nat.le_of_ble_eq_true rfl) (recv X hd CL_J1) ⟨hK, hd, he⟩ (fun q z => by rcases z with rfl | rfl; exact (Or.inl (Or.inr (Or.inl rfl))); exact (Or.inl (Or.inr (Or.inr rfl)))) ⟨(Nat.le_of_ble_eq_true rfl), (Nat.le_of_ble_eq_true rfl)⟩ (fun v_ H hq hz_ hk => ?_)
    obtain ⟨rfl, hd2, he2⟩ := hq
    replace hcm := hcm.kept (hk _ hcm.lt (fun z => z.elim (X.oo hcm hd CL_X1 CL_J1 (by decide)) ((X.oa hcm he CL_X1 rfl))))
    replace hx := hx.kept (hk _ hx.lt (fun z => z.elim (X.oo hx hd CL_X3 CL_J1 (by decide)) ((X.oa hx he CL_X3 rfl))))
    replace hK := hK.to hk (fun q z => by rcases z with rfl | rfl; exact (X.ko hK hd CL_J1 (by decide) (by decide)); exact hka)
    replace hz := Nat.le_trans hz hz_
    clear hd he hk hz_
    have hd := hd2
    have he := he2
    clear hd2 he2
    refine vv_castS X hx CL_X3 q221 dX1_undo_26 ?_
    refine vv_putf (C := RX1) (T := TX1) (N := 8) (ref := "AcousticCamera") X hcm in_X1 CL_X1 tyX1 tyX1_ok nmX1 4 (by decide) q259 rfl rfl rfl rfl (Nat.le_of_ble_eq_true rfl) (Or.inl (Or.inl rfl)) dX1_undo_29 (fun H hc ho => ?_)
    have k_0 := hd.kept (hc.2 _ (X.oo hd hcm CL_J1 CL_X1 (by decide)))
    have k_1 := he.kept (hc.2 _ (X.ao he hcm CL_X1 rfl))
    have k_2 := hx.kept (hc.2 _ (X.oo hx hcm CL_X3 CL_X1 (by decide)))
    replace hK := hK.ch hc (X.ko hK hcm CL_X1 (by decide) (by decide))
    clear hd
    have hd := k_0
    clear k_0
    clear he
    have he := k_1
    clear k_1
    clear hx
    have hx := k_2
    clear k_2
    replace hz := Nat.le_trans hz (Nat.le_of_eq hc.1.symm)
    clear hcm
    have hcm : oB D H c 0 [v0, v1, v2, v3, .ref x1, .ref b, v6, v7] := ho
    clear hc ho
    refine vv_aload_n X dX1_undo_32 rfl 0 rfl ?_
    refine vv_getf (C := RX1) (T := TX1) (N := 8) (ref := "AcousticCamera") X hcm in_X1 CL_X1 5 (by decide) q260 rfl rfl dX1_undo_33 ?_
    refine vv_callVp X (mJ1_size (kL K) D b a h ((((h + n) % 17) + 16) % 17) (va_up F ((((h + n) % 17) + 16) % 17) none) (by omega) (by omega)) q351 q352 q353 q139 q354 nJ1_size ⟨(Nat.le_of_ble_eq_true rfl), (Nat.le_of_ble_eq_true rfl)⟩ dX1_undo_36 rfl (Nat.le_of_ble_eq_true rfl) (recv X hd CL_J1) ⟨hd, he⟩ ⟨(Nat.le_of_ble_eq_true rfl), (Nat.le_of_ble_eq_true rfl)⟩ ?_
    exact vv_iret X hQ dX1_undo_39 (Nat.le_of_ble_eq_true rfl) (Nat.le_of_ble_eq_true rfl) (⟨by rw [show (((h + n) % 17 + 16) % 17 + 17 - h) % 17 = n - 1 by omega], hcm, by rw [show (h + (n - 1)) % 17 = ((h + n) % 17 + 16) % 17 by omega]; exact hd, by rw [show (h + n + 16) % 17 = ((h + n) % 17 + 16) % 17 by omega]; exact he⟩)
set_option maxHeartbeats 800000 in
theorem mX1_save (l : Launch) (D : DD) (u : Nat → Nat) (P T : Nat → Int32) (o : Nat) (g : Nat → Nat) (S : Nat → Int32) (pw : Option Nat) (c b a : Nat) (Z : Nat → Option Nat) (k : Nat) (v0 v1 v2 v3 v5 v7 : Value) (hC : VC P) (hV : VS S) (hA : AP g u P) (ho : o < 4096) (hk9 : k < 2) (hkb : KN D b) (hap : ∀ q, (q = b ∨ q = a ∨ q = c) → ¬ UB u P q ∧ ¬ OA g (nM P) q ∧ ¬ GB g P q ∧ ¬ pw = some q) (hpg : ∀ p, pw = some p → ∀ k, UK (nM P) k → p ≠ g k) : Ct l yX1_save cX1_save 2 (some .int) { frames := 9, cells := 35, slots := 5003, locals := 3121 } D [.ref c, .int (nI k)] (fun H => KH D H ∧ oB D H c 0 [v0, v1, v2, v3, .ref (g 0), v5, .ref b, v7] ∧ UR D u P T o H ∧ SR D g u P S pw H ∧ PK D P S pw H ∧ qA D H b 7 2 Z) (fun q => q = b ∨ q = g 0) (fun r H H1 => r = some (.int (nI (bsN (pwc P S) (nC P)))) ∧ (∃ p, SR D g u P S (some p) H1 ∧ PK D P S (some p) H1 ∧ (∀ q, pw = some q → p = q) ∧ (pw = some p ∨ H.size ≤ p)) ∧ ∃ g9, SR D g9 u P S pw H1 ∧ PK D P S pw H1 ∧ AP g9 u P ∧ (∀ k, UK (nM P) k → H.size ≤ g9 k) ∧ (∀ j, SJ P j → g9 j = g j) ∧ qA D H1 b 7 2 (va_up Z k (some (g9 0)))) := by
  refine Ct.of (by decide +kernel) (Nat.le_of_ble_eq_true rfl) (fun K Qf hkl X hM hQ => ?_)
  subst hkl
  obtain ⟨hK, hcm, hU, hR, hPK, hsv⟩ := hM
  have hz : (kS K).heap.size ≤ (kS K).heap.size := Nat.le_refl _
  have hP := hC.v
  have l0 := hP.l0
  have l1 := hP.l1
  have l2 := hP.l2
  have l4 := hP.l4
  have l5 := hP.l5
  have l8 := hP.l8
  have l9 := hP.l9
  have l10 := hP.l10
  have l71 := hP.l71
  have l76 := hP.l76
  have l77 := hP.l77
  have hx1 := hC.x1
  have hy1 := hC.y1
  have ht1 := hC.t1
  have he1 := hC.e1
  have hm1 := hC.m1
  have hcc : nC P ≤ 144 := Nat.mul_le_mul l9 l10
  have nbu : ∀ j, VK P j → b ≠ u j := fun j hj e => (hap b (Or.inl rfl)).1 ⟨j, hj, e⟩
  have nbg : ∀ j, UK (nM P) j → b ≠ g j := fun j hj e => (hap b (Or.inl rfl)).2.1 ⟨j, hj, e⟩
  have nbs : ∀ j, SJ P j → b ≠ g j := fun j hj e => (hap b (Or.inl rfl)).2.2.1 ⟨j, hj, e⟩
  have nau : ∀ j, VK P j → a ≠ u j := fun j hj e => (hap a (Or.inr (Or.inl rfl))).1 ⟨j, hj, e⟩
  have nag : ∀ j, UK (nM P) j → a ≠ g j := fun j hj e => (hap a (Or.inr (Or.inl rfl))).2.1 ⟨j, hj, e⟩
  have nas : ∀ j, SJ P j → a ≠ g j := fun j hj e => (hap a (Or.inr (Or.inl rfl))).2.2.1 ⟨j, hj, e⟩
  have ncu : ∀ j, VK P j → c ≠ u j := fun j hj e => (hap c (Or.inr (Or.inr rfl))).1 ⟨j, hj, e⟩
  have ncg : ∀ j, UK (nM P) j → c ≠ g j := fun j hj e => (hap c (Or.inr (Or.inr rfl))).2.1 ⟨j, hj, e⟩
  have ncs : ∀ j, SJ P j → c ≠ g j := fun j hj e => (hap c (Or.inr (Or.inr rfl))).2.2.1 ⟨j, hj, e⟩
  refine vv_sub (lv' := [(0, .ref c), (1, .int (nI k))]) [0, 1] rfl ?_
  refine vv_aload_n X dX1_save_0 rfl 0 rfl ?_
  refine vv_callVp X (mX1_there (kL K) D u P T o g S pw c v0 v1 v2 v3 v5 (.ref b) v7  hC hV ) q1797 q1799 qs36 q137 q1800 nX1_there ⟨(Nat.le_of_ble_eq_true rfl), (Nat.le_of_ble_eq_true rfl)⟩ dX1_save_1 rfl (Nat.le_of_ble_eq_true rfl) (recv X hcm CL_X1) ⟨hK, hcm, hU, hR⟩ ⟨(Nat.le_of_ble_eq_true rfl), (Nat.le_of_ble_eq_true rfl)⟩ ?_
  refine vv_pop X dX1_save_4 rfl ?_
  refine vv_iload_n X dX1_save_5 rfl 1 rfl ?_
  refine vv_iconst (v := nI 2) X dX1_save_6 (by decide) ?_
  refine vv_callSv X (mX1_checkIndex (kL K) D (nI k) 2 (ix_N (by omega) (by omega))) q446 q447 q137 q448 nX1_checkIndex ⟨(Nat.le_of_ble_eq_true rfl), (Nat.le_of_ble_eq_true rfl)⟩ dX1_save_7 rfl (Nat.le_of_ble_eq_true rfl) trivial ⟨(Nat.le_of_ble_eq_true rfl), (Nat.le_of_ble_eq_true rfl)⟩ ?_
  refine vv_aload_n X dX1_save_10 rfl 0 rfl ?_
  refine vv_getf (C := RX1) (T := TX1) (N := 8) (ref := "AcousticCamera") X hcm in_X1 CL_X1 6 (by decide) q261 rfl rfl dX1_save_11 ?_
  refine vv_iload_n X dX1_save_14 rfl 1 rfl ?_
  refine vv_aload_n X dX1_save_15 rfl 0 rfl ?_
  refine vv_getf (C := RX1) (T := TX1) (N := 8) (ref := "AcousticCamera") X hcm in_X1 CL_X1 4 (by decide) q259 rfl rfl dX1_save_16 ?_
  refine vv_callV X (mX3_copy (kL K) D u P T o g S pw hC hV hA ho) q2706 q2707 q2708 q150 q2709 nX3_copy ⟨(Nat.le_of_ble_eq_true rfl), (Nat.le_of_ble_eq_true rfl)⟩ dX1_save_19 rfl (Nat.le_of_ble_eq_true rfl) (recv X hR.ob CL_X3) ⟨hK, hU, hR⟩ (fun _ z => z.elim) ⟨(Nat.le_of_ble_eq_true rfl), (Nat.le_of_ble_eq_true rfl)⟩ (fun v_ H hq hz_ hk => ?_)
  obtain ⟨g9, rfl, hR9, hA9, hge9, hsh9⟩ := hq
  have hge0 : ∀ k, UK (nM P) k → (kS K).heap.size ≤ g9 k := fun k hk => Nat.le_trans hz (hge9 k hk)
  have n9c : ∀ k, UK (nM P) k → c ≠ g9 k := fun k hk e => by have h9 := hge9 k hk; have h8 := hcm.lt; omega
  have n9b : ∀ k, UK (nM P) k → b ≠ g9 k := fun k hk e => by have h9 := hge9 k hk; have h8 := hsv.lt; omega
  have g9g : ∀ k k2, UK (nM P) k → UK (nM P) k2 → g9 k ≠ g k2 := fun k k2 hk hk2 e => by have h9 := hge9 k hk; have h8 := hR.ltA k2 hk2; omega
  replace hcm := hcm.kept (hk _ hcm.lt (fun z => z))
  replace hsv := hsv.kept (hk _ hsv.lt (fun z => z))
  replace hPK := (show PK D P S pw H from fun p e => (hPK p e).kept (by first | exact hk _ (hPK p e).lt (fun z => z) | (refine hk _ (hPK p e).lt (fun z => ?_); rcases z with z | z; exact (fun (z : p = b) => (hap b (Or.inl rfl)).2.2.2 (z ▸ e)) z; exact (fun (z : p = a) => (hap a (Or.inr (Or.inl rfl))).2.2.2 (z ▸ e)) z) | (refine hc.2 _ ((hpg p e) _ (Or.inl ?_)); decide) | (refine hc.2 _ ((hpg p e) _ (Or.inr ⟨?_, ?_⟩)) <;> omega) | (refine hk _ (hPK p e).lt (fun z => ?_); obtain ⟨k_, h_, e_⟩ := z; exact (hpg p e) k_ h_ e_) | (refine hk _ (hPK p e).lt (fun z => ?_); rcases z with z | z <;> (refine (hpg p e) _ (Or.inl ?_) z; decide)) | (refine hk _ (hPK p e).lt ((hpg p e) _ (Or.inl ?_)); decide) | exact hc.2 _ (fun (z : p = b) => (hap b (Or.inl rfl)).2.2.2 (z ▸ e)) | exact hc.2 _ (fun (z : p = a) => (hap a (Or.inr (Or.inl rfl))).2.2.2 (z ▸ e)) | (refine hk _ (hPK p e).lt (fun z => ?_); exact absurd (hpn p e) (Nat.not_lt.mpr (Nat.le_of_eq z.symm))) | exact hc.2 _ (fun (z : p = c) => (hap c (Or.inr (Or.inr rfl))).2.2.2 (z ▸ e)) | (refine hk _ (hPK p e).lt (fun z => ?_); rcases z with (z | z) | ⟨k_, h_, e_⟩; exact (fun (z : p = b) => (hap b (Or.inl rfl)).2.2.2 (z ▸ e)) z; exact (fun (z : p = a) => (hap a (Or.inr (Or.inl rfl))).2.2.2 (z ▸ e)) z; exact (hpg p e) k_ h_ e_)))
  replace hK := hK.to hk (fun _ z => z.elim)
  replace hU := hU.kept (fun q hl _ => hk q hl (fun z => z))
  replace hR := hR.kept (fun q hl _ => hk q hl (fun z => z)) (fun q hl _ => hk q hl (fun z => z))
  replace hz := Nat.le_trans hz hz_
  clear hk hz_ hge9
  have nw9 : ∀ q, (OA g9 (nM P) q ∨ GB g9 P q) → (∀ k, UK (nM P) k → q ≠ g k) ∧ q ≠ b ∧ q ≠ c := fun q z => by
    rcases z with ⟨k, hk, rfl⟩ | ⟨j, hj, rfl⟩
    · exact ⟨fun k2 hk2 => g9g k k2 hk hk2, fun e => n9b k hk e.symm, fun e => n9c k hk e.symm⟩
    · rw [hsh9 j hj]; exact ⟨fun k2 hk2 e => hA.2.2 k2 j hk2 hj e.symm, fun e => nbs j hj e.symm, fun e => ncs j hj e.symm⟩
  have ho9 := hR9.ob
  refine vv_aast (ty := 7) (C := "AcousticCamera$State") (Cv := "AcousticCamera$State") X hsv rfl (k) (by omega) (by omega) rfl (recv X ho9 CL_X3) (Or.inl rfl) (Or.inl (Or.inl rfl)) dX1_save_22 (fun H hc ho => ?_)
  replace hU := hU.kept (fun q hl hq => hc.2 q (fun e => by obtain ⟨j_, h_, e_⟩ := hq; exact nbu j_ h_ (e.symm.trans e_)))
  replace hR := hR.kept (fun q hl hq => hc.2 q (fun e => by obtain ⟨k_, hk_, e_⟩ := hq; exact nbg k_ hk_ (e.symm.trans e_))) (fun q hl hq => hc.2 q (fun e => by obtain ⟨j_, h_, e_⟩ := hq; exact nbs j_ h_ (e.symm.trans e_)))
  have k_0 := hcm.kept (hc.2 _ (X.oa hcm hsv CL_X1 rfl))
  have k_1 := (show PK D P S pw H from fun p e => (hPK p e).kept (by first | exact hk _ (hPK p e).lt (fun z => z) | (refine hk _ (hPK p e).lt (fun z => ?_); rcases z with z | z; exact (fun (z : p = b) => (hap b (Or.inl rfl)).2.2.2 (z ▸ e)) z; exact (fun (z : p = a) => (hap a (Or.inr (Or.inl rfl))).2.2.2 (z ▸ e)) z) | (refine hc.2 _ ((hpg p e) _ (Or.inl ?_)); decide) | (refine hc.2 _ ((hpg p e) _ (Or.inr ⟨?_, ?_⟩)) <;> omega) | (refine hk _ (hPK p e).lt (fun z => ?_); obtain ⟨k_, h_, e_⟩ := z; exact (hpg p e) k_ h_ e_) | (refine hk _ (hPK p e).lt (fun z => ?_); rcases z with z | z <;> (refine (hpg p e) _ (Or.inl ?_) z; decide)) | (refine hk _ (hPK p e).lt ((hpg p e) _ (Or.inl ?_)); decide) | exact hc.2 _ (fun (z : p = b) => (hap b (Or.inl rfl)).2.2.2 (z ▸ e)) | exact hc.2 _ (fun (z : p = a) => (hap a (Or.inr (Or.inl rfl))).2.2.2 (z ▸ e)) | (refine hk _ (hPK p e).lt (fun z => ?_); exact absurd (hpn p e) (Nat.not_lt.mpr (Nat.le_of_eq z.symm))) | exact hc.2 _ (fun (z : p = c) => (hap c (Or.inr (Or.inr rfl))).2.2.2 (z ▸ e)) | (refine hk _ (hPK p e).lt (fun z => ?_); rcases z with (z | z) | ⟨k_, h_, e_⟩; exact (fun (z : p = b) => (hap b (Or.inl rfl)).2.2.2 (z ▸ e)) z; exact (fun (z : p = a) => (hap a (Or.inr (Or.inl rfl))).2.2.2 (z ▸ e)) z; exact (hpg p e) k_ h_ e_)))
  have k_2 := ho9.kept (hc.2 _ (Ne.symm (n9b 0 (Or.inl (by decide)))))
  have k_3 := (show SR D g9 u P S pw H from hR9.kept (fun q hl hq => (by first | exact hk _ hl (fun z => z) | (refine hk _ hl (fun z => ?_); rcases z with z | z; exact (nw9 q (Or.inl hq)).2.1 z; exact (nw9 q (Or.inl hq)).2.2 z) | (refine hc.2 _ ((nw9 q (Or.inl hq)).1 _ (Or.inl ?_)); decide) | (refine hc.2 _ ((nw9 q (Or.inl hq)).1 _ (Or.inr ⟨?_, ?_⟩)) <;> omega) | (refine hk _ hl (fun z => ?_); obtain ⟨k_, h_, e_⟩ := z; exact (nw9 q (Or.inl hq)).1 k_ h_ e_) | (refine hk _ hl (fun z => ?_); rcases z with z | z <;> (refine (nw9 q (Or.inl hq)).1 _ (Or.inl ?_) z; decide)) | (refine hk _ hl ((nw9 q (Or.inl hq)).1 _ (Or.inl ?_)); decide) | exact hc.2 _ (nw9 q (Or.inl hq)).2.1 | exact hc.2 _ (nw9 q (Or.inl hq)).2.2 | (refine hk _ hl (fun z => ?_); exact absurd (hpn p e) (Nat.not_lt.mpr (Nat.le_of_eq z.symm))) | (refine hk _ hl (fun z => ?_); rcases z with (z | z) | ⟨k_, h_, e_⟩; exact (nw9 q (Or.inl hq)).2.1 z; exact (nw9 q (Or.inl hq)).2.2 z; exact (nw9 q (Or.inl hq)).1 k_ h_ e_))) (fun q hl hq => (by first | exact hk _ hl (fun z => z) | (refine hk _ hl (fun z => ?_); rcases z with z | z; exact (nw9 q (Or.inr hq)).2.1 z; exact (nw9 q (Or.inr hq)).2.2 z) | (refine hc.2 _ ((nw9 q (Or.inr hq)).1 _ (Or.inl ?_)); decide) | (refine hc.2 _ ((nw9 q (Or.inr hq)).1 _ (Or.inr ⟨?_, ?_⟩)) <;> omega) | (refine hk _ hl (fun z => ?_); obtain ⟨k_, h_, e_⟩ := z; exact (nw9 q (Or.inr hq)).1 k_ h_ e_) | (refine hk _ hl (fun z => ?_); rcases z with z | z <;> (refine (nw9 q (Or.inr hq)).1 _ (Or.inl ?_) z; decide)) | (refine hk _ hl ((nw9 q (Or.inr hq)).1 _ (Or.inl ?_)); decide) | exact hc.2 _ (nw9 q (Or.inr hq)).2.1 | exact hc.2 _ (nw9 q (Or.inr hq)).2.2 | (refine hk _ hl (fun z => ?_); exact absurd (hpn p e) (Nat.not_lt.mpr (Nat.le_of_eq z.symm))) | (refine hk _ hl (fun z => ?_); rcases z with (z | z) | ⟨k_, h_, e_⟩; exact (nw9 q (Or.inr hq)).2.1 z; exact (nw9 q (Or.inr hq)).2.2 z; exact (nw9 q (Or.inr hq)).1 k_ h_ e_))))
  replace hK := hK.ch hc hkb
  clear hcm
  have hcm := k_0
  clear k_0
  clear hPK
  have hPK := k_1
  clear k_1
  clear ho9
  have ho9 := k_2
  clear k_2
  clear hR9
  have hR9 := k_3
  clear k_3
  replace hz := Nat.le_trans hz (Nat.le_of_eq hc.1.symm)
  clear hsv
  have hsv : qA D H b 7 2 (va_up Z k (some (g9 0))) := ho
  clear hc ho
  clear ho9
  refine vv_aload_n X dX1_save_23 rfl 0 rfl ?_
  refine vv_getf (C := RX1) (T := TX1) (N := 8) (ref := "AcousticCamera") X hcm in_X1 CL_X1 4 (by decide) q259 rfl rfl dX1_save_24 ?_
  have hzb := hz
  refine vv_callV X (mX3_best (kL K) D u P T o g S pw hC hV hA) q1993 q1994 q1995 q150 q1996 nX3_best ⟨(Nat.le_of_ble_eq_true rfl), (Nat.le_of_ble_eq_true rfl)⟩ dX1_save_27 rfl (Nat.le_of_ble_eq_true rfl) (recv X hR.ob CL_X3) ⟨hK, hU, hR, hPK⟩ (fun q z => by rcases z with rfl; exact (Or.inl (Or.inr rfl))) ⟨(Nat.le_of_ble_eq_true rfl), (Nat.le_of_ble_eq_true rfl)⟩ (fun v_ H hq hz_ hk => ?_)
  obtain ⟨rfl, a_1, hR2, hPK2, hold, hnew⟩ := hq
  replace hcm := hcm.kept (hk _ hcm.lt (ncg _ (Or.inl (by decide))))
  replace hsv := hsv.kept (hk _ hsv.lt (nbg _ (Or.inl (by decide))))
  replace hPK := (show PK D P S pw H from fun p e => (hPK p e).kept (by first | exact hk _ (hPK p e).lt (fun z => z) | (refine hk _ (hPK p e).lt (fun z => ?_); rcases z with z | z; exact (fun (z : p = b) => (hap b (Or.inl rfl)).2.2.2 (z ▸ e)) z; exact (fun (z : p = a) => (hap a (Or.inr (Or.inl rfl))).2.2.2 (z ▸ e)) z) | (refine hc.2 _ ((hpg p e) _ (Or.inl ?_)); decide) | (refine hc.2 _ ((hpg p e) _ (Or.inr ⟨?_, ?_⟩)) <;> omega) | (refine hk _ (hPK p e).lt (fun z => ?_); obtain ⟨k_, h_, e_⟩ := z; exact (hpg p e) k_ h_ e_) | (refine hk _ (hPK p e).lt (fun z => ?_); rcases z with z | z <;> (refine (hpg p e) _ (Or.inl ?_) z; decide)) | (refine hk _ (hPK p e).lt ((hpg p e) _ (Or.inl ?_)); decide) | exact hc.2 _ (fun (z : p = b) => (hap b (Or.inl rfl)).2.2.2 (z ▸ e)) | exact hc.2 _ (fun (z : p = a) => (hap a (Or.inr (Or.inl rfl))).2.2.2 (z ▸ e)) | (refine hk _ (hPK p e).lt (fun z => ?_); exact absurd (hpn p e) (Nat.not_lt.mpr (Nat.le_of_eq z.symm))) | exact hc.2 _ (fun (z : p = c) => (hap c (Or.inr (Or.inr rfl))).2.2.2 (z ▸ e)) | (refine hk _ (hPK p e).lt (fun z => ?_); rcases z with (z | z) | ⟨k_, h_, e_⟩; exact (fun (z : p = b) => (hap b (Or.inl rfl)).2.2.2 (z ▸ e)) z; exact (fun (z : p = a) => (hap a (Or.inr (Or.inl rfl))).2.2.2 (z ▸ e)) z; exact (hpg p e) k_ h_ e_)))
  replace hR9 := (show SR D g9 u P S pw H from hR9.kept (fun q hl hq => (by first | exact hk _ hl (fun z => z) | (refine hk _ hl (fun z => ?_); rcases z with z | z; exact (nw9 q (Or.inl hq)).2.1 z; exact (nw9 q (Or.inl hq)).2.2 z) | (refine hc.2 _ ((nw9 q (Or.inl hq)).1 _ (Or.inl ?_)); decide) | (refine hc.2 _ ((nw9 q (Or.inl hq)).1 _ (Or.inr ⟨?_, ?_⟩)) <;> omega) | (refine hk _ hl (fun z => ?_); obtain ⟨k_, h_, e_⟩ := z; exact (nw9 q (Or.inl hq)).1 k_ h_ e_) | (refine hk _ hl (fun z => ?_); rcases z with z | z <;> (refine (nw9 q (Or.inl hq)).1 _ (Or.inl ?_) z; decide)) | (refine hk _ hl ((nw9 q (Or.inl hq)).1 _ (Or.inl ?_)); decide) | exact hc.2 _ (nw9 q (Or.inl hq)).2.1 | exact hc.2 _ (nw9 q (Or.inl hq)).2.2 | (refine hk _ hl (fun z => ?_); exact absurd (hpn p e) (Nat.not_lt.mpr (Nat.le_of_eq z.symm))) | (refine hk _ hl (fun z => ?_); rcases z with (z | z) | ⟨k_, h_, e_⟩; exact (nw9 q (Or.inl hq)).2.1 z; exact (nw9 q (Or.inl hq)).2.2 z; exact (nw9 q (Or.inl hq)).1 k_ h_ e_))) (fun q hl hq => (by first | exact hk _ hl (fun z => z) | (refine hk _ hl (fun z => ?_); rcases z with z | z; exact (nw9 q (Or.inr hq)).2.1 z; exact (nw9 q (Or.inr hq)).2.2 z) | (refine hc.2 _ ((nw9 q (Or.inr hq)).1 _ (Or.inl ?_)); decide) | (refine hc.2 _ ((nw9 q (Or.inr hq)).1 _ (Or.inr ⟨?_, ?_⟩)) <;> omega) | (refine hk _ hl (fun z => ?_); obtain ⟨k_, h_, e_⟩ := z; exact (nw9 q (Or.inr hq)).1 k_ h_ e_) | (refine hk _ hl (fun z => ?_); rcases z with z | z <;> (refine (nw9 q (Or.inr hq)).1 _ (Or.inl ?_) z; decide)) | (refine hk _ hl ((nw9 q (Or.inr hq)).1 _ (Or.inl ?_)); decide) | exact hc.2 _ (nw9 q (Or.inr hq)).2.1 | exact hc.2 _ (nw9 q (Or.inr hq)).2.2 | (refine hk _ hl (fun z => ?_); exact absurd (hpn p e) (Nat.not_lt.mpr (Nat.le_of_eq z.symm))) | (refine hk _ hl (fun z => ?_); rcases z with (z | z) | ⟨k_, h_, e_⟩; exact (nw9 q (Or.inr hq)).2.1 z; exact (nw9 q (Or.inr hq)).2.2 z; exact (nw9 q (Or.inr hq)).1 k_ h_ e_))))
  replace hK := hK.to hk (fun q z => by rcases z with rfl; exact hR.kn X hK 0 (Or.inl (by decide)))
  replace hU := hU.own hA l4 (Q := (· = 0)) (fun k hk => by subst hk; exact Or.inl (by decide)) (fun q hl hq => hk q hl (hq 0 rfl))
  replace hz := Nat.le_trans hz hz_
  have hp_2 : lA D H a_1 (nC P) (pwc P S) := hPK2 a_1 rfl
  clear hk hz_ hR
  have hR := hR2
  clear hR2 hPK2
  exact vv_iret X hQ dX1_save_30 (Nat.le_of_ble_eq_true rfl) (Nat.le_of_ble_eq_true rfl) (⟨rfl, ⟨_, hR, (fun q e => by cases e; exact hp_2), hold, hnew.imp id (fun z => Nat.le_trans hzb z)⟩, g9, hR9, hPK, hA9, hge0, hsh9, hsv⟩)
set_option maxHeartbeats 800000 in
theorem mX1_restore (l : Launch) (D : DD) (u : Nat → Nat) (P T : Nat → Int32) (o : Nat) (gq : Nat → Nat) (S : Nat → Int32) (pw : Option Nat) (c b a h n sv : Nat) (F Z : Nat → Option Nat) (k : Nat) (v0 v1 v2 v3 v4 v7 : Value) (hC : VC P) (hV : VS S) (hAq : AP gq u P) (ho : o < 4096) (hk9 : k < 2) (hZ : Z k = some (gq 0)) (hh : h < 17) (hn6 : n ≤ 6) (hka : KN D a) (hap : ∀ q, (q = b ∨ q = a ∨ q = c) → ¬ UB u P q ∧ ¬ OA gq (nM P) q ∧ ¬ GB gq P q ∧ ¬ pw = some q) (hpgq : ∀ p, pw = some p → ∀ k, UK (nM P) k → p ≠ gq k) : Ct l yX1_restore cX1_restore 2 (some .int) { frames := 9, cells := 35, slots := 5003, locals := 3121 } D [.ref c, .int (nI k)] (fun H => KH D H ∧ oB D H c 0 [v0, v1, v2, v3, v4, .ref b, .ref sv, v7] ∧ UR D u P T o H ∧ SR D gq u P S pw H ∧ PK D P S pw H ∧ oB D H b 10 [.ref a, .int (nI h), .int (nI ((h + n) % 17))] ∧ qA D H a 9 17 F ∧ qA D H sv 7 2 Z) (fun q => (q = b ∨ q = a) ∨ q = c) (fun r H H1 => r = some (.int (nI (bsN (pwc P S) (nC P)))) ∧ ∃ gN p, SR D gN u P S (some p) H1 ∧ PK D P S (some p) H1 ∧ (∀ q, pw = some q → p = q) ∧ (pw = some p ∨ H.size ≤ p) ∧ AP gN u P ∧ (∀ k, UK (nM P) k → H.size ≤ gN k) ∧ (∀ j, SJ P j → gN j = gq j) ∧ oB D H1 c 0 [v0, v1, v2, v3, .ref (gN 0), .ref b, .ref sv, v7] ∧ oB D H1 b 10 [.ref a, .int (nI 0), .int (nI 0)] ∧ ∃ F2, qA D H1 a 9 17 F2) := by
  refine Ct.of (by decide +kernel) (Nat.le_of_ble_eq_true rfl) (fun K Qf hkl X hM hQ => ?_)
  subst hkl
  obtain ⟨hK, hcm, hU, hRq, hPK, hd, he, hsv⟩ := hM
  have hz : (kS K).heap.size ≤ (kS K).heap.size := Nat.le_refl _
  have hP := hC.v
  have l0 := hP.l0
  have l1 := hP.l1
  have l2 := hP.l2
  have l4 := hP.l4
  have l5 := hP.l5
  have l8 := hP.l8
  have l9 := hP.l9
  have l10 := hP.l10
  have l71 := hP.l71
  have l76 := hP.l76
  have l77 := hP.l77
  have hx1 := hC.x1
  have hy1 := hC.y1
  have ht1 := hC.t1
  have he1 := hC.e1
  have hm1 := hC.m1
  have hcc : nC P ≤ 144 := Nat.mul_le_mul l9 l10
  have nbu : ∀ j, VK P j → b ≠ u j := fun j hj e => (hap b (Or.inl rfl)).1 ⟨j, hj, e⟩
  have nbgq : ∀ j, UK (nM P) j → b ≠ gq j := fun j hj e => (hap b (Or.inl rfl)).2.1 ⟨j, hj, e⟩
  have nbsq : ∀ j, SJ P j → b ≠ gq j := fun j hj e => (hap b (Or.inl rfl)).2.2.1 ⟨j, hj, e⟩
  have nau : ∀ j, VK P j → a ≠ u j := fun j hj e => (hap a (Or.inr (Or.inl rfl))).1 ⟨j, hj, e⟩
  have nagq : ∀ j, UK (nM P) j → a ≠ gq j := fun j hj e => (hap a (Or.inr (Or.inl rfl))).2.1 ⟨j, hj, e⟩
  have nasq : ∀ j, SJ P j → a ≠ gq j := fun j hj e => (hap a (Or.inr (Or.inl rfl))).2.2.1 ⟨j, hj, e⟩
  have ncu : ∀ j, VK P j → c ≠ u j := fun j hj e => (hap c (Or.inr (Or.inr rfl))).1 ⟨j, hj, e⟩
  have ncgq : ∀ j, UK (nM P) j → c ≠ gq j := fun j hj e => (hap c (Or.inr (Or.inr rfl))).2.1 ⟨j, hj, e⟩
  have ncsq : ∀ j, SJ P j → c ≠ gq j := fun j hj e => (hap c (Or.inr (Or.inr rfl))).2.2.1 ⟨j, hj, e⟩
  refine vv_sub (lv' := [(0, .ref c), (1, .int (nI k))]) [0, 1] rfl ?_
  refine vv_iload_n X dX1_restore_0 rfl 1 rfl ?_
  refine vv_iconst (v := nI 2) X dX1_restore_1 (by decide) ?_
  refine vv_callSv X (mX1_checkIndex (kL K) D (nI k) 2 (ix_N (by omega) (by omega))) q446 q447 q137 q448 nX1_checkIndex ⟨(Nat.le_of_ble_eq_true rfl), (Nat.le_of_ble_eq_true rfl)⟩ dX1_restore_2 rfl (Nat.le_of_ble_eq_true rfl) trivial ⟨(Nat.le_of_ble_eq_true rfl), (Nat.le_of_ble_eq_true rfl)⟩ ?_
  refine vv_aload_n X dX1_restore_5 rfl 0 rfl ?_
  refine vv_getf (C := RX1) (T := TX1) (N := 8) (ref := "AcousticCamera") X hcm in_X1 CL_X1 6 (by decide) q261 rfl rfl dX1_restore_6 ?_
  refine vv_iload_n X dX1_restore_9 rfl 1 rfl ?_
  refine vv_aald (ty := 7) X hsv rfl rfl (k) (by omega) (by omega) rfl dX1_restore_10 (v := .ref (gq 0)) (congrArg va_rf hZ) ?_
  refine vv_ifnull X dX1_restore_11 ?_
  refine vv_iconst (v := nI 1) X dX1_restore_14 (by decide) ?_
  refine vv_goto (tgt := 19) X dX1_restore_15 (by decide) ?_
  refine vv_callSv X (mX1_checkState (kL K) D True trivial) q1801 q1802 q137 q1803 nX1_checkState ⟨(Nat.le_of_ble_eq_true rfl), (Nat.le_of_ble_eq_true rfl)⟩ dX1_restore_19 rfl (Nat.le_of_ble_eq_true rfl) trivial ⟨(Nat.le_of_ble_eq_true rfl), (Nat.le_of_ble_eq_true rfl)⟩ ?_
  refine vv_aload_n X dX1_restore_22 rfl 0 rfl ?_
  refine vv_aload_n X dX1_restore_23 rfl 0 rfl ?_
  refine vv_getf (C := RX1) (T := TX1) (N := 8) (ref := "AcousticCamera") X hcm in_X1 CL_X1 6 (by decide) q261 rfl rfl dX1_restore_24 ?_
  refine vv_iload_n X dX1_restore_27 rfl 1 rfl ?_
  refine vv_aald (ty := 7) X hsv rfl rfl (k) (by omega) (by omega) rfl dX1_restore_28 (v := .ref (gq 0)) (congrArg va_rf hZ) ?_
  refine vv_callV X (mX3_copy (kL K) D u P T o gq S pw hC hV hAq ho) q2706 q2707 q2708 q150 q2709 nX3_copy ⟨(Nat.le_of_ble_eq_true rfl), (Nat.le_of_ble_eq_true rfl)⟩ dX1_restore_29 rfl (Nat.le_of_ble_eq_true rfl) (recv X hRq.ob CL_X3) ⟨hK, hU, hRq⟩ (fun _ z => z.elim) ⟨(Nat.le_of_ble_eq_true rfl), (Nat.le_of_ble_eq_true rfl)⟩ (fun v_ H hq hz_ hk => ?_)
  
  obtain ⟨g, rfl, hR, hA, hge9, hsh9⟩ := hq
  have hge0 : ∀ k, UK (nM P) k → (kS K).heap.size ≤ g k := fun k hk => Nat.le_trans hz (hge9 k hk)
  have ncg : ∀ k, UK (nM P) k → c ≠ g k := fun k hk e => by have h9 := hge9 k hk; have h8 := hcm.lt; omega
  have ncs : ∀ j, SJ P j → c ≠ g j := fun j hj => by rw [hsh9 j hj]; exact ncsq j hj
  have nbg : ∀ k, UK (nM P) k → b ≠ g k := fun k hk e => by have h9 := hge9 k hk; have h8 := hd.lt; omega
  have nbs : ∀ j, SJ P j → b ≠ g j := fun j hj => by rw [hsh9 j hj]; exact nbsq j hj
  have nag : ∀ k, UK (nM P) k → a ≠ g k := fun k hk e => by have h9 := hge9 k hk; have h8 := he.lt; omega
  have nas : ∀ j, SJ P j → a ≠ g j := fun j hj => by rw [hsh9 j hj]; exact nasq j hj
  have nsvg : ∀ k, UK (nM P) k → sv ≠ g k := fun k hk e => by have h9 := hge9 k hk; have h8 := hsv.lt; omega
  have hpg : ∀ p, pw = some p → ∀ k, UK (nM P) k → p ≠ g k := fun p e k hk z => by have h9 := hge9 k hk; have h8 := (hPK p e).lt; omega
  replace hcm := hcm.kept (hk _ hcm.lt (fun z => z))
  replace hd := hd.kept (hk _ hd.lt (fun z => z))
  replace he := he.kept (hk _ he.lt (fun z => z))
  replace hsv := hsv.kept (hk _ hsv.lt (fun z => z))
  replace hPK := (show PK D P S pw H from fun p e => (hPK p e).kept (by first | exact hk _ (hPK p e).lt (fun z => z) | (refine hk _ (hPK p e).lt (fun z => ?_); rcases z with z | z; exact (fun (z : p = b) => (hap b (Or.inl rfl)).2.2.2 (z ▸ e)) z; exact (fun (z : p = a) => (hap a (Or.inr (Or.inl rfl))).2.2.2 (z ▸ e)) z) | (refine hc.2 _ ((hpg p e) _ (Or.inl ?_)); decide) | (refine hc.2 _ ((hpg p e) _ (Or.inr ⟨?_, ?_⟩)) <;> omega) | (refine hk _ (hPK p e).lt (fun z => ?_); obtain ⟨k_, h_, e_⟩ := z; exact (hpg p e) k_ h_ e_) | (refine hk _ (hPK p e).lt (fun z => ?_); rcases z with z | z <;> (refine (hpg p e) _ (Or.inl ?_) z; decide)) | (refine hk _ (hPK p e).lt ((hpg p e) _ (Or.inl ?_)); decide) | exact hc.2 _ (fun (z : p = b) => (hap b (Or.inl rfl)).2.2.2 (z ▸ e)) | exact hc.2 _ (fun (z : p = a) => (hap a (Or.inr (Or.inl rfl))).2.2.2 (z ▸ e)) | (refine hk _ (hPK p e).lt (fun z => ?_); exact absurd (hpn p e) (Nat.not_lt.mpr (Nat.le_of_eq z.symm))) | exact hc.2 _ (fun (z : p = c) => (hap c (Or.inr (Or.inr rfl))).2.2.2 (z ▸ e)) | (refine hk _ (hPK p e).lt (fun z => ?_); rcases z with (z | z) | ⟨k_, h_, e_⟩; exact (fun (z : p = b) => (hap b (Or.inl rfl)).2.2.2 (z ▸ e)) z; exact (fun (z : p = a) => (hap a (Or.inr (Or.inl rfl))).2.2.2 (z ▸ e)) z; exact (hpg p e) k_ h_ e_)))
  replace hK := hK.to hk (fun _ z => z.elim)
  replace hU := hU.kept (fun q hl _ => hk q hl (fun z => z))
  replace hz := Nat.le_trans hz hz_
  clear hk hz_ hge9
  refine vv_putf (C := RX1) (T := TX1) (N := 8) (ref := "AcousticCamera") X hcm in_X1 CL_X1 tyX1 tyX1_ok nmX1 4 (by decide) q259 rfl rfl rfl rfl (Nat.le_of_ble_eq_true rfl) (Or.inl (Or.inr rfl)) dX1_restore_32 (fun H hc ho => ?_)
  replace hU := hU.kept (fun q hl hq => hc.2 q (fun e => by obtain ⟨j_, h_, e_⟩ := hq; exact ncu j_ h_ (e.symm.trans e_)))
  replace hR := hR.kept (fun q hl hq => hc.2 q (fun e => by obtain ⟨k_, hk_, e_⟩ := hq; exact ncg k_ hk_ (e.symm.trans e_))) (fun q hl hq => hc.2 q (fun e => by obtain ⟨j_, h_, e_⟩ := hq; exact ncs j_ h_ (e.symm.trans e_)))
  have k_0 := hd.kept (hc.2 _ (X.oo hd hcm CL_J1 CL_X1 (by decide)))
  have k_1 := he.kept (hc.2 _ (X.ao he hcm CL_X1 rfl))
  have k_2 := hsv.kept (hc.2 _ (X.ao hsv hcm CL_X1 rfl))
  have k_3 := (show PK D P S pw H from fun p e => (hPK p e).kept (by first | exact hk _ (hPK p e).lt (fun z => z) | (refine hk _ (hPK p e).lt (fun z => ?_); rcases z with z | z; exact (fun (z : p = b) => (hap b (Or.inl rfl)).2.2.2 (z ▸ e)) z; exact (fun (z : p = a) => (hap a (Or.inr (Or.inl rfl))).2.2.2 (z ▸ e)) z) | (refine hc.2 _ ((hpg p e) _ (Or.inl ?_)); decide) | (refine hc.2 _ ((hpg p e) _ (Or.inr ⟨?_, ?_⟩)) <;> omega) | (refine hk _ (hPK p e).lt (fun z => ?_); obtain ⟨k_, h_, e_⟩ := z; exact (hpg p e) k_ h_ e_) | (refine hk _ (hPK p e).lt (fun z => ?_); rcases z with z | z <;> (refine (hpg p e) _ (Or.inl ?_) z; decide)) | (refine hk _ (hPK p e).lt ((hpg p e) _ (Or.inl ?_)); decide) | exact hc.2 _ (fun (z : p = b) => (hap b (Or.inl rfl)).2.2.2 (z ▸ e)) | exact hc.2 _ (fun (z : p = a) => (hap a (Or.inr (Or.inl rfl))).2.2.2 (z ▸ e)) | (refine hk _ (hPK p e).lt (fun z => ?_); exact absurd (hpn p e) (Nat.not_lt.mpr (Nat.le_of_eq z.symm))) | exact hc.2 _ (fun (z : p = c) => (hap c (Or.inr (Or.inr rfl))).2.2.2 (z ▸ e)) | (refine hk _ (hPK p e).lt (fun z => ?_); rcases z with (z | z) | ⟨k_, h_, e_⟩; exact (fun (z : p = b) => (hap b (Or.inl rfl)).2.2.2 (z ▸ e)) z; exact (fun (z : p = a) => (hap a (Or.inr (Or.inl rfl))).2.2.2 (z ▸ e)) z; exact (hpg p e) k_ h_ e_)))
  replace hK := hK.ch hc (X.ko hK hcm CL_X1 (by decide) (by decide))
  clear hd
  have hd := k_0
  clear k_0
  clear he
  have he := k_1
  clear k_1
  clear hsv
  have hsv := k_2
  clear k_2
  clear hPK
  have hPK := k_3
  clear k_3
  replace hz := Nat.le_trans hz (Nat.le_of_eq hc.1.symm)
  clear hcm
  have hcm : oB D H c 0 [v0, v1, v2, v3, .ref (g 0), .ref b, .ref sv, v7] := ho
  clear hc ho
  refine vv_aload_n X dX1_restore_35 rfl 0 rfl ?_
  refine vv_getf (C := RX1) (T := TX1) (N := 8) (ref := "AcousticCamera") X hcm in_X1 CL_X1 5 (by decide) q260 rfl rfl dX1_restore_36 ?_
  refine vv_callV X (mJ1_clear (kL K) D b a h ((h + n) % 17) F (by omega) (by omega) hka) q1772 q1773 q1774 q139 q1775 nJ1_clear ⟨(Nat.le_of_ble_eq_true rfl), (Nat.le_of_ble_eq_true rfl)⟩ dX1_restore_39 rfl (Nat.le_of_ble_eq_true rfl) (recv X hd CL_J1) ⟨hK, hd, he⟩ (fun q z => by rcases z with rfl | rfl; exact (Or.inl (Or.inl (Or.inl rfl))); exact (Or.inl (Or.inl (Or.inr rfl)))) ⟨(Nat.le_of_ble_eq_true rfl), (Nat.le_of_ble_eq_true rfl)⟩ (fun v_ H hq hz_ hk => ?_)
  obtain ⟨rfl, hd2, F2, he2⟩ := hq
  replace hcm := hcm.kept (hk _ hcm.lt (fun z => z.elim (X.oo hcm hd CL_X1 CL_J1 (by decide)) ((X.oa hcm he CL_X1 rfl))))
  replace hsv := hsv.kept (hk _ hsv.lt (fun z => z.elim (X.ao hsv hd CL_J1 rfl) ((X.aa hsv he rfl rfl (by decide)))))
  replace hPK := (show PK D P S pw H from fun p e => (hPK p e).kept (by first | exact hk _ (hPK p e).lt (fun z => z) | (refine hk _ (hPK p e).lt (fun z => ?_); rcases z with z | z; exact (fun (z : p = b) => (hap b (Or.inl rfl)).2.2.2 (z ▸ e)) z; exact (fun (z : p = a) => (hap a (Or.inr (Or.inl rfl))).2.2.2 (z ▸ e)) z) | (refine hc.2 _ ((hpg p e) _ (Or.inl ?_)); decide) | (refine hc.2 _ ((hpg p e) _ (Or.inr ⟨?_, ?_⟩)) <;> omega) | (refine hk _ (hPK p e).lt (fun z => ?_); obtain ⟨k_, h_, e_⟩ := z; exact (hpg p e) k_ h_ e_) | (refine hk _ (hPK p e).lt (fun z => ?_); rcases z with z | z <;> (refine (hpg p e) _ (Or.inl ?_) z; decide)) | (refine hk _ (hPK p e).lt ((hpg p e) _ (Or.inl ?_)); decide) | exact hc.2 _ (fun (z : p = b) => (hap b (Or.inl rfl)).2.2.2 (z ▸ e)) | exact hc.2 _ (fun (z : p = a) => (hap a (Or.inr (Or.inl rfl))).2.2.2 (z ▸ e)) | (refine hk _ (hPK p e).lt (fun z => ?_); exact absurd (hpn p e) (Nat.not_lt.mpr (Nat.le_of_eq z.symm))) | exact hc.2 _ (fun (z : p = c) => (hap c (Or.inr (Or.inr rfl))).2.2.2 (z ▸ e)) | (refine hk _ (hPK p e).lt (fun z => ?_); rcases z with (z | z) | ⟨k_, h_, e_⟩; exact (fun (z : p = b) => (hap b (Or.inl rfl)).2.2.2 (z ▸ e)) z; exact (fun (z : p = a) => (hap a (Or.inr (Or.inl rfl))).2.2.2 (z ▸ e)) z; exact (hpg p e) k_ h_ e_)))
  replace hU := hU.kept (fun q hl hq => hk q hl (fun z => by obtain ⟨j_, h_, e_⟩ := hq; rcases z with z | z; exact nbu j_ h_ (z.symm.trans e_); exact nau j_ h_ (z.symm.trans e_)))
  replace hR := hR.kept (fun q hl hq => hk q hl (fun z => by obtain ⟨j_, h_, e_⟩ := hq; rcases z with z | z; exact nbg j_ h_ (z.symm.trans e_); exact nag j_ h_ (z.symm.trans e_))) (fun q hl hq => hk q hl (fun z => by obtain ⟨j_, h_, e_⟩ := hq; rcases z with z | z; exact nbs j_ h_ (z.symm.trans e_); exact nas j_ h_ (z.symm.trans e_)))
  replace hK := hK.to hk (fun q z => by rcases z with rfl | rfl; exact (X.ko hK hd CL_J1 (by decide) (by decide)); exact hka)
  replace hz := Nat.le_trans hz hz_
  clear hd he hk hz_
  have hd := hd2
  have he := he2
  clear hd2 he2
  refine vv_aload_n X dX1_restore_42 rfl 0 rfl ?_
  refine vv_getf (C := RX1) (T := TX1) (N := 8) (ref := "AcousticCamera") X hcm in_X1 CL_X1 4 (by decide) q259 rfl rfl dX1_restore_43 ?_
  have hzb := hz
  refine vv_callV X (mX3_best (kL K) D u P T o g S pw hC hV hA) q1993 q1994 q1995 q150 q1996 nX3_best ⟨(Nat.le_of_ble_eq_true rfl), (Nat.le_of_ble_eq_true rfl)⟩ dX1_restore_46 rfl (Nat.le_of_ble_eq_true rfl) (recv X hR.ob CL_X3) ⟨hK, hU, hR, hPK⟩ (fun q z => by rcases z with rfl; exact (Or.inr (hge0 _ (Or.inl (by decide))))) ⟨(Nat.le_of_ble_eq_true rfl), (Nat.le_of_ble_eq_true rfl)⟩ (fun v_ H hq hz_ hk => ?_)
  obtain ⟨rfl, a_1, hR2, hPK2, hold, hnew⟩ := hq
  replace hcm := hcm.kept (hk _ hcm.lt (ncg _ (Or.inl (by decide))))
  replace hd := hd.kept (hk _ hd.lt (nbg _ (Or.inl (by decide))))
  replace he := he.kept (hk _ he.lt (nag _ (Or.inl (by decide))))
  replace hsv := hsv.kept (hk _ hsv.lt (nsvg _ (Or.inl (by decide))))
  replace hPK := (show PK D P S pw H from fun p e => (hPK p e).kept (by first | exact hk _ (hPK p e).lt (fun z => z) | (refine hk _ (hPK p e).lt (fun z => ?_); rcases z with z | z; exact (fun (z : p = b) => (hap b (Or.inl rfl)).2.2.2 (z ▸ e)) z; exact (fun (z : p = a) => (hap a (Or.inr (Or.inl rfl))).2.2.2 (z ▸ e)) z) | (refine hc.2 _ ((hpg p e) _ (Or.inl ?_)); decide) | (refine hc.2 _ ((hpg p e) _ (Or.inr ⟨?_, ?_⟩)) <;> omega) | (refine hk _ (hPK p e).lt (fun z => ?_); obtain ⟨k_, h_, e_⟩ := z; exact (hpg p e) k_ h_ e_) | (refine hk _ (hPK p e).lt (fun z => ?_); rcases z with z | z <;> (refine (hpg p e) _ (Or.inl ?_) z; decide)) | (refine hk _ (hPK p e).lt ((hpg p e) _ (Or.inl ?_)); decide) | exact hc.2 _ (fun (z : p = b) => (hap b (Or.inl rfl)).2.2.2 (z ▸ e)) | exact hc.2 _ (fun (z : p = a) => (hap a (Or.inr (Or.inl rfl))).2.2.2 (z ▸ e)) | (refine hk _ (hPK p e).lt (fun z => ?_); exact absurd (hpn p e) (Nat.not_lt.mpr (Nat.le_of_eq z.symm))) | exact hc.2 _ (fun (z : p = c) => (hap c (Or.inr (Or.inr rfl))).2.2.2 (z ▸ e)) | (refine hk _ (hPK p e).lt (fun z => ?_); rcases z with (z | z) | ⟨k_, h_, e_⟩; exact (fun (z : p = b) => (hap b (Or.inl rfl)).2.2.2 (z ▸ e)) z; exact (fun (z : p = a) => (hap a (Or.inr (Or.inl rfl))).2.2.2 (z ▸ e)) z; exact (hpg p e) k_ h_ e_)))
  replace hK := hK.to hk (fun q z => by rcases z with rfl; exact hR.kn X hK 0 (Or.inl (by decide)))
  replace hU := hU.own hA l4 (Q := (· = 0)) (fun k hk => by subst hk; exact Or.inl (by decide)) (fun q hl hq => hk q hl (hq 0 rfl))
  replace hz := Nat.le_trans hz hz_
  have hp_2 : lA D H a_1 (nC P) (pwc P S) := hPK2 a_1 rfl
  clear hk hz_ hR
  have hR := hR2
  clear hR2 hPK2
  exact vv_iret X hQ dX1_restore_49 (Nat.le_of_ble_eq_true rfl) (Nat.le_of_ble_eq_true rfl) (⟨rfl, g, _, hR, (fun q e => by cases e; exact hp_2), hold, hnew.imp id (fun z => Nat.le_trans hzb z), hA, hge0, hsh9, hcm, hd, _, he⟩)
set_option maxHeartbeats 800000 in
theorem xX1_restore2 (l : Launch) (D : DD) (hl : l.stackTraces = false) (c b sv k : Nat) (Z : Nat → Option Nat) (v0 v1 v2 v3 v4 v7 : Value) (hk9 : k < 2) (hZ : Z k = none) : Cx l yX1_restore cX1_restore 2 (some .int) { frames := 7, cells := 1, slots := 6, locals := 109 } D [.ref c, .int (nI k)] (fun H => KH D H ∧ oB D H c 0 [v0, v1, v2, v3, v4, .ref b, .ref sv, v7] ∧ qA D H sv 7 2 Z) (fun _ => False) (fun r H H1 => False) (fun Xn q H H1 => Xn = "java/lang/IllegalStateException") := by
  refine Cx.of (by decide +kernel) (Nat.le_of_ble_eq_true rfl) (fun K Qf hkl X ht hM hQ => ?_)
  subst hkl
  obtain ⟨hK, hcm, hsv⟩ := hM
  have hz : (kS K).heap.size ≤ (kS K).heap.size := Nat.le_refl _
  refine vv_sub (lv' := [(0, .ref c), (1, .int (nI k))]) [0, 1] rfl ?_
  refine vv_iload_n X dX1_restore_0 rfl 1 rfl ?_
  refine vv_iconst (v := nI 2) X dX1_restore_1 (by decide) ?_
  refine vv_callSv X (mX1_checkIndex (kL K) D (nI k) 2 (ix_N (by omega) (by omega))) q446 q447 q137 q448 nX1_checkIndex ⟨(Nat.le_of_ble_eq_true rfl), (Nat.le_of_ble_eq_true rfl)⟩ dX1_restore_2 rfl (Nat.le_of_ble_eq_true rfl) trivial ⟨(Nat.le_of_ble_eq_true rfl), (Nat.le_of_ble_eq_true rfl)⟩ ?_
  refine vv_aload_n X dX1_restore_5 rfl 0 rfl ?_
  refine vv_getf (C := RX1) (T := TX1) (N := 8) (ref := "AcousticCamera") X hcm in_X1 CL_X1 6 (by decide) q261 rfl rfl dX1_restore_6 ?_
  refine vv_iload_n X dX1_restore_9 rfl 1 rfl ?_
  refine vv_aald (ty := 7) X hsv rfl rfl (k) (by omega) (by omega) rfl dX1_restore_10 (v := .null) (congrArg va_rf hZ) ?_
  refine vv_ifnullN (tgt := 18) X dX1_restore_11 (by decide) ?_
  refine vv_iconst (v := nI 0) X dX1_restore_18 (by decide) ?_
  refine vx_cS X (xX1_checkState (kL K) D hl False (fun z => z)) q1801 q1802 q137 q1803 nX1_checkState ⟨(Nat.le_of_ble_eq_true rfl), (Nat.le_of_ble_eq_true rfl)⟩ dX1_restore_19 rfl (Nat.le_of_ble_eq_true rfl) hK (fun _ z => z.elim) ⟨(Nat.le_of_ble_eq_true rfl), (Nat.le_of_ble_eq_true rfl)⟩ (fun Xn q H hq hz_ hk hXO => ?_) (fun v_ H hq hz_ hk => hq.elim)
  obtain rfl := hq
  exact vt_out X (fun x hx => (ht x hx).elim) hQ hXO (Nat.le_of_ble_eq_true rfl) (Nat.le_of_ble_eq_true rfl) (rfl)
theorem nX9_square : notMH yX9_square 3 := by decide +kernel
set_option maxHeartbeats 800000 in
theorem mX9_square (l : Launch) (D : DD) (am pe ph : Nat)  : Ct l yX9_square cX9_square 3 (some (.object "AcousticCamera$Wave")) { frames := 1, cells := 1, slots := 3, locals := 3100 } D [.int (nI am), .int (nI pe), .int (nI ph)] (fun H => KH D H) (fun _ => False) (fun r H H1 => ∃ w, r = some (.ref w) ∧ LO D H1 w 0 [.int (nI ph), .int (nI pe), .int (nI am)] ∧ H.size ≤ w) := by
  refine Ct.of (by decide +kernel) (Nat.le_of_ble_eq_true rfl) (fun K Qf hkl X hM hQ => ?_)
  subst hkl
  have hK := hM
  have hz : (kS K).heap.size ≤ (kS K).heap.size := Nat.le_refl _
  refine vv_sub (lv' := [(0, .int (nI am)), (1, .int (nI pe)), (2, .int (nI ph))]) [0, 1, 2] rfl ?_
  refine vv_iload_n X dX9_square_0 rfl 2 rfl ?_
  refine vv_iload_n X dX9_square_1 rfl 1 rfl ?_
  refine vv_iload_n X dX9_square_2 rfl 0 rfl ?_
  refine vv_indyA0 X rfl dX9_square_3 rfl (Nat.le_of_ble_eq_true rfl) (Nat.le_of_ble_eq_true rfl) (Nat.le_of_ble_eq_true rfl) (fun a_1 H eq_2 hx hl => ?_)
  have ge_3 : (kS K).heap.size ≤ a_1 := by rw [eq_2]; exact hz
  have kn_4 : KN D a_1 := KN.new hK (Nat.le_of_eq eq_2.symm)
  replace hK := hK.ex hx
  replace hz : (kS K).heap.size ≤ H.size := by have := hx.1; omega
  have hL_5 : LO D H a_1 0 [.int (nI ph), .int (nI pe), .int (nI am)] := hl
  clear hl hx
  exact vv_aret X (Or.inl ⟨_, rfl⟩) (Or.inr ⟨_, rfl⟩) hQ dX9_square_8 (Nat.le_of_ble_eq_true rfl) (Nat.le_of_ble_eq_true rfl) (⟨_, rfl, hL_5, ge_3⟩)
theorem nX1_pointed : notMH yX1_pointed 2 := by decide +kernel
set_option maxHeartbeats 800000 in
theorem mX1_pointed (l : Launch) (D : DD) (u : Nat → Nat) (P T : Nat → Int32) (o : Nat) (gq : Nat → Nat) (S : Nat → Int32) (pw : Option Nat) (c : Nat) (v0 v1 v2 v3 v5 v6 v7 : Value) (k p : Nat) (hC : VC P) (hV : VS S) (hAq : AP gq u P) (ho : o < 4096) (hk9 : k < nC P) (hp : 2 ≤ p ∧ p ≤ 99) : Ct l yX1_pointed cX1_pointed 7 (some (.object "AcousticCamera$State")) { frames := 9, cells := 35, slots := 4867, locals := 3122 } D [.ref c, .int (nI k), .int (nI p)] (fun H => KH D H ∧ oB D H c 0 [v0, v1, v2, v3, .ref (gq 0), v5, v6, v7] ∧ UR D u P T o H ∧ SR D gq u P S pw H) (fun _ => False) (fun r H H1 => ∃ gN, r = some (.ref (gN 0)) ∧ SR D gN u P (offS (rcd P (rawP P k p) S)) none H1 ∧ AP gN u P ∧ (∀ k, UK (nM P) k → H.size ≤ gN k)) := by
  refine Ct.of (by decide +kernel) (Nat.le_of_ble_eq_true rfl) (fun K Qf hkl X hM hQ => ?_)
  subst hkl
  obtain ⟨hK, hcm, hU, hRq⟩ := hM
  have hz : (kS K).heap.size ≤ (kS K).heap.size := Nat.le_refl _
  have hP := hC.v
  have l0 := hP.l0
  have l1 := hP.l1
  have l2 := hP.l2
  have l4 := hP.l4
  have l5 := hP.l5
  have l8 := hP.l8
  have l9 := hP.l9
  have l10 := hP.l10
  have l71 := hP.l71
  have l76 := hP.l76
  have l77 := hP.l77
  have hx1 := hC.x1
  have hy1 := hC.y1
  have ht1 := hC.t1
  have he1 := hC.e1
  have hm1 := hC.m1
  have hcc : nC P ≤ 144 := Nat.mul_le_mul l9 l10
  refine vv_sub (lv' := [(0, .ref c), (1, .int (nI k)), (2, .int (nI p))]) [0, 1, 2] rfl ?_
  refine vv_aload_n X dX1_pointed_0 rfl 0 rfl ?_
  refine vv_getf (C := RX1) (T := TX1) (N := 8) (ref := "AcousticCamera") X hcm in_X1 CL_X1 4 (by decide) q259 rfl rfl dX1_pointed_1 ?_
  refine vv_callV X (mX3_copy (kL K) D u P T o gq S pw hC hV hAq ho) q2706 q2707 q2708 q150 q2709 nX3_copy ⟨(Nat.le_of_ble_eq_true rfl), (Nat.le_of_ble_eq_true rfl)⟩ dX1_pointed_4 rfl (Nat.le_of_ble_eq_true rfl) (recv X hRq.ob CL_X3) ⟨hK, hU, hRq⟩ (fun _ z => z.elim) ⟨(Nat.le_of_ble_eq_true rfl), (Nat.le_of_ble_eq_true rfl)⟩ (fun v_ H hq hz_ hk => ?_)
  
  obtain ⟨g, rfl, hR, hA, hge9, hsh9⟩ := hq
  have hge0 : ∀ k, UK (nM P) k → (kS K).heap.size ≤ g k := fun k hk => Nat.le_trans hz (hge9 k hk)
  have hqlt : gq 0 < _ := hRq.ob.lt
  have hobq9 := hRq.ob
  have nq0g : ∀ k, UK (nM P) k → gq 0 ≠ g k := fun k hk e => by have h9 := hge9 k hk; omega
  replace hobq9 := hobq9.kept (hk _ hobq9.lt (fun z => z))
  have ncg : ∀ k, UK (nM P) k → c ≠ g k := fun k hk e => by have h9 := hge9 k hk; have h8 := hcm.lt; omega
  replace hcm := hcm.kept (hk _ hcm.lt (fun z => z))
  replace hK := hK.to hk (fun _ z => z.elim)
  replace hU := hU.kept (fun q hl _ => hk q hl (fun z => z))
  replace hz := Nat.le_trans hz hz_
  clear hk hz_ hge9
  refine vv_astore_n (lv' := [(3, .ref (g 0)), (0, .ref c), (1, .int (nI k)), (2, .int (nI p))]) X dX1_pointed_7 rfl (by decide) rfl ?_
  refine vv_aload_n X dX1_pointed_8 rfl 1 rfl ?_
  refine vv_getf (C := RX1) (T := TX1) (N := 8) (ref := "AcousticCamera") X hcm in_X1 CL_X1 4 (by decide) q259 rfl rfl dX1_pointed_9 ?_
  refine vv_getfN (C := RX3) (T := TX3) (N := 8) (ref := "AcousticCamera$State") X hobq9 in_X3 CL_X3 0 (by decide) q1688 rfl rfl dX1_pointed_12 ?_
  refine vv_astore (lv' := [(4, .ref (u 0)), (3, .ref (g 0)), (0, .ref c), (1, .int (nI k)), (2, .int (nI p))]) X dX1_pointed_15 (by decide) rfl ?_
  clear hobq9
  refine vv_newA (C := RX8) (T := TX8) (N := 6) (fs := [.null, .int (nI 0), .int (nI 0), .int (nI 0), .int (nI 0), .int (nI 0)]) X in_X8 CL_X8 tyX8 tyX8_ok q2727 q1363 q175 (tyX8_d) (Nat.le_of_ble_eq_true rfl) (Nat.le_of_ble_eq_true rfl) dX1_pointed_17 (fun a_1 H eq_2 hx ho => ?_)
  have lt_3 : c < a_1 := by have h9 := hcm.lt; first | omega | exact Nat.lt_of_lt_of_eq h9 (Eq.symm (by assumption))
  have ng_4 : ∀ k, UK (nM P) k → a_1 ≠ g k := fun k hk e => by have h9 := hR.ltA k hk; rw [eq_2] at e; omega
  have ns_5 : ∀ j, SJ P j → a_1 ≠ g j := fun k hk e => by have h9 := hR.ltS k hk; rw [eq_2] at e; omega
  have nu_6 : ∀ j, VK P j → a_1 ≠ u j := fun k hk e => by have h9 := hU.ltB k hk; rw [eq_2] at e; omega
  have ne_7 : c ≠ a_1 := Nat.ne_of_lt (eq_2.symm ▸ hcm.lt)
  have ge_8 : (kS K).heap.size ≤ a_1 := by rw [eq_2]; exact hz
  have kn_9 : KN D a_1 := KN.new hK (Nat.le_of_eq eq_2.symm)
  replace hU := hU.ex hx
  replace hR := hR.ex hx
  replace hcm := hcm.kept (hx.2 _ hcm.lt)
  replace hK := hK.ex hx
  replace hz : (kS K).heap.size ≤ H.size := by have := hx.1; omega
  have hO_10 : oB D H a_1 7 [.null, .int (nI 0), .int (nI 0), .int (nI 0), .int (nI 0), .int (nI 0)] := ho
  clear ho hx
  refine vv_dup X dX1_pointed_20 rfl ?_
  refine vv_bipush (v := nI 100) X dX1_pointed_21 (by decide) ?_
  refine vv_iload_n X dX1_pointed_23 rfl 4 rfl ?_
  refine vv_iconst (v := nI 0) X dX1_pointed_24 (by decide) ?_
  refine vv_callS X (mX9_square (kL K) D 100 p 0) q2728 q1368 q176 q1369 nX9_square ⟨(Nat.le_of_ble_eq_true rfl), (Nat.le_of_ble_eq_true rfl)⟩ dX1_pointed_25 rfl (Nat.le_of_ble_eq_true rfl) hK (fun _ z => z.elim) ⟨(Nat.le_of_ble_eq_true rfl), (Nat.le_of_ble_eq_true rfl)⟩ (fun v_ H hq hz_ hk => ?_)
  obtain ⟨w1, rfl, hW1, hw1⟩ := hq
  have lt_11 : c < w1 := by have h9 := hcm.lt; first | omega | exact Nat.lt_of_lt_of_eq h9 (Eq.symm (by assumption))
  have lt_12 : a_1 < w1 := by have h9 := hO_10.lt; first | omega | exact Nat.lt_of_lt_of_eq h9 (Eq.symm (by assumption))
  have nu_13 : ∀ j, VK P j → w1 ≠ u j := fun j hj e => Nat.not_lt.mpr (Nat.le_trans hw1 (Nat.le_of_eq e)) (hU.ltB j hj)
  have ng_14 : ∀ k, UK (nM P) k → w1 ≠ g k := fun k hk e => Nat.not_lt.mpr (Nat.le_trans hw1 (Nat.le_of_eq e)) (hR.ltA k hk)
  have ns_15 : ∀ j, SJ P j → w1 ≠ g j := fun k hk e => Nat.not_lt.mpr (Nat.le_trans hw1 (Nat.le_of_eq e)) (hR.ltS k hk)
  replace hcm := hcm.kept (hk _ hcm.lt (fun z => z))
  replace hO_10 := hO_10.kept (hk _ hO_10.lt (fun z => z))
  replace hK := hK.to hk (fun _ z => z.elim)
  replace hU := hU.kept (fun q hl _ => hk q hl (fun z => z))
  replace hR := hR.kept (fun q hl _ => hk q hl (fun z => z)) (fun q hl _ => hk q hl (fun z => z))
  replace hz := Nat.le_trans hz hz_
  clear hk hz_
  refine vv_iconst (v := nI 0) X dX1_pointed_28 (by decide) ?_
  refine vv_aload X dX1_pointed_29 0 rfl ?_
  refine vv_iload_n X dX1_pointed_31 rfl 3 rfl ?_
  refine vv_callVp X (mX5_xOf (kL K) D u P T o k hC (by omega)) q1849 q1560 q1561 q152 q1562 nX5_xOf ⟨(Nat.le_of_ble_eq_true rfl), (Nat.le_of_ble_eq_true rfl)⟩ dX1_pointed_32 rfl (Nat.le_of_ble_eq_true rfl) (recv X hU.ob CL_X5) hU ⟨(Nat.le_of_ble_eq_true rfl), (Nat.le_of_ble_eq_true rfl)⟩ ?_
  refine vv_aload X dX1_pointed_35 0 rfl ?_
  refine vv_iload_n X dX1_pointed_37 rfl 3 rfl ?_
  refine vv_callVp X (mX5_yOf (kL K) D u P T o k hC (by omega)) q1850 q1564 q1565 q152 q1566 nX5_yOf ⟨(Nat.le_of_ble_eq_true rfl), (Nat.le_of_ble_eq_true rfl)⟩ dX1_pointed_38 rfl (Nat.le_of_ble_eq_true rfl) (recv X hU.ob CL_X5) hU ⟨(Nat.le_of_ble_eq_true rfl), (Nat.le_of_ble_eq_true rfl)⟩ ?_
  refine vv_iconst (v := nI 0) X dX1_pointed_41 (by decide) ?_
  refine vv_iconst (v := nI 0) X dX1_pointed_42 (by decide) ?_
  refine vv_callI X (mX8_init (kL K) D a_1 w1 0 (cx P k) (cy P k) (nI 0) (nI 0)) q2729 q1394 q175 q1395 rfl nX8_init ⟨(Nat.le_of_ble_eq_true rfl), (Nat.le_of_ble_eq_true rfl)⟩ dX1_pointed_43 rfl (Nat.le_of_ble_eq_true rfl) ⟨hK, hO_10⟩ (fun q z => by rcases z with rfl; exact (Or.inr ge_8)) ⟨(Nat.le_of_ble_eq_true rfl), (Nat.le_of_ble_eq_true rfl)⟩ (fun v_ H hq hz_ hk => ?_)
  obtain ⟨rfl, hq2⟩ := hq
  replace hcm := hcm.kept (hk _ hcm.lt ne_7)
  replace hW1 := hW1.kept (hk _ hW1.lt (Ne.symm (Nat.ne_of_lt lt_12)))
  replace hU := hU.kept (fun q hl hq => hk q hl (fun z => by obtain ⟨j_, h_, e_⟩ := hq; rcases z with z; exact nu_6 j_ h_ (z.symm.trans e_)))
  replace hR := hR.kept (fun q hl hq => hk q hl (fun z => by obtain ⟨j_, h_, e_⟩ := hq; rcases z with z; exact ng_4 j_ h_ (z.symm.trans e_))) (fun q hl hq => hk q hl (fun z => by obtain ⟨j_, h_, e_⟩ := hq; rcases z with z; exact ns_5 j_ h_ (z.symm.trans e_)))
  replace hK := hK.to hk (fun q z => by rcases z with rfl; exact kn_9)
  replace hz := Nat.le_trans hz hz_
  clear hO_10
  have hO_10 := hq2
  clear hq2
  clear hk hz_
  refine vv_astore (lv' := [(5, .ref a_1), (4, .ref (u 0)), (3, .ref (g 0)), (0, .ref c), (1, .int (nI k)), (2, .int (nI p))]) X dX1_pointed_46 (by decide) rfl ?_
  refine vv_aload_n X dX1_pointed_48 rfl 2 rfl ?_
  refine vv_getfN (C := RX3) (T := TX3) (N := 8) (ref := "AcousticCamera$State") X hR.ob in_X3 CL_X3 2 (by decide) q1692 rfl rfl dX1_pointed_49 ?_
  refine vv_callV X (mJ21_clear (kL K) D (g 3) (g 4) (onm P S) ) q2730 q2718 q2719 q164 q2720 nJ21_clear ⟨(Nat.le_of_ble_eq_true rfl), (Nat.le_of_ble_eq_true rfl)⟩ dX1_pointed_52 rfl (Nat.le_of_ble_eq_true rfl) (recv X hR.on.1 CL_J21) ⟨hK, hR.on⟩ (fun q z => by rcases z with rfl | rfl; exact (Or.inr (hge0 _ (Or.inl (by decide)))); exact (Or.inr (hge0 _ (Or.inl (by decide))))) ⟨(Nat.le_of_ble_eq_true rfl), (Nat.le_of_ble_eq_true rfl)⟩ (fun v_ H hq hz_ hk => ?_)
  obtain ⟨rfl, hB9⟩ := hq
  replace hcm := hcm.kept (hk _ hcm.lt (fun z => z.elim (ncg _ (Or.inl (by decide))) ((ncg _ (Or.inl (by decide))))))
  replace hW1 := hW1.kept (hk _ hW1.lt (fun z => z.elim (ng_14 _ (Or.inl (by decide))) ((ng_14 _ (Or.inl (by decide))))))
  replace hO_10 := hO_10.kept (hk _ hO_10.lt (fun z => z.elim (ng_4 _ (Or.inl (by decide))) ((ng_4 _ (Or.inl (by decide))))))
  have hR2 := hR.putO hA l4 l5 hk (S' := offS S) (fun i hi => offS_ne (by omega)) (by rw [← offS_on (S := S) l5]; exact hB9)
  replace hU := hU.own hA l4 (Q := fun k => k = 3 ∨ k = 4) (fun k hk => by rcases hk with rfl | rfl <;> exact Or.inl (by decide)) (fun q hl hq => hk q hl (fun z => z.elim (hq 3 (Or.inl rfl)) (hq 4 (Or.inr rfl))))
  replace hK := hK.to hk (fun q z => by rcases z with rfl | rfl; exact hR.kn X hK 3 (Or.inl (by decide)); exact hR.kn X hK 4 (Or.inl (by decide)))
  replace hz := Nat.le_trans hz hz_
  clear hk hz_ hB9 hR
  have hR := hR2
  clear hR2
  refine vv_aload_n X dX1_pointed_55 rfl 2 rfl ?_
  refine vv_callV X (mX3_record (kL K) D u P T o g (offS S) pw hC (offS_vs hV) hA) q1720 q1721 q1722 q150 q1723 nX3_record ⟨(Nat.le_of_ble_eq_true rfl), (Nat.le_of_ble_eq_true rfl)⟩ dX1_pointed_56 rfl (Nat.le_of_ble_eq_true rfl) (recv X hR.ob CL_X3) ⟨hK, hU, hR⟩ (fun q z => by obtain ⟨k_, h_, e_⟩ := z; rw [e_]; exact Or.inr (hge0 k_ h_)) ⟨(Nat.le_of_ble_eq_true rfl), (Nat.le_of_ble_eq_true rfl)⟩ (fun v_ H hq hz_ hk => ?_)
  obtain ⟨rfl, hR2⟩ := hq
  replace hcm := hcm.kept (hk _ hcm.lt (fun z => by obtain ⟨k_, hk_, e_⟩ := z; exact ncg k_ hk_ e_))
  replace hW1 := hW1.kept (hk _ hW1.lt (fun z => by obtain ⟨k_, hk_, e_⟩ := z; exact ng_14 k_ hk_ e_))
  replace hO_10 := hO_10.kept (hk _ hO_10.lt (fun z => by obtain ⟨k_, hk_, e_⟩ := z; exact ng_4 k_ hk_ e_))
  replace hK := hK.to hk (hR.knA X hK)
  replace hU := hU.to hA hk
  replace hz := Nat.le_trans hz hz_
  clear hk hz_ hR
  have hR := hR2
  clear hR2
  refine vv_iconst (v := nI 0) X dX1_pointed_59 (by decide) ?_
  refine vv_istore (lv' := [(6, .int (nI 0)), (5, .ref a_1), (4, .ref (u 0)), (3, .ref (g 0)), (0, .ref c), (1, .int (nI k)), (2, .int (nI p))]) X dX1_pointed_60 (by decide) rfl ?_
  have hL31 : pL P < 2 ^ 30 := by have := hP.l3; omega
  have hx_16 : ∀ (H : Heap) (S' : Nat → Int32) (hK : KH D H) (hU : UR D u P T o H) (hR : SR D g u P S' none H) (hz : (kS K).heap.size ≤ H.size) (hcm : oB D H c 0 [v0, v1, v2, v3, .ref (gq 0), v5, v6, v7]) (hW1 : LO D H w1 0 [.int (nI 0), .int (nI p), .int (nI 100)]) (hO_10 : oB D H a_1 7 [.ref w1, .int (nI 0), .int (cx P k), .int (cy P k), .int (nI 0), .int (nI 0)]) (hlo : ∀ i, i < 55 → S' i = (rcd P (rawA P (offS S)) (offS S)) i) (hol : ∀ m, m < nM P → ∀ t, t < nT P → S' (55 + 200 * m + t) = if m < (nM P) then rcd P (rawP P k p) S (55 + 200 * m + t) else nI 0), V K 7 (fun _ => False) H 35 4867 Qf 92 [(0, .ref c), (1, .int (nI k)), (2, .int (nI p)), (3, .ref (g 0)), (4, .ref (u 0)), (5, .ref a_1), (6, .int (nI (nM P)))] [] := by
    intro H S' hK hU hR hz hcm hW1 hO_10 hlo hol
    refine vv_aload_n X dX1_pointed_92 rfl 3 rfl ?_
    exact vv_aret X (Or.inl ⟨_, rfl⟩) (Or.inr ⟨_, rfl⟩) hQ dX1_pointed_93 (Nat.le_of_ble_eq_true rfl) (Nat.le_of_ble_eq_true rfl) (⟨g, rfl, hR.cg l4 l5 (fun i hi => (off_lo hi).trans (hlo i hi).symm) (fun m hm t ht => by rw [offS_ne (by omega), hol m hm t ht, if_pos hm]), hA, hge0⟩)
  have hl_17 : ∀ (n_i i : Nat) (H : Heap) (S' : Nat → Int32), i + n_i = nM P → (KH D H) → (UR D u P T o H) → (SR D g u P S' none H) → ((kS K).heap.size ≤ H.size) → (oB D H c 0 [v0, v1, v2, v3, .ref (gq 0), v5, v6, v7]) → (LO D H w1 0 [.int (nI 0), .int (nI p), .int (nI 100)]) → (oB D H a_1 7 [.ref w1, .int (nI 0), .int (cx P k), .int (cy P k), .int (nI 0), .int (nI 0)]) → (∀ i, i < 55 → S' i = (rcd P (rawA P (offS S)) (offS S)) i) → (∀ m, m < nM P → ∀ t, t < nT P → S' (55 + 200 * m + t) = if m < i then rcd P (rawP P k p) S (55 + 200 * m + t) else nI 0) → V K 7 (fun _ => False) H 35 4867 Qf 62 [(0, .ref c), (1, .int (nI k)), (2, .int (nI p)), (3, .ref (g 0)), (4, .ref (u 0)), (5, .ref a_1), (6, .int (nI i))] [] := by
    intro n_i
    induction n_i with
    | zero =>
      intro i H S' hi hK hU hR hz hcm hW1 hO_10 hlo hol
      obtain rfl : i = nM P := by omega
      refine vv_iload X dX1_pointed_62 6 rfl ?_
      refine vv_aload_n X dX1_pointed_64 rfl 3 rfl ?_
      refine vv_getfN (C := RX3) (T := TX3) (N := 8) (ref := "AcousticCamera$State") X hR.ob in_X3 CL_X3 4 (by decide) q1696 rfl rfl dX1_pointed_65 ?_
      refine vv_alen (ty := 0) X hR.wt rfl dX1_pointed_68 ?_
      refine vn_ge (tgt := 92) X (by omega) (by omega) dX1_pointed_69 (by decide) (fun c_69 => ?_) (fun c_69 => ?_)
      · exact hx_16 H S' hK hU hR hz hcm hW1 hO_10 hlo hol
      · exact absurd c_69 (by omega)
    | succ n_i ihi =>
      intro i H S' hi hK hU hR hz hcm hW1 hO_10 hlo hol
      refine vv_iload X dX1_pointed_62 6 rfl ?_
      refine vv_aload_n X dX1_pointed_64 rfl 3 rfl ?_
      refine vv_getfN (C := RX3) (T := TX3) (N := 8) (ref := "AcousticCamera$State") X hR.ob in_X3 CL_X3 4 (by decide) q1696 rfl rfl dX1_pointed_65 ?_
      refine vv_alen (ty := 0) X hR.wt rfl dX1_pointed_68 ?_
      refine vn_ge (tgt := 92) X (by omega) (by omega) dX1_pointed_69 (by decide) (fun c_69 => ?_) (fun c_69 => ?_)
      · exact absurd hi (by omega)
      · refine vv_aload_n X dX1_pointed_72 rfl 3 rfl ?_
        refine vv_aload X dX1_pointed_73 5 rfl ?_
        refine vv_iload X dX1_pointed_75 6 rfl ?_
        refine vv_callVN X (mX3_add (kL K) D u P T o g S' none a_1 w1 0 100 p 0 0 (cx P k) (cy P k) (nI 0) (nI 0) i hC (lowS.vs (fun i _ hi => hlo i hi) (lowS.vs (lowS.rcp) (offS_vs hV))) hA (by decide) hp.1 hp.2 (by decide) (by decide) ng_4 ng_14 (by omega) (fun t _ => by rw [mv_0]; exact (cx_rg hC k).mono (by omega)) (fun t _ => by rw [mv_0]; exact (cy_rg hC hk9).mono (by omega))) q2731 q1737 qs31 q150 q1738 nX3_add ⟨(Nat.le_of_ble_eq_true rfl), (Nat.le_of_ble_eq_true rfl)⟩ dX1_pointed_77 rfl (Nat.le_of_ble_eq_true rfl) (recv X hR.ob CL_X3) ⟨hK, hU, hR, hO_10, Or.inl ⟨rfl, hW1⟩⟩ (fun q z => by obtain ⟨k_, h_, e_⟩ := z; rw [e_]; exact Or.inr (hge0 k_ h_)) ⟨(Nat.le_of_ble_eq_true rfl), (Nat.le_of_ble_eq_true rfl)⟩ (fun v_ H hq hz_ hk => ?_)
        obtain ⟨rfl, S3, hR2, hRW⟩ := hq
        replace hcm := hcm.kept (hk _ hcm.lt (fun z => by obtain ⟨k_, hk_, e_⟩ := z; exact ncg k_ hk_ e_))
        replace hW1 := hW1.kept (hk _ hW1.lt (fun z => by obtain ⟨k_, hk_, e_⟩ := z; exact ng_14 k_ hk_ e_))
        replace hO_10 := hO_10.kept (hk _ hO_10.lt (fun z => by obtain ⟨k_, hk_, e_⟩ := z; exact ng_4 k_ hk_ e_))
        replace hK := hK.to hk (hR.knA X hK)
        replace hU := hU.to hA hk
        replace hz := Nat.le_trans hz hz_
        clear hk hz_ hR
        have hR := hR2
        clear hR2
        refine vv_aload_n X dX1_pointed_80 rfl 3 rfl ?_
        refine vv_iload X dX1_pointed_81 6 rfl ?_
        refine vv_callVN X (mX3_finish (kL K) D u P T o g S3 none i hC (lowS.vs (fun i _ hi => (hRW.1 i hi).trans (hlo i hi)) (lowS.vs (lowS.rcp) (offS_vs hV))) hA (by omega)) q2732 q1767 qs34 q150 q1768 nX3_finish ⟨(Nat.le_of_ble_eq_true rfl), (Nat.le_of_ble_eq_true rfl)⟩ dX1_pointed_83 rfl (Nat.le_of_ble_eq_true rfl) (recv X hR.ob CL_X3) ⟨hK, hU, hR⟩ (fun q z => by obtain ⟨k_, h_, e_⟩ := z; rw [e_]; exact Or.inr (hge0 k_ h_)) ⟨(Nat.le_of_ble_eq_true rfl), (Nat.le_of_ble_eq_true rfl)⟩ (fun v_ H hq hz_ hk => ?_)
        obtain ⟨rfl, S5, hR2, hRW2⟩ := hq
        replace hcm := hcm.kept (hk _ hcm.lt (fun z => by obtain ⟨k_, hk_, e_⟩ := z; exact ncg k_ hk_ e_))
        replace hW1 := hW1.kept (hk _ hW1.lt (fun z => by obtain ⟨k_, hk_, e_⟩ := z; exact ng_14 k_ hk_ e_))
        replace hO_10 := hO_10.kept (hk _ hO_10.lt (fun z => by obtain ⟨k_, hk_, e_⟩ := z; exact ng_4 k_ hk_ e_))
        replace hK := hK.to hk (hR.knA X hK)
        replace hU := hU.to hA hk
        replace hz := Nat.le_trans hz hz_
        clear hk hz_ hR
        have hR := hR2
        clear hR2
        have hnew : ∀ m, m < nM P → ∀ t, t < nT P → S5 (55 + 200 * m + t) = if m < i + 1 then rcd P (rawP P k p) S (55 + 200 * m + t) else nI 0 := fun m hm t ht => by
          by_cases q : m = i
          · subst q
            rw [if_pos (by omega), hRW2.2.2 t ht]
            refine pt_row l2 hm ht (fun x hx => ?_)
            rw [hRW.2.2 x hx]
            dsimp only
            rw [hol m hm x hx, if_neg (Nat.lt_irrefl _)]
          · rw [hRW2.2.1 m hm q t ht, hRW.2.1 m hm q t ht, hol m hm t ht]
            by_cases r : m < i
            · rw [if_pos r, if_pos (by omega)]
            · rw [if_neg r, if_neg (by omega)]
        refine vv_iinc (v := nI (i + 1)) (lv' := [(6, .int (nI (i + 1))), (0, .ref c), (1, .int (nI k)), (2, .int (nI p)), (3, .ref (g 0)), (4, .ref (u 0)), (5, .ref a_1)]) X dX1_pointed_86 (k := 6) rfl (nI_add _ 1) (by decide) rfl ?_
        refine vv_goto (tgt := 62) X dX1_pointed_89 (by decide) ?_
        refine vv_sub [1, 2, 3, 4, 5, 6, 0] rfl ?_
        exact ihi (i + 1) H S5 (by omega) (hK) (hU) (hR) (hz) (hcm) (hW1) (hO_10) (fun x hx => (hRW2.1 x hx).trans ((hRW.1 x hx).trans (hlo x hx))) (hnew)
  refine vv_sub [4, 5, 6, 3, 2, 1, 0] rfl ?_
  exact hl_17 (nM P) 0 H (rcd P (rawA P (offS S)) (offS S)) (by first | omega | assumption) (hK) (hU) (hR) (hz) (hcm) (hW1) (hO_10) (fun i _ => rfl) (fun m hm t ht => by rw [if_neg (Nat.not_lt_zero _)]; exact rcd_off (fun k hk => (offS_at (by omega)).trans nI_0) l2 hL31 hm ht)
set_option maxHeartbeats 800000 in
theorem mX1_pointBest (l : Launch) (D : DD) (u : Nat → Nat) (P T : Nat → Int32) (o : Nat) (gq : Nat → Nat) (S : Nat → Int32) (pw : Option Nat) (c : Nat) (v0 v1 v2 v3 v5 v6 v7 : Value) (k p : Nat) (hC : VC P) (hV : VS S) (hAq : AP gq u P) (ho : o < 4096) (hk9 : k < nC P) (hp : 2 ≤ p ∧ p ≤ 99) : Ct l yX1_pointBest cX1_pointBest 3 (some .int) { frames := 10, cells := 37, slots := 5012, locals := 3148 } D [.ref c, .int (nI k), .int (nI p)] (fun H => KH D H ∧ oB D H c 0 [v0, v1, v2, v3, .ref (gq 0), v5, v6, v7] ∧ UR D u P T o H ∧ SR D gq u P S pw H) (fun _ => False) (fun r H H1 => r = some (.int (nI (bsN (pwc P (offS (rcd P (rawP P k p) S))) (nC P))))) := by
  refine Ct.of (by decide +kernel) (Nat.le_of_ble_eq_true rfl) (fun K Qf hkl X hM hQ => ?_)
  subst hkl
  obtain ⟨hK, hcm, hU, hRq⟩ := hM
  have hz : (kS K).heap.size ≤ (kS K).heap.size := Nat.le_refl _
  have hP := hC.v
  have l0 := hP.l0
  have l1 := hP.l1
  have l2 := hP.l2
  have l4 := hP.l4
  have l5 := hP.l5
  have l8 := hP.l8
  have l9 := hP.l9
  have l10 := hP.l10
  have l71 := hP.l71
  have l76 := hP.l76
  have l77 := hP.l77
  have hx1 := hC.x1
  have hy1 := hC.y1
  have ht1 := hC.t1
  have he1 := hC.e1
  have hm1 := hC.m1
  have hcc : nC P ≤ 144 := Nat.mul_le_mul l9 l10
  refine vv_sub (lv' := [(0, .ref c), (1, .int (nI k)), (2, .int (nI p))]) [0, 1, 2] rfl ?_
  refine vv_aload_n X dX1_pointBest_0 rfl 0 rfl ?_
  refine vv_iload_n X dX1_pointBest_1 rfl 1 rfl ?_
  refine vv_callVp X (mX1_withCell (kL K) D u P T o gq S pw c v0 v1 v2 v3 v5 v6 v7 k hC hV (by omega)) q1845 q1847 qs37 q137 q1848 nX1_withCell ⟨(Nat.le_of_ble_eq_true rfl), (Nat.le_of_ble_eq_true rfl)⟩ dX1_pointBest_2 rfl (Nat.le_of_ble_eq_true rfl) (recv X hcm CL_X1) ⟨hK, hcm, hU, hRq⟩ ⟨(Nat.le_of_ble_eq_true rfl), (Nat.le_of_ble_eq_true rfl)⟩ ?_
  refine vv_pop X dX1_pointBest_5 rfl ?_
  refine vv_iload_n X dX1_pointBest_6 rfl 2 rfl ?_
  refine vv_callSp X (mX1_isPeriod (kL K) D (nI p)) q2390 q2391 q137 q2392 nX1_isPeriod ⟨(Nat.le_of_ble_eq_true rfl), (Nat.le_of_ble_eq_true rfl)⟩ dX1_pointBest_7 rfl (Nat.le_of_ble_eq_true rfl) trivial ⟨(Nat.le_of_ble_eq_true rfl), (Nat.le_of_ble_eq_true rfl)⟩ ?_
  refine vv_callSv X (mX1_checkArgument (kL K) D (nI 2 ≤ (nI p) ∧ (nI p) ≤ nI 99) (⟨(nI_leI (by omega) (by omega)).mpr hp.1, (nI_leI (by omega) (by omega)).mpr hp.2⟩)) q1820 q1821 q137 q1822 nX1_checkArgument ⟨(Nat.le_of_ble_eq_true rfl), (Nat.le_of_ble_eq_true rfl)⟩ dX1_pointBest_10 rfl (Nat.le_of_ble_eq_true rfl) trivial ⟨(Nat.le_of_ble_eq_true rfl), (Nat.le_of_ble_eq_true rfl)⟩ ?_
  refine vv_aload_n X dX1_pointBest_13 rfl 0 rfl ?_
  refine vv_iload_n X dX1_pointBest_14 rfl 1 rfl ?_
  refine vv_iload_n X dX1_pointBest_15 rfl 2 rfl ?_
  refine vv_callV X (mX1_pointed (kL K) D u P T o gq S pw c v0 v1 v2 v3 v5 v6 v7 k p hC hV hAq ho (by omega) hp) q2702 q2704 qs53 q137 q2705 nX1_pointed ⟨(Nat.le_of_ble_eq_true rfl), (Nat.le_of_ble_eq_true rfl)⟩ dX1_pointBest_16 rfl (Nat.le_of_ble_eq_true rfl) (recv X hcm CL_X1) ⟨hK, hcm, hU, hRq⟩ (fun _ z => z.elim) ⟨(Nat.le_of_ble_eq_true rfl), (Nat.le_of_ble_eq_true rfl)⟩ (fun v_ H hq hz_ hk => ?_)
  
  obtain ⟨g, rfl, hR, hA, hge9⟩ := hq
  have hge0 : ∀ k, UK (nM P) k → (kS K).heap.size ≤ g k := fun k hk => Nat.le_trans hz (hge9 k hk)
  have ncg : ∀ k, UK (nM P) k → c ≠ g k := fun k hk e => by have h9 := hge9 k hk; have h8 := hcm.lt; omega
  replace hcm := hcm.kept (hk _ hcm.lt (fun z => z))
  replace hK := hK.to hk (fun _ z => z.elim)
  replace hU := hU.kept (fun q hl _ => hk q hl (fun z => z))
  replace hz := Nat.le_trans hz hz_
  clear hk hz_ hge9
  have hPK : PK D P (offS (rcd P (rawP P k p) S)) none H := fun q e => by cases e
  refine vv_callV X (mX3_best (kL K) D u P T o g (offS (rcd P (rawP P k p) S)) none hC (offS_vs (lowS.vs lowS.rcp hV)) hA) q1993 q1994 q1995 q150 q1996 nX3_best ⟨(Nat.le_of_ble_eq_true rfl), (Nat.le_of_ble_eq_true rfl)⟩ dX1_pointBest_19 rfl (Nat.le_of_ble_eq_true rfl) (recv X hR.ob CL_X3) ⟨hK, hU, hR, hPK⟩ (fun q z => by rcases z with rfl; exact (Or.inr (hge0 _ (Or.inl (by decide))))) ⟨(Nat.le_of_ble_eq_true rfl), (Nat.le_of_ble_eq_true rfl)⟩ (fun v_ H hq hz_ hk => ?_)
  obtain ⟨rfl, a_1, hR2, hPK2, hold, hnew⟩ := hq
  replace hcm := hcm.kept (hk _ hcm.lt (ncg _ (Or.inl (by decide))))
  replace hK := hK.to hk (fun q z => by rcases z with rfl; exact hR.kn X hK 0 (Or.inl (by decide)))
  replace hU := hU.own hA l4 (Q := (· = 0)) (fun k hk => by subst hk; exact Or.inl (by decide)) (fun q hl hq => hk q hl (hq 0 rfl))
  replace hz := Nat.le_trans hz hz_
  have hp_2 : lA D H a_1 (nC P) (pwc P (offS (rcd P (rawP P k p) S))) := hPK2 a_1 rfl
  clear hk hz_ hR
  have hR := hR2
  clear hR2 hPK2
  exact vv_iret X hQ dX1_pointBest_22 (Nat.le_of_ble_eq_true rfl) (Nat.le_of_ble_eq_true rfl) (rfl)
set_option maxHeartbeats 800000 in
theorem mX1_pointPower (l : Launch) (D : DD) (u : Nat → Nat) (P T : Nat → Int32) (o : Nat) (gq : Nat → Nat) (S : Nat → Int32) (pw : Option Nat) (c : Nat) (v0 v1 v2 v3 v5 v6 v7 : Value) (k j p : Nat) (hC : VC P) (hV : VS S) (hAq : AP gq u P) (ho : o < 4096) (hk9 : k < nC P) (hj : j < nC P) (hp : 2 ≤ p ∧ p ≤ 99) : Ct l yX1_pointPower cX1_pointPower 4 (some .long) { frames := 10, cells := 36, slots := 5011, locals := 3148 } D [.ref c, .int (nI k), .int (nI j), .int (nI p)] (fun H => KH D H ∧ oB D H c 0 [v0, v1, v2, v3, .ref (gq 0), v5, v6, v7] ∧ UR D u P T o H ∧ SR D gq u P S pw H) (fun _ => False) (fun r H H1 => r = some (.long (pwc P (offS (rcd P (rawP P k p) S)) j))) := by
  refine Ct.of (by decide +kernel) (Nat.le_of_ble_eq_true rfl) (fun K Qf hkl X hM hQ => ?_)
  subst hkl
  obtain ⟨hK, hcm, hU, hRq⟩ := hM
  have hz : (kS K).heap.size ≤ (kS K).heap.size := Nat.le_refl _
  have hP := hC.v
  have l0 := hP.l0
  have l1 := hP.l1
  have l2 := hP.l2
  have l4 := hP.l4
  have l5 := hP.l5
  have l8 := hP.l8
  have l9 := hP.l9
  have l10 := hP.l10
  have l71 := hP.l71
  have l76 := hP.l76
  have l77 := hP.l77
  have hx1 := hC.x1
  have hy1 := hC.y1
  have ht1 := hC.t1
  have he1 := hC.e1
  have hm1 := hC.m1
  have hcc : nC P ≤ 144 := Nat.mul_le_mul l9 l10
  refine vv_sub (lv' := [(0, .ref c), (1, .int (nI k)), (2, .int (nI j)), (3, .int (nI p))]) [0, 1, 2, 3] rfl ?_
  refine vv_aload_n X dX1_pointPower_0 rfl 0 rfl ?_
  refine vv_iload_n X dX1_pointPower_1 rfl 1 rfl ?_
  refine vv_iload_n X dX1_pointPower_2 rfl 2 rfl ?_
  refine vv_callVp X (mX1_withCells (kL K) D u P T o gq S pw c v0 v1 v2 v3 v5 v6 v7 k j hC hV (by omega) (by omega)) q2386 q2388 qs48 q137 q2389 nX1_withCells ⟨(Nat.le_of_ble_eq_true rfl), (Nat.le_of_ble_eq_true rfl)⟩ dX1_pointPower_3 rfl (Nat.le_of_ble_eq_true rfl) (recv X hcm CL_X1) ⟨hK, hcm, hU, hRq⟩ ⟨(Nat.le_of_ble_eq_true rfl), (Nat.le_of_ble_eq_true rfl)⟩ ?_
  refine vv_pop X dX1_pointPower_6 rfl ?_
  refine vv_iload_n X dX1_pointPower_7 rfl 3 rfl ?_
  refine vv_callSp X (mX1_isPeriod (kL K) D (nI p)) q2390 q2391 q137 q2392 nX1_isPeriod ⟨(Nat.le_of_ble_eq_true rfl), (Nat.le_of_ble_eq_true rfl)⟩ dX1_pointPower_8 rfl (Nat.le_of_ble_eq_true rfl) trivial ⟨(Nat.le_of_ble_eq_true rfl), (Nat.le_of_ble_eq_true rfl)⟩ ?_
  refine vv_callSv X (mX1_checkArgument (kL K) D (nI 2 ≤ (nI p) ∧ (nI p) ≤ nI 99) (⟨(nI_leI (by omega) (by omega)).mpr hp.1, (nI_leI (by omega) (by omega)).mpr hp.2⟩)) q1820 q1821 q137 q1822 nX1_checkArgument ⟨(Nat.le_of_ble_eq_true rfl), (Nat.le_of_ble_eq_true rfl)⟩ dX1_pointPower_11 rfl (Nat.le_of_ble_eq_true rfl) trivial ⟨(Nat.le_of_ble_eq_true rfl), (Nat.le_of_ble_eq_true rfl)⟩ ?_
  refine vv_aload_n X dX1_pointPower_14 rfl 0 rfl ?_
  refine vv_iload_n X dX1_pointPower_15 rfl 1 rfl ?_
  refine vv_iload_n X dX1_pointPower_16 rfl 3 rfl ?_
  refine vv_callV X (mX1_pointed (kL K) D u P T o gq S pw c v0 v1 v2 v3 v5 v6 v7 k p hC hV hAq ho (by omega) hp) q2702 q2704 qs53 q137 q2705 nX1_pointed ⟨(Nat.le_of_ble_eq_true rfl), (Nat.le_of_ble_eq_true rfl)⟩ dX1_pointPower_17 rfl (Nat.le_of_ble_eq_true rfl) (recv X hcm CL_X1) ⟨hK, hcm, hU, hRq⟩ (fun _ z => z.elim) ⟨(Nat.le_of_ble_eq_true rfl), (Nat.le_of_ble_eq_true rfl)⟩ (fun v_ H hq hz_ hk => ?_)
  
  obtain ⟨g, rfl, hR, hA, hge9⟩ := hq
  have hge0 : ∀ k, UK (nM P) k → (kS K).heap.size ≤ g k := fun k hk => Nat.le_trans hz (hge9 k hk)
  have ncg : ∀ k, UK (nM P) k → c ≠ g k := fun k hk e => by have h9 := hge9 k hk; have h8 := hcm.lt; omega
  replace hcm := hcm.kept (hk _ hcm.lt (fun z => z))
  replace hK := hK.to hk (fun _ z => z.elim)
  replace hU := hU.kept (fun q hl _ => hk q hl (fun z => z))
  replace hz := Nat.le_trans hz hz_
  clear hk hz_ hge9
  have hPK : PK D P (offS (rcd P (rawP P k p) S)) none H := fun q e => by cases e
  refine vv_callV X (mX3_powers (kL K) D u P T o g (offS (rcd P (rawP P k p) S)) none hC (offS_vs (lowS.vs lowS.rcp hV)) hA) q1956 q1957 q1958 q150 q1959 nX3_powers ⟨(Nat.le_of_ble_eq_true rfl), (Nat.le_of_ble_eq_true rfl)⟩ dX1_pointPower_20 rfl (Nat.le_of_ble_eq_true rfl) (recv X hR.ob CL_X3) ⟨hK, hU, hR, hPK⟩ (fun q z => by rcases z with rfl; exact (Or.inr (hge0 _ (Or.inl (by decide))))) ⟨(Nat.le_of_ble_eq_true rfl), (Nat.le_of_ble_eq_true rfl)⟩ (fun v_ H hq hz_ hk => ?_)
  obtain ⟨a_1, rfl, hR2, hPK2, hold, hnew⟩ := hq
  replace hcm := hcm.kept (hk _ hcm.lt (ncg _ (Or.inl (by decide))))
  replace hK := hK.to hk (fun q z => by rcases z with rfl; exact hR.kn X hK 0 (Or.inl (by decide)))
  replace hU := hU.own hA l4 (Q := (· = 0)) (fun k hk => by subst hk; exact Or.inl (by decide)) (fun q hl hq => hk q hl (hq 0 rfl))
  replace hz := Nat.le_trans hz hz_
  have hp_2 : lA D H a_1 (nC P) (pwc P (offS (rcd P (rawP P k p) S))) := hPK2 a_1 rfl
  clear hk hz_ hR
  have hR := hR2
  clear hR2 hPK2
  refine vv_iload_n X dX1_pointPower_23 rfl 2 rfl ?_
  refine vv_lald X hp_2 (j) (by omega) (by omega) rfl dX1_pointPower_24 ?_
  exact vv_lret X hQ dX1_pointPower_25 (Nat.le_of_ble_eq_true rfl) (Nat.le_of_ble_eq_true rfl) (rfl)
