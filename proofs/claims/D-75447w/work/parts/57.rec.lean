/-! State.add, finish, record: printed by gen/s4.py -/
set_option maxRecDepth 100000
/-- a row from its place a on, n of f added -/
def adR (S : Nat → Int32) (m a : Nat) (f : Nat → Int32) (n : Nat) : Nat → Int32 := fun i => if 55 + 200 * m + a ≤ i ∧ i < 55 + 200 * m + a + n then S i + f (i - (55 + 200 * m + a)) else S i
theorem adR_0 (S : Nat → Int32) (m a : Nat) (f : Nat → Int32) : adR S m a f 0 = S := by funext i; unfold adR; rw [if_neg (by omega)]
theorem adR_at {S : Nat → Int32} {m a : Nat} {f : Nat → Int32} {n : Nat} : adR S m a f n (55 + 200 * m + (a + n)) = S (55 + 200 * m + (a + n)) := by unfold adR; rw [if_neg (by omega)]
theorem adR_s {S : Nat → Int32} {m a : Nat} {f : Nat → Int32} {n : Nat} {v : Int32} (h : v = S (55 + 200 * m + (a + n)) + f n) : va_up (adR S m a f n) (55 + 200 * m + (a + n)) v = adR S m a f (n + 1) := by
  funext i
  by_cases q : i = 55 + 200 * m + (a + n)
  · subst q
    rw [va_up_self, h]
    unfold adR
    rw [if_pos (by omega), show 55 + 200 * m + (a + n) - (55 + 200 * m + a) = n by omega]
  · rw [va_up_ne _ _ q]
    unfold adR
    by_cases r : 55 + 200 * m + a ≤ i ∧ i < 55 + 200 * m + a + n
    · rw [if_pos r, if_pos (by omega)]
    · rw [if_neg r, if_neg (by omega)]
/-- what a row is behind add -/
def RW (P S S' : Nat → Int32) (m : Nat) (f : Nat → Int32) : Prop := (∀ i, i < 55 → S' i = S i) ∧ (∀ k, k < nM P → k ≠ m → ∀ t, t < nT P → S' (55 + 200 * k + t) = S (55 + 200 * k + t)) ∧ ∀ t, t < nT P → S' (55 + 200 * m + t) = f t
theorem adR_rw {P S : Nat → Int32} {m a : Nat} {f : Nat → Int32} (hT : nT P ≤ 200) : RW P S (adR S m a f (nT P - a)) m (fun t => S (55 + 200 * m + t) + (if t < a then nI 0 else f (t - a))) := by
  refine ⟨fun i hi => ?_, fun k hk hne t ht => ?_, fun t ht => ?_⟩
  · unfold adR; rw [if_neg (by omega)]
  · unfold adR; rw [if_neg (by omega)]
  · unfold adR
    by_cases q : t < a
    · rw [if_neg (by omega)]
      show _ = _ + (if t < a then nI 0 else f (t - a))
      rw [if_pos q, i_add0]
    · rw [if_pos (by omega)]
      show _ = _ + (if t < a then nI 0 else f (t - a))
      rw [if_neg q, show 55 + 200 * m + t - (55 + 200 * m + a) = t - a by omega]
theorem nX3_add : notMH yX3_add 2 := by decide +kernel
set_option maxHeartbeats 800000 in
theorem mX3_add (l : Launch) (D : DD) (u : Nat → Nat) (P T : Nat → Int32) (o : Nat) (g : Nat → Nat) (S : Nat → Int32) (pw : Option Nat) (a wv so am pe ph fr : Nat) (xs ys vx vy : Int32) (m : Nat) (hC : VC P) (hV : VS S) (hA : AP g u P) (ha : am ≤ 999) (hp1 : 2 ≤ pe) (hp : pe ≤ 99) (hh : ph ≤ 99) (hf : fr ≤ 199) (hna : ∀ k, UK (nM P) k → a ≠ g k) (hnw : ∀ k, UK (nM P) k → wv ≠ g k) (hm : m < nM P) (hx : ∀ t, t < 200 → rg 3990 (xs + vx * nI t / nI 100)) (hy : ∀ t, t < 200 → rg 3990 (ys + vy * nI t / nI 100)) : Ct l yX3_add cX3_add 5 none { frames := 7, cells := 0, slots := 0, locals := 158 } D [.ref (g 0), .ref a, .int (nI m)] (fun H => KH D H ∧ UR D u P T o H ∧ SR D g u P S pw H ∧ SO D H a wv so am pe ph fr xs ys vx vy) (OA g (nM P)) (fun r H H1 => r = none ∧ ∃ S', SR D g u P S' pw H1 ∧ RW P S S' m (fun t => S (55 + 200 * m + t) + (if t < ofs P m then nI 0 else (fun j => hO P (wvg so am pe ph fr) m (xs + vx * nI j / nI 100) (ys + vy * nI j / nI 100) j) (t - ofs P m)))) := by
  refine Ct.of (by decide +kernel) (Nat.le_of_ble_eq_true rfl) (fun K Qf hkl X hM hQ => ?_)
  subst hkl
  obtain ⟨hK, hU, hR, hQs⟩ := hM
  have hz : (kS K).heap.size ≤ (kS K).heap.size := Nat.le_refl _
  have hP := hC.v
  have l0 := hP.l0
  have l1 := hP.l1
  have l2 := hP.l2
  have l4 := hP.l4
  have l5 := hP.l5
  have l8 := hP.l8
  have l9 := hP.l9
  have l10 := hP.l10
  have l71 := hP.l71
  have l76 := hP.l76
  have l77 := hP.l77
  have hx1 := hC.x1
  have hy1 := hC.y1
  have ht1 := hC.t1
  have he1 := hC.e1
  have hm1 := hC.m1
  have hcc : nC P ≤ 144 := Nat.mul_le_mul l9 l10
  have hof := (hP.ofs m (by omega)).2
  refine vv_sub (lv' := [(0, .ref (g 0)), (1, .ref a), (2, .int (nI m))]) [0, 1, 2] rfl ?_
  refine vv_aload_n X dX3_add_0 rfl 0 rfl ?_
  refine vv_getf (C := RX3) (T := TX3) (N := 8) (ref := "AcousticCamera$State") X hR.ob in_X3 CL_X3 0 (by decide) q1687 rfl rfl dX3_add_1 ?_
  refine vv_getfN (C := RX5) (T := TX5) (N := 19) (ref := "AcousticCamera$Setup") X hU.ob in_X5 CL_X5 3 (by decide) q784 rfl rfl dX3_add_4 ?_
  refine vv_iload_n X dX3_add_7 rfl 2 rfl ?_
  refine vv_iald X hU.ofs (m) (by omega) (by omega) rfl dX3_add_8 ?_
  refine vv_istore_n (lv' := [(3, .int (nI (ofs P m))), (0, .ref (g 0)), (1, .ref a), (2, .int (nI m))]) X dX3_add_9 rfl (by decide) rfl ?_
  refine vv_iload_n X dX3_add_10 rfl 0 rfl ?_
  refine vv_istore (lv' := [(4, .int (nI (ofs P m))), (3, .int (nI (ofs P m))), (0, .ref (g 0)), (1, .ref a), (2, .int (nI m))]) X dX3_add_11 (by decide) rfl ?_
  have hx_1 : ∀ (H : Heap) (hK : KH D H) (hU : UR D u P T o H) (hR : SR D g u P (adR S m (ofs P m) (fun j => hO P (wvg so am pe ph fr) m (xs + vx * nI j / nI 100) (ys + vy * nI j / nI 100) j) (nT P - ofs P m)) pw H) (hQs : SO D H a wv so am pe ph fr xs ys vx vy) (hz : (kS K).heap.size ≤ H.size), V K 5 (OA g (nM P)) H 0 0 Qf 53 [(0, .ref (g 0)), (1, .ref a), (2, .int (nI m)), (3, .int (nI (ofs P m))), (4, .int (nI (ofs P m + (nT P - ofs P m))))] [] := by
    intro H hK hU hR hQs hz
    exact vv_vret X hQ dX3_add_53 (Nat.le_of_ble_eq_true rfl) (Nat.le_of_ble_eq_true rfl) (⟨rfl, _, hR, adR_rw l2⟩)
  have hl_2 : ∀ (n_i i : Nat) (H : Heap), i + n_i = nT P - ofs P m → (KH D H) → (UR D u P T o H) → (SR D g u P (adR S m (ofs P m) (fun j => hO P (wvg so am pe ph fr) m (xs + vx * nI j / nI 100) (ys + vy * nI j / nI 100) j) i) pw H) → (SO D H a wv so am pe ph fr xs ys vx vy) → ((kS K).heap.size ≤ H.size) → V K 5 (OA g (nM P)) H 0 0 Qf 13 [(0, .ref (g 0)), (1, .ref a), (2, .int (nI m)), (3, .int (nI (ofs P m))), (4, .int (nI (ofs P m + i)))] [] := by
    intro n_i
    induction n_i with
    | zero =>
      intro i H hi hK hU hR hQs hz
      obtain rfl : i = nT P - ofs P m := by omega
      refine vv_iload X dX3_add_13 4 rfl ?_
      refine vv_aload_n X dX3_add_15 rfl 0 rfl ?_
      refine vv_getf (C := RX3) (T := TX3) (N := 8) (ref := "AcousticCamera$State") X hR.ob in_X3 CL_X3 0 (by decide) q1687 rfl rfl dX3_add_16 ?_
      refine vv_getfN (C := RX5) (T := TX5) (N := 19) (ref := "AcousticCamera$Setup") X hU.ob in_X5 CL_X5 10 (by decide) q802 rfl rfl dX3_add_19 ?_
      refine vn_ge (tgt := 53) X (by omega) (by omega) dX3_add_22 (by decide) (fun c_22 => ?_) (fun c_22 => ?_)
      · exact hx_1 H hK hU hR hQs hz
      · exact absurd c_22 (by omega)
    | succ n_i ihi =>
      intro i H hi hK hU hR hQs hz
      refine vv_iload X dX3_add_13 4 rfl ?_
      refine vv_aload_n X dX3_add_15 rfl 0 rfl ?_
      refine vv_getf (C := RX3) (T := TX3) (N := 8) (ref := "AcousticCamera$State") X hR.ob in_X3 CL_X3 0 (by decide) q1687 rfl rfl dX3_add_16 ?_
      refine vv_getfN (C := RX5) (T := TX5) (N := 19) (ref := "AcousticCamera$Setup") X hU.ob in_X5 CL_X5 10 (by decide) q802 rfl rfl dX3_add_19 ?_
      refine vn_ge (tgt := 53) X (by omega) (by omega) dX3_add_22 (by decide) (fun c_22 => ?_) (fun c_22 => ?_)
      · exact absurd hi (by omega)
      · refine vv_aload_n X dX3_add_25 rfl 0 rfl ?_
        refine vv_getf (C := RX3) (T := TX3) (N := 8) (ref := "AcousticCamera$State") X hR.ob in_X3 CL_X3 5 (by decide) q1697 rfl rfl dX3_add_26 ?_
        refine vv_iload_n X dX3_add_29 rfl 2 rfl ?_
        refine vv_aald (ty := 5) X hR.ra rfl rfl (m) (by omega) (by omega) rfl dX3_add_30 (v := .ref (g (10 + m))) rfl ?_
        refine vv_iload X dX3_add_31 4 rfl ?_
        refine vv_dup2_11 X dX3_add_33 rfl rfl ?_
        refine vv_iald X (hR.row m (by omega)) (ofs P m + i) (by omega) (by omega) rfl dX3_add_34 ?_
        refine vv_eqi (adR_at) ?_
        refine vv_aload_n X dX3_add_35 rfl 0 rfl ?_
        refine vv_aload_n X dX3_add_36 rfl 1 rfl ?_
        refine vv_iload_n X dX3_add_37 rfl 2 rfl ?_
        refine vv_iload X dX3_add_38 4 rfl ?_
        refine vv_iload_n X dX3_add_40 rfl 3 rfl ?_
        refine vn_sub X (by omega) dX3_add_41 ?_
        refine vv_eqi (show nI (ofs P m + i - ofs P m) = nI i by rw [Nat.add_sub_cancel_left]) ?_
        refine vv_callVp X (mX3_heardWithImages (kL K) D u P T o g (adR S m (ofs P m) (fun j => hO P (wvg so am pe ph fr) m (xs + vx * nI j / nI 100) (ys + vy * nI j / nI 100) j) i) pw _ _ _ _ _ _ _ _ _ _ _ m i hC (lowS.vs (fun j _ hj => by unfold adR; rw [if_neg (by omega)]) hV) ha hp1 hp hh hf (by omega) (hx i (by omega)) (hy i (by omega)) (by omega)) q1739 q1741 qs32 q150 q1742 nX3_heardWithImages ⟨(Nat.le_of_ble_eq_true rfl), (Nat.le_of_ble_eq_true rfl)⟩ dX3_add_42 rfl (Nat.le_of_ble_eq_true rfl) (recv X hR.ob CL_X3) ⟨hK, hU, hR, hQs⟩ ⟨(Nat.le_of_ble_eq_true rfl), (Nat.le_of_ble_eq_true rfl)⟩ ?_
        refine vv_iadd X dX3_add_45 ?_
        refine vv_iast X (hR.row m (by omega)) (ofs P m + i) (by omega) (by omega) rfl (Or.inl (OA.of (Or.inr ⟨by omega, by omega⟩))) dX3_add_46 (fun H hc ho => ?_)
        replace hQs := hQs.kept (hc.2 _ (hna _ (Or.inr ⟨by omega, by omega⟩))) (hc.2 _ (hnw _ (Or.inr ⟨by omega, by omega⟩)))
        replace hK := hK.ch hc (hR.kn X hK _ (Or.inr ⟨by omega, by omega⟩))
        replace hU := hU.own hA l4 (Q := (· = (10 + m))) (fun k hk => by subst hk; exact Or.inr ⟨by omega, by omega⟩) hc.own
        replace hz := Nat.le_trans hz (Nat.le_of_eq hc.1.symm)
        replace hR := hR.putR hA l4 l5 l2 (m := m) (t := ofs P m + i) (x := (S (55 + 200 * m + (ofs P m + i))) + (hO P (wvg so am pe ph fr) m (xs + vx * nI i / nI 100) (ys + vy * nI i / nI 100) i)) (by omega) (by omega) hc ho
        clear hc ho
        refine vv_iinc (v := nI ((ofs P m + i) + 1)) (lv' := [(4, .int (nI ((ofs P m + i) + 1))), (0, .ref (g 0)), (1, .ref a), (2, .int (nI m)), (3, .int (nI (ofs P m)))]) X dX3_add_47 (k := 4) rfl (nI_add _ 1) (by decide) rfl ?_
        refine vv_goto (tgt := 13) X dX3_add_50 (by decide) ?_
        refine vv_sub [1, 2, 3, 4, 0] rfl ?_
        exact ihi (i + 1) H (by omega) (hK) (hU) (by rw [adR_s (S := S) (m := m) (a := ofs P m) (f := (fun j => hO P (wvg so am pe ph fr) m (xs + vx * nI j / nI 100) (ys + vy * nI j / nI 100) j)) (n := i) rfl] at hR; exact hR) (hQs) (hz)
  refine vv_sub [2, 3, 4, 1, 0] rfl ?_
  exact hl_2 (nT P - ofs P m) 0 ((kS K).heap) (by first | omega | assumption) (hK) (hU) (by rw [adR_0]; exact hR) (hQs) (Nat.le_refl _)
/-- a row finished from its end down to n places before it -/
def fnR (P S : Nat → Int32) (m n : Nat) : Nat → Int32 := fun i => if 55 + 200 * m + (nT P - n) ≤ i ∧ i < 55 + 200 * m + nT P then bnd P (nI (gain P m) * flt P (fun t => S (55 + 200 * m + t)) (i - (55 + 200 * m))) else S i
theorem fnR_0 (P S : Nat → Int32) (m : Nat) : fnR P S m 0 = S := by funext i; unfold fnR; rw [if_neg (by omega)]
theorem fnR_at {P S : Nat → Int32} {m n j : Nat} (h : j + n < nT P) : fnR P S m n (55 + 200 * m + j) = S (55 + 200 * m + j) := by unfold fnR; rw [if_neg (by omega)]
theorem fnR_s {P S : Nat → Int32} {m n j : Nat} {v : Int32} (hj : j + n + 1 = nT P) (h : v = bnd P (nI (gain P m) * flt P (fun t => S (55 + 200 * m + t)) j)) : va_up (fnR P S m n) (55 + 200 * m + j) v = fnR P S m (n + 1) := by
  funext i
  by_cases q : i = 55 + 200 * m + j
  · subst q
    rw [va_up_self, h]
    unfold fnR
    rw [if_pos (by omega), show 55 + 200 * m + j - (55 + 200 * m) = j by omega]
  · rw [va_up_ne _ _ q]
    unfold fnR
    by_cases r : 55 + 200 * m + (nT P - n) ≤ i ∧ i < 55 + 200 * m + nT P
    · rw [if_pos r, if_pos (by omega)]
    · rw [if_neg r, if_neg (by omega)]
theorem fnR_rw {P S : Nat → Int32} {m : Nat} (hT : nT P ≤ 200) : RW P S (fnR P S m (nT P)) m (fun t => bnd P (nI (gain P m) * flt P (fun t => S (55 + 200 * m + t)) t)) := by
  refine ⟨fun i hi => ?_, fun k hk hne t ht => ?_, fun t ht => ?_⟩
  · unfold fnR; rw [if_neg (by omega)]
  · unfold fnR; rw [if_neg (by omega)]
  · unfold fnR
    rw [if_pos (by omega), show 55 + 200 * m + t - (55 + 200 * m) = t by omega]
theorem m1_e {a : Nat} (h : 1 ≤ a) : nI a - nI 1 = nI (a - 1) := pk_sub h
theorem m1_b {a b : Nat} (h : b + 1 ≤ a) : nI (a - b - 1) + (-1) = nI (a - (b + 1)) - nI 1 := by
  rw [show a - b - 1 = a - (b + 1) by omega, show nI 1 = (1 : Int32) from rfl, Int32.sub_eq_add_neg]
theorem nX3_finish : notMH yX3_finish 1 := by decide +kernel
set_option maxHeartbeats 800000 in
theorem mX3_finish (l : Launch) (D : DD) (u : Nat → Nat) (P T : Nat → Int32) (o : Nat) (g : Nat → Nat) (S : Nat → Int32) (pw : Option Nat) (m : Nat) (hC : VC P) (hV : VS S) (hA : AP g u P) (hm : m < nM P) : Ct l yX3_finish cX3_finish 7 none { frames := 4, cells := 0, slots := 0, locals := 76 } D [.ref (g 0), .int (nI m)] (fun H => KH D H ∧ UR D u P T o H ∧ SR D g u P S pw H) (OA g (nM P)) (fun r H H1 => r = none ∧ ∃ S', SR D g u P S' pw H1 ∧ RW P S S' m (fun t => bnd P (nI (gain P m) * flt P (fun t => S (55 + 200 * m + t)) t))) := by
  refine Ct.of (by decide +kernel) (Nat.le_of_ble_eq_true rfl) (fun K Qf hkl X hM hQ => ?_)
  subst hkl
  obtain ⟨hK, hU, hR⟩ := hM
  have hz : (kS K).heap.size ≤ (kS K).heap.size := Nat.le_refl _
  have hP := hC.v
  have l0 := hP.l0
  have l1 := hP.l1
  have l2 := hP.l2
  have l4 := hP.l4
  have l5 := hP.l5
  have l8 := hP.l8
  have l9 := hP.l9
  have l10 := hP.l10
  have l71 := hP.l71
  have l76 := hP.l76
  have l77 := hP.l77
  have hx1 := hC.x1
  have hy1 := hC.y1
  have ht1 := hC.t1
  have he1 := hC.e1
  have hm1 := hC.m1
  have hcc : nC P ≤ 144 := Nat.mul_le_mul l9 l10
  have hga := (hP.gain m (by omega)).2
  have l3 := hP.l3
  refine vv_sub (lv' := [(0, .ref (g 0)), (1, .int (nI m))]) [0, 1] rfl ?_
  refine vv_aload_n X dX3_finish_0 rfl 0 rfl ?_
  refine vv_getf (C := RX3) (T := TX3) (N := 8) (ref := "AcousticCamera$State") X hR.ob in_X3 CL_X3 0 (by decide) q1687 rfl rfl dX3_finish_1 ?_
  refine vv_getfN (C := RX5) (T := TX5) (N := 19) (ref := "AcousticCamera$Setup") X hU.ob in_X5 CL_X5 0 (by decide) q773 rfl rfl dX3_finish_4 ?_
  refine vv_iload_n X dX3_finish_7 rfl 1 rfl ?_
  refine vv_callFp X (mJ12_get (kL K) D _ _ _ _ _ (by omega)) (by decide) q1664 q1577 q1575 q154 q1579 (show notMH ⟨"java/util/List", "get", "(I)Ljava/lang/Object;"⟩ 1 by decide +kernel) ⟨(Nat.le_of_ble_eq_true rfl), (Nat.le_of_ble_eq_true rfl)⟩ dX3_finish_8 rfl (Nat.le_of_ble_eq_true rfl) hU.lm.1 CL_J12 hU.lm ⟨(Nat.le_of_ble_eq_true rfl), (Nat.le_of_ble_eq_true rfl)⟩ ?_
  refine vv_castS X (hU.mic m (by omega)) CL_X7 q1769 dX3_finish_13 ?_
  refine vv_getfN (C := RX7) (T := TX7) (N := 3) (ref := "AcousticCamera$Mic") X (hU.mic m (by omega)) in_X7 CL_X7 2 (by decide) q1102 rfl rfl dX3_finish_16 ?_
  refine vv_istore_n (lv' := [(2, .int (nI (gain P m))), (0, .ref (g 0)), (1, .int (nI m))]) X dX3_finish_19 rfl (by decide) rfl ?_
  refine vv_aload_n X dX3_finish_20 rfl 1 rfl ?_
  refine vv_getf (C := RX3) (T := TX3) (N := 8) (ref := "AcousticCamera$State") X hR.ob in_X3 CL_X3 5 (by decide) q1697 rfl rfl dX3_finish_21 ?_
  refine vv_iload_n X dX3_finish_24 rfl 2 rfl ?_
  refine vv_aald (ty := 5) X hR.ra rfl rfl (m) (by omega) (by omega) rfl dX3_finish_25 (v := .ref (g (10 + m))) rfl ?_
  refine vv_astore_n (lv' := [(3, .ref (g (10 + m))), (2, .int (nI (gain P m))), (0, .ref (g 0)), (1, .int (nI m))]) X dX3_finish_26 rfl (by decide) rfl ?_
  refine vv_aload_n X dX3_finish_27 rfl 0 rfl ?_
  refine vv_alen (ty := 0) X (hR.row m (by omega)) rfl dX3_finish_28 ?_
  refine vv_iconst (v := nI 1) X dX3_finish_29 (by decide) ?_
  refine vv_isub X dX3_finish_30 ?_
  refine vv_istore (lv' := [(4, .int ((nI (nT P)) - (nI 1))), (3, .ref (g (10 + m))), (2, .int (nI (gain P m))), (0, .ref (g 0)), (1, .int (nI m))]) X dX3_finish_31 (by decide) rfl ?_
  have hx_1 : ∀ (H : Heap) (hK : KH D H) (hU : UR D u P T o H) (hR : SR D g u P (fnR P S m (nT P)) pw H) (hz : (kS K).heap.size ≤ H.size), V K 7 (OA g (nM P)) H 0 0 Qf 146 [(0, .ref (g 0)), (1, .int (nI m)), (2, .int (nI (gain P m))), (3, .ref (g (10 + m))), (4, .int (nI (nT P - (nT P)) - nI 1))] [] := by
    intro H hK hU hR hz
    exact vv_vret X hQ dX3_finish_146 (Nat.le_of_ble_eq_true rfl) (Nat.le_of_ble_eq_true rfl) (⟨rfl, _, hR, fnR_rw l2⟩)
  have hl_2 : ∀ (n_i i : Nat) (H : Heap), i + n_i = nT P → (KH D H) → (UR D u P T o H) → (SR D g u P (fnR P S m i) pw H) → ((kS K).heap.size ≤ H.size) → V K 7 (OA g (nM P)) H 0 0 Qf 33 [(0, .ref (g 0)), (1, .int (nI m)), (2, .int (nI (gain P m))), (3, .ref (g (10 + m))), (4, .int (nI (nT P - i) - nI 1))] [] := by
    intro n_i
    induction n_i with
    | zero =>
      intro i H hi hK hU hR hz
      obtain rfl : i = nT P := by omega
      refine vv_iload X dX3_finish_33 4 rfl ?_
      refine vv_eqi (show _ = (-1 : Int32) from by rw [Nat.sub_self]; decide) ?_
      refine vv_if_lt (tgt := 146) X dX3_finish_35 (by decide) (fun c_35 => ?_) (fun c_35 => ?_)
      · exact hx_1 H hK hU hR hz
      · exact absurd (by decide) c_35
    | succ n_i ihi =>
      intro i H hi hK hU hR hz
      refine vv_iload X dX3_finish_33 4 rfl ?_
      rw [m1_e (show 1 ≤ nT P - i by omega)]
      refine vn_if_lt (tgt := 146) X (by omega) dX3_finish_35 (by decide) ?_
      refine vv_aload_n X dX3_finish_38 rfl 0 rfl ?_
      refine vv_getf (C := RX3) (T := TX3) (N := 8) (ref := "AcousticCamera$State") X hR.ob in_X3 CL_X3 0 (by decide) q1687 rfl rfl dX3_finish_39 ?_
      refine vv_getfN (C := RX5) (T := TX5) (N := 19) (ref := "AcousticCamera$Setup") X hU.ob in_X5 CL_X5 4 (by decide) q787 rfl rfl dX3_finish_42 ?_
      refine vv_alen (ty := 0) X hU.fil rfl dX3_finish_45 ?_
      refine vn_if_ne (tgt := 56) X (by omega) dX3_finish_46 (by decide) (fun c_46 => ?_) (fun c_46 => ?_)
      · refine vv_iconst (v := nI 0) X dX3_finish_56 (by decide) ?_
        refine vv_istore (lv' := [(5, .int (nI 0)), (0, .ref (g 0)), (1, .int (nI m)), (2, .int (nI (gain P m))), (3, .ref (g (10 + m))), (4, .int (nI (nT P - i - 1)))]) X dX3_finish_57 (by decide) rfl ?_
        refine vv_iconst (v := nI 0) X dX3_finish_59 (by decide) ?_
        refine vv_istore (lv' := [(6, .int (nI 0)), (5, .int (nI 0)), (0, .ref (g 0)), (1, .int (nI m)), (2, .int (nI (gain P m))), (3, .ref (g (10 + m))), (4, .int (nI (nT P - i - 1)))]) X dX3_finish_60 (by decide) rfl ?_
        have e77 : ¬ nP P = 0 := by omega
        have hx_3 : ∀ (s : Int32) (hs : s = fo (fun j s => s + P (78 + j) * S (55 + 200 * m + (nT P - i - 1 - j))) (min (nP P) (nT P - i - 1 + 1)) (nI 0)), V K 7 (OA g (nM P)) H 0 0 Qf 111 [(0, .ref (g 0)), (1, .int (nI m)), (2, .int (nI (gain P m))), (3, .ref (g (10 + m))), (4, .int (nI (nT P - i - 1))), (5, .int (s)), (6, .int (nI (min (nP P) (nT P - i - 1 + 1))))] [] := by
          intro s hs
          refine vv_aload_n X dX3_finish_111 rfl 3 rfl ?_
          refine vv_iload X dX3_finish_112 4 rfl ?_
          refine vv_aload_n X dX3_finish_114 rfl 0 rfl ?_
          refine vv_getf (C := RX3) (T := TX3) (N := 8) (ref := "AcousticCamera$State") X hR.ob in_X3 CL_X3 0 (by decide) q1687 rfl rfl dX3_finish_115 ?_
          refine vv_getfN (C := RX5) (T := TX5) (N := 19) (ref := "AcousticCamera$Setup") X hU.ob in_X5 CL_X5 11 (by decide) q805 rfl rfl dX3_finish_118 ?_
          refine vv_ineg X dX3_finish_121 ?_
          refine vv_aload_n X dX3_finish_122 rfl 0 rfl ?_
          refine vv_getf (C := RX3) (T := TX3) (N := 8) (ref := "AcousticCamera$State") X hR.ob in_X3 CL_X3 0 (by decide) q1687 rfl rfl dX3_finish_123 ?_
          refine vv_getfN (C := RX5) (T := TX5) (N := 19) (ref := "AcousticCamera$Setup") X hU.ob in_X5 CL_X5 11 (by decide) q805 rfl rfl dX3_finish_126 ?_
          refine vv_iload_n X dX3_finish_129 rfl 2 rfl ?_
          refine vv_iload X dX3_finish_130 5 rfl ?_
          refine vv_imul X dX3_finish_132 ?_
          refine vv_mmin X q1770 (Nat.le_of_ble_eq_true rfl) (Nat.le_of_ble_eq_true rfl) ((Nat.le_of_ble_eq_true rfl)) ((Nat.le_of_ble_eq_true rfl)) dX3_finish_133 ?_
          refine vv_mmax X q1771 (Nat.le_of_ble_eq_true rfl) (Nat.le_of_ble_eq_true rfl) ((Nat.le_of_ble_eq_true rfl)) ((Nat.le_of_ble_eq_true rfl)) dX3_finish_136 ?_
          refine vv_iast X (hR.row m (by omega)) (nT P - i - 1) (by omega) (by omega) rfl (Or.inl (OA.of (Or.inr ⟨by omega, by omega⟩))) dX3_finish_139 (fun H hc ho => ?_)
          replace hK := hK.ch hc (hR.kn X hK _ (Or.inr ⟨by omega, by omega⟩))
          replace hU := hU.own hA l4 (Q := (· = (10 + m))) (fun k hk => by subst hk; exact Or.inr ⟨by omega, by omega⟩) hc.own
          replace hz := Nat.le_trans hz (Nat.le_of_eq hc.1.symm)
          replace hR := hR.putR hA l4 l5 l2 (m := m) (t := nT P - i - 1) (x := if -(nI (pL P)) < if (nI (gain P m)) * s < nI (pL P) then (nI (gain P m)) * s else nI (pL P) then if (nI (gain P m)) * s < nI (pL P) then (nI (gain P m)) * s else nI (pL P) else -(nI (pL P))) (by omega) (by omega) hc ho
          clear hc ho
          refine vv_iinc (v := nI (nT P - i - 1) + (-1)) (lv' := [(4, .int (nI (nT P - i - 1) + (-1))), (0, .ref (g 0)), (1, .int (nI m)), (2, .int (nI (gain P m))), (3, .ref (g (10 + m))), (5, .int (s)), (6, .int (nI (min (nP P) (nT P - i - 1 + 1))))]) X dX3_finish_140 (k := 4) rfl rfl (by decide) rfl ?_
          rw [m1_b (show i + 1 ≤ nT P by omega)]
          refine vv_goto (tgt := 33) X dX3_finish_143 (by decide) ?_
          refine vv_sub [1, 2, 3, 4, 0] rfl ?_
          exact ihi (i + 1) H (by omega) (hK) (hU) (by rw [fnR_s (j := nT P - i - 1) (by omega) (by rw [hs]; unfold flt; rw [if_neg e77]; rfl)] at hR; exact hR) (hz)
        have hl_4 : ∀ (n_j j : Nat) (s : Int32), j + n_j = min (nP P) (nT P - i - 1 + 1) → (s = fo (fun j s => s + P (78 + j) * S (55 + 200 * m + (nT P - i - 1 - j))) j (nI 0)) → V K 7 (OA g (nM P)) H 0 0 Qf 62 [(0, .ref (g 0)), (1, .int (nI m)), (2, .int (nI (gain P m))), (3, .ref (g (10 + m))), (4, .int (nI (nT P - i - 1))), (5, .int (s)), (6, .int (nI j))] [] := by
          intro n_j
          induction n_j with
          | zero =>
            intro j s hj hs
            obtain rfl : j = min (nP P) (nT P - i - 1 + 1) := by omega
            refine vv_iload X dX3_finish_62 6 rfl ?_
            refine vv_aload_n X dX3_finish_64 rfl 0 rfl ?_
            refine vv_getf (C := RX3) (T := TX3) (N := 8) (ref := "AcousticCamera$State") X hR.ob in_X3 CL_X3 0 (by decide) q1687 rfl rfl dX3_finish_65 ?_
            refine vv_getfN (C := RX5) (T := TX5) (N := 19) (ref := "AcousticCamera$Setup") X hU.ob in_X5 CL_X5 4 (by decide) q787 rfl rfl dX3_finish_68 ?_
            refine vv_alen (ty := 0) X hU.fil rfl dX3_finish_71 ?_
            refine vn_ge (tgt := 111) X (by omega) (by omega) dX3_finish_72 (by decide) (fun c_72 => ?_) (fun c_72 => ?_)
            · exact hx_3 s hs
            · refine vv_iload X dX3_finish_75 6 rfl ?_
              refine vv_iload X dX3_finish_77 4 rfl ?_
              refine vn_gt (tgt := 111) X (by omega) (by omega) dX3_finish_79 (by decide) (fun c_79 => ?_) (fun c_79 => ?_)
              · exact hx_3 s hs
              · exact absurd c_79 (by omega)
          | succ n_j ihj =>
            intro j s hj hs
            refine vv_iload X dX3_finish_62 6 rfl ?_
            refine vv_aload_n X dX3_finish_64 rfl 0 rfl ?_
            refine vv_getf (C := RX3) (T := TX3) (N := 8) (ref := "AcousticCamera$State") X hR.ob in_X3 CL_X3 0 (by decide) q1687 rfl rfl dX3_finish_65 ?_
            refine vv_getfN (C := RX5) (T := TX5) (N := 19) (ref := "AcousticCamera$Setup") X hU.ob in_X5 CL_X5 4 (by decide) q787 rfl rfl dX3_finish_68 ?_
            refine vv_alen (ty := 0) X hU.fil rfl dX3_finish_71 ?_
            refine vn_ge (tgt := 111) X (by omega) (by omega) dX3_finish_72 (by decide) (fun c_72 => ?_) (fun c_72 => ?_)
            · exact absurd hj (by omega)
            · refine vv_iload X dX3_finish_75 6 rfl ?_
              refine vv_iload X dX3_finish_77 4 rfl ?_
              refine vn_gt (tgt := 111) X (by omega) (by omega) dX3_finish_79 (by decide) (fun c_79 => ?_) (fun c_79 => ?_)
              · exact absurd hj (by omega)
              · refine vv_iload X dX3_finish_82 5 rfl ?_
                refine vv_aload_n X dX3_finish_84 rfl 0 rfl ?_
                refine vv_getf (C := RX3) (T := TX3) (N := 8) (ref := "AcousticCamera$State") X hR.ob in_X3 CL_X3 0 (by decide) q1687 rfl rfl dX3_finish_85 ?_
                refine vv_getfN (C := RX5) (T := TX5) (N := 19) (ref := "AcousticCamera$Setup") X hU.ob in_X5 CL_X5 4 (by decide) q787 rfl rfl dX3_finish_88 ?_
                refine vv_iload X dX3_finish_91 6 rfl ?_
                refine vv_iald X hU.fil (j) (by omega) (by omega) rfl dX3_finish_93 ?_
                refine vv_aload_n X dX3_finish_94 rfl 3 rfl ?_
                refine vv_iload X dX3_finish_95 4 rfl ?_
                refine vv_iload X dX3_finish_97 6 rfl ?_
                refine vn_sub X (by omega) dX3_finish_99 ?_
                refine vv_iald X (hR.row m (by omega)) ((nT P - i - 1) - j) (by omega) (by omega) rfl dX3_finish_100 ?_
                refine vv_eqi (fnR_at (by omega)) ?_
                refine vv_imul X dX3_finish_101 ?_
                refine vv_iadd X dX3_finish_102 ?_
                refine vv_istore (lv' := [(5, .int (s + ((P (78 + j)) * (S (55 + 200 * m + (nT P - i - 1 - j)))))), (0, .ref (g 0)), (1, .int (nI m)), (2, .int (nI (gain P m))), (3, .ref (g (10 + m))), (4, .int (nI (nT P - i - 1))), (6, .int (nI j))]) X dX3_finish_103 (by decide) rfl ?_
                refine vv_iinc (v := nI (j + 1)) (lv' := [(6, .int (nI (j + 1))), (5, .int (s + ((P (78 + j)) * (S (55 + 200 * m + (nT P - i - 1 - j)))))), (0, .ref (g 0)), (1, .int (nI m)), (2, .int (nI (gain P m))), (3, .ref (g (10 + m))), (4, .int (nI (nT P - i - 1)))]) X dX3_finish_105 (k := 6) rfl (nI_add _ 1) (by decide) rfl ?_
                refine vv_goto (tgt := 62) X dX3_finish_108 (by decide) ?_
                refine vv_sub [2, 3, 4, 5, 6, 1, 0] rfl ?_
                exact ihj (j + 1) (s + ((P (78 + j)) * (S (55 + 200 * m + (nT P - i - 1 - j))))) (by omega) (by rw [hs]; rfl)
        refine vv_sub [2, 3, 4, 5, 6, 1, 0] rfl ?_
        exact hl_4 (min (nP P) (nT P - i - 1 + 1)) 0 (nI 0) (by first | omega | assumption) (rfl)
      · refine vv_aload_n X dX3_finish_49 rfl 3 rfl ?_
        refine vv_iload X dX3_finish_50 4 rfl ?_
        refine vv_iald X (hR.row m (by omega)) (nT P - i - 1) (by omega) (by omega) rfl dX3_finish_52 ?_
        refine vv_eqi (fnR_at (by omega)) ?_
        refine vv_goto (tgt := 57) X dX3_finish_53 (by decide) ?_
        refine vv_istore (lv' := [(5, .int (S (55 + 200 * m + (nT P - i - 1)))), (0, .ref (g 0)), (1, .int (nI m)), (2, .int (nI (gain P m))), (3, .ref (g (10 + m))), (4, .int (nI (nT P - i - 1)))]) X dX3_finish_57 (by decide) rfl ?_
        refine vv_iconst (v := nI 0) X dX3_finish_59 (by decide) ?_
        refine vv_istore (lv' := [(6, .int (nI 0)), (5, .int (S (55 + 200 * m + (nT P - i - 1)))), (0, .ref (g 0)), (1, .int (nI m)), (2, .int (nI (gain P m))), (3, .ref (g (10 + m))), (4, .int (nI (nT P - i - 1)))]) X dX3_finish_60 (by decide) rfl ?_
        have e77 : nP P = 0 := c_46
        have hx_5 : ∀ (s : Int32) (hs : s = fo (fun j s => s + P (78 + j) * S (55 + 200 * m + (nT P - i - 1 - j))) (min (nP P) (nT P - i - 1 + 1)) (S (55 + 200 * m + (nT P - i - 1)))), V K 7 (OA g (nM P)) H 0 0 Qf 111 [(0, .ref (g 0)), (1, .int (nI m)), (2, .int (nI (gain P m))), (3, .ref (g (10 + m))), (4, .int (nI (nT P - i - 1))), (5, .int (s)), (6, .int (nI (min (nP P) (nT P - i - 1 + 1))))] [] := by
          intro s hs
          refine vv_aload_n X dX3_finish_111 rfl 3 rfl ?_
          refine vv_iload X dX3_finish_112 4 rfl ?_
          refine vv_aload_n X dX3_finish_114 rfl 0 rfl ?_
          refine vv_getf (C := RX3) (T := TX3) (N := 8) (ref := "AcousticCamera$State") X hR.ob in_X3 CL_X3 0 (by decide) q1687 rfl rfl dX3_finish_115 ?_
          refine vv_getfN (C := RX5) (T := TX5) (N := 19) (ref := "AcousticCamera$Setup") X hU.ob in_X5 CL_X5 11 (by decide) q805 rfl rfl dX3_finish_118 ?_
          refine vv_ineg X dX3_finish_121 ?_
          refine vv_aload_n X dX3_finish_122 rfl 0 rfl ?_
          refine vv_getf (C := RX3) (T := TX3) (N := 8) (ref := "AcousticCamera$State") X hR.ob in_X3 CL_X3 0 (by decide) q1687 rfl rfl dX3_finish_123 ?_
          refine vv_getfN (C := RX5) (T := TX5) (N := 19) (ref := "AcousticCamera$Setup") X hU.ob in_X5 CL_X5 11 (by decide) q805 rfl rfl dX3_finish_126 ?_
          refine vv_iload_n X dX3_finish_129 rfl 2 rfl ?_
          refine vv_iload X dX3_finish_130 5 rfl ?_
          refine vv_imul X dX3_finish_132 ?_
          refine vv_mmin X q1770 (Nat.le_of_ble_eq_true rfl) (Nat.le_of_ble_eq_true rfl) ((Nat.le_of_ble_eq_true rfl)) ((Nat.le_of_ble_eq_true rfl)) dX3_finish_133 ?_
          refine vv_mmax X q1771 (Nat.le_of_ble_eq_true rfl) (Nat.le_of_ble_eq_true rfl) ((Nat.le_of_ble_eq_true rfl)) ((Nat.le_of_ble_eq_true rfl)) dX3_finish_136 ?_
          refine vv_iast X (hR.row m (by omega)) (nT P - i - 1) (by omega) (by omega) rfl (Or.inl (OA.of (Or.inr ⟨by omega, by omega⟩))) dX3_finish_139 (fun H hc ho => ?_)
          replace hK := hK.ch hc (hR.kn X hK _ (Or.inr ⟨by omega, by omega⟩))
          replace hU := hU.own hA l4 (Q := (· = (10 + m))) (fun k hk => by subst hk; exact Or.inr ⟨by omega, by omega⟩) hc.own
          replace hz := Nat.le_trans hz (Nat.le_of_eq hc.1.symm)
          replace hR := hR.putR hA l4 l5 l2 (m := m) (t := nT P - i - 1) (x := if -(nI (pL P)) < if (nI (gain P m)) * s < nI (pL P) then (nI (gain P m)) * s else nI (pL P) then if (nI (gain P m)) * s < nI (pL P) then (nI (gain P m)) * s else nI (pL P) else -(nI (pL P))) (by omega) (by omega) hc ho
          clear hc ho
          refine vv_iinc (v := nI (nT P - i - 1) + (-1)) (lv' := [(4, .int (nI (nT P - i - 1) + (-1))), (0, .ref (g 0)), (1, .int (nI m)), (2, .int (nI (gain P m))), (3, .ref (g (10 + m))), (5, .int (s)), (6, .int (nI (min (nP P) (nT P - i - 1 + 1))))]) X dX3_finish_140 (k := 4) rfl rfl (by decide) rfl ?_
          rw [m1_b (show i + 1 ≤ nT P by omega)]
          refine vv_goto (tgt := 33) X dX3_finish_143 (by decide) ?_
          refine vv_sub [1, 2, 3, 4, 0] rfl ?_
          exact ihi (i + 1) H (by omega) (hK) (hU) (by rw [fnR_s (j := nT P - i - 1) (by omega) (by rw [hs, e77]; unfold flt; rw [if_pos e77]; rfl)] at hR; exact hR) (hz)
        have hl_6 : ∀ (n_j j : Nat) (s : Int32), j + n_j = min (nP P) (nT P - i - 1 + 1) → (s = fo (fun j s => s + P (78 + j) * S (55 + 200 * m + (nT P - i - 1 - j))) j (S (55 + 200 * m + (nT P - i - 1)))) → V K 7 (OA g (nM P)) H 0 0 Qf 62 [(0, .ref (g 0)), (1, .int (nI m)), (2, .int (nI (gain P m))), (3, .ref (g (10 + m))), (4, .int (nI (nT P - i - 1))), (5, .int (s)), (6, .int (nI j))] [] := by
          intro n_j
          induction n_j with
          | zero =>
            intro j s hj hs
            obtain rfl : j = min (nP P) (nT P - i - 1 + 1) := by omega
            refine vv_iload X dX3_finish_62 6 rfl ?_
            refine vv_aload_n X dX3_finish_64 rfl 0 rfl ?_
            refine vv_getf (C := RX3) (T := TX3) (N := 8) (ref := "AcousticCamera$State") X hR.ob in_X3 CL_X3 0 (by decide) q1687 rfl rfl dX3_finish_65 ?_
            refine vv_getfN (C := RX5) (T := TX5) (N := 19) (ref := "AcousticCamera$Setup") X hU.ob in_X5 CL_X5 4 (by decide) q787 rfl rfl dX3_finish_68 ?_
            refine vv_alen (ty := 0) X hU.fil rfl dX3_finish_71 ?_
            refine vn_ge (tgt := 111) X (by omega) (by omega) dX3_finish_72 (by decide) (fun c_72 => ?_) (fun c_72 => ?_)
            · exact hx_5 s hs
            · refine vv_iload X dX3_finish_75 6 rfl ?_
              refine vv_iload X dX3_finish_77 4 rfl ?_
              refine vn_gt (tgt := 111) X (by omega) (by omega) dX3_finish_79 (by decide) (fun c_79 => ?_) (fun c_79 => ?_)
              · exact hx_5 s hs
              · exact absurd c_79 (by omega)
          | succ n_j ihj =>
            intro j s hj hs
            refine vv_iload X dX3_finish_62 6 rfl ?_
            refine vv_aload_n X dX3_finish_64 rfl 0 rfl ?_
            refine vv_getf (C := RX3) (T := TX3) (N := 8) (ref := "AcousticCamera$State") X hR.ob in_X3 CL_X3 0 (by decide) q1687 rfl rfl dX3_finish_65 ?_
            refine vv_getfN (C := RX5) (T := TX5) (N := 19) (ref := "AcousticCamera$Setup") X hU.ob in_X5 CL_X5 4 (by decide) q787 rfl rfl dX3_finish_68 ?_
            refine vv_alen (ty := 0) X hU.fil rfl dX3_finish_71 ?_
            refine vn_ge (tgt := 111) X (by omega) (by omega) dX3_finish_72 (by decide) (fun c_72 => ?_) (fun c_72 => ?_)
            · exact absurd hj (by omega)
            · refine vv_iload X dX3_finish_75 6 rfl ?_
              refine vv_iload X dX3_finish_77 4 rfl ?_
              refine vn_gt (tgt := 111) X (by omega) (by omega) dX3_finish_79 (by decide) (fun c_79 => ?_) (fun c_79 => ?_)
              · exact absurd hj (by omega)
              · refine vv_iload X dX3_finish_82 5 rfl ?_
                refine vv_aload_n X dX3_finish_84 rfl 0 rfl ?_
                refine vv_getf (C := RX3) (T := TX3) (N := 8) (ref := "AcousticCamera$State") X hR.ob in_X3 CL_X3 0 (by decide) q1687 rfl rfl dX3_finish_85 ?_
                refine vv_getfN (C := RX5) (T := TX5) (N := 19) (ref := "AcousticCamera$Setup") X hU.ob in_X5 CL_X5 4 (by decide) q787 rfl rfl dX3_finish_88 ?_
                refine vv_iload X dX3_finish_91 6 rfl ?_
                refine vv_iald X hU.fil (j) (by omega) (by omega) rfl dX3_finish_93 ?_
                refine vv_aload_n X dX3_finish_94 rfl 3 rfl ?_
                refine vv_iload X dX3_finish_95 4 rfl ?_
                refine vv_iload X dX3_finish_97 6 rfl ?_
                refine vn_sub X (by omega) dX3_finish_99 ?_
                refine vv_iald X (hR.row m (by omega)) ((nT P - i - 1) - j) (by omega) (by omega) rfl dX3_finish_100 ?_
                refine vv_eqi (fnR_at (by omega)) ?_
                refine vv_imul X dX3_finish_101 ?_
                refine vv_iadd X dX3_finish_102 ?_
                refine vv_istore (lv' := [(5, .int (s + ((P (78 + j)) * (S (55 + 200 * m + (nT P - i - 1 - j)))))), (0, .ref (g 0)), (1, .int (nI m)), (2, .int (nI (gain P m))), (3, .ref (g (10 + m))), (4, .int (nI (nT P - i - 1))), (6, .int (nI j))]) X dX3_finish_103 (by decide) rfl ?_
                refine vv_iinc (v := nI (j + 1)) (lv' := [(6, .int (nI (j + 1))), (5, .int (s + ((P (78 + j)) * (S (55 + 200 * m + (nT P - i - 1 - j)))))), (0, .ref (g 0)), (1, .int (nI m)), (2, .int (nI (gain P m))), (3, .ref (g (10 + m))), (4, .int (nI (nT P - i - 1)))]) X dX3_finish_105 (k := 6) rfl (nI_add _ 1) (by decide) rfl ?_
                refine vv_goto (tgt := 62) X dX3_finish_108 (by decide) ?_
                refine vv_sub [2, 3, 4, 5, 6, 1, 0] rfl ?_
                exact ihj (j + 1) (s + ((P (78 + j)) * (S (55 + 200 * m + (nT P - i - 1 - j))))) (by omega) (by rw [hs]; rfl)
        refine vv_sub [2, 3, 4, 5, 6, 1, 0] rfl ?_
        exact hl_6 (min (nP P) (nT P - i - 1 + 1)) 0 (S (55 + 200 * m + (nT P - i - 1))) (by first | omega | assumption) (rfl)
  refine vv_sub [3, 4, 2, 1, 0] rfl ?_
  exact hl_2 (nT P) 0 ((kS K).heap) (by first | omega | assumption) (hK) (hU) (by rw [fnR_0]; exact hR) (Nat.le_refl _)
