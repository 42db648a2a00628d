/-! AcousticCamera: meanPower, zonePower: printed by gen/s21.py -/
set_option maxRecDepth 100000
set_option maxHeartbeats 800000 in
theorem mX1_meanPower (l : Launch) (D : DD) (u : Nat → Nat) (P T : Nat → Int32) (o : Nat) (g : Nat → Nat) (S : Nat → Int32) (pw : Option Nat) (c : Nat) (v0 v1 v2 v3 v5 v6 v7 : Value)  (hC : VC P) (hV : VS S) (hA : AP g u P) : Ct l yX1_meanPower cX1_meanPower 8 (some .long) { frames := 8, cells := 1, slots := 144, locals := 171 } D [.ref c] (fun H => KH D H ∧ oB D H c 0 [v0, v1, v2, v3, .ref (g 0), v5, v6, v7] ∧ UR D u P T o H ∧ SR D g u P S pw H ∧ PK D P S pw H) (fun q => q = g 0) (fun r H H1 => r = some (.long (msm P S (nC P) / lN (nC P))) ∧ ∃ p, SR D g u P S (some p) H1 ∧ PK D P S (some p) H1 ∧ (∀ q, pw = some q → p = q) ∧ (pw = some p ∨ H.size ≤ p)) := by
  refine Ct.of (by decide +kernel) (Nat.le_of_ble_eq_true rfl) (fun K Qf hkl X hM hQ => ?_)
  subst hkl
  obtain ⟨hK, hc, hU, hR, hPK⟩ := hM
  have hz : (kS K).heap.size ≤ (kS K).heap.size := Nat.le_refl _
  have hP := hC.v
  have l0 := hP.l0
  have l1 := hP.l1
  have l2 := hP.l2
  have l4 := hP.l4
  have l5 := hP.l5
  have l8 := hP.l8
  have l9 := hP.l9
  have l10 := hP.l10
  have l71 := hP.l71
  have l76 := hP.l76
  have l77 := hP.l77
  have hx1 := hC.x1
  have hy1 := hC.y1
  have ht1 := hC.t1
  have he1 := hC.e1
  have hm1 := hC.m1
  have hcc : nC P ≤ 144 := Nat.mul_le_mul l9 l10
  have hnc0 : 0 < nC P := Nat.mul_pos hx1 hy1
  refine vv_sub (lv' := [(0, .ref c)]) [0] rfl ?_
  refine vv_lconst (v := 0) X dX1_meanPower_0 (by decide) ?_
  refine vv_lstore_n (lv' := [(1, .long (0)), (0, .ref c)]) X dX1_meanPower_1 rfl (by decide) rfl ?_
  refine vv_aload_n X dX1_meanPower_2 rfl 1 rfl ?_
  refine vv_callVp X (mX1_there (kL K) D u P T o g S pw c v0 v1 v2 v3 v5 v6 v7  hC hV ) q1797 q1799 qs36 q137 q1800 nX1_there ⟨(Nat.le_of_ble_eq_true rfl), (Nat.le_of_ble_eq_true rfl)⟩ dX1_meanPower_3 rfl (Nat.le_of_ble_eq_true rfl) (recv X hc CL_X1) ⟨hK, hc, hU, hR⟩ ⟨(Nat.le_of_ble_eq_true rfl), (Nat.le_of_ble_eq_true rfl)⟩ ?_
  refine vv_callV X (mX3_powers (kL K) D u P T o g S pw hC hV hA) q1956 q1957 q1958 q150 q1959 nX3_powers ⟨(Nat.le_of_ble_eq_true rfl), (Nat.le_of_ble_eq_true rfl)⟩ dX1_meanPower_6 rfl (Nat.le_of_ble_eq_true rfl) (recv X hR.ob CL_X3) ⟨hK, hU, hR, hPK⟩ (fun q z => by rcases z with rfl; exact (Or.inl rfl)) ⟨(Nat.le_of_ble_eq_true rfl), (Nat.le_of_ble_eq_true rfl)⟩ (fun v_ H hq hz_ hk => ?_)
  obtain ⟨a_1, rfl, hR2, hPK2, hold, hnew⟩ := hq
  replace hc := hc.kept (hk _ hc.lt (X.oo hc hR.ob CL_X1 CL_X3 (by decide)))
  replace hK := hK.to hk (fun q z => by rcases z with rfl; exact hR.kn X hK 0 (Or.inl (by decide)))
  replace hU := hU.own hA l4 (Q := (· = 0)) (fun k hk => by subst hk; exact Or.inl (by decide)) (fun q hl hq => hk q hl (hq 0 rfl))
  replace hz := Nat.le_trans hz hz_
  have hp_2 : lA D H a_1 (nC P) (pwc P S) := hPK2 a_1 rfl
  clear hk hz_ hR
  have hR := hR2
  clear hR2 hPK2
  refine vv_astore_n (lv' := [(3, .ref a_1), (1, .long (0)), (0, .ref c)]) X dX1_meanPower_9 rfl (by decide) rfl ?_
  refine vv_aload_n X dX1_meanPower_10 rfl 0 rfl ?_
  refine vv_alen (ty := 1) X hp_2 rfl dX1_meanPower_11 ?_
  refine vv_istore (lv' := [(4, .int (nI (nC P))), (3, .ref a_1), (1, .long (0)), (0, .ref c)]) X dX1_meanPower_12 (by decide) rfl ?_
  refine vv_iconst (v := nI 0) X dX1_meanPower_14 (by decide) ?_
  refine vv_istore (lv' := [(5, .int (nI 0)), (4, .int (nI (nC P))), (3, .ref a_1), (1, .long (0)), (0, .ref c)]) X dX1_meanPower_15 (by decide) rfl ?_
  have hx_3 : ∀ (a : Int64) (ha : a = msm P S (nC P)), V K 8 (fun q => q = g 0) H 1 144 Qf 41 [(0, .ref c), (1, .long (a)), (3, .ref a_1), (4, .int (nI (nC P))), (5, .int (nI (nC P)))] [] := by
    intro a ha
    refine vv_lload_n X dX1_meanPower_41 rfl 1 rfl ?_
    refine vv_aload_n X dX1_meanPower_42 rfl 0 rfl ?_
    refine vv_getf (C := RX1) (T := TX1) (N := 8) (ref := "AcousticCamera") X hc in_X1 CL_X1 4 (by decide) q259 rfl rfl dX1_meanPower_43 ?_
    refine vv_getfN (C := RX3) (T := TX3) (N := 8) (ref := "AcousticCamera$State") X hR.ob in_X3 CL_X3 0 (by decide) q1688 rfl rfl dX1_meanPower_46 ?_
    refine vv_callVp X (mX5_cells (kL K) D u P T o  ) q1779 q1216 q1217 q152 q1218 nX5_cells ⟨(Nat.le_of_ble_eq_true rfl), (Nat.le_of_ble_eq_true rfl)⟩ dX1_meanPower_49 rfl (Nat.le_of_ble_eq_true rfl) (recv X hU.ob CL_X5) hU ⟨(Nat.le_of_ble_eq_true rfl), (Nat.le_of_ble_eq_true rfl)⟩ ?_
    refine vv_i2l (v := lN (nC P)) X dX1_meanPower_52 (nI_l (by omega)) ?_
    refine vv_ldiv X dX1_meanPower_53 (lN_ne0 (by omega) (by omega)) ?_
    exact vv_lret X hQ dX1_meanPower_54 (Nat.le_of_ble_eq_true rfl) (Nat.le_of_ble_eq_true rfl) (⟨(by subst ha; rfl), _, hR, (fun q e => by cases e; exact hp_2), hold, hnew⟩)
  have hl_4 : ∀ (n_i i : Nat) (a : Int64), i + n_i = nC P → (a = msm P S i) → V K 8 (fun q => q = g 0) H 1 144 Qf 17 [(0, .ref c), (1, .long (a)), (3, .ref a_1), (4, .int (nI (nC P))), (5, .int (nI i))] [] := by
    intro n_i
    induction n_i with
    | zero =>
      intro i a hi ha
      obtain rfl : i = nC P := by omega
      refine vv_iload X dX1_meanPower_17 4 rfl ?_
      refine vv_iload X dX1_meanPower_19 3 rfl ?_
      refine vn_ge (tgt := 41) X (by omega) (by omega) dX1_meanPower_21 (by decide) (fun c_21 => ?_) (fun c_21 => ?_)
      · exact hx_3 a ha
      · exact absurd c_21 (by omega)
    | succ n_i ihi =>
      intro i a hi ha
      refine vv_iload X dX1_meanPower_17 4 rfl ?_
      refine vv_iload X dX1_meanPower_19 3 rfl ?_
      refine vn_ge (tgt := 41) X (by omega) (by omega) dX1_meanPower_21 (by decide) (fun c_21 => ?_) (fun c_21 => ?_)
      · exact absurd hi (by omega)
      · refine vv_aload_n X dX1_meanPower_24 rfl 2 rfl ?_
        refine vv_iload X dX1_meanPower_25 4 rfl ?_
        refine vv_lald X hp_2 (i) (by omega) (by omega) rfl dX1_meanPower_27 ?_
        refine vv_lstore (lv' := [(6, .long (pwc P S i)), (0, .ref c), (1, .long (a)), (3, .ref a_1), (4, .int (nI (nC P))), (5, .int (nI i))]) X dX1_meanPower_28 (by decide) rfl ?_
        refine vv_lload_n X dX1_meanPower_30 rfl 2 rfl ?_
        refine vv_lload X dX1_meanPower_31 0 rfl ?_
        refine vv_ladd X dX1_meanPower_33 ?_
        refine vv_lstore_n (lv' := [(1, .long (a + (pwc P S i))), (6, .long (pwc P S i)), (0, .ref c), (3, .ref a_1), (4, .int (nI (nC P))), (5, .int (nI i))]) X dX1_meanPower_34 rfl (by decide) rfl ?_
        refine vv_iinc (v := nI (i + 1)) (lv' := [(5, .int (nI (i + 1))), (1, .long (a + (pwc P S i))), (6, .long (pwc P S i)), (0, .ref c), (3, .ref a_1), (4, .int (nI (nC P)))]) X dX1_meanPower_35 (k := 5) rfl (nI_add _ 1) (by decide) rfl ?_
        refine vv_goto (tgt := 17) X dX1_meanPower_38 (by decide) ?_
        refine vv_sub [3, 1, 4, 5, 0] rfl ?_
        exact ihi (i + 1) (a + (pwc P S i)) (by omega) (by rw [ha]; rfl)
  refine vv_sub [4, 3, 2, 1, 0] rfl ?_
  exact hl_4 (nC P) 0 0 (by first | omega | assumption) (rfl)
set_option maxHeartbeats 800000 in
theorem mX1_zonePower (l : Launch) (D : DD) (u : Nat → Nat) (P T : Nat → Int32) (o : Nat) (g : Nat → Nat) (S : Nat → Int32) (pw : Option Nat) (c : Nat) (v0 v1 v2 v3 v5 v6 v7 : Value) (m : Nat) (hC : VC P) (hV : VS S) (hA : AP g u P) (hm : m < nZ P) : Ct l yX1_zonePower cX1_zonePower 6 (some .long) { frames := 8, cells := 1, slots := 144, locals := 171 } D [.ref c, .int (nI m)] (fun H => KH D H ∧ oB D H c 0 [v0, v1, v2, v3, .ref (g 0), v5, v6, v7] ∧ UR D u P T o H ∧ SR D g u P S pw H ∧ PK D P S pw H) (fun q => q = g 0) (fun r H H1 => r = some (.long (zsm P S m (nC P))) ∧ ∃ p, SR D g u P S (some p) H1 ∧ PK D P S (some p) H1 ∧ (∀ q, pw = some q → p = q) ∧ (pw = some p ∨ H.size ≤ p)) := by
  refine Ct.of (by decide +kernel) (Nat.le_of_ble_eq_true rfl) (fun K Qf hkl X hM hQ => ?_)
  subst hkl
  obtain ⟨hK, hc, hU, hR, hPK⟩ := hM
  have hz : (kS K).heap.size ≤ (kS K).heap.size := Nat.le_refl _
  have hP := hC.v
  have l0 := hP.l0
  have l1 := hP.l1
  have l2 := hP.l2
  have l4 := hP.l4
  have l5 := hP.l5
  have l8 := hP.l8
  have l9 := hP.l9
  have l10 := hP.l10
  have l71 := hP.l71
  have l76 := hP.l76
  have l77 := hP.l77
  have hx1 := hC.x1
  have hy1 := hC.y1
  have ht1 := hC.t1
  have he1 := hC.e1
  have hm1 := hC.m1
  have hcc : nC P ≤ 144 := Nat.mul_le_mul l9 l10
  have hnc0 : 0 < nC P := Nat.mul_pos hx1 hy1
  have hzz := hP.l101
  refine vv_sub (lv' := [(0, .ref c), (1, .int (nI m))]) [0, 1] rfl ?_
  refine vv_aload_n X dX1_zonePower_0 rfl 0 rfl ?_
  refine vv_iload_n X dX1_zonePower_1 rfl 1 rfl ?_
  refine vv_callVp X (mX1_withZone (kL K) D u P T o g S pw c v0 v1 v2 v3 v5 v6 v7 m hC hV (by omega)) q2345 q2347 qs47 q137 q2348 nX1_withZone ⟨(Nat.le_of_ble_eq_true rfl), (Nat.le_of_ble_eq_true rfl)⟩ dX1_zonePower_2 rfl (Nat.le_of_ble_eq_true rfl) (recv X hc CL_X1) ⟨hK, hc, hU, hR⟩ ⟨(Nat.le_of_ble_eq_true rfl), (Nat.le_of_ble_eq_true rfl)⟩ ?_
  refine vv_callV X (mX3_powers (kL K) D u P T o g S pw hC hV hA) q1956 q1957 q1958 q150 q1959 nX3_powers ⟨(Nat.le_of_ble_eq_true rfl), (Nat.le_of_ble_eq_true rfl)⟩ dX1_zonePower_5 rfl (Nat.le_of_ble_eq_true rfl) (recv X hR.ob CL_X3) ⟨hK, hU, hR, hPK⟩ (fun q z => by rcases z with rfl; exact (Or.inl rfl)) ⟨(Nat.le_of_ble_eq_true rfl), (Nat.le_of_ble_eq_true rfl)⟩ (fun v_ H hq hz_ hk => ?_)
  obtain ⟨a_1, rfl, hR2, hPK2, hold, hnew⟩ := hq
  replace hc := hc.kept (hk _ hc.lt (X.oo hc hR.ob CL_X1 CL_X3 (by decide)))
  replace hK := hK.to hk (fun q z => by rcases z with rfl; exact hR.kn X hK 0 (Or.inl (by decide)))
  replace hU := hU.own hA l4 (Q := (· = 0)) (fun k hk => by subst hk; exact Or.inl (by decide)) (fun q hl hq => hk q hl (hq 0 rfl))
  replace hz := Nat.le_trans hz hz_
  have hp_2 : lA D H a_1 (nC P) (pwc P S) := hPK2 a_1 rfl
  clear hk hz_ hR
  have hR := hR2
  clear hR2 hPK2
  refine vv_astore_n (lv' := [(2, .ref a_1), (0, .ref c), (1, .int (nI m))]) X dX1_zonePower_8 rfl (by decide) rfl ?_
  refine vv_lconst (v := 0) X dX1_zonePower_9 (by decide) ?_
  refine vv_lstore_n (lv' := [(3, .long (0)), (2, .ref a_1), (0, .ref c), (1, .int (nI m))]) X dX1_zonePower_10 rfl (by decide) rfl ?_
  refine vv_iconst (v := nI 0) X dX1_zonePower_11 (by decide) ?_
  refine vv_istore (lv' := [(5, .int (nI 0)), (3, .long (0)), (2, .ref a_1), (0, .ref c), (1, .int (nI m))]) X dX1_zonePower_12 (by decide) rfl ?_
  have hx_3 : ∀ (a : Int64) (ha : a = zsm P S m (nC P)), V K 6 (fun q => q = g 0) H 1 144 Qf 51 [(0, .ref c), (1, .int (nI m)), (2, .ref a_1), (3, .long (a)), (5, .int (nI (nC P)))] [] := by
    intro a ha
    refine vv_lload_n X dX1_zonePower_51 rfl 3 rfl ?_
    exact vv_lret X hQ dX1_zonePower_52 (Nat.le_of_ble_eq_true rfl) (Nat.le_of_ble_eq_true rfl) (⟨(by subst ha; rfl), _, hR, (fun q e => by cases e; exact hp_2), hold, hnew⟩)
  have hl_4 : ∀ (n_i i : Nat) (a : Int64), i + n_i = nC P → (a = zsm P S m i) → V K 6 (fun q => q = g 0) H 1 144 Qf 14 [(0, .ref c), (1, .int (nI m)), (2, .ref a_1), (3, .long (a)), (5, .int (nI i))] [] := by
    intro n_i
    induction n_i with
    | zero =>
      intro i a hi ha
      obtain rfl : i = nC P := by omega
      refine vv_iload X dX1_zonePower_14 4 rfl ?_
      refine vv_aload_n X dX1_zonePower_16 rfl 2 rfl ?_
      refine vv_alen (ty := 1) X hp_2 rfl dX1_zonePower_17 ?_
      refine vn_ge (tgt := 51) X (by omega) (by omega) dX1_zonePower_18 (by decide) (fun c_18 => ?_) (fun c_18 => ?_)
      · exact hx_3 a ha
      · exact absurd c_18 (by omega)
    | succ n_i ihi =>
      intro i a hi ha
      refine vv_iload X dX1_zonePower_14 4 rfl ?_
      refine vv_aload_n X dX1_zonePower_16 rfl 2 rfl ?_
      refine vv_alen (ty := 1) X hp_2 rfl dX1_zonePower_17 ?_
      refine vn_ge (tgt := 51) X (by omega) (by omega) dX1_zonePower_18 (by decide) (fun c_18 => ?_) (fun c_18 => ?_)
      · exact absurd hi (by omega)
      · refine vv_lload_n X dX1_zonePower_21 rfl 3 rfl ?_
        refine vv_aload_n X dX1_zonePower_22 rfl 0 rfl ?_
        refine vv_getf (C := RX1) (T := TX1) (N := 8) (ref := "AcousticCamera") X hc in_X1 CL_X1 4 (by decide) q259 rfl rfl dX1_zonePower_23 ?_
        refine vv_iload_n X dX1_zonePower_26 rfl 1 rfl ?_
        refine vv_iload X dX1_zonePower_27 4 rfl ?_
        refine vv_callVp X (mX3_isInZone (kL K) D u P T o g S (some a_1) m i hC hV (by omega) (by omega)) q2349 q2350 q2351 q150 q2352 nX3_isInZone ⟨(Nat.le_of_ble_eq_true rfl), (Nat.le_of_ble_eq_true rfl)⟩ dX1_zonePower_29 rfl (Nat.le_of_ble_eq_true rfl) (recv X hR.ob CL_X3) ⟨hK, hU, hR⟩ ⟨(Nat.le_of_ble_eq_true rfl), (Nat.le_of_ble_eq_true rfl)⟩ ?_
        refine vb_eq (tgt := 42) X dX1_zonePower_32 (by decide) (fun c_32 => ?_) (fun c_32 => ?_)
        · refine vv_lconst (v := 0) X dX1_zonePower_42 (by decide) ?_
          refine vv_ladd X dX1_zonePower_43 ?_
          refine vv_lstore_n (lv' := [(3, .long (a + 0)), (0, .ref c), (1, .int (nI m)), (2, .ref a_1), (5, .int (nI i))]) X dX1_zonePower_44 rfl (by decide) rfl ?_
          refine vv_iinc (v := nI (i + 1)) (lv' := [(5, .int (nI (i + 1))), (3, .long (a + 0)), (0, .ref c), (1, .int (nI m)), (2, .ref a_1)]) X dX1_zonePower_45 (k := 4) rfl (nI_add _ 1) (by decide) rfl ?_
          refine vv_goto (tgt := 14) X dX1_zonePower_48 (by decide) ?_
          refine vv_sub [2, 3, 4, 1, 0] rfl ?_
          exact ihi (i + 1) (a + 0) (by omega) (by rw [ha]; exact congrArg (fun z => zsm P S m i + z) (if_neg c_32).symm)
        · refine vv_aload_n X dX1_zonePower_35 rfl 2 rfl ?_
          refine vv_iload X dX1_zonePower_36 4 rfl ?_
          refine vv_lald X hp_2 (i) (by omega) (by omega) rfl dX1_zonePower_38 ?_
          refine vv_goto (tgt := 43) X dX1_zonePower_39 (by decide) ?_
          refine vv_ladd X dX1_zonePower_43 ?_
          refine vv_lstore_n (lv' := [(3, .long (a + (pwc P S i))), (0, .ref c), (1, .int (nI m)), (2, .ref a_1), (5, .int (nI i))]) X dX1_zonePower_44 rfl (by decide) rfl ?_
          refine vv_iinc (v := nI (i + 1)) (lv' := [(5, .int (nI (i + 1))), (3, .long (a + (pwc P S i))), (0, .ref c), (1, .int (nI m)), (2, .ref a_1)]) X dX1_zonePower_45 (k := 4) rfl (nI_add _ 1) (by decide) rfl ?_
          refine vv_goto (tgt := 14) X dX1_zonePower_48 (by decide) ?_
          refine vv_sub [2, 3, 4, 1, 0] rfl ?_
          exact ihi (i + 1) (a + (pwc P S i)) (by omega) (by rw [ha]; exact congrArg (fun z => zsm P S m i + z) (if_pos c_32).symm)
  refine vv_sub [3, 4, 2, 1, 0] rfl ?_
  exact hl_4 (nC P) 0 0 (by first | omega | assumption) (rfl)
set_option maxHeartbeats 800000 in
theorem xX1_zonePower (l : Launch) (D : DD) (hl : l.stackTraces = false) (u : Nat → Nat) (P T : Nat → Int32) (o : Nat) (g : Nat → Nat) (S : Nat → Int32) (pw : Option Nat) (c : Nat) (v0 v1 v2 v3 v5 v6 v7 : Value) (q : Int32) (hC : VC P) (hV : VS S) (hq : ¬ ix (nZ P) q) : Cx l yX1_zonePower cX1_zonePower 6 (some .long) { frames := 8, cells := 1, slots := 6, locals := 131 } D [.ref c, .int (q)] (fun H => KH D H ∧ oB D H c 0 [v0, v1, v2, v3, .ref (g 0), v5, v6, v7] ∧ UR D u P T o H ∧ SR D g u P S pw H) (fun _ => False) (fun r H H1 => False) (fun Xn q H H1 => Xn = "java/lang/IndexOutOfBoundsException") := by
  refine Cx.of (by decide +kernel) (Nat.le_of_ble_eq_true rfl) (fun K Qf hkl X ht hM hQ => ?_)
  subst hkl
  obtain ⟨hK, hc, hU, hR⟩ := hM
  have hz : (kS K).heap.size ≤ (kS K).heap.size := Nat.le_refl _
  have hP := hC.v
  have l0 := hP.l0
  have l1 := hP.l1
  have l2 := hP.l2
  have l4 := hP.l4
  have l5 := hP.l5
  have l8 := hP.l8
  have l9 := hP.l9
  have l10 := hP.l10
  have l71 := hP.l71
  have l76 := hP.l76
  have l77 := hP.l77
  have hx1 := hC.x1
  have hy1 := hC.y1
  have ht1 := hC.t1
  have he1 := hC.e1
  have hm1 := hC.m1
  have hcc : nC P ≤ 144 := Nat.mul_le_mul l9 l10
  refine vv_sub (lv' := [(0, .ref c), (1, .int (q))]) [0, 1] rfl ?_
  refine vv_aload_n X dX1_zonePower_0 rfl 0 rfl ?_
  refine vv_iload_n X dX1_zonePower_1 rfl 1 rfl ?_
  refine vx_cV X (xX1_withZone (kL K) D hl u P T o g S pw c v0 v1 v2 v3 v5 v6 v7 q hC hV (hq)) q2345 q2347 qs47 q137 q2348 nX1_withZone ⟨(Nat.le_of_ble_eq_true rfl), (Nat.le_of_ble_eq_true rfl)⟩ dX1_zonePower_2 rfl (Nat.le_of_ble_eq_true rfl) (recv X hc CL_X1) ⟨hK, hc, hU, hR⟩ (fun _ z => z.elim) ⟨(Nat.le_of_ble_eq_true rfl), (Nat.le_of_ble_eq_true rfl)⟩ (fun Xn q H hq hz_ hk hXO => ?_) (fun v_ H hq hz_ hk => hq.elim)
  obtain rfl := hq
  exact vt_out X (fun x hx => (ht x hx).elim) hQ hXO (Nat.le_of_ble_eq_true rfl) (Nat.le_of_ble_eq_true rfl) rfl
