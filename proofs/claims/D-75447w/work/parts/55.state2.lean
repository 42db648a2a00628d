/-! the state's methods that only read, second half: printed by gen/s3.py -/
set_option maxRecDepth 100000
theorem nX3_areNear : notMH yX3_areNear 2 := by decide +kernel
set_option maxHeartbeats 800000 in
theorem mX3_areNear (l : Launch) (D : DD) (u : Nat → Nat) (P T : Nat → Int32) (o : Nat) (g : Nat → Nat) (S : Nat → Int32) (pw : Option Nat) (a b : Nat) (hC : VC P) (hV : VS S) (ha : a < 144) (hb : b < 144) : Cp l yX3_areNear cX3_areNear 4 (some .boolean) { frames := 1, cells := 0, slots := 0, locals := 20 } D [.ref (g 0), .int (nI a), .int (nI b)] (fun H => KH D H ∧ UR D u P T o H ∧ SR D g u P S pw H) (.int (b2 (nea P a b))) := by
  refine Ct.of (by decide +kernel) (Nat.le_of_ble_eq_true rfl) (fun K Qf hkl X hM hQ => ?_)
  subst hkl
  obtain ⟨hK, hU, hR⟩ := hM
  have hP := hC.v
  have l0 := hP.l0
  have l1 := hP.l1
  have l2 := hP.l2
  have l4 := hP.l4
  have l5 := hP.l5
  have l8 := hP.l8
  have l9 := hP.l9
  have l10 := hP.l10
  have l71 := hP.l71
  have l76 := hP.l76
  have l77 := hP.l77
  have hx1 := hC.x1
  have hy1 := hC.y1
  have ht1 := hC.t1
  have he1 := hC.e1
  have hm1 := hC.m1
  have hcc : nC P ≤ 144 := Nat.mul_le_mul l9 l10
  have m1 := Nat.mod_le a (nX P)
  have m2 := Nat.mod_le b (nX P)
  have d1 := Nat.div_le_self a (nX P)
  have d2 := Nat.div_le_self b (nX P)
  refine vv_sub (lv' := [(0, .ref (g 0)), (1, .int (nI a)), (2, .int (nI b))]) [0, 1, 2] rfl ?_
  refine vv_iload_n X dX3_areNear_0 rfl 1 rfl ?_
  refine vv_aload_n X dX3_areNear_1 rfl 0 rfl ?_
  refine vv_getf (C := RX3) (T := TX3) (N := 8) (ref := "AcousticCamera$State") X hR.ob in_X3 CL_X3 0 (by decide) q1687 rfl rfl dX3_areNear_2 ?_
  refine vv_getfN (C := RX5) (T := TX5) (N := 19) (ref := "AcousticCamera$Setup") X hU.ob in_X5 CL_X5 16 (by decide) q817 rfl rfl dX3_areNear_5 ?_
  refine vn_rem X (by omega) (by omega) (by omega) dX3_areNear_8 ?_
  refine vv_iload_n X dX3_areNear_9 rfl 2 rfl ?_
  refine vv_aload_n X dX3_areNear_10 rfl 0 rfl ?_
  refine vv_getf (C := RX3) (T := TX3) (N := 8) (ref := "AcousticCamera$State") X hR.ob in_X3 CL_X3 0 (by decide) q1687 rfl rfl dX3_areNear_11 ?_
  refine vv_getfN (C := RX5) (T := TX5) (N := 19) (ref := "AcousticCamera$Setup") X hU.ob in_X5 CL_X5 16 (by decide) q817 rfl rfl dX3_areNear_14 ?_
  refine vn_rem X (by omega) (by omega) (by omega) dX3_areNear_17 ?_
  refine vv_isub X dX3_areNear_18 ?_
  refine vv_mabs X q2505 (Nat.le_of_ble_eq_true rfl) (Nat.le_of_ble_eq_true rfl) ((Nat.le_of_ble_eq_true rfl)) ((Nat.le_of_ble_eq_true rfl)) dX3_areNear_19 ?_
  refine vv_iconst (v := nI 1) X dX3_areNear_22 (by decide) ?_
  refine vv_icmp_gt (tgt := 30) X dX3_areNear_23 (by decide) (fun c_23 => ?_) (fun c_23 => ?_)
  · refine vv_iconst (v := nI 0) X dX3_areNear_30 (by decide) ?_
    refine vv_istore_n (lv' := [(3, .int (nI 0)), (0, .ref (g 0)), (1, .int (nI a)), (2, .int (nI b))]) X dX3_areNear_31 rfl (by decide) rfl ?_
    refine vv_iload_n X dX3_areNear_32 rfl 0 rfl ?_
    refine vn_if_eq (tgt := 66) X (by omega) dX3_areNear_33 (by decide) (fun c_33 => ?_) (fun c_33 => ?_)
    · refine vv_iconst (v := nI 0) X dX3_areNear_66 (by decide) ?_
      exact vv_zret X (rfl) hQ dX3_areNear_67 (Nat.le_of_ble_eq_true rfl) (Nat.le_of_ble_eq_true rfl) (pq (b2_0 (fun z => absurd ((nI_abs1 (by omega) (by omega)).mpr z.1) (Int32.not_le.mpr c_23))))
    · exact absurd c_33 (by decide)
  · refine vv_iconst (v := nI 1) X dX3_areNear_26 (by decide) ?_
    refine vv_goto (tgt := 31) X dX3_areNear_27 (by decide) ?_
    refine vv_istore_n (lv' := [(3, .int (nI 1)), (0, .ref (g 0)), (1, .int (nI a)), (2, .int (nI b))]) X dX3_areNear_31 rfl (by decide) rfl ?_
    refine vv_iload_n X dX3_areNear_32 rfl 0 rfl ?_
    refine vn_if_eq (tgt := 66) X (by omega) dX3_areNear_33 (by decide) (fun c_33 => ?_) (fun c_33 => ?_)
    · exact absurd c_33 (by decide)
    · refine vv_iload_n X dX3_areNear_36 rfl 2 rfl ?_
      refine vv_aload_n X dX3_areNear_37 rfl 1 rfl ?_
      refine vv_getf (C := RX3) (T := TX3) (N := 8) (ref := "AcousticCamera$State") X hR.ob in_X3 CL_X3 0 (by decide) q1687 rfl rfl dX3_areNear_38 ?_
      refine vv_getfN (C := RX5) (T := TX5) (N := 19) (ref := "AcousticCamera$Setup") X hU.ob in_X5 CL_X5 16 (by decide) q817 rfl rfl dX3_areNear_41 ?_
      refine vn_div X (by omega) (by omega) (by omega) dX3_areNear_44 ?_
      refine vv_iload_n X dX3_areNear_45 rfl 3 rfl ?_
      refine vv_aload_n X dX3_areNear_46 rfl 1 rfl ?_
      refine vv_getf (C := RX3) (T := TX3) (N := 8) (ref := "AcousticCamera$State") X hR.ob in_X3 CL_X3 0 (by decide) q1687 rfl rfl dX3_areNear_47 ?_
      refine vv_getfN (C := RX5) (T := TX5) (N := 19) (ref := "AcousticCamera$Setup") X hU.ob in_X5 CL_X5 16 (by decide) q817 rfl rfl dX3_areNear_50 ?_
      refine vn_div X (by omega) (by omega) (by omega) dX3_areNear_53 ?_
      refine vv_isub X dX3_areNear_54 ?_
      refine vv_mabs X q2505 (Nat.le_of_ble_eq_true rfl) (Nat.le_of_ble_eq_true rfl) ((Nat.le_of_ble_eq_true rfl)) ((Nat.le_of_ble_eq_true rfl)) dX3_areNear_55 ?_
      refine vv_iconst (v := nI 1) X dX3_areNear_58 (by decide) ?_
      refine vv_icmp_gt (tgt := 66) X dX3_areNear_59 (by decide) (fun c_59 => ?_) (fun c_59 => ?_)
      · refine vv_iconst (v := nI 0) X dX3_areNear_66 (by decide) ?_
        exact vv_zret X (rfl) hQ dX3_areNear_67 (Nat.le_of_ble_eq_true rfl) (Nat.le_of_ble_eq_true rfl) (pq (b2_0 (fun z => absurd ((nI_abs1 (by omega) (by omega)).mpr z.2) (Int32.not_le.mpr c_59))))
      · refine vv_iconst (v := nI 1) X dX3_areNear_62 (by decide) ?_
        refine vv_goto (tgt := 67) X dX3_areNear_63 (by decide) ?_
        exact vv_zret X (rfl) hQ dX3_areNear_67 (Nat.le_of_ble_eq_true rfl) (Nat.le_of_ble_eq_true rfl) (pq (b2_1 ⟨(nI_abs1 (by omega) (by omega)).mp (Int32.not_lt.mp c_23), (nI_abs1 (by omega) (by omega)).mp (Int32.not_lt.mp c_59)⟩))
theorem nX3_weightSum : notMH yX3_weightSum 0 := by decide +kernel
set_option maxHeartbeats 800000 in
theorem mX3_weightSum (l : Launch) (D : DD) (u : Nat → Nat) (P T : Nat → Int32) (o : Nat) (g : Nat → Nat) (S : Nat → Int32) (pw : Option Nat)  (hC : VC P) (hV : VS S) : Cp l yX3_weightSum cX3_weightSum 3 (some .int) { frames := 4, cells := 0, slots := 0, locals := 75 } D [.ref (g 0)] (fun H => KH D H ∧ UR D u P T o H ∧ SR D g u P S pw H) (.int (nI (wsm S (nM P)))) := by
  refine Ct.of (by decide +kernel) (Nat.le_of_ble_eq_true rfl) (fun K Qf hkl X hM hQ => ?_)
  subst hkl
  obtain ⟨hK, hU, hR⟩ := hM
  have hP := hC.v
  have l0 := hP.l0
  have l1 := hP.l1
  have l2 := hP.l2
  have l4 := hP.l4
  have l5 := hP.l5
  have l8 := hP.l8
  have l9 := hP.l9
  have l10 := hP.l10
  have l71 := hP.l71
  have l76 := hP.l76
  have l77 := hP.l77
  have hx1 := hC.x1
  have hy1 := hC.y1
  have ht1 := hC.t1
  have he1 := hC.e1
  have hm1 := hC.m1
  have hcc : nC P ≤ 144 := Nat.mul_le_mul l9 l10
  refine vv_sub (lv' := [(0, .ref (g 0))]) [0] rfl ?_
  refine vv_iconst (v := nI 0) X dX3_weightSum_0 (by decide) ?_
  refine vv_istore_n (lv' := [(1, .int (nI 0)), (0, .ref (g 0))]) X dX3_weightSum_1 rfl (by decide) rfl ?_
  refine vv_iconst (v := nI 0) X dX3_weightSum_2 (by decide) ?_
  refine vv_istore_n (lv' := [(2, .int (nI 0)), (1, .int (nI 0)), (0, .ref (g 0))]) X dX3_weightSum_3 rfl (by decide) rfl ?_
  have hx_1 : ∀ (a : Nat) (ha : a = wsm S (nM P)), V K 3 (fun _ => False) (kS K).heap 0 0 Qf 40 [(0, .ref (g 0)), (1, .int (nI a)), (2, .int (nI (nM P)))] [] := by
    intro a ha
    refine vv_iload_n X dX3_weightSum_40 rfl 1 rfl ?_
    exact vv_iret X hQ dX3_weightSum_41 (Nat.le_of_ble_eq_true rfl) (Nat.le_of_ble_eq_true rfl) (pq (by rw [ha]))
  have hl_2 : ∀ (n_i i : Nat) (a : Nat), i + n_i = nM P → (a = wsm S i) → V K 3 (fun _ => False) (kS K).heap 0 0 Qf 4 [(0, .ref (g 0)), (1, .int (nI a)), (2, .int (nI i))] [] := by
    intro n_i
    induction n_i with
    | zero =>
      intro i a hi ha
      obtain rfl : i = nM P := by omega
      refine vv_iload_n X dX3_weightSum_4 rfl 2 rfl ?_
      refine vv_aload_n X dX3_weightSum_5 rfl 0 rfl ?_
      refine vv_getf (C := RX3) (T := TX3) (N := 8) (ref := "AcousticCamera$State") X hR.ob in_X3 CL_X3 4 (by decide) q1695 rfl rfl dX3_weightSum_6 ?_
      refine vv_alen (ty := 0) X hR.wt rfl dX3_weightSum_9 ?_
      refine vn_ge (tgt := 40) X (by omega) (by omega) dX3_weightSum_10 (by decide) (fun c_10 => ?_) (fun c_10 => ?_)
      · exact hx_1 a ha
      · exact absurd c_10 (by omega)
    | succ n_i ihi =>
      intro i a hi ha
      refine vv_iload_n X dX3_weightSum_4 rfl 2 rfl ?_
      refine vv_aload_n X dX3_weightSum_5 rfl 0 rfl ?_
      refine vv_getf (C := RX3) (T := TX3) (N := 8) (ref := "AcousticCamera$State") X hR.ob in_X3 CL_X3 4 (by decide) q1695 rfl rfl dX3_weightSum_6 ?_
      refine vv_alen (ty := 0) X hR.wt rfl dX3_weightSum_9 ?_
      refine vn_ge (tgt := 40) X (by omega) (by omega) dX3_weightSum_10 (by decide) (fun c_10 => ?_) (fun c_10 => ?_)
      · exact absurd hi (by omega)
      · refine vv_iload_n X dX3_weightSum_13 rfl 1 rfl ?_
        refine vv_aload_n X dX3_weightSum_14 rfl 0 rfl ?_
        refine vv_iload_n X dX3_weightSum_15 rfl 2 rfl ?_
        refine vv_callVp X (mX3_isActive (kL K) D u P T o g S pw i hC hV (by omega)) q1919 q1834 q1835 q150 q1836 nX3_isActive ⟨(Nat.le_of_ble_eq_true rfl), (Nat.le_of_ble_eq_true rfl)⟩ dX3_weightSum_16 rfl (Nat.le_of_ble_eq_true rfl) (recv X hR.ob CL_X3) ⟨hK, hU, hR⟩ ⟨(Nat.le_of_ble_eq_true rfl), (Nat.le_of_ble_eq_true rfl)⟩ ?_
        refine vb_eq (tgt := 31) X dX3_weightSum_19 (by decide) (fun c_19 => ?_) (fun c_19 => ?_)
        · refine vv_iconst (v := nI 0) X dX3_weightSum_31 (by decide) ?_
          refine vn_add X dX3_weightSum_32 ?_
          refine vv_istore_n (lv' := [(1, .int (nI (a + 0))), (0, .ref (g 0)), (2, .int (nI i))]) X dX3_weightSum_33 rfl (by decide) rfl ?_
          refine vv_iinc (v := nI (i + 1)) (lv' := [(2, .int (nI (i + 1))), (1, .int (nI (a + 0))), (0, .ref (g 0))]) X dX3_weightSum_34 (k := 2) rfl (nI_add _ 1) (by decide) rfl ?_
          refine vv_goto (tgt := 4) X dX3_weightSum_37 (by decide) ?_
          refine vv_sub [2, 1, 0] rfl ?_
          exact ihi (i + 1) (a + 0) (by omega) (by rw [ha]; show _ = _ + (if S (1 + i) = 0 then wgt S i else 0); rw [if_neg c_19]; rfl)
        · refine vv_aload_n X dX3_weightSum_22 rfl 0 rfl ?_
          refine vv_getf (C := RX3) (T := TX3) (N := 8) (ref := "AcousticCamera$State") X hR.ob in_X3 CL_X3 4 (by decide) q1695 rfl rfl dX3_weightSum_23 ?_
          refine vv_iload_n X dX3_weightSum_26 rfl 2 rfl ?_
          refine vv_iald X hR.wt (i) (by omega) (by omega) rfl dX3_weightSum_27 ?_
          refine vv_goto (tgt := 32) X dX3_weightSum_28 (by decide) ?_
          refine vn_add X dX3_weightSum_32 ?_
          refine vv_istore_n (lv' := [(1, .int (nI (a + (wgt S i)))), (0, .ref (g 0)), (2, .int (nI i))]) X dX3_weightSum_33 rfl (by decide) rfl ?_
          refine vv_iinc (v := nI (i + 1)) (lv' := [(2, .int (nI (i + 1))), (1, .int (nI (a + (wgt S i)))), (0, .ref (g 0))]) X dX3_weightSum_34 (k := 2) rfl (nI_add _ 1) (by decide) rfl ?_
          refine vv_goto (tgt := 4) X dX3_weightSum_37 (by decide) ?_
          refine vv_sub [2, 1, 0] rfl ?_
          exact ihi (i + 1) (a + (wgt S i)) (by omega) (by rw [ha]; show _ = _ + (if S (1 + i) = 0 then wgt S i else 0); rw [if_pos c_19]; rfl)
  refine vv_sub [2, 1, 0] rfl ?_
  exact hl_2 (nM P) 0 0 (by first | omega | assumption) (rfl)
theorem nX3_level : notMH yX3_level 1 := by decide +kernel
set_option maxHeartbeats 800000 in
theorem mX3_level (l : Launch) (D : DD) (u : Nat → Nat) (P T : Nat → Int32) (o : Nat) (g : Nat → Nat) (S : Nat → Int32) (pw : Option Nat) (m : Nat) (hC : VC P) (hV : VS S) (hm : m < nM P) : Cp l yX3_level cX3_level 9 (some .long) { frames := 1, cells := 0, slots := 0, locals := 12 } D [.ref (g 0), .int (nI m)] (fun H => KH D H ∧ UR D u P T o H ∧ SR D g u P S pw H) (.long (lev P S m)) := by
  refine Ct.of (by decide +kernel) (Nat.le_of_ble_eq_true rfl) (fun K Qf hkl X hM hQ => ?_)
  subst hkl
  obtain ⟨hK, hU, hR⟩ := hM
  have hP := hC.v
  have l0 := hP.l0
  have l1 := hP.l1
  have l2 := hP.l2
  have l4 := hP.l4
  have l5 := hP.l5
  have l8 := hP.l8
  have l9 := hP.l9
  have l10 := hP.l10
  have l71 := hP.l71
  have l76 := hP.l76
  have l77 := hP.l77
  have hx1 := hC.x1
  have hy1 := hC.y1
  have ht1 := hC.t1
  have he1 := hC.e1
  have hm1 := hC.m1
  have hcc : nC P ≤ 144 := Nat.mul_le_mul l9 l10
  refine vv_sub (lv' := [(0, .ref (g 0)), (1, .int (nI m))]) [0, 1] rfl ?_
  refine vv_lconst (v := 0) X dX3_level_0 (by decide) ?_
  refine vv_lstore_n (lv' := [(2, .long (0)), (0, .ref (g 0)), (1, .int (nI m))]) X dX3_level_1 rfl (by decide) rfl ?_
  refine vv_aload_n X dX3_level_2 rfl 1 rfl ?_
  refine vv_getf (C := RX3) (T := TX3) (N := 8) (ref := "AcousticCamera$State") X hR.ob in_X3 CL_X3 5 (by decide) q1697 rfl rfl dX3_level_3 ?_
  refine vv_iload_n X dX3_level_6 rfl 2 rfl ?_
  refine vv_aald (ty := 5) X hR.ra rfl rfl (m) (by omega) (by omega) rfl dX3_level_7 (v := .ref (g (10 + m))) rfl ?_
  refine vv_astore (lv' := [(4, .ref (g (10 + m))), (2, .long (0)), (0, .ref (g 0)), (1, .int (nI m))]) X dX3_level_8 (by decide) rfl ?_
  refine vv_aload X dX3_level_10 0 rfl ?_
  refine vv_alen (ty := 0) X (hR.row m (by omega)) rfl dX3_level_12 ?_
  refine vv_istore (lv' := [(5, .int (nI (nT P))), (4, .ref (g (10 + m))), (2, .long (0)), (0, .ref (g 0)), (1, .int (nI m))]) X dX3_level_13 (by decide) rfl ?_
  refine vv_iconst (v := nI 0) X dX3_level_15 (by decide) ?_
  refine vv_istore (lv' := [(6, .int (nI 0)), (5, .int (nI (nT P))), (4, .ref (g (10 + m))), (2, .long (0)), (0, .ref (g 0)), (1, .int (nI m))]) X dX3_level_16 (by decide) rfl ?_
  have hx_1 : ∀ (e : Int64) (he : e = fo (fun t s => s + (S (55 + 200 * m + t)).toInt64 * (S (55 + 200 * m + t + 0)).toInt64) (nT P) 0), V K 9 (fun _ => False) (kS K).heap 0 0 Qf 47 [(0, .ref (g 0)), (1, .int (nI m)), (2, .long (e)), (4, .ref (g (10 + m))), (5, .int (nI (nT P))), (6, .int (nI (nT P)))] [] := by
    intro e he
    refine vv_lload_n X dX3_level_47 rfl 2 rfl ?_
    refine vv_aload_n X dX3_level_48 rfl 0 rfl ?_
    refine vv_getf (C := RX3) (T := TX3) (N := 8) (ref := "AcousticCamera$State") X hR.ob in_X3 CL_X3 0 (by decide) q1687 rfl rfl dX3_level_49 ?_
    refine vv_getfN (C := RX5) (T := TX5) (N := 19) (ref := "AcousticCamera$Setup") X hU.ob in_X5 CL_X5 10 (by decide) q802 rfl rfl dX3_level_52 ?_
    refine vv_i2l (v := lN (nT P)) X dX3_level_55 (nI_l (by omega)) ?_
    refine vv_ldiv X dX3_level_56 (lN_ne0 (by omega) (by omega)) ?_
    exact vv_lret X hQ dX3_level_57 (Nat.le_of_ble_eq_true rfl) (Nat.le_of_ble_eq_true rfl) (pql (by rw [he]; rfl))
  have hl_2 : ∀ (n_i i : Nat) (e : Int64), i + n_i = nT P → (e = fo (fun t s => s + (S (55 + 200 * m + t)).toInt64 * (S (55 + 200 * m + t + 0)).toInt64) i 0) → V K 9 (fun _ => False) (kS K).heap 0 0 Qf 18 [(0, .ref (g 0)), (1, .int (nI m)), (2, .long (e)), (4, .ref (g (10 + m))), (5, .int (nI (nT P))), (6, .int (nI i))] [] := by
    intro n_i
    induction n_i with
    | zero =>
      intro i e hi he
      obtain rfl : i = nT P := by omega
      refine vv_iload X dX3_level_18 5 rfl ?_
      refine vv_iload X dX3_level_20 4 rfl ?_
      refine vn_ge (tgt := 47) X (by omega) (by omega) dX3_level_22 (by decide) (fun c_22 => ?_) (fun c_22 => ?_)
      · exact hx_1 e he
      · exact absurd c_22 (by omega)
    | succ n_i ihi =>
      intro i e hi he
      refine vv_iload X dX3_level_18 5 rfl ?_
      refine vv_iload X dX3_level_20 4 rfl ?_
      refine vn_ge (tgt := 47) X (by omega) (by omega) dX3_level_22 (by decide) (fun c_22 => ?_) (fun c_22 => ?_)
      · exact absurd hi (by omega)
      · refine vv_aload X dX3_level_25 3 rfl ?_
        refine vv_iload X dX3_level_27 5 rfl ?_
        refine vv_iald X (hR.row m (by omega)) (i) (by omega) (by omega) rfl dX3_level_29 ?_
        refine vv_i2l (v := (S (55 + 200 * m + i)).toInt64) X dX3_level_30 rfl ?_
        refine vv_lstore (lv' := [(7, .long ((S (55 + 200 * m + i)).toInt64)), (0, .ref (g 0)), (1, .int (nI m)), (2, .long (e)), (4, .ref (g (10 + m))), (5, .int (nI (nT P))), (6, .int (nI i))]) X dX3_level_31 (by decide) rfl ?_
        refine vv_lload_n X dX3_level_33 rfl 3 rfl ?_
        refine vv_lload X dX3_level_34 0 rfl ?_
        refine vv_lload X dX3_level_36 0 rfl ?_
        refine vv_lmul X dX3_level_38 ?_
        refine vv_ladd X dX3_level_39 ?_
        refine vv_lstore_n (lv' := [(2, .long (e + (((S (55 + 200 * m + i)).toInt64) * ((S (55 + 200 * m + i)).toInt64)))), (7, .long ((S (55 + 200 * m + i)).toInt64)), (0, .ref (g 0)), (1, .int (nI m)), (4, .ref (g (10 + m))), (5, .int (nI (nT P))), (6, .int (nI i))]) X dX3_level_40 rfl (by decide) rfl ?_
        refine vv_iinc (v := nI (i + 1)) (lv' := [(6, .int (nI (i + 1))), (2, .long (e + (((S (55 + 200 * m + i)).toInt64) * ((S (55 + 200 * m + i)).toInt64)))), (7, .long ((S (55 + 200 * m + i)).toInt64)), (0, .ref (g 0)), (1, .int (nI m)), (4, .ref (g (10 + m))), (5, .int (nI (nT P)))]) X dX3_level_41 (k := 6) rfl (nI_add _ 1) (by decide) rfl ?_
        refine vv_goto (tgt := 18) X dX3_level_44 (by decide) ?_
        refine vv_sub [3, 4, 1, 5, 6, 0] rfl ?_
        exact ihi (i + 1) (e + (((S (55 + 200 * m + i)).toInt64) * ((S (55 + 200 * m + i)).toInt64))) (by omega) (by rw [he]; rfl)
  refine vv_sub [4, 5, 3, 2, 1, 0] rfl ?_
  exact hl_2 (nT P) 0 0 (by first | omega | assumption) (rfl)
theorem nX3_correlation : notMH yX3_correlation 3 := by decide +kernel
set_option maxHeartbeats 800000 in
theorem mX3_correlation (l : Launch) (D : DD) (u : Nat → Nat) (P T : Nat → Int32) (o : Nat) (g : Nat → Nat) (S : Nat → Int32) (pw : Option Nat) (a b v : Nat) (hC : VC P) (hV : VS S) (ha : a < nM P) (hb : b < nM P) (hv : v < nT P) : Cp l yX3_correlation cX3_correlation 7 (some .long) { frames := 1, cells := 0, slots := 0, locals := 12 } D [.ref (g 0), .int (nI a), .int (nI b), .int (nI v)] (fun H => KH D H ∧ UR D u P T o H ∧ SR D g u P S pw H) (.long (tog P S a b v)) := by
  refine Ct.of (by decide +kernel) (Nat.le_of_ble_eq_true rfl) (fun K Qf hkl X hM hQ => ?_)
  subst hkl
  obtain ⟨hK, hU, hR⟩ := hM
  have hP := hC.v
  have l0 := hP.l0
  have l1 := hP.l1
  have l2 := hP.l2
  have l4 := hP.l4
  have l5 := hP.l5
  have l8 := hP.l8
  have l9 := hP.l9
  have l10 := hP.l10
  have l71 := hP.l71
  have l76 := hP.l76
  have l77 := hP.l77
  have hx1 := hC.x1
  have hy1 := hC.y1
  have ht1 := hC.t1
  have he1 := hC.e1
  have hm1 := hC.m1
  have hcc : nC P ≤ 144 := Nat.mul_le_mul l9 l10
  refine vv_sub (lv' := [(0, .ref (g 0)), (1, .int (nI a)), (2, .int (nI b)), (3, .int (nI v))]) [0, 1, 2, 3] rfl ?_
  refine vv_lconst (v := 0) X dX3_correlation_0 (by decide) ?_
  refine vv_lstore (lv' := [(4, .long (0)), (0, .ref (g 0)), (1, .int (nI a)), (2, .int (nI b)), (3, .int (nI v))]) X dX3_correlation_1 (by decide) rfl ?_
  refine vv_iconst (v := nI 0) X dX3_correlation_3 (by decide) ?_
  refine vv_istore (lv' := [(6, .int (nI 0)), (4, .long (0)), (0, .ref (g 0)), (1, .int (nI a)), (2, .int (nI b)), (3, .int (nI v))]) X dX3_correlation_4 (by decide) rfl ?_
  have hx_1 : ∀ (e : Int64) (he : e = fo (fun t s => s + (S (55 + 200 * a + t)).toInt64 * (S (55 + 200 * b + t + v)).toInt64) (nT P - v) 0), V K 7 (fun _ => False) (kS K).heap 0 0 Qf 54 [(0, .ref (g 0)), (1, .int (nI a)), (2, .int (nI b)), (3, .int (nI v)), (4, .long (e)), (6, .int (nI (nT P - v)))] [] := by
    intro e he
    refine vv_lload X dX3_correlation_54 4 rfl ?_
    exact vv_lret X hQ dX3_correlation_56 (Nat.le_of_ble_eq_true rfl) (Nat.le_of_ble_eq_true rfl) (pql (he))
  have hl_2 : ∀ (n_i i : Nat) (e : Int64), i + n_i = nT P - v → (e = fo (fun t s => s + (S (55 + 200 * a + t)).toInt64 * (S (55 + 200 * b + t + v)).toInt64) i 0) → V K 7 (fun _ => False) (kS K).heap 0 0 Qf 6 [(0, .ref (g 0)), (1, .int (nI a)), (2, .int (nI b)), (3, .int (nI v)), (4, .long (e)), (6, .int (nI i))] [] := by
    intro n_i
    induction n_i with
    | zero =>
      intro i e hi he
      obtain rfl : i = nT P - v := by omega
      refine vv_iload X dX3_correlation_6 5 rfl ?_
      refine vv_iload_n X dX3_correlation_8 rfl 3 rfl ?_
      refine vn_add X dX3_correlation_9 ?_
      refine vv_aload_n X dX3_correlation_10 rfl 0 rfl ?_
      refine vv_getf (C := RX3) (T := TX3) (N := 8) (ref := "AcousticCamera$State") X hR.ob in_X3 CL_X3 0 (by decide) q1687 rfl rfl dX3_correlation_11 ?_
      refine vv_getfN (C := RX5) (T := TX5) (N := 19) (ref := "AcousticCamera$Setup") X hU.ob in_X5 CL_X5 10 (by decide) q802 rfl rfl dX3_correlation_14 ?_
      refine vn_ge (tgt := 54) X (by omega) (by omega) dX3_correlation_17 (by decide) (fun c_17 => ?_) (fun c_17 => ?_)
      · exact hx_1 e he
      · exact absurd c_17 (by omega)
    | succ n_i ihi =>
      intro i e hi he
      refine vv_iload X dX3_correlation_6 5 rfl ?_
      refine vv_iload_n X dX3_correlation_8 rfl 3 rfl ?_
      refine vn_add X dX3_correlation_9 ?_
      refine vv_aload_n X dX3_correlation_10 rfl 0 rfl ?_
      refine vv_getf (C := RX3) (T := TX3) (N := 8) (ref := "AcousticCamera$State") X hR.ob in_X3 CL_X3 0 (by decide) q1687 rfl rfl dX3_correlation_11 ?_
      refine vv_getfN (C := RX5) (T := TX5) (N := 19) (ref := "AcousticCamera$Setup") X hU.ob in_X5 CL_X5 10 (by decide) q802 rfl rfl dX3_correlation_14 ?_
      refine vn_ge (tgt := 54) X (by omega) (by omega) dX3_correlation_17 (by decide) (fun c_17 => ?_) (fun c_17 => ?_)
      · exact absurd hi (by omega)
      · refine vv_lload X dX3_correlation_20 4 rfl ?_
        refine vv_aload_n X dX3_correlation_22 rfl 0 rfl ?_
        refine vv_getf (C := RX3) (T := TX3) (N := 8) (ref := "AcousticCamera$State") X hR.ob in_X3 CL_X3 5 (by decide) q1697 rfl rfl dX3_correlation_23 ?_
        refine vv_iload_n X dX3_correlation_26 rfl 1 rfl ?_
        refine vv_aald (ty := 5) X hR.ra rfl rfl (a) (by omega) (by omega) rfl dX3_correlation_27 (v := .ref (g (10 + a))) rfl ?_
        refine vv_iload X dX3_correlation_28 5 rfl ?_
        refine vv_iald X (hR.row a (by omega)) (i) (by omega) (by omega) rfl dX3_correlation_30 ?_
        refine vv_i2l (v := (S (55 + 200 * a + i)).toInt64) X dX3_correlation_31 rfl ?_
        refine vv_aload_n X dX3_correlation_32 rfl 0 rfl ?_
        refine vv_getf (C := RX3) (T := TX3) (N := 8) (ref := "AcousticCamera$State") X hR.ob in_X3 CL_X3 5 (by decide) q1697 rfl rfl dX3_correlation_33 ?_
        refine vv_iload_n X dX3_correlation_36 rfl 2 rfl ?_
        refine vv_aald (ty := 5) X hR.ra rfl rfl (b) (by omega) (by omega) rfl dX3_correlation_37 (v := .ref (g (10 + b))) rfl ?_
        refine vv_iload X dX3_correlation_38 5 rfl ?_
        refine vv_iload_n X dX3_correlation_40 rfl 3 rfl ?_
        refine vn_add X dX3_correlation_41 ?_
        refine vv_iald X (hR.row b (by omega)) (i + v) (by omega) (by omega) rfl dX3_correlation_42 ?_
        refine vv_eqi (congrArg S (Nat.add_assoc _ _ _).symm) ?_
        refine vv_i2l (v := (S (55 + 200 * b + i + v)).toInt64) X dX3_correlation_43 rfl ?_
        refine vv_lmul X dX3_correlation_44 ?_
        refine vv_ladd X dX3_correlation_45 ?_
        refine vv_lstore (lv' := [(4, .long (e + (((S (55 + 200 * a + i)).toInt64) * ((S (55 + 200 * b + i + v)).toInt64)))), (0, .ref (g 0)), (1, .int (nI a)), (2, .int (nI b)), (3, .int (nI v)), (6, .int (nI i))]) X dX3_correlation_46 (by decide) rfl ?_
        refine vv_iinc (v := nI (i + 1)) (lv' := [(6, .int (nI (i + 1))), (4, .long (e + (((S (55 + 200 * a + i)).toInt64) * ((S (55 + 200 * b + i + v)).toInt64)))), (0, .ref (g 0)), (1, .int (nI a)), (2, .int (nI b)), (3, .int (nI v))]) X dX3_correlation_48 (k := 5) rfl (nI_add _ 1) (by decide) rfl ?_
        refine vv_goto (tgt := 6) X dX3_correlation_51 (by decide) ?_
        refine vv_sub [2, 3, 4, 5, 1, 0] rfl ?_
        exact ihi (i + 1) (e + (((S (55 + 200 * a + i)).toInt64) * ((S (55 + 200 * b + i + v)).toInt64))) (by omega) (by rw [he]; rfl)
  refine vv_sub [2, 3, 4, 5, 1, 0] rfl ?_
  exact hl_2 (nT P - v) 0 0 (by first | omega | assumption) (rfl)
theorem l_add0 (a : Int64) : a + 0 = a := Int64.add_zero a
theorem nX3_focused : notMH yX3_focused 5 := by decide +kernel
set_option maxHeartbeats 800000 in
theorem mX3_focused (l : Launch) (D : DD) (u : Nat → Nat) (P T : Nat → Int32) (o : Nat) (g : Nat → Nat) (S : Nat → Int32) (pw : Option Nat) (x y v1 v2 : Int32) (n : Nat) (hC : VC P) (hV : VS S) (hx : ∀ t, t < 200 → rg 9999 (x + v1 * nI t / nI 100)) (hy : ∀ t, t < 200 → rg 9999 (y + v2 * nI t / nI 100)) (hn : n ≤ 200) : Cp l yX3_focused cX3_focused 13 (some .long) { frames := 5, cells := 0, slots := 0, locals := 103 } D [.ref (g 0), .int (x), .int (y), .int (v1), .int (v2), .int (nI n)] (fun H => KH D H ∧ UR D u P T o H ∧ SR D g u P S pw H) (.long (fcp P S (mvD P x y v1 v2) n)) := by
  refine Ct.of (by decide +kernel) (Nat.le_of_ble_eq_true rfl) (fun K Qf hkl X hM hQ => ?_)
  subst hkl
  obtain ⟨hK, hU, hR⟩ := hM
  have hP := hC.v
  have l0 := hP.l0
  have l1 := hP.l1
  have l2 := hP.l2
  have l4 := hP.l4
  have l5 := hP.l5
  have l8 := hP.l8
  have l9 := hP.l9
  have l10 := hP.l10
  have l71 := hP.l71
  have l76 := hP.l76
  have l77 := hP.l77
  have hx1 := hC.x1
  have hy1 := hC.y1
  have ht1 := hC.t1
  have he1 := hC.e1
  have hm1 := hC.m1
  have hcc : nC P ≤ 144 := Nat.mul_le_mul l9 l10
  refine vv_sub (lv' := [(0, .ref (g 0)), (1, .int (x)), (2, .int (y)), (3, .int (v1)), (4, .int (v2)), (5, .int (nI n))]) [0, 1, 2, 3, 4, 5] rfl ?_
  refine vv_lconst (v := 0) X dX3_focused_0 (by decide) ?_
  refine vv_lstore (lv' := [(6, .long (0)), (0, .ref (g 0)), (1, .int (x)), (2, .int (y)), (3, .int (v1)), (4, .int (v2)), (5, .int (nI n))]) X dX3_focused_1 (by decide) rfl ?_
  refine vv_iconst (v := nI 0) X dX3_focused_3 (by decide) ?_
  refine vv_istore (lv' := [(8, .int (nI 0)), (6, .long (0)), (0, .ref (g 0)), (1, .int (x)), (2, .int (y)), (3, .int (v1)), (4, .int (v2)), (5, .int (nI n))]) X dX3_focused_4 (by decide) rfl ?_
  have hx_1 : ∀ (e : Int64) (he : e = foc P S (mvD P x y v1 v2) n), V K 13 (fun _ => False) (kS K).heap 0 0 Qf 136 [(0, .ref (g 0)), (1, .int (x)), (2, .int (y)), (3, .int (v1)), (4, .int (v2)), (5, .int (nI n)), (6, .long (e)), (8, .int (nI n))] [] := by
    intro e he
    refine vv_iload X dX3_focused_136 5 rfl ?_
    refine vn_if_ne (tgt := 145) X (by omega) dX3_focused_138 (by decide) (fun c_138 => ?_) (fun c_138 => ?_)
    · refine vv_lload X dX3_focused_145 6 rfl ?_
      refine vv_iload X dX3_focused_147 5 rfl ?_
      refine vv_i2l (v := lN n) X dX3_focused_149 (nI_l (by omega)) ?_
      refine vv_ldiv X dX3_focused_150 (lN_ne0 (by omega) (by omega)) ?_
      exact vv_lret X hQ dX3_focused_151 (Nat.le_of_ble_eq_true rfl) (Nat.le_of_ble_eq_true rfl) (pql (by unfold fcp; rw [if_neg (show ¬ n = 0 by omega), he]))
    · refine vv_lconst (v := 0) X dX3_focused_141 (by decide) ?_
      refine vv_goto (tgt := 151) X dX3_focused_142 (by decide) ?_
      exact vv_lret X hQ dX3_focused_151 (Nat.le_of_ble_eq_true rfl) (Nat.le_of_ble_eq_true rfl) (pql ((if_pos c_138).symm))
  have hl_2 : ∀ (n_t t : Nat) (e : Int64), t + n_t = n → (e = foc P S (mvD P x y v1 v2) t) → V K 13 (fun _ => False) (kS K).heap 0 0 Qf 6 [(0, .ref (g 0)), (1, .int (x)), (2, .int (y)), (3, .int (v1)), (4, .int (v2)), (5, .int (nI n)), (6, .long (e)), (8, .int (nI t))] [] := by
    intro n_t
    induction n_t with
    | zero =>
      intro t e ht he
      obtain rfl : t = n := by omega
      refine vv_iload X dX3_focused_6 7 rfl ?_
      refine vv_iload X dX3_focused_8 5 rfl ?_
      refine vn_ge (tgt := 136) X (by omega) (by omega) dX3_focused_10 (by decide) (fun c_10 => ?_) (fun c_10 => ?_)
      · exact hx_1 e he
      · exact absurd c_10 (by omega)
    | succ n_t iht =>
      intro t e ht he
      refine vv_iload X dX3_focused_6 7 rfl ?_
      refine vv_iload X dX3_focused_8 5 rfl ?_
      refine vn_ge (tgt := 136) X (by omega) (by omega) dX3_focused_10 (by decide) (fun c_10 => ?_) (fun c_10 => ?_)
      · exact absurd ht (by omega)
      · refine vv_lconst (v := 0) X dX3_focused_13 (by decide) ?_
        refine vv_lstore (lv' := [(9, .long (0)), (0, .ref (g 0)), (1, .int (x)), (2, .int (y)), (3, .int (v1)), (4, .int (v2)), (5, .int (nI n)), (6, .long (e)), (8, .int (nI t))]) X dX3_focused_14 (by decide) rfl ?_
        refine vv_iconst (v := nI 0) X dX3_focused_16 (by decide) ?_
        refine vv_istore (lv' := [(11, .int (nI 0)), (9, .long (0)), (0, .ref (g 0)), (1, .int (x)), (2, .int (y)), (3, .int (v1)), (4, .int (v2)), (5, .int (nI n)), (6, .long (e)), (8, .int (nI t))]) X dX3_focused_17 (by decide) rfl ?_
        have hx_3 : ∀ (b : Int64) (hb : b = fo (bl1 P S (mvD P x y v1 v2 t) t) (nM P) 0), V K 13 (fun _ => False) (kS K).heap 0 0 Qf 120 [(0, .ref (g 0)), (1, .int (x)), (2, .int (y)), (3, .int (v1)), (4, .int (v2)), (5, .int (nI n)), (6, .long (e)), (8, .int (nI t)), (9, .long (b)), (11, .int (nI (nM P)))] [] := by
          intro b hb
          refine vv_lload X dX3_focused_120 6 rfl ?_
          refine vv_lload X dX3_focused_122 8 rfl ?_
          refine vv_lload X dX3_focused_124 8 rfl ?_
          refine vv_lmul X dX3_focused_126 ?_
          refine vv_ladd X dX3_focused_127 ?_
          refine vv_lstore (lv' := [(6, .long (e + (b * b))), (0, .ref (g 0)), (1, .int (x)), (2, .int (y)), (3, .int (v1)), (4, .int (v2)), (5, .int (nI n)), (8, .int (nI t)), (9, .long (b)), (11, .int (nI (nM P)))]) X dX3_focused_128 (by decide) rfl ?_
          refine vv_iinc (v := nI (t + 1)) (lv' := [(8, .int (nI (t + 1))), (6, .long (e + (b * b))), (0, .ref (g 0)), (1, .int (x)), (2, .int (y)), (3, .int (v1)), (4, .int (v2)), (5, .int (nI n)), (9, .long (b)), (11, .int (nI (nM P)))]) X dX3_focused_130 (k := 7) rfl (nI_add _ 1) (by decide) rfl ?_
          refine vv_goto (tgt := 6) X dX3_focused_133 (by decide) ?_
          refine vv_sub [2, 3, 4, 5, 6, 7, 1, 0] rfl ?_
          exact iht (t + 1) (e + (b * b)) (by omega) (by rw [he, hb]; rfl)
        have hl_4 : ∀ (n_i i : Nat) (b : Int64), i + n_i = nM P → (b = fo (bl1 P S (mvD P x y v1 v2 t) t) i 0) → V K 13 (fun _ => False) (kS K).heap 0 0 Qf 19 [(0, .ref (g 0)), (1, .int (x)), (2, .int (y)), (3, .int (v1)), (4, .int (v2)), (5, .int (nI n)), (6, .long (e)), (8, .int (nI t)), (9, .long (b)), (11, .int (nI i))] [] := by
          intro n_i
          induction n_i with
          | zero =>
            intro i b hi hb
            obtain rfl : i = nM P := by omega
            refine vv_iload X dX3_focused_19 9 rfl ?_
            refine vv_aload_n X dX3_focused_21 rfl 0 rfl ?_
            refine vv_getf (C := RX3) (T := TX3) (N := 8) (ref := "AcousticCamera$State") X hR.ob in_X3 CL_X3 4 (by decide) q1695 rfl rfl dX3_focused_22 ?_
            refine vv_alen (ty := 0) X hR.wt rfl dX3_focused_25 ?_
            refine vn_ge (tgt := 120) X (by omega) (by omega) dX3_focused_26 (by decide) (fun c_26 => ?_) (fun c_26 => ?_)
            · exact hx_3 b hb
            · exact absurd c_26 (by omega)
          | succ n_i ihi =>
            intro i b hi hb
            have hdi := dN_lt P i (x + v1 * nI t / nI 100) (y + v2 * nI t / nI 100)
            refine vv_iload X dX3_focused_19 9 rfl ?_
            refine vv_aload_n X dX3_focused_21 rfl 0 rfl ?_
            refine vv_getf (C := RX3) (T := TX3) (N := 8) (ref := "AcousticCamera$State") X hR.ob in_X3 CL_X3 4 (by decide) q1695 rfl rfl dX3_focused_22 ?_
            refine vv_alen (ty := 0) X hR.wt rfl dX3_focused_25 ?_
            refine vn_ge (tgt := 120) X (by omega) (by omega) dX3_focused_26 (by decide) (fun c_26 => ?_) (fun c_26 => ?_)
            · exact absurd hi (by omega)
            · refine vv_aload_n X dX3_focused_29 rfl 0 rfl ?_
              refine vv_iload X dX3_focused_30 9 rfl ?_
              refine vv_callVp X (mX3_isActive (kL K) D u P T o g S pw i hC hV (by omega)) q1919 q1834 q1835 q150 q1836 nX3_isActive ⟨(Nat.le_of_ble_eq_true rfl), (Nat.le_of_ble_eq_true rfl)⟩ dX3_focused_32 rfl (Nat.le_of_ble_eq_true rfl) (recv X hR.ob CL_X3) ⟨hK, hU, hR⟩ ⟨(Nat.le_of_ble_eq_true rfl), (Nat.le_of_ble_eq_true rfl)⟩ ?_
              refine vb_ne (tgt := 41) X dX3_focused_35 (by decide) (fun c_35 => ?_) (fun c_35 => ?_)
              · refine vv_iload X dX3_focused_41 7 rfl ?_
                refine vv_aload_n X dX3_focused_43 rfl 0 rfl ?_
                refine vv_getf (C := RX3) (T := TX3) (N := 8) (ref := "AcousticCamera$State") X hR.ob in_X3 CL_X3 0 (by decide) q1687 rfl rfl dX3_focused_44 ?_
                refine vv_iload X dX3_focused_47 9 rfl ?_
                refine vv_iload_n X dX3_focused_49 rfl 1 rfl ?_
                refine vv_iload_n X dX3_focused_50 rfl 3 rfl ?_
                refine vv_iload X dX3_focused_51 7 rfl ?_
                refine vv_imul X dX3_focused_53 ?_
                refine vv_bipush (v := nI 100) X dX3_focused_54 (by decide) ?_
                refine vv_idiv X dX3_focused_56 (by decide) ?_
                refine vv_iadd X dX3_focused_57 ?_
                refine vv_iload_n X dX3_focused_58 rfl 2 rfl ?_
                refine vv_iload X dX3_focused_59 4 rfl ?_
                refine vv_iload X dX3_focused_61 7 rfl ?_
                refine vv_imul X dX3_focused_63 ?_
                refine vv_bipush (v := nI 100) X dX3_focused_64 (by decide) ?_
                refine vv_idiv X dX3_focused_66 (by decide) ?_
                refine vv_iadd X dX3_focused_67 ?_
                refine vv_callVp X (mX5_delay (kL K) D u P T o i (x + ((v1 * (nI t)) / (nI 100))) (y + ((v2 * (nI t)) / (nI 100))) hC (by omega) (hx t (by omega)) (hy t (by omega))) q1755 q1568 q1569 q152 q1570 nX5_delay ⟨(Nat.le_of_ble_eq_true rfl), (Nat.le_of_ble_eq_true rfl)⟩ dX3_focused_68 rfl (Nat.le_of_ble_eq_true rfl) (recv X hU.ob CL_X5) hU ⟨(Nat.le_of_ble_eq_true rfl), (Nat.le_of_ble_eq_true rfl)⟩ ?_
                refine vn_add X dX3_focused_71 ?_
                refine vv_istore (lv' := [(12, .int (nI (t + (dN P i (x + ((v1 * (nI t)) / (nI 100))) (y + ((v2 * (nI t)) / (nI 100))))))), (0, .ref (g 0)), (1, .int (x)), (2, .int (y)), (3, .int (v1)), (4, .int (v2)), (5, .int (nI n)), (6, .long (e)), (8, .int (nI t)), (9, .long (b)), (11, .int (nI i))]) X dX3_focused_72 (by decide) rfl ?_
                refine vv_lload X dX3_focused_74 9 rfl ?_
                refine vv_iload X dX3_focused_76 0 rfl ?_
                refine vv_aload_n X dX3_focused_78 rfl 1 rfl ?_
                refine vv_getf (C := RX3) (T := TX3) (N := 8) (ref := "AcousticCamera$State") X hR.ob in_X3 CL_X3 0 (by decide) q1687 rfl rfl dX3_focused_79 ?_
                refine vv_getfN (C := RX5) (T := TX5) (N := 19) (ref := "AcousticCamera$Setup") X hU.ob in_X5 CL_X5 10 (by decide) q802 rfl rfl dX3_focused_82 ?_
                refine vn_ge (tgt := 110) X (by omega) (by omega) dX3_focused_85 (by decide) (fun c_85 => ?_) (fun c_85 => ?_)
                · refine vv_lconst (v := 0) X dX3_focused_110 (by decide) ?_
                  refine vv_ladd X dX3_focused_111 ?_
                  refine vv_lstore (lv' := [(9, .long (b + 0)), (12, .int (nI (t + (dN P i (x + ((v1 * (nI t)) / (nI 100))) (y + ((v2 * (nI t)) / (nI 100))))))), (0, .ref (g 0)), (1, .int (x)), (2, .int (y)), (3, .int (v1)), (4, .int (v2)), (5, .int (nI n)), (6, .long (e)), (8, .int (nI t)), (11, .int (nI i))]) X dX3_focused_112 (by decide) rfl ?_
                  refine vv_iinc (v := nI (i + 1)) (lv' := [(11, .int (nI (i + 1))), (9, .long (b + 0)), (12, .int (nI (t + (dN P i (x + ((v1 * (nI t)) / (nI 100))) (y + ((v2 * (nI t)) / (nI 100))))))), (0, .ref (g 0)), (1, .int (x)), (2, .int (y)), (3, .int (v1)), (4, .int (v2)), (5, .int (nI n)), (6, .long (e)), (8, .int (nI t))]) X dX3_focused_114 (k := 10) rfl (nI_add _ 1) (by decide) rfl ?_
                  refine vv_goto (tgt := 19) X dX3_focused_117 (by decide) ?_
                  refine vv_sub [3, 4, 5, 6, 7, 8, 9, 10, 1, 0] rfl ?_
                  exact ihi (i + 1) (b + 0) (by omega) (by rw [hb]; show _ = bl1 _ _ _ _ _ _; unfold bl1; rw [if_neg (fun z => absurd z.2 (Nat.not_lt.mpr c_85))])
                · refine vv_aload_n X dX3_focused_88 rfl 1 rfl ?_
                  refine vv_getf (C := RX3) (T := TX3) (N := 8) (ref := "AcousticCamera$State") X hR.ob in_X3 CL_X3 4 (by decide) q1695 rfl rfl dX3_focused_89 ?_
                  refine vv_iload X dX3_focused_92 10 rfl ?_
                  refine vv_iald X hR.wt (i) (by omega) (by omega) rfl dX3_focused_94 ?_
                  refine vv_aload_n X dX3_focused_95 rfl 1 rfl ?_
                  refine vv_getf (C := RX3) (T := TX3) (N := 8) (ref := "AcousticCamera$State") X hR.ob in_X3 CL_X3 5 (by decide) q1697 rfl rfl dX3_focused_96 ?_
                  refine vv_iload X dX3_focused_99 10 rfl ?_
                  refine vv_aald (ty := 5) X hR.ra rfl rfl (i) (by omega) (by omega) rfl dX3_focused_101 (v := .ref (g (10 + i))) rfl ?_
                  refine vv_iload X dX3_focused_102 0 rfl ?_
                  refine vv_iald X (hR.row i (by omega)) (t + (dN P i (x + ((v1 * (nI t)) / (nI 100))) (y + ((v2 * (nI t)) / (nI 100))))) (by omega) (by omega) rfl dX3_focused_104 ?_
                  refine vv_eqi (congrArg S (Nat.add_assoc _ _ _).symm) ?_
                  refine vv_imul X dX3_focused_105 ?_
                  refine vv_i2l (v := ((nI (wgt S i)) * (S (55 + 200 * i + t + mvD P x y v1 v2 t i))).toInt64) X dX3_focused_106 rfl ?_
                  refine vv_goto (tgt := 111) X dX3_focused_107 (by decide) ?_
                  refine vv_ladd X dX3_focused_111 ?_
                  refine vv_lstore (lv' := [(9, .long (b + (((nI (wgt S i)) * (S (55 + 200 * i + t + mvD P x y v1 v2 t i))).toInt64))), (12, .int (nI (t + (dN P i (x + ((v1 * (nI t)) / (nI 100))) (y + ((v2 * (nI t)) / (nI 100))))))), (0, .ref (g 0)), (1, .int (x)), (2, .int (y)), (3, .int (v1)), (4, .int (v2)), (5, .int (nI n)), (6, .long (e)), (8, .int (nI t)), (11, .int (nI i))]) X dX3_focused_112 (by decide) rfl ?_
                  refine vv_iinc (v := nI (i + 1)) (lv' := [(11, .int (nI (i + 1))), (9, .long (b + (((nI (wgt S i)) * (S (55 + 200 * i + t + mvD P x y v1 v2 t i))).toInt64))), (12, .int (nI (t + (dN P i (x + ((v1 * (nI t)) / (nI 100))) (y + ((v2 * (nI t)) / (nI 100))))))), (0, .ref (g 0)), (1, .int (x)), (2, .int (y)), (3, .int (v1)), (4, .int (v2)), (5, .int (nI n)), (6, .long (e)), (8, .int (nI t))]) X dX3_focused_114 (k := 10) rfl (nI_add _ 1) (by decide) rfl ?_
                  refine vv_goto (tgt := 19) X dX3_focused_117 (by decide) ?_
                  refine vv_sub [3, 4, 5, 6, 7, 8, 9, 10, 1, 0] rfl ?_
                  exact ihi (i + 1) (b + (((nI (wgt S i)) * (S (55 + 200 * i + t + mvD P x y v1 v2 t i))).toInt64)) (by omega) (by rw [hb]; show _ = bl1 _ _ _ _ _ _; unfold bl1; rw [if_pos ⟨c_35, c_85⟩])
              · refine vv_goto (tgt := 114) X dX3_focused_38 (by decide) ?_
                refine vv_iinc (v := nI (i + 1)) (lv' := [(11, .int (nI (i + 1))), (0, .ref (g 0)), (1, .int (x)), (2, .int (y)), (3, .int (v1)), (4, .int (v2)), (5, .int (nI n)), (6, .long (e)), (8, .int (nI t)), (9, .long (b))]) X dX3_focused_114 (k := 9) rfl (nI_add _ 1) (by decide) rfl ?_
                refine vv_goto (tgt := 19) X dX3_focused_117 (by decide) ?_
                refine vv_sub [1, 2, 3, 4, 5, 6, 7, 8, 9, 0] rfl ?_
                exact ihi (i + 1) b (by omega) (by rw [hb]; show _ = bl1 _ _ _ _ _ _; unfold bl1; rw [if_neg (fun z => c_35 z.1), l_add0])
        refine vv_sub [2, 3, 4, 5, 6, 7, 8, 9, 1, 0] rfl ?_
        exact hl_4 (nM P) 0 0 (by first | omega | assumption) (rfl)
  refine vv_sub [2, 3, 4, 5, 6, 7, 1, 0] rfl ?_
  exact hl_2 (n) 0 0 (by first | omega | assumption) (rfl)
theorem mv_0 (x : Int32) (t : Nat) : x + nI 0 * nI t / nI 100 = x := by rw [nI_0, Int32.zero_mul, show (0 : Int32) / nI 100 = 0 from by decide, Int32.add_zero]
theorem mvD_0 (P : Nat → Int32) (x y : Int32) (t : Nat) : mvD P x y (nI 0) (nI 0) t = fun m => dN P m x y := by
  funext m
  unfold mvD
  rw [mv_0, mv_0]
theorem nX3_powerAt : notMH yX3_powerAt 2 := by decide +kernel
set_option maxHeartbeats 800000 in
theorem mX3_powerAt (l : Launch) (D : DD) (u : Nat → Nat) (P T : Nat → Int32) (o : Nat) (g : Nat → Nat) (S : Nat → Int32) (pw : Option Nat) (x y : Int32) (hC : VC P) (hV : VS S) (hx : rg 9999 x) (hy : rg 9999 y) : Cp l yX3_powerAt cX3_powerAt 5 (some .long) { frames := 6, cells := 0, slots := 0, locals := 135 } D [.ref (g 0), .int (x), .int (y)] (fun H => KH D H ∧ UR D u P T o H ∧ SR D g u P S pw H) (.long (fcp P S (fun _ m => dN P m x y) (win P S (fun m => dN P m x y)))) := by
  refine Ct.of (by decide +kernel) (Nat.le_of_ble_eq_true rfl) (fun K Qf hkl X hM hQ => ?_)
  subst hkl
  obtain ⟨hK, hU, hR⟩ := hM
  have hP := hC.v
  have l0 := hP.l0
  have l1 := hP.l1
  have l2 := hP.l2
  have l4 := hP.l4
  have l5 := hP.l5
  have l8 := hP.l8
  have l9 := hP.l9
  have l10 := hP.l10
  have l71 := hP.l71
  have l76 := hP.l76
  have l77 := hP.l77
  have hx1 := hC.x1
  have hy1 := hC.y1
  have ht1 := hC.t1
  have he1 := hC.e1
  have hm1 := hC.m1
  have hcc : nC P ≤ 144 := Nat.mul_le_mul l9 l10
  refine vv_sub (lv' := [(0, .ref (g 0)), (1, .int (x)), (2, .int (y))]) [0, 1, 2] rfl ?_
  refine vv_iconst (v := nI 0) X dX3_powerAt_0 (by decide) ?_
  refine vv_istore_n (lv' := [(3, .int (nI 0)), (0, .ref (g 0)), (1, .int (x)), (2, .int (y))]) X dX3_powerAt_1 rfl (by decide) rfl ?_
  refine vv_iconst (v := nI 0) X dX3_powerAt_2 (by decide) ?_
  refine vv_istore (lv' := [(4, .int (nI 0)), (3, .int (nI 0)), (0, .ref (g 0)), (1, .int (x)), (2, .int (y))]) X dX3_powerAt_3 (by decide) rfl ?_
  have hx_1 : ∀ (a : Nat) (ha : a = mxd S (fun m => dN P m x y) (nM P)), V K 5 (fun _ => False) (kS K).heap 0 0 Qf 46 [(0, .ref (g 0)), (1, .int (x)), (2, .int (y)), (3, .int (nI a)), (4, .int (nI (nM P)))] [] := by
    intro a ha
    have hab : a ≤ 65537 := by rw [ha]; exact mxd_le _ (fun m _ => Nat.le_of_lt (dN_lt P m x y))
    refine vv_aload_n X dX3_powerAt_46 rfl 0 rfl ?_
    refine vv_iload_n X dX3_powerAt_47 rfl 1 rfl ?_
    refine vv_iload_n X dX3_powerAt_48 rfl 2 rfl ?_
    refine vv_iconst (v := nI 0) X dX3_powerAt_49 (by decide) ?_
    refine vv_iconst (v := nI 0) X dX3_powerAt_50 (by decide) ?_
    refine vv_iconst (v := nI 0) X dX3_powerAt_51 (by decide) ?_
    refine vv_aload_n X dX3_powerAt_52 rfl 0 rfl ?_
    refine vv_getf (C := RX3) (T := TX3) (N := 8) (ref := "AcousticCamera$State") X hR.ob in_X3 CL_X3 0 (by decide) q1687 rfl rfl dX3_powerAt_53 ?_
    refine vv_getfN (C := RX5) (T := TX5) (N := 19) (ref := "AcousticCamera$Setup") X hU.ob in_X5 CL_X5 10 (by decide) q802 rfl rfl dX3_powerAt_56 ?_
    refine vv_iload_n X dX3_powerAt_59 rfl 3 rfl ?_
    refine vv_isub X dX3_powerAt_60 ?_
    refine vn_max0 X q1771 (Nat.le_of_ble_eq_true rfl) (Nat.le_of_ble_eq_true rfl) ((Nat.le_of_ble_eq_true rfl)) ((Nat.le_of_ble_eq_true rfl)) (by omega) (by omega) dX3_powerAt_61 ?_
    refine vv_callVp X (mX3_focused (kL K) D u P T o g S pw x y (nI 0) (nI 0) ((nT P) - a) hC hV (fun t _ => by rw [mv_0]; exact hx) (fun t _ => by rw [mv_0]; exact hy) (by omega)) q1982 q1983 q1984 q150 q1985 nX3_focused ⟨(Nat.le_of_ble_eq_true rfl), (Nat.le_of_ble_eq_true rfl)⟩ dX3_powerAt_64 rfl (Nat.le_of_ble_eq_true rfl) (recv X hR.ob CL_X3) ⟨hK, hU, hR⟩ ⟨(Nat.le_of_ble_eq_true rfl), (Nat.le_of_ble_eq_true rfl)⟩ ?_
    exact vv_lret X hQ dX3_powerAt_67 (Nat.le_of_ble_eq_true rfl) (Nat.le_of_ble_eq_true rfl) (pql (by rw [ha, show mvD P x y (nI 0) (nI 0) = fun _ m => dN P m x y from funext (fun t => mvD_0 P x y t)]; rfl))
  have hl_2 : ∀ (n_i i : Nat) (a : Nat), i + n_i = nM P → (a = mxd S (fun m => dN P m x y) i) → V K 5 (fun _ => False) (kS K).heap 0 0 Qf 5 [(0, .ref (g 0)), (1, .int (x)), (2, .int (y)), (3, .int (nI a)), (4, .int (nI i))] [] := by
    intro n_i
    induction n_i with
    | zero =>
      intro i a hi ha
      obtain rfl : i = nM P := by omega
      have hab : a ≤ 65537 := by rw [ha]; exact mxd_le _ (fun m _ => Nat.le_of_lt (dN_lt P m x y))
      refine vv_iload X dX3_powerAt_5 4 rfl ?_
      refine vv_aload_n X dX3_powerAt_7 rfl 0 rfl ?_
      refine vv_getf (C := RX3) (T := TX3) (N := 8) (ref := "AcousticCamera$State") X hR.ob in_X3 CL_X3 4 (by decide) q1695 rfl rfl dX3_powerAt_8 ?_
      refine vv_alen (ty := 0) X hR.wt rfl dX3_powerAt_11 ?_
      refine vn_ge (tgt := 46) X (by omega) (by omega) dX3_powerAt_12 (by decide) (fun c_12 => ?_) (fun c_12 => ?_)
      · exact hx_1 a ha
      · exact absurd c_12 (by omega)
    | succ n_i ihi =>
      intro i a hi ha
      have hab : a ≤ 65537 := by rw [ha]; exact mxd_le _ (fun m _ => Nat.le_of_lt (dN_lt P m x y))
      have hdi := dN_lt P i x y
      refine vv_iload X dX3_powerAt_5 4 rfl ?_
      refine vv_aload_n X dX3_powerAt_7 rfl 0 rfl ?_
      refine vv_getf (C := RX3) (T := TX3) (N := 8) (ref := "AcousticCamera$State") X hR.ob in_X3 CL_X3 4 (by decide) q1695 rfl rfl dX3_powerAt_8 ?_
      refine vv_alen (ty := 0) X hR.wt rfl dX3_powerAt_11 ?_
      refine vn_ge (tgt := 46) X (by omega) (by omega) dX3_powerAt_12 (by decide) (fun c_12 => ?_) (fun c_12 => ?_)
      · exact absurd hi (by omega)
      · refine vv_aload_n X dX3_powerAt_15 rfl 0 rfl ?_
        refine vv_iload X dX3_powerAt_16 4 rfl ?_
        refine vv_callVp X (mX3_isActive (kL K) D u P T o g S pw i hC hV (by omega)) q1919 q1834 q1835 q150 q1836 nX3_isActive ⟨(Nat.le_of_ble_eq_true rfl), (Nat.le_of_ble_eq_true rfl)⟩ dX3_powerAt_18 rfl (Nat.le_of_ble_eq_true rfl) (recv X hR.ob CL_X3) ⟨hK, hU, hR⟩ ⟨(Nat.le_of_ble_eq_true rfl), (Nat.le_of_ble_eq_true rfl)⟩ ?_
        refine vb_eq (tgt := 40) X dX3_powerAt_21 (by decide) (fun c_21 => ?_) (fun c_21 => ?_)
        · refine vv_iinc (v := nI (i + 1)) (lv' := [(4, .int (nI (i + 1))), (0, .ref (g 0)), (1, .int (x)), (2, .int (y)), (3, .int (nI a))]) X dX3_powerAt_40 (k := 4) rfl (nI_add _ 1) (by decide) rfl ?_
          refine vv_goto (tgt := 5) X dX3_powerAt_43 (by decide) ?_
          refine vv_sub [1, 2, 3, 4, 0] rfl ?_
          exact ihi (i + 1) a (by omega) (by rw [ha]; exact (if_neg c_21).symm)
        · refine vv_iload_n X dX3_powerAt_24 rfl 3 rfl ?_
          refine vv_aload_n X dX3_powerAt_25 rfl 0 rfl ?_
          refine vv_getf (C := RX3) (T := TX3) (N := 8) (ref := "AcousticCamera$State") X hR.ob in_X3 CL_X3 0 (by decide) q1687 rfl rfl dX3_powerAt_26 ?_
          refine vv_iload X dX3_powerAt_29 4 rfl ?_
          refine vv_iload_n X dX3_powerAt_31 rfl 1 rfl ?_
          refine vv_iload_n X dX3_powerAt_32 rfl 2 rfl ?_
          refine vv_callVp X (mX5_delay (kL K) D u P T o i x y hC (by omega) (hx) (hy)) q1755 q1568 q1569 q152 q1570 nX5_delay ⟨(Nat.le_of_ble_eq_true rfl), (Nat.le_of_ble_eq_true rfl)⟩ dX3_powerAt_33 rfl (Nat.le_of_ble_eq_true rfl) (recv X hU.ob CL_X5) hU ⟨(Nat.le_of_ble_eq_true rfl), (Nat.le_of_ble_eq_true rfl)⟩ ?_
          refine vn_max X q1771 (Nat.le_of_ble_eq_true rfl) (Nat.le_of_ble_eq_true rfl) ((Nat.le_of_ble_eq_true rfl)) ((Nat.le_of_ble_eq_true rfl)) (by omega) (by omega) dX3_powerAt_36 ?_
          refine vv_istore_n (lv' := [(3, .int (nI (max a (dN P i x y)))), (0, .ref (g 0)), (1, .int (x)), (2, .int (y)), (4, .int (nI i))]) X dX3_powerAt_39 rfl (by decide) rfl ?_
          refine vv_iinc (v := nI (i + 1)) (lv' := [(4, .int (nI (i + 1))), (3, .int (nI (max a (dN P i x y)))), (0, .ref (g 0)), (1, .int (x)), (2, .int (y))]) X dX3_powerAt_40 (k := 4) rfl (nI_add _ 1) (by decide) rfl ?_
          refine vv_goto (tgt := 5) X dX3_powerAt_43 (by decide) ?_
          refine vv_sub [2, 3, 4, 1, 0] rfl ?_
          exact ihi (i + 1) (max a (dN P i x y)) (by omega) (by rw [ha]; exact (if_pos c_21).symm)
  refine vv_sub [2, 3, 4, 1, 0] rfl ?_
  exact hl_2 (nM P) 0 0 (by first | omega | assumption) (rfl)
theorem nX3_movingPower : notMH yX3_movingPower 3 := by decide +kernel
set_option maxHeartbeats 800000 in
theorem mX3_movingPower (l : Launch) (D : DD) (u : Nat → Nat) (P T : Nat → Int32) (o : Nat) (g : Nat → Nat) (S : Nat → Int32) (pw : Option Nat) (c : Nat) (v1 v2 : Int32) (hC : VC P) (hV : VS S) (hc : c < nC P) (hu : rg 999 v1) (hw : rg 999 v2) : Cp l yX3_movingPower cX3_movingPower 4 (some .long) { frames := 6, cells := 0, slots := 0, locals := 135 } D [.ref (g 0), .int (nI c), .int (v1), .int (v2)] (fun H => KH D H ∧ UR D u P T o H ∧ SR D g u P S pw H) (.long (fcp P S (mvD P (cx P c) (cy P c) v1 v2) (nT P))) := by
  refine Ct.of (by decide +kernel) (Nat.le_of_ble_eq_true rfl) (fun K Qf hkl X hM hQ => ?_)
  subst hkl
  obtain ⟨hK, hU, hR⟩ := hM
  have hP := hC.v
  have l0 := hP.l0
  have l1 := hP.l1
  have l2 := hP.l2
  have l4 := hP.l4
  have l5 := hP.l5
  have l8 := hP.l8
  have l9 := hP.l9
  have l10 := hP.l10
  have l71 := hP.l71
  have l76 := hP.l76
  have l77 := hP.l77
  have hx1 := hC.x1
  have hy1 := hC.y1
  have ht1 := hC.t1
  have he1 := hC.e1
  have hm1 := hC.m1
  have hcc : nC P ≤ 144 := Nat.mul_le_mul l9 l10
  refine vv_sub (lv' := [(0, .ref (g 0)), (1, .int (nI c)), (2, .int (v1)), (3, .int (v2))]) [0, 1, 2, 3] rfl ?_
  refine vv_aload_n X dX3_movingPower_0 rfl 0 rfl ?_
  refine vv_aload_n X dX3_movingPower_1 rfl 0 rfl ?_
  refine vv_getf (C := RX3) (T := TX3) (N := 8) (ref := "AcousticCamera$State") X hR.ob in_X3 CL_X3 0 (by decide) q1687 rfl rfl dX3_movingPower_2 ?_
  refine vv_iload_n X dX3_movingPower_5 rfl 1 rfl ?_
  refine vv_callVp X (mX5_xOf (kL K) D u P T o c hC (by omega)) q2531 q1560 q1561 q152 q1562 nX5_xOf ⟨(Nat.le_of_ble_eq_true rfl), (Nat.le_of_ble_eq_true rfl)⟩ dX3_movingPower_6 rfl (Nat.le_of_ble_eq_true rfl) (recv X hU.ob CL_X5) hU ⟨(Nat.le_of_ble_eq_true rfl), (Nat.le_of_ble_eq_true rfl)⟩ ?_
  refine vv_aload_n X dX3_movingPower_9 rfl 0 rfl ?_
  refine vv_getf (C := RX3) (T := TX3) (N := 8) (ref := "AcousticCamera$State") X hR.ob in_X3 CL_X3 0 (by decide) q1687 rfl rfl dX3_movingPower_10 ?_
  refine vv_iload_n X dX3_movingPower_13 rfl 1 rfl ?_
  refine vv_callVp X (mX5_yOf (kL K) D u P T o c hC (by omega)) q2532 q1564 q1565 q152 q1566 nX5_yOf ⟨(Nat.le_of_ble_eq_true rfl), (Nat.le_of_ble_eq_true rfl)⟩ dX3_movingPower_14 rfl (Nat.le_of_ble_eq_true rfl) (recv X hU.ob CL_X5) hU ⟨(Nat.le_of_ble_eq_true rfl), (Nat.le_of_ble_eq_true rfl)⟩ ?_
  refine vv_iload_n X dX3_movingPower_17 rfl 2 rfl ?_
  refine vv_iload_n X dX3_movingPower_18 rfl 3 rfl ?_
  refine vv_aload_n X dX3_movingPower_19 rfl 0 rfl ?_
  refine vv_getf (C := RX3) (T := TX3) (N := 8) (ref := "AcousticCamera$State") X hR.ob in_X3 CL_X3 0 (by decide) q1687 rfl rfl dX3_movingPower_20 ?_
  refine vv_getfN (C := RX5) (T := TX5) (N := 19) (ref := "AcousticCamera$Setup") X hU.ob in_X5 CL_X5 10 (by decide) q802 rfl rfl dX3_movingPower_23 ?_
  refine vv_callVp X (mX3_focused (kL K) D u P T o g S pw (cx P c) (cy P c) v1 v2 (nT P) hC hV (fun t ht => mv_rg (cx_rg hC c) hu ht) (fun t ht => mv_rg (cy_rg hC hc) hw ht) (by omega)) q1982 q1983 q1984 q150 q1985 nX3_focused ⟨(Nat.le_of_ble_eq_true rfl), (Nat.le_of_ble_eq_true rfl)⟩ dX3_movingPower_26 rfl (Nat.le_of_ble_eq_true rfl) (recv X hR.ob CL_X3) ⟨hK, hU, hR⟩ ⟨(Nat.le_of_ble_eq_true rfl), (Nat.le_of_ble_eq_true rfl)⟩ ?_
  exact vv_lret X hQ dX3_movingPower_29 (Nat.le_of_ble_eq_true rfl) (Nat.le_of_ble_eq_true rfl) (pql (rfl))
theorem z_div (a b : Int32) : nI 0 * a / b = nI 0 := by rw [nI_0, Int32.zero_mul, Int32.zero_div]
theorem nX3_heard : notMH yX3_heard 5 := by decide +kernel
set_option maxHeartbeats 800000 in
theorem mX3_heard (l : Launch) (D : DD) (u : Nat → Nat) (P T : Nat → Int32) (o : Nat) (g : Nat → Nat) (S : Nat → Int32) (pw : Option Nat) (a wv so am pe ph fr : Nat) (xs ys vx vy : Int32) (m : Nat) (x y : Int32) (t : Nat) (hC : VC P) (hV : VS S) (ha : am ≤ 999) (hp1 : 2 ≤ pe) (hp : pe ≤ 99) (hh : ph ≤ 99) (hf : fr ≤ 199) (hm : m < nM P) (hx : rg 9999 x) (hy : rg 9999 y) (ht : t < 200) : Cp l yX3_heard cX3_heard 8 (some .int) { frames := 5, cells := 0, slots := 0, locals := 103 } D [.ref (g 0), .ref a, .int (nI m), .int (x), .int (y), .int (nI t)] (fun H => KH D H ∧ UR D u P T o H ∧ SR D g u P S pw H ∧ SO D H a wv so am pe ph fr xs ys vx vy) (.int (hF P (wvg so am pe ph fr) m x y t)) := by
  refine Ct.of (by decide +kernel) (Nat.le_of_ble_eq_true rfl) (fun K Qf hkl X hM hQ => ?_)
  subst hkl
  obtain ⟨hK, hU, hR, hQs⟩ := hM
  have hP := hC.v
  have l0 := hP.l0
  have l1 := hP.l1
  have l2 := hP.l2
  have l4 := hP.l4
  have l5 := hP.l5
  have l8 := hP.l8
  have l9 := hP.l9
  have l10 := hP.l10
  have l71 := hP.l71
  have l76 := hP.l76
  have l77 := hP.l77
  have hx1 := hC.x1
  have hy1 := hC.y1
  have ht1 := hC.t1
  have he1 := hC.e1
  have hm1 := hC.m1
  have hcc : nC P ≤ 144 := Nat.mul_le_mul l9 l10
  have hdi := dN_lt P m x y
  refine vv_sub (lv' := [(0, .ref (g 0)), (1, .ref a), (2, .int (nI m)), (3, .int (x)), (4, .int (y)), (5, .int (nI t))]) [0, 1, 2, 3, 4, 5] rfl ?_
  refine vv_aload_n X dX3_heard_0 rfl 0 rfl ?_
  refine vv_getf (C := RX3) (T := TX3) (N := 8) (ref := "AcousticCamera$State") X hR.ob in_X3 CL_X3 0 (by decide) q1687 rfl rfl dX3_heard_1 ?_
  refine vv_iload_n X dX3_heard_4 rfl 2 rfl ?_
  refine vv_iload_n X dX3_heard_5 rfl 3 rfl ?_
  refine vv_iload X dX3_heard_6 4 rfl ?_
  refine vv_callVp X (mX5_delay (kL K) D u P T o m x y hC (by omega) (hx) (hy)) q1755 q1568 q1569 q152 q1570 nX5_delay ⟨(Nat.le_of_ble_eq_true rfl), (Nat.le_of_ble_eq_true rfl)⟩ dX3_heard_8 rfl (Nat.le_of_ble_eq_true rfl) (recv X hU.ob CL_X5) hU ⟨(Nat.le_of_ble_eq_true rfl), (Nat.le_of_ble_eq_true rfl)⟩ ?_
  refine vv_istore (lv' := [(6, .int (nI (dN P m x y))), (0, .ref (g 0)), (1, .ref a), (2, .int (nI m)), (3, .int (x)), (4, .int (y)), (5, .int (nI t))]) X dX3_heard_11 (by decide) rfl ?_
  refine vv_iload X dX3_heard_13 0 rfl ?_
  refine vv_iload X dX3_heard_15 6 rfl ?_
  refine vn_le (tgt := 22) X (by omega) (by omega) dX3_heard_17 (by decide) (fun c_17 => ?_) (fun c_17 => ?_)
  · refine vv_aload_n X dX3_heard_22 rfl 2 rfl ?_
    refine vv_iload X dX3_heard_23 6 rfl ?_
    refine vv_iload X dX3_heard_25 0 rfl ?_
    refine vn_sub X (by omega) dX3_heard_27 ?_
    refine vv_callVp X (mX8_at (kL K) D _ _ _ _ _ _ _ _ _ _ _ (t - (dN P m x y)) (by assumption) (by assumption) (by assumption) (by assumption) (by assumption) (by omega)) q1756 q1757 q1758 q175 q1759 nX8_at ⟨(Nat.le_of_ble_eq_true rfl), (Nat.le_of_ble_eq_true rfl)⟩ dX3_heard_28 rfl (Nat.le_of_ble_eq_true rfl) (recv X hQs.1 CL_X8) hQs ⟨(Nat.le_of_ble_eq_true rfl), (Nat.le_of_ble_eq_true rfl)⟩ ?_
    refine vv_istore (lv' := [(7, .int ((wvg so am pe ph fr) (t - (dN P m x y)))), (6, .int (nI (dN P m x y))), (0, .ref (g 0)), (1, .ref a), (2, .int (nI m)), (3, .int (x)), (4, .int (y)), (5, .int (nI t))]) X dX3_heard_31 (by decide) rfl ?_
    refine vv_aload_n X dX3_heard_33 rfl 2 rfl ?_
    refine vv_getf (C := RX3) (T := TX3) (N := 8) (ref := "AcousticCamera$State") X hR.ob in_X3 CL_X3 0 (by decide) q1687 rfl rfl dX3_heard_34 ?_
    refine vv_getfN (C := RX5) (T := TX5) (N := 19) (ref := "AcousticCamera$Setup") X hU.ob in_X5 CL_X5 12 (by decide) q807 rfl rfl dX3_heard_37 ?_
    refine vn_if_ne (tgt := 48) X (by omega) dX3_heard_40 (by decide) (fun c_40 => ?_) (fun c_40 => ?_)
    · refine vv_iload X dX3_heard_48 0 rfl ?_
      refine vv_aload_n X dX3_heard_50 rfl 2 rfl ?_
      refine vv_getf (C := RX3) (T := TX3) (N := 8) (ref := "AcousticCamera$State") X hR.ob in_X3 CL_X3 0 (by decide) q1687 rfl rfl dX3_heard_51 ?_
      refine vv_getfN (C := RX5) (T := TX5) (N := 19) (ref := "AcousticCamera$Setup") X hU.ob in_X5 CL_X5 12 (by decide) q807 rfl rfl dX3_heard_54 ?_
      refine vv_imul X dX3_heard_57 ?_
      refine vv_aload_n X dX3_heard_58 rfl 2 rfl ?_
      refine vv_getf (C := RX3) (T := TX3) (N := 8) (ref := "AcousticCamera$State") X hR.ob in_X3 CL_X3 0 (by decide) q1687 rfl rfl dX3_heard_59 ?_
      refine vv_getfN (C := RX5) (T := TX5) (N := 19) (ref := "AcousticCamera$Setup") X hU.ob in_X5 CL_X5 12 (by decide) q807 rfl rfl dX3_heard_62 ?_
      refine vv_iload X dX3_heard_65 1 rfl ?_
      refine vn_add X dX3_heard_67 ?_
      refine vv_idiv X dX3_heard_68 (nI_ne0 (by omega) (by omega)) ?_
      exact vv_iret X hQ dX3_heard_69 (Nat.le_of_ble_eq_true rfl) (Nat.le_of_ble_eq_true rfl) (pq (by unfold hF; rw [if_neg (show ¬ nF P = 0 by omega), if_neg (Nat.not_lt.mpr c_17)]))
    · refine vv_iload X dX3_heard_43 0 rfl ?_
      refine vv_goto (tgt := 69) X dX3_heard_45 (by decide) ?_
      exact vv_iret X hQ dX3_heard_69 (Nat.le_of_ble_eq_true rfl) (Nat.le_of_ble_eq_true rfl) (pq (by unfold hF; rw [if_pos c_40, if_neg (Nat.not_lt.mpr c_17)]))
  · refine vv_iconst (v := nI 0) X dX3_heard_20 (by decide) ?_
    exact vv_iret X hQ dX3_heard_21 (Nat.le_of_ble_eq_true rfl) (Nat.le_of_ble_eq_true rfl) (pq (by unfold hF; rw [if_pos c_17]; split <;> first | rfl | exact (z_div _ _).symm))
theorem nX3_heardWithImages : notMH yX3_heardWithImages 3 := by decide +kernel
set_option maxHeartbeats 800000 in
theorem mX3_heardWithImages (l : Launch) (D : DD) (u : Nat → Nat) (P T : Nat → Int32) (o : Nat) (g : Nat → Nat) (S : Nat → Int32) (pw : Option Nat) (a wv so am pe ph fr : Nat) (xs ys vx vy : Int32) (m t : Nat) (hC : VC P) (hV : VS S) (ha : am ≤ 999) (hp1 : 2 ≤ pe) (hp : pe ≤ 99) (hh : ph ≤ 99) (hf : fr ≤ 199) (hm : m < nM P) (hx : rg 3990 (xs + vx * nI t / nI 100)) (hy : rg 3990 (ys + vy * nI t / nI 100)) (ht : t < 200) : Cp l yX3_heardWithImages cX3_heardWithImages 9 (some .int) { frames := 6, cells := 0, slots := 0, locals := 130 } D [.ref (g 0), .ref a, .int (nI m), .int (nI t)] (fun H => KH D H ∧ UR D u P T o H ∧ SR D g u P S pw H ∧ SO D H a wv so am pe ph fr xs ys vx vy) (.int (hO P (wvg so am pe ph fr) m (xs + vx * nI t / nI 100) (ys + vy * nI t / nI 100) t)) := by
  refine Ct.of (by decide +kernel) (Nat.le_of_ble_eq_true rfl) (fun K Qf hkl X hM hQ => ?_)
  subst hkl
  obtain ⟨hK, hU, hR, hQs⟩ := hM
  have hP := hC.v
  have l0 := hP.l0
  have l1 := hP.l1
  have l2 := hP.l2
  have l4 := hP.l4
  have l5 := hP.l5
  have l8 := hP.l8
  have l9 := hP.l9
  have l10 := hP.l10
  have l71 := hP.l71
  have l76 := hP.l76
  have l77 := hP.l77
  have hx1 := hC.x1
  have hy1 := hC.y1
  have ht1 := hC.t1
  have he1 := hC.e1
  have hm1 := hC.m1
  have hcc : nC P ≤ 144 := Nat.mul_le_mul l9 l10
  refine vv_sub (lv' := [(0, .ref (g 0)), (1, .ref a), (2, .int (nI m)), (3, .int (nI t))]) [0, 1, 2, 3] rfl ?_
  refine vv_aload_n X dX3_heardWithImages_0 rfl 1 rfl ?_
  refine vv_iload_n X dX3_heardWithImages_1 rfl 3 rfl ?_
  refine vv_callVp X (mX8_xAt (kL K) D _ _ _ _ _ _ _ _ _ _ _ t) q1743 q1744 q1745 q175 q1746 nX8_xAt ⟨(Nat.le_of_ble_eq_true rfl), (Nat.le_of_ble_eq_true rfl)⟩ dX3_heardWithImages_2 rfl (Nat.le_of_ble_eq_true rfl) (recv X hQs.1 CL_X8) hQs ⟨(Nat.le_of_ble_eq_true rfl), (Nat.le_of_ble_eq_true rfl)⟩ ?_
  refine vv_istore (lv' := [(4, .int (xs + vx * nI t / nI 100)), (0, .ref (g 0)), (1, .ref a), (2, .int (nI m)), (3, .int (nI t))]) X dX3_heardWithImages_5 (by decide) rfl ?_
  refine vv_aload_n X dX3_heardWithImages_7 rfl 2 rfl ?_
  refine vv_iload_n X dX3_heardWithImages_8 rfl 4 rfl ?_
  refine vv_callVp X (mX8_yAt (kL K) D _ _ _ _ _ _ _ _ _ _ _ t) q1747 q1748 q1749 q175 q1750 nX8_yAt ⟨(Nat.le_of_ble_eq_true rfl), (Nat.le_of_ble_eq_true rfl)⟩ dX3_heardWithImages_9 rfl (Nat.le_of_ble_eq_true rfl) (recv X hQs.1 CL_X8) hQs ⟨(Nat.le_of_ble_eq_true rfl), (Nat.le_of_ble_eq_true rfl)⟩ ?_
  refine vv_istore (lv' := [(5, .int (ys + vy * nI t / nI 100)), (4, .int (xs + vx * nI t / nI 100)), (0, .ref (g 0)), (1, .ref a), (2, .int (nI m)), (3, .int (nI t))]) X dX3_heardWithImages_12 (by decide) rfl ?_
  refine vv_aload_n X dX3_heardWithImages_14 rfl 2 rfl ?_
  refine vv_aload_n X dX3_heardWithImages_15 rfl 3 rfl ?_
  refine vv_iload_n X dX3_heardWithImages_16 rfl 4 rfl ?_
  refine vv_iload X dX3_heardWithImages_17 1 rfl ?_
  refine vv_iload X dX3_heardWithImages_19 0 rfl ?_
  refine vv_iload_n X dX3_heardWithImages_21 rfl 5 rfl ?_
  refine vv_callVp X (mX3_heard (kL K) D u P T o g S pw _ _ _ _ _ _ _ _ _ _ _ m (xs + vx * nI t / nI 100) (ys + vy * nI t / nI 100) t hC hV ha hp1 hp hh hf (by omega) (hx.mono (by omega)) (hy.mono (by omega)) (by omega)) q1751 q1753 qs33 q150 q1754 nX3_heard ⟨(Nat.le_of_ble_eq_true rfl), (Nat.le_of_ble_eq_true rfl)⟩ dX3_heardWithImages_22 rfl (Nat.le_of_ble_eq_true rfl) (recv X hR.ob CL_X3) ⟨hK, hU, hR, hQs⟩ ⟨(Nat.le_of_ble_eq_true rfl), (Nat.le_of_ble_eq_true rfl)⟩ ?_
  refine vv_istore (lv' := [(6, .int (hF P (wvg so am pe ph fr) m (xs + vx * nI t / nI 100) (ys + vy * nI t / nI 100) t)), (5, .int (ys + vy * nI t / nI 100)), (4, .int (xs + vx * nI t / nI 100)), (0, .ref (g 0)), (1, .ref a), (2, .int (nI m)), (3, .int (nI t))]) X dX3_heardWithImages_25 (by decide) rfl ?_
  refine vv_iconst (v := nI 0) X dX3_heardWithImages_27 (by decide) ?_
  refine vv_istore (lv' := [(7, .int (nI 0)), (6, .int (hF P (wvg so am pe ph fr) m (xs + vx * nI t / nI 100) (ys + vy * nI t / nI 100) t)), (5, .int (ys + vy * nI t / nI 100)), (4, .int (xs + vx * nI t / nI 100)), (0, .ref (g 0)), (1, .ref a), (2, .int (nI m)), (3, .int (nI t))]) X dX3_heardWithImages_28 (by decide) rfl ?_
  have hx_1 : ∀ (s : Int32) (hs : s = fo (fun k s => s + hF P (wvg so am pe ph fr) m (nI 2 * P (72 + k) - (xs + vx * nI t / nI 100)) (ys + vy * nI t / nI 100) t * nI (pct P k) / nI 100) (nW P) (hF P (wvg so am pe ph fr) m (xs + vx * nI t / nI 100) (ys + vy * nI t / nI 100) t)), V K 9 (fun _ => False) (kS K).heap 0 0 Qf 105 [(0, .ref (g 0)), (1, .ref a), (2, .int (nI m)), (3, .int (nI t)), (4, .int (xs + vx * nI t / nI 100)), (5, .int (ys + vy * nI t / nI 100)), (6, .int (s)), (7, .int (nI (nW P)))] [] := by
    intro s hs
    refine vv_iload X dX3_heardWithImages_105 6 rfl ?_
    exact vv_iret X hQ dX3_heardWithImages_107 (Nat.le_of_ble_eq_true rfl) (Nat.le_of_ble_eq_true rfl) (pq (by rw [hs]; rfl))
  have hl_2 : ∀ (n_i i : Nat) (s : Int32), i + n_i = nW P → (s = fo (fun k s => s + hF P (wvg so am pe ph fr) m (nI 2 * P (72 + k) - (xs + vx * nI t / nI 100)) (ys + vy * nI t / nI 100) t * nI (pct P k) / nI 100) i (hF P (wvg so am pe ph fr) m (xs + vx * nI t / nI 100) (ys + vy * nI t / nI 100) t)) → V K 9 (fun _ => False) (kS K).heap 0 0 Qf 30 [(0, .ref (g 0)), (1, .ref a), (2, .int (nI m)), (3, .int (nI t)), (4, .int (xs + vx * nI t / nI 100)), (5, .int (ys + vy * nI t / nI 100)), (6, .int (s)), (7, .int (nI i))] [] := by
    intro n_i
    induction n_i with
    | zero =>
      intro i s hi hs
      obtain rfl : i = nW P := by omega
      refine vv_iload X dX3_heardWithImages_30 7 rfl ?_
      refine vv_aload_n X dX3_heardWithImages_32 rfl 0 rfl ?_
      refine vv_getf (C := RX3) (T := TX3) (N := 8) (ref := "AcousticCamera$State") X hR.ob in_X3 CL_X3 0 (by decide) q1687 rfl rfl dX3_heardWithImages_33 ?_
      refine vv_getfN (C := RX5) (T := TX5) (N := 19) (ref := "AcousticCamera$Setup") X hU.ob in_X5 CL_X5 1 (by decide) q777 rfl rfl dX3_heardWithImages_36 ?_
      refine vv_callFp X (mJ12_size (kL K) D (u 2) _ _ (nW P)) (by decide) q1660 q308 q306 q154 q310 (show notMH ⟨"java/util/List", "size", "()I"⟩ 0 by decide +kernel) ⟨(Nat.le_of_ble_eq_true rfl), (Nat.le_of_ble_eq_true rfl)⟩ dX3_heardWithImages_39 rfl (Nat.le_of_ble_eq_true rfl) hU.lw.1 CL_J12 hU.lw.1 ⟨(Nat.le_of_ble_eq_true rfl), (Nat.le_of_ble_eq_true rfl)⟩ ?_
      refine vn_ge (tgt := 105) X (by omega) (by omega) dX3_heardWithImages_44 (by decide) (fun c_44 => ?_) (fun c_44 => ?_)
      · exact hx_1 s hs
      · exact absurd c_44 (by omega)
    | succ n_i ihi =>
      intro i s hi hs
      refine vv_iload X dX3_heardWithImages_30 7 rfl ?_
      refine vv_aload_n X dX3_heardWithImages_32 rfl 0 rfl ?_
      refine vv_getf (C := RX3) (T := TX3) (N := 8) (ref := "AcousticCamera$State") X hR.ob in_X3 CL_X3 0 (by decide) q1687 rfl rfl dX3_heardWithImages_33 ?_
      refine vv_getfN (C := RX5) (T := TX5) (N := 19) (ref := "AcousticCamera$Setup") X hU.ob in_X5 CL_X5 1 (by decide) q777 rfl rfl dX3_heardWithImages_36 ?_
      refine vv_callFp X (mJ12_size (kL K) D (u 2) _ _ (nW P)) (by decide) q1660 q308 q306 q154 q310 (show notMH ⟨"java/util/List", "size", "()I"⟩ 0 by decide +kernel) ⟨(Nat.le_of_ble_eq_true rfl), (Nat.le_of_ble_eq_true rfl)⟩ dX3_heardWithImages_39 rfl (Nat.le_of_ble_eq_true rfl) hU.lw.1 CL_J12 hU.lw.1 ⟨(Nat.le_of_ble_eq_true rfl), (Nat.le_of_ble_eq_true rfl)⟩ ?_
      refine vn_ge (tgt := 105) X (by omega) (by omega) dX3_heardWithImages_44 (by decide) (fun c_44 => ?_) (fun c_44 => ?_)
      · exact absurd hi (by omega)
      · refine vv_aload_n X dX3_heardWithImages_47 rfl 0 rfl ?_
        refine vv_getf (C := RX3) (T := TX3) (N := 8) (ref := "AcousticCamera$State") X hR.ob in_X3 CL_X3 0 (by decide) q1687 rfl rfl dX3_heardWithImages_48 ?_
        refine vv_getfN (C := RX5) (T := TX5) (N := 19) (ref := "AcousticCamera$Setup") X hU.ob in_X5 CL_X5 1 (by decide) q777 rfl rfl dX3_heardWithImages_51 ?_
        refine vv_iload X dX3_heardWithImages_54 7 rfl ?_
        refine vv_callFp X (mJ12_get (kL K) D _ _ _ _ _ (by omega)) (by decide) q1664 q1577 q1575 q154 q1579 (show notMH ⟨"java/util/List", "get", "(I)Ljava/lang/Object;"⟩ 1 by decide +kernel) ⟨(Nat.le_of_ble_eq_true rfl), (Nat.le_of_ble_eq_true rfl)⟩ dX3_heardWithImages_56 rfl (Nat.le_of_ble_eq_true rfl) hU.lw.1 CL_J12 hU.lw ⟨(Nat.le_of_ble_eq_true rfl), (Nat.le_of_ble_eq_true rfl)⟩ ?_
        refine vv_castS X (hU.wal i (by omega)) CL_X10 q1764 dX3_heardWithImages_61 ?_
        refine vv_astore (lv' := [(8, .ref (u (60 + i))), (0, .ref (g 0)), (1, .ref a), (2, .int (nI m)), (3, .int (nI t)), (4, .int (xs + vx * nI t / nI 100)), (5, .int (ys + vy * nI t / nI 100)), (6, .int (s)), (7, .int (nI i))]) X dX3_heardWithImages_64 (by decide) rfl ?_
        refine vv_iload X dX3_heardWithImages_66 7 rfl ?_
        refine vv_aload_n X dX3_heardWithImages_68 rfl 1 rfl ?_
        refine vv_aload_n X dX3_heardWithImages_69 rfl 2 rfl ?_
        refine vv_iload_n X dX3_heardWithImages_70 rfl 3 rfl ?_
        refine vv_iconst (v := nI 2) X dX3_heardWithImages_71 (by decide) ?_
        refine vv_aload X dX3_heardWithImages_72 0 rfl ?_
        refine vv_getfN (C := RX10) (T := TX10) (N := 2) (ref := "AcousticCamera$Wall") X (hU.wal i (by omega)) in_X10 CL_X10 0 (by decide) q1429 rfl rfl dX3_heardWithImages_74 ?_
        refine vv_imul X dX3_heardWithImages_77 ?_
        refine vv_iload X dX3_heardWithImages_78 5 rfl ?_
        refine vv_isub X dX3_heardWithImages_80 ?_
        refine vv_iload X dX3_heardWithImages_81 6 rfl ?_
        refine vv_iload_n X dX3_heardWithImages_83 rfl 4 rfl ?_
        refine vv_callVp X (mX3_heard (kL K) D u P T o g S pw _ _ _ _ _ _ _ _ _ _ _ m (((nI 2) * (P (72 + i))) - (xs + vx * nI t / nI 100)) (ys + vy * nI t / nI 100) t hC hV ha hp1 hp hh hf (by omega) (mir_rg hP (by omega) hx) (hy.mono (by omega)) (by omega)) q1751 q1753 qs33 q150 q1754 nX3_heard ⟨(Nat.le_of_ble_eq_true rfl), (Nat.le_of_ble_eq_true rfl)⟩ dX3_heardWithImages_84 rfl (Nat.le_of_ble_eq_true rfl) (recv X hR.ob CL_X3) ⟨hK, hU, hR, hQs⟩ ⟨(Nat.le_of_ble_eq_true rfl), (Nat.le_of_ble_eq_true rfl)⟩ ?_
        refine vv_aload X dX3_heardWithImages_87 0 rfl ?_
        refine vv_getfN (C := RX10) (T := TX10) (N := 2) (ref := "AcousticCamera$Wall") X (hU.wal i (by omega)) in_X10 CL_X10 1 (by decide) q1431 rfl rfl dX3_heardWithImages_89 ?_
        refine vv_imul X dX3_heardWithImages_92 ?_
        refine vv_bipush (v := nI 100) X dX3_heardWithImages_93 (by decide) ?_
        refine vv_idiv X dX3_heardWithImages_95 (by decide) ?_
        refine vv_iadd X dX3_heardWithImages_96 ?_
        refine vv_istore (lv' := [(6, .int (s + (((hF P (wvg so am pe ph fr) m (((nI 2) * (P (72 + i))) - (xs + vx * nI t / nI 100)) (ys + vy * nI t / nI 100) t) * (nI (pct P i))) / (nI 100)))), (8, .ref (u (60 + i))), (0, .ref (g 0)), (1, .ref a), (2, .int (nI m)), (3, .int (nI t)), (4, .int (xs + vx * nI t / nI 100)), (5, .int (ys + vy * nI t / nI 100)), (7, .int (nI i))]) X dX3_heardWithImages_97 (by decide) rfl ?_
        refine vv_iinc (v := nI (i + 1)) (lv' := [(7, .int (nI (i + 1))), (6, .int (s + (((hF P (wvg so am pe ph fr) m (((nI 2) * (P (72 + i))) - (xs + vx * nI t / nI 100)) (ys + vy * nI t / nI 100) t) * (nI (pct P i))) / (nI 100)))), (8, .ref (u (60 + i))), (0, .ref (g 0)), (1, .ref a), (2, .int (nI m)), (3, .int (nI t)), (4, .int (xs + vx * nI t / nI 100)), (5, .int (ys + vy * nI t / nI 100))]) X dX3_heardWithImages_99 (k := 8) rfl (nI_add _ 1) (by decide) rfl ?_
        refine vv_goto (tgt := 30) X dX3_heardWithImages_102 (by decide) ?_
        refine vv_sub [3, 4, 5, 6, 7, 8, 1, 0] rfl ?_
        exact ihi (i + 1) (s + (((hF P (wvg so am pe ph fr) m (((nI 2) * (P (72 + i))) - (xs + vx * nI t / nI 100)) (ys + vy * nI t / nI 100) t) * (nI (pct P i))) / (nI 100))) (by omega) (by rw [hs]; rfl)
  refine vv_sub [4, 5, 6, 7, 3, 2, 1, 0] rfl ?_
  exact hl_2 (nW P) 0 (hF P (wvg so am pe ph fr) m (xs + vx * nI t / nI 100) (ys + vy * nI t / nI 100) t) (by first | omega | assumption) (rfl)
