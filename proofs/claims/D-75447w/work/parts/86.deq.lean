/-! java.util.ArrayDeque: printed by gen/s33.py -/
set_option maxRecDepth 100000
theorem dq_sub {i j : Nat} (h : i < j) (h2 : j ≤ i + 17) : nI i - nI j + nI 17 = nI (i + 17 - j) := by
  rw [← pk_sub (show j ≤ i + 17 from h2), ← nI_add, Int32.sub_eq_add_neg, Int32.sub_eq_add_neg, Int32.add_assoc, Int32.add_comm (-_) _, ← Int32.add_assoc]
theorem nJ1_inc : notMH yJ1_inc 2 := by decide +kernel
set_option maxHeartbeats 800000 in
theorem mJ1_inc (l : Launch) (D : DD) (i : Nat) (hi : i < 17) : Cp l yJ1_inc cJ1_inc 2 (some .int) { frames := 1, cells := 0, slots := 0, locals := 12 } D [.int (nI i), .int (nI 17)] (fun H => True) (.int (nI ((i + 1) % 17))) := by
  refine Ct.of (by decide +kernel) (Nat.le_of_ble_eq_true rfl) (fun K Qf hkl X hM hQ => ?_)
  subst hkl
  refine vv_sub (lv' := [(0, .int (nI i)), (1, .int (nI 17))]) [0, 1] rfl ?_
  refine vv_iinc (v := nI (i + 1)) (lv' := [(0, .int (nI (i + 1))), (1, .int (nI 17))]) X dJ1_inc_0 (k := 0) rfl (nI_add _ 1) (by decide) rfl ?_
  refine vv_iload_n X dJ1_inc_3 rfl 0 rfl ?_
  refine vv_iload_n X dJ1_inc_4 rfl 1 rfl ?_
  refine vn_lt (tgt := 10) X (by omega) (by omega) dJ1_inc_5 (by decide) (fun c_5 => ?_) (fun c_5 => ?_)
  · refine vv_iload_n X dJ1_inc_10 rfl 0 rfl ?_
    exact vv_iret X hQ dJ1_inc_11 (Nat.le_of_ble_eq_true rfl) (Nat.le_of_ble_eq_true rfl) (pq (by rw [show (i + 1) % 17 = i + 1 by omega]))
  · refine vv_iconst (v := nI 0) X dJ1_inc_8 (by decide) ?_
    refine vv_istore_n (lv' := [(0, .int (nI 0)), (1, .int (nI 17))]) X dJ1_inc_9 rfl (by decide) rfl ?_
    refine vv_iload_n X dJ1_inc_10 rfl 0 rfl ?_
    exact vv_iret X hQ dJ1_inc_11 (Nat.le_of_ble_eq_true rfl) (Nat.le_of_ble_eq_true rfl) (pq (by rw [show (i + 1) % 17 = 0 by omega]))
theorem nJ1_dec : notMH yJ1_dec 2 := by decide +kernel
set_option maxHeartbeats 800000 in
theorem mJ1_dec (l : Launch) (D : DD) (i : Nat) (hi : i < 17) : Cp l yJ1_dec cJ1_dec 2 (some .int) { frames := 1, cells := 0, slots := 0, locals := 12 } D [.int (nI i), .int (nI 17)] (fun H => True) (.int (nI ((i + 16) % 17))) := by
  refine Ct.of (by decide +kernel) (Nat.le_of_ble_eq_true rfl) (fun K Qf hkl X hM hQ => ?_)
  subst hkl
  refine vv_sub (lv' := [(0, .int (nI i)), (1, .int (nI 17))]) [0, 1] rfl ?_
  rcases Nat.eq_zero_or_pos i with e | e
  · subst e
    refine vv_iinc (v := (-1)) (lv' := [(0, .int ((-1))), (1, .int (nI 17))]) X dJ1_dec_0 (k := 0) rfl (by decide) (by decide) rfl ?_
    refine vv_iload_n X dJ1_dec_3 rfl 0 rfl ?_
    refine vv_if_ge (tgt := 11) X dJ1_dec_4 (by decide) (fun c_4 => ?_) (fun c_4 => ?_)
    · exact absurd c_4 (by decide)
    · refine vv_iload_n X dJ1_dec_7 rfl 1 rfl ?_
      refine vv_iconst (v := nI 1) X dJ1_dec_8 (by decide) ?_
      refine vn_sub X (by omega) dJ1_dec_9 ?_
      refine vv_istore_n (lv' := [(0, .int (nI (17 - 1))), (1, .int (nI 17))]) X dJ1_dec_10 rfl (by decide) rfl ?_
      refine vv_iload_n X dJ1_dec_11 rfl 0 rfl ?_
      exact vv_iret X hQ dJ1_dec_12 (Nat.le_of_ble_eq_true rfl) (Nat.le_of_ble_eq_true rfl) (pq (rfl))
  · obtain ⟨j, rfl⟩ : ∃ j, i = j + 1 := ⟨i - 1, by omega⟩
    refine vv_iinc (v := nI j) (lv' := [(0, .int (nI j)), (1, .int (nI 17))]) X dJ1_dec_0 (k := 0) rfl (pk_m1 _) (by decide) rfl ?_
    refine vv_iload_n X dJ1_dec_3 rfl 0 rfl ?_
    refine vn_if_ge (tgt := 11) X (by omega) dJ1_dec_4 (by decide) ?_
    refine vv_iload_n X dJ1_dec_11 rfl 0 rfl ?_
    exact vv_iret X hQ dJ1_dec_12 (Nat.le_of_ble_eq_true rfl) (Nat.le_of_ble_eq_true rfl) (pq (by rw [show (j + 1 + 16) % 17 = j by omega]))
theorem nJ1_sub : notMH yJ1_sub 3 := by decide +kernel
set_option maxHeartbeats 800000 in
theorem mJ1_sub (l : Launch) (D : DD) (i j : Nat) (hi : i < 17) (hj : j < 17) : Cp l yJ1_sub cJ1_sub 3 (some .int) { frames := 1, cells := 0, slots := 0, locals := 12 } D [.int (nI i), .int (nI j), .int (nI 17)] (fun H => True) (.int (nI ((i + 17 - j) % 17))) := by
  refine Ct.of (by decide +kernel) (Nat.le_of_ble_eq_true rfl) (fun K Qf hkl X hM hQ => ?_)
  subst hkl
  refine vv_sub (lv' := [(0, .int (nI i)), (1, .int (nI j)), (2, .int (nI 17))]) [0, 1, 2] rfl ?_
  rcases Nat.lt_or_ge i j with e | e
  · refine vv_iload_n X dJ1_sub_0 rfl 0 rfl ?_
    refine vv_iload_n X dJ1_sub_1 rfl 1 rfl ?_
    refine vv_isub X dJ1_sub_2 ?_
    refine vv_dup X dJ1_sub_3 rfl ?_
    refine vv_istore_n (lv' := [(0, .int ((nI i) - (nI j))), (1, .int (nI j)), (2, .int (nI 17))]) X dJ1_sub_4 rfl (by decide) rfl ?_
    refine vv_if_ge (tgt := 12) X dJ1_sub_5 (by decide) (fun c_5 => ?_) (fun c_5 => ?_)
    · exact absurd c_5 (Int32.not_le.mpr (pk_sneg (by omega) e))
    · refine vv_iload_n X dJ1_sub_8 rfl 0 rfl ?_
      refine vv_iload_n X dJ1_sub_9 rfl 2 rfl ?_
      refine vv_iadd X dJ1_sub_10 ?_
      refine vv_istore_n (lv' := [(0, .int (((nI i) - (nI j)) + (nI 17))), (1, .int (nI j)), (2, .int (nI 17))]) X dJ1_sub_11 rfl (by decide) rfl ?_
      refine vv_iload_n X dJ1_sub_12 rfl 0 rfl ?_
      exact vv_iret X hQ dJ1_sub_13 (Nat.le_of_ble_eq_true rfl) (Nat.le_of_ble_eq_true rfl) (pq (by rw [dq_sub e (by omega), show (i + 17 - j) % 17 = i + 17 - j by omega]))
  · refine vv_iload_n X dJ1_sub_0 rfl 0 rfl ?_
    refine vv_iload_n X dJ1_sub_1 rfl 1 rfl ?_
    refine vn_sub X (by omega) dJ1_sub_2 ?_
    refine vv_dup X dJ1_sub_3 rfl ?_
    refine vv_istore_n (lv' := [(0, .int (nI (i - j))), (1, .int (nI j)), (2, .int (nI 17))]) X dJ1_sub_4 rfl (by decide) rfl ?_
    refine vn_if_ge (tgt := 12) X (by omega) dJ1_sub_5 (by decide) ?_
    refine vv_iload_n X dJ1_sub_12 rfl 0 rfl ?_
    exact vv_iret X hQ dJ1_sub_13 (Nat.le_of_ble_eq_true rfl) (Nat.le_of_ble_eq_true rfl) (pq (by rw [show (i + 17 - j) % 17 = i - j by omega]))
theorem nJ1_elementAt : notMH yJ1_elementAt 2 := by decide +kernel
set_option maxHeartbeats 800000 in
theorem mJ1_elementAt (l : Launch) (D : DD) (a i x : Nat) (F : Nat → Option Nat) (hi : i < 17) (hx : F i = some x) : Cp l yJ1_elementAt cJ1_elementAt 2 (some (.object "java/lang/Object")) { frames := 1, cells := 0, slots := 0, locals := 12 } D [.ref a, .int (nI i)] (fun H => qA D H a 9 17 F) (.ref x) := by
  refine Ct.of (by decide +kernel) (Nat.le_of_ble_eq_true rfl) (fun K Qf hkl X hM hQ => ?_)
  subst hkl
  have he := hM
  refine vv_sub (lv' := [(0, .ref a), (1, .int (nI i))]) [0, 1] rfl ?_
  refine vv_aload_n X dJ1_elementAt_0 rfl 0 rfl ?_
  refine vv_iload_n X dJ1_elementAt_1 rfl 1 rfl ?_
  refine vv_aald (ty := 9) X he rfl rfl (i) (by omega) (by omega) rfl dJ1_elementAt_2 (v := .ref x) (congrArg va_rf hx) ?_
  exact vv_aret X (Or.inl ⟨_, rfl⟩) (Or.inr ⟨_, rfl⟩) hQ dJ1_elementAt_3 (Nat.le_of_ble_eq_true rfl) (Nat.le_of_ble_eq_true rfl) (pqa (rfl))
theorem nJ1_size : notMH yJ1_size 0 := by decide +kernel
set_option maxHeartbeats 800000 in
theorem mJ1_size (l : Launch) (D : DD) (b a h t : Nat) (F : Nat → Option Nat) (hh : h < 17) (ht : t < 17) : Cp l yJ1_size cJ1_size 1 (some .int) { frames := 2, cells := 0, slots := 0, locals := 34 } D [.ref b] (fun H => oB D H b 10 [.ref a, .int (nI h), .int (nI t)] ∧ qA D H a 9 17 F) (.int (nI ((t + 17 - h) % 17))) := by
  refine Ct.of (by decide +kernel) (Nat.le_of_ble_eq_true rfl) (fun K Qf hkl X hM hQ => ?_)
  subst hkl
  obtain ⟨hd, he⟩ := hM
  refine vv_sub (lv' := [(0, .ref b)]) [0] rfl ?_
  refine vv_aload_n X dJ1_size_0 rfl 0 rfl ?_
  refine vv_getf (C := RJ1) (T := TJ1) (N := 3) (ref := "java/util/ArrayDeque") X hd in_J1 CL_J1 2 (by decide) q212 rfl rfl dJ1_size_1 ?_
  refine vv_aload_n X dJ1_size_4 rfl 0 rfl ?_
  refine vv_getf (C := RJ1) (T := TJ1) (N := 3) (ref := "java/util/ArrayDeque") X hd in_J1 CL_J1 1 (by decide) q211 rfl rfl dJ1_size_5 ?_
  refine vv_aload_n X dJ1_size_8 rfl 0 rfl ?_
  refine vv_getf (C := RJ1) (T := TJ1) (N := 3) (ref := "java/util/ArrayDeque") X hd in_J1 CL_J1 0 (by decide) q210 rfl rfl dJ1_size_9 ?_
  refine vv_alen (ty := 9) X he rfl dJ1_size_12 ?_
  refine vv_callSp X (mJ1_sub (kL K) D t h (by omega) (by omega)) q355 q356 q139 q357 nJ1_sub ⟨(Nat.le_of_ble_eq_true rfl), (Nat.le_of_ble_eq_true rfl)⟩ dJ1_size_13 rfl (Nat.le_of_ble_eq_true rfl) trivial ⟨(Nat.le_of_ble_eq_true rfl), (Nat.le_of_ble_eq_true rfl)⟩ ?_
  exact vv_iret X hQ dJ1_size_16 (Nat.le_of_ble_eq_true rfl) (Nat.le_of_ble_eq_true rfl) (pq (rfl))
theorem nJ1_isEmpty : notMH yJ1_isEmpty 0 := by decide +kernel
set_option maxHeartbeats 800000 in
theorem mJ1_isEmpty (l : Launch) (D : DD) (b a h t : Nat) (F : Nat → Option Nat) (hh : h < 17) (ht : t < 17) : Cp l yJ1_isEmpty cJ1_isEmpty 1 (some .boolean) { frames := 1, cells := 0, slots := 0, locals := 12 } D [.ref b] (fun H => oB D H b 10 [.ref a, .int (nI h), .int (nI t)] ∧ qA D H a 9 17 F) (.int (b2 (t = h))) := by
  refine Ct.of (by decide +kernel) (Nat.le_of_ble_eq_true rfl) (fun K Qf hkl X hM hQ => ?_)
  subst hkl
  obtain ⟨hd, he⟩ := hM
  refine vv_sub (lv' := [(0, .ref b)]) [0] rfl ?_
  refine vv_aload_n X dJ1_isEmpty_0 rfl 0 rfl ?_
  refine vv_getf (C := RJ1) (T := TJ1) (N := 3) (ref := "java/util/ArrayDeque") X hd in_J1 CL_J1 1 (by decide) q211 rfl rfl dJ1_isEmpty_1 ?_
  refine vv_aload_n X dJ1_isEmpty_4 rfl 0 rfl ?_
  refine vv_getf (C := RJ1) (T := TJ1) (N := 3) (ref := "java/util/ArrayDeque") X hd in_J1 CL_J1 2 (by decide) q212 rfl rfl dJ1_isEmpty_5 ?_
  refine vn_ne (tgt := 15) X (by omega) (by omega) dJ1_isEmpty_8 (by decide) (fun c_8 => ?_) (fun c_8 => ?_)
  · refine vv_iconst (v := nI 0) X dJ1_isEmpty_15 (by decide) ?_
    exact vv_zret X (rfl) hQ dJ1_isEmpty_16 (Nat.le_of_ble_eq_true rfl) (Nat.le_of_ble_eq_true rfl) (pq (b2_0 (fun z => c_8 z.symm)))
  · refine vv_iconst (v := nI 1) X dJ1_isEmpty_11 (by decide) ?_
    refine vv_goto (tgt := 16) X dJ1_isEmpty_12 (by decide) ?_
    exact vv_zret X (rfl) hQ dJ1_isEmpty_16 (Nat.le_of_ble_eq_true rfl) (Nat.le_of_ble_eq_true rfl) (pq (b2_1 (Eq.symm c_8)))
theorem nJ1_addLast : notMH yJ1_addLast 1 := by decide +kernel
set_option maxHeartbeats 800000 in
theorem mJ1_addLast (l : Launch) (D : DD) (b a h t : Nat) (F : Nat → Option Nat) (x : Nat) (w0 w1 w2 w3 w4 w5 w6 w7 : Value) (hh : h < 17) (ht : t < 17) (hn : (t + 1) % 17 ≠ h) (hka : KN D a) : Ct l yJ1_addLast cJ1_addLast 3 none { frames := 2, cells := 0, slots := 0, locals := 33 } D [.ref b, .ref x] (fun H => KH D H ∧ oB D H b 10 [.ref a, .int (nI h), .int (nI t)] ∧ qA D H a 9 17 F ∧ oB D H x 2 [w0, w1, w2, w3, w4, w5, w6, w7]) (fun q => q = b ∨ q = a) (fun r H H1 => r = none ∧ oB D H1 b 10 [.ref a, .int (nI h), .int (nI ((t + 1) % 17))] ∧ qA D H1 a 9 17 (va_up F t (some x))) := by
  refine Ct.of (by decide +kernel) (Nat.le_of_ble_eq_true rfl) (fun K Qf hkl X hM hQ => ?_)
  subst hkl
  obtain ⟨hK, hd, he, hx⟩ := hM
  have hz : (kS K).heap.size ≤ (kS K).heap.size := Nat.le_refl _
  refine vv_sub (lv' := [(0, .ref b), (1, .ref x)]) [0, 1] rfl ?_
  refine vv_aload_n X dJ1_addLast_0 rfl 1 rfl ?_
  refine vv_ifnonnull (tgt := 12) X dJ1_addLast_1 (by decide) ?_
  refine vv_aload_n X dJ1_addLast_12 rfl 0 rfl ?_
  refine vv_getf (C := RJ1) (T := TJ1) (N := 3) (ref := "java/util/ArrayDeque") X hd in_J1 CL_J1 0 (by decide) q210 rfl rfl dJ1_addLast_13 ?_
  refine vv_astore_n (lv' := [(2, .ref a), (0, .ref b), (1, .ref x)]) X dJ1_addLast_16 rfl (by decide) rfl ?_
  refine vv_aload_n X dJ1_addLast_17 rfl 0 rfl ?_
  refine vv_aload_n X dJ1_addLast_18 rfl 1 rfl ?_
  refine vv_getf (C := RJ1) (T := TJ1) (N := 3) (ref := "java/util/ArrayDeque") X hd in_J1 CL_J1 2 (by decide) q212 rfl rfl dJ1_addLast_19 ?_
  refine vv_aload_n X dJ1_addLast_22 rfl 2 rfl ?_
  refine vv_aast (ty := 9) (C := "java/lang/Object") (Cv := "AcousticCamera$State") X he rfl (t) (by omega) (by omega) rfl (recv X hx CL_X3) (Or.inr q3662) (Or.inl (Or.inr rfl)) dJ1_addLast_23 (fun H hc ho => ?_)
  have k_0 := hd.kept (hc.2 _ (X.oa hd he CL_J1 rfl))
  have k_1 := hx.kept (hc.2 _ (X.oa hx he CL_X3 rfl))
  replace hK := hK.ch hc hka
  clear hd
  have hd := k_0
  clear k_0
  clear hx
  have hx := k_1
  clear k_1
  replace hz := Nat.le_trans hz (Nat.le_of_eq hc.1.symm)
  clear he
  have he : qA D H a 9 17 (va_up F t (some x)) := ho
  clear hc ho
  refine vv_aload_n X dJ1_addLast_24 rfl 1 rfl ?_
  refine vv_getf (C := RJ1) (T := TJ1) (N := 3) (ref := "java/util/ArrayDeque") X hd in_J1 CL_J1 1 (by decide) q211 rfl rfl dJ1_addLast_25 ?_
  refine vv_aload_n X dJ1_addLast_28 rfl 1 rfl ?_
  refine vv_aload_n X dJ1_addLast_29 rfl 1 rfl ?_
  refine vv_getf (C := RJ1) (T := TJ1) (N := 3) (ref := "java/util/ArrayDeque") X hd in_J1 CL_J1 2 (by decide) q212 rfl rfl dJ1_addLast_30 ?_
  refine vv_aload_n X dJ1_addLast_33 rfl 0 rfl ?_
  refine vv_alen (ty := 9) X he rfl dJ1_addLast_34 ?_
  refine vv_callSp X (mJ1_inc (kL K) D t (by omega)) q2781 q2782 q139 q2783 nJ1_inc ⟨(Nat.le_of_ble_eq_true rfl), (Nat.le_of_ble_eq_true rfl)⟩ dJ1_addLast_35 rfl (Nat.le_of_ble_eq_true rfl) trivial ⟨(Nat.le_of_ble_eq_true rfl), (Nat.le_of_ble_eq_true rfl)⟩ ?_
  refine vv_dup_x1 X dJ1_addLast_38 rfl rfl ?_
  refine vv_putf (C := RJ1) (T := TJ1) (N := 3) (ref := "java/util/ArrayDeque") X hd in_J1 CL_J1 tyJ1 tyJ1_ok nmJ1 2 (by decide) q212 rfl rfl rfl rfl (Nat.le_of_ble_eq_true rfl) (Or.inl (Or.inl rfl)) dJ1_addLast_39 (fun H hc ho => ?_)
  have k_0 := he.kept (hc.2 _ (X.ao he hd CL_J1 rfl))
  have k_1 := hx.kept (hc.2 _ (X.oo hx hd CL_X3 CL_J1 (by decide)))
  replace hK := hK.ch hc (X.ko hK hd CL_J1 (by decide) (by decide))
  clear he
  have he := k_0
  clear k_0
  clear hx
  have hx := k_1
  clear k_1
  replace hz := Nat.le_trans hz (Nat.le_of_eq hc.1.symm)
  clear hd
  have hd : oB D H b 10 [.ref a, .int (nI h), .int (nI ((t + 1) % 17))] := ho
  clear hc ho
  refine vn_ne (tgt := 50) X (by omega) (by omega) dJ1_addLast_42 (by decide) (fun c_42 => ?_) (fun c_42 => ?_)
  · exact vv_vret X hQ dJ1_addLast_50 (Nat.le_of_ble_eq_true rfl) (Nat.le_of_ble_eq_true rfl) (⟨rfl, hd, he⟩)
  · exact absurd (Eq.symm (by first | exact c_42 | exact Decidable.not_not.mp c_42)) hn
theorem nJ1_pollFirst : notMH yJ1_pollFirst 0 := by decide +kernel
set_option maxHeartbeats 800000 in
theorem mJ1_pollFirst (l : Launch) (D : DD) (b a h t : Nat) (F : Nat → Option Nat) (x : Nat) (hh : h < 17) (ht : t < 17) (hx : F h = some x) (hka : KN D a) : Ct l yJ1_pollFirst cJ1_pollFirst 4 (some (.object "java/lang/Object")) { frames := 2, cells := 0, slots := 0, locals := 33 } D [.ref b] (fun H => KH D H ∧ oB D H b 10 [.ref a, .int (nI h), .int (nI t)] ∧ qA D H a 9 17 F) (fun q => q = b ∨ q = a) (fun r H H1 => r = some (.ref x) ∧ oB D H1 b 10 [.ref a, .int (nI ((h + 1) % 17)), .int (nI t)] ∧ qA D H1 a 9 17 (va_up F h none)) := by
  refine Ct.of (by decide +kernel) (Nat.le_of_ble_eq_true rfl) (fun K Qf hkl X hM hQ => ?_)
  subst hkl
  obtain ⟨hK, hd, he⟩ := hM
  have hz : (kS K).heap.size ≤ (kS K).heap.size := Nat.le_refl _
  refine vv_sub (lv' := [(0, .ref b)]) [0] rfl ?_
  refine vv_aload_n X dJ1_pollFirst_0 rfl 0 rfl ?_
  refine vv_getf (C := RJ1) (T := TJ1) (N := 3) (ref := "java/util/ArrayDeque") X hd in_J1 CL_J1 0 (by decide) q210 rfl rfl dJ1_pollFirst_1 ?_
  refine vv_dup X dJ1_pollFirst_4 rfl ?_
  refine vv_astore_n (lv' := [(1, .ref a), (0, .ref b)]) X dJ1_pollFirst_5 rfl (by decide) rfl ?_
  refine vv_aload_n X dJ1_pollFirst_6 rfl 1 rfl ?_
  refine vv_getf (C := RJ1) (T := TJ1) (N := 3) (ref := "java/util/ArrayDeque") X hd in_J1 CL_J1 1 (by decide) q211 rfl rfl dJ1_pollFirst_7 ?_
  refine vv_dup X dJ1_pollFirst_10 rfl ?_
  refine vv_istore_n (lv' := [(2, .int (nI h)), (1, .ref a), (0, .ref b)]) X dJ1_pollFirst_11 rfl (by decide) rfl ?_
  refine vv_callSp X (mJ1_elementAt (kL K) D a h x _ (by omega) hx) q2778 q2779 q139 q2780 nJ1_elementAt ⟨(Nat.le_of_ble_eq_true rfl), (Nat.le_of_ble_eq_true rfl)⟩ dJ1_pollFirst_12 rfl (Nat.le_of_ble_eq_true rfl) he ⟨(Nat.le_of_ble_eq_true rfl), (Nat.le_of_ble_eq_true rfl)⟩ ?_
  refine vv_astore_n (lv' := [(3, .ref x), (2, .int (nI h)), (1, .ref a), (0, .ref b)]) X dJ1_pollFirst_15 rfl (by decide) rfl ?_
  refine vv_aload_n X dJ1_pollFirst_16 rfl 0 rfl ?_
  refine vv_ifnull X dJ1_pollFirst_17 ?_
  refine vv_aload_n X dJ1_pollFirst_20 rfl 2 rfl ?_
  refine vv_iload_n X dJ1_pollFirst_21 rfl 1 rfl ?_
  refine vv_null X dJ1_pollFirst_22 ?_
  refine vv_aastN (ty := 9) X he rfl (h) (by omega) (by omega) rfl (Or.inl (Or.inr rfl)) dJ1_pollFirst_23 (fun H hc ho => ?_)
  have k_0 := hd.kept (hc.2 _ (X.oa hd he CL_J1 rfl))
  replace hK := hK.ch hc hka
  clear hd
  have hd := k_0
  clear k_0
  replace hz := Nat.le_trans hz (Nat.le_of_eq hc.1.symm)
  clear he
  have he : qA D H a 9 17 (va_up F h none) := ho
  clear hc ho
  refine vv_aload_n X dJ1_pollFirst_24 rfl 3 rfl ?_
  refine vv_iload_n X dJ1_pollFirst_25 rfl 1 rfl ?_
  refine vv_aload_n X dJ1_pollFirst_26 rfl 2 rfl ?_
  refine vv_alen (ty := 9) X he rfl dJ1_pollFirst_27 ?_
  refine vv_callSp X (mJ1_inc (kL K) D h (by omega)) q2781 q2782 q139 q2783 nJ1_inc ⟨(Nat.le_of_ble_eq_true rfl), (Nat.le_of_ble_eq_true rfl)⟩ dJ1_pollFirst_28 rfl (Nat.le_of_ble_eq_true rfl) trivial ⟨(Nat.le_of_ble_eq_true rfl), (Nat.le_of_ble_eq_true rfl)⟩ ?_
  refine vv_putf (C := RJ1) (T := TJ1) (N := 3) (ref := "java/util/ArrayDeque") X hd in_J1 CL_J1 tyJ1 tyJ1_ok nmJ1 1 (by decide) q211 rfl rfl rfl rfl (Nat.le_of_ble_eq_true rfl) (Or.inl (Or.inl rfl)) dJ1_pollFirst_31 (fun H hc ho => ?_)
  have k_0 := he.kept (hc.2 _ (X.ao he hd CL_J1 rfl))
  replace hK := hK.ch hc (X.ko hK hd CL_J1 (by decide) (by decide))
  clear he
  have he := k_0
  clear k_0
  replace hz := Nat.le_trans hz (Nat.le_of_eq hc.1.symm)
  clear hd
  have hd : oB D H b 10 [.ref a, .int (nI ((h + 1) % 17)), .int (nI t)] := ho
  clear hc ho
  refine vv_aload_n X dJ1_pollFirst_34 rfl 0 rfl ?_
  exact vv_aret X (Or.inl ⟨_, rfl⟩) (Or.inr ⟨_, rfl⟩) hQ dJ1_pollFirst_35 (Nat.le_of_ble_eq_true rfl) (Nat.le_of_ble_eq_true rfl) (⟨rfl, hd, he⟩)
theorem nJ1_removeFirst : notMH yJ1_removeFirst 0 := by decide +kernel
set_option maxHeartbeats 800000 in
theorem mJ1_removeFirst (l : Launch) (D : DD) (b a h t : Nat) (F : Nat → Option Nat) (x : Nat) (hh : h < 17) (ht : t < 17) (hx : F h = some x) (hka : KN D a) : Ct l yJ1_removeFirst cJ1_removeFirst 2 (some (.object "java/lang/Object")) { frames := 3, cells := 0, slots := 0, locals := 56 } D [.ref b] (fun H => KH D H ∧ oB D H b 10 [.ref a, .int (nI h), .int (nI t)] ∧ qA D H a 9 17 F) (fun q => q = b ∨ q = a) (fun r H H1 => r = some (.ref x) ∧ oB D H1 b 10 [.ref a, .int (nI ((h + 1) % 17)), .int (nI t)] ∧ qA D H1 a 9 17 (va_up F h none)) := by
  refine Ct.of (by decide +kernel) (Nat.le_of_ble_eq_true rfl) (fun K Qf hkl X hM hQ => ?_)
  subst hkl
  obtain ⟨hK, hd, he⟩ := hM
  have hz : (kS K).heap.size ≤ (kS K).heap.size := Nat.le_refl _
  refine vv_sub (lv' := [(0, .ref b)]) [0] rfl ?_
  refine vv_aload_n X dJ1_removeFirst_0 rfl 0 rfl ?_
  refine vv_callV X (mJ1_pollFirst (kL K) D b a h t F x hh ht hx hka) q2774 q2775 q2776 q139 q2777 nJ1_pollFirst ⟨(Nat.le_of_ble_eq_true rfl), (Nat.le_of_ble_eq_true rfl)⟩ dJ1_removeFirst_1 rfl (Nat.le_of_ble_eq_true rfl) (recv X hd CL_J1) ⟨hK, hd, he⟩ (fun q z => by rcases z with rfl | rfl; exact (Or.inl (Or.inl rfl)); exact (Or.inl (Or.inr rfl))) ⟨(Nat.le_of_ble_eq_true rfl), (Nat.le_of_ble_eq_true rfl)⟩ (fun v_ H hq hz_ hk => ?_)
  obtain ⟨rfl, hd2, he2⟩ := hq
  replace hK := hK.to hk (fun q z => by rcases z with rfl | rfl; exact (X.ko hK hd CL_J1 (by decide) (by decide)); exact hka)
  replace hz := Nat.le_trans hz hz_
  clear hd he hk hz_
  have hd := hd2
  have he := he2
  clear hd2 he2
  refine vv_astore_n (lv' := [(1, .ref x), (0, .ref b)]) X dJ1_removeFirst_4 rfl (by decide) rfl ?_
  refine vv_aload_n X dJ1_removeFirst_5 rfl 0 rfl ?_
  refine vv_ifnonnull (tgt := 17) X dJ1_removeFirst_6 (by decide) ?_
  refine vv_aload_n X dJ1_removeFirst_17 rfl 0 rfl ?_
  exact vv_aret X (Or.inl ⟨_, rfl⟩) (Or.inr ⟨_, rfl⟩) hQ dJ1_removeFirst_18 (Nat.le_of_ble_eq_true rfl) (Nat.le_of_ble_eq_true rfl) (⟨rfl, hd, he⟩)
theorem nJ1_pollLast : notMH yJ1_pollLast 0 := by decide +kernel
set_option maxHeartbeats 800000 in
theorem mJ1_pollLast (l : Launch) (D : DD) (b a h t : Nat) (F : Nat → Option Nat) (x : Nat) (hh : h < 17) (ht : t < 17) (hx : F ((t + 16) % 17) = some x) (hka : KN D a) : Ct l yJ1_pollLast cJ1_pollLast 4 (some (.object "java/lang/Object")) { frames := 2, cells := 0, slots := 0, locals := 33 } D [.ref b] (fun H => KH D H ∧ oB D H b 10 [.ref a, .int (nI h), .int (nI t)] ∧ qA D H a 9 17 F) (fun q => q = b ∨ q = a) (fun r H H1 => r = some (.ref x) ∧ oB D H1 b 10 [.ref a, .int (nI h), .int (nI ((t + 16) % 17))] ∧ qA D H1 a 9 17 (va_up F ((t + 16) % 17) none)) := by
  refine Ct.of (by decide +kernel) (Nat.le_of_ble_eq_true rfl) (fun K Qf hkl X hM hQ => ?_)
  subst hkl
  obtain ⟨hK, hd, he⟩ := hM
  have hz : (kS K).heap.size ≤ (kS K).heap.size := Nat.le_refl _
  refine vv_sub (lv' := [(0, .ref b)]) [0] rfl ?_
  refine vv_aload_n X dJ1_pollLast_0 rfl 0 rfl ?_
  refine vv_getf (C := RJ1) (T := TJ1) (N := 3) (ref := "java/util/ArrayDeque") X hd in_J1 CL_J1 0 (by decide) q210 rfl rfl dJ1_pollLast_1 ?_
  refine vv_dup X dJ1_pollLast_4 rfl ?_
  refine vv_astore_n (lv' := [(1, .ref a), (0, .ref b)]) X dJ1_pollLast_5 rfl (by decide) rfl ?_
  refine vv_aload_n X dJ1_pollLast_6 rfl 1 rfl ?_
  refine vv_getf (C := RJ1) (T := TJ1) (N := 3) (ref := "java/util/ArrayDeque") X hd in_J1 CL_J1 2 (by decide) q212 rfl rfl dJ1_pollLast_7 ?_
  refine vv_aload_n X dJ1_pollLast_10 rfl 0 rfl ?_
  refine vv_alen (ty := 9) X he rfl dJ1_pollLast_11 ?_
  refine vv_callSp X (mJ1_dec (kL K) D t (by omega)) q2888 q2889 q139 q2890 nJ1_dec ⟨(Nat.le_of_ble_eq_true rfl), (Nat.le_of_ble_eq_true rfl)⟩ dJ1_pollLast_12 rfl (Nat.le_of_ble_eq_true rfl) trivial ⟨(Nat.le_of_ble_eq_true rfl), (Nat.le_of_ble_eq_true rfl)⟩ ?_
  refine vv_dup X dJ1_pollLast_15 rfl ?_
  refine vv_istore_n (lv' := [(2, .int (nI ((t + 16) % 17))), (1, .ref a), (0, .ref b)]) X dJ1_pollLast_16 rfl (by decide) rfl ?_
  refine vv_callSp X (mJ1_elementAt (kL K) D a ((t + 16) % 17) x _ (by omega) hx) q2778 q2779 q139 q2780 nJ1_elementAt ⟨(Nat.le_of_ble_eq_true rfl), (Nat.le_of_ble_eq_true rfl)⟩ dJ1_pollLast_17 rfl (Nat.le_of_ble_eq_true rfl) he ⟨(Nat.le_of_ble_eq_true rfl), (Nat.le_of_ble_eq_true rfl)⟩ ?_
  refine vv_astore_n (lv' := [(3, .ref x), (2, .int (nI ((t + 16) % 17))), (1, .ref a), (0, .ref b)]) X dJ1_pollLast_20 rfl (by decide) rfl ?_
  refine vv_aload_n X dJ1_pollLast_21 rfl 0 rfl ?_
  refine vv_ifnull X dJ1_pollLast_22 ?_
  refine vv_aload_n X dJ1_pollLast_25 rfl 2 rfl ?_
  refine vv_aload_n X dJ1_pollLast_26 rfl 3 rfl ?_
  refine vv_iload_n X dJ1_pollLast_27 rfl 1 rfl ?_
  refine vv_dup_x1 X dJ1_pollLast_28 rfl rfl ?_
  refine vv_putf (C := RJ1) (T := TJ1) (N := 3) (ref := "java/util/ArrayDeque") X hd in_J1 CL_J1 tyJ1 tyJ1_ok nmJ1 2 (by decide) q212 rfl rfl rfl rfl (Nat.le_of_ble_eq_true rfl) (Or.inl (Or.inl rfl)) dJ1_pollLast_29 (fun H hc ho => ?_)
  have k_0 := he.kept (hc.2 _ (X.ao he hd CL_J1 rfl))
  replace hK := hK.ch hc (X.ko hK hd CL_J1 (by decide) (by decide))
  clear he
  have he := k_0
  clear k_0
  replace hz := Nat.le_trans hz (Nat.le_of_eq hc.1.symm)
  clear hd
  have hd : oB D H b 10 [.ref a, .int (nI h), .int (nI ((t + 16) % 17))] := ho
  clear hc ho
  refine vv_null X dJ1_pollLast_32 ?_
  refine vv_aastN (ty := 9) X he rfl ((t + 16) % 17) (by omega) (by omega) rfl (Or.inl (Or.inr rfl)) dJ1_pollLast_33 (fun H hc ho => ?_)
  have k_0 := hd.kept (hc.2 _ (X.oa hd he CL_J1 rfl))
  replace hK := hK.ch hc hka
  clear hd
  have hd := k_0
  clear k_0
  replace hz := Nat.le_trans hz (Nat.le_of_eq hc.1.symm)
  clear he
  have he : qA D H a 9 17 (va_up F ((t + 16) % 17) none) := ho
  clear hc ho
  refine vv_aload_n X dJ1_pollLast_34 rfl 0 rfl ?_
  exact vv_aret X (Or.inl ⟨_, rfl⟩) (Or.inr ⟨_, rfl⟩) hQ dJ1_pollLast_35 (Nat.le_of_ble_eq_true rfl) (Nat.le_of_ble_eq_true rfl) (⟨rfl, hd, he⟩)
theorem nJ1_removeLast : notMH yJ1_removeLast 0 := by decide +kernel
set_option maxHeartbeats 800000 in
theorem mJ1_removeLast (l : Launch) (D : DD) (b a h t : Nat) (F : Nat → Option Nat) (x : Nat) (hh : h < 17) (ht : t < 17) (hx : F ((t + 16) % 17) = some x) (hka : KN D a) : Ct l yJ1_removeLast cJ1_removeLast 2 (some (.object "java/lang/Object")) { frames := 3, cells := 0, slots := 0, locals := 56 } D [.ref b] (fun H => KH D H ∧ oB D H b 10 [.ref a, .int (nI h), .int (nI t)] ∧ qA D H a 9 17 F) (fun q => q = b ∨ q = a) (fun r H H1 => r = some (.ref x) ∧ oB D H1 b 10 [.ref a, .int (nI h), .int (nI ((t + 16) % 17))] ∧ qA D H1 a 9 17 (va_up F ((t + 16) % 17) none)) := by
  refine Ct.of (by decide +kernel) (Nat.le_of_ble_eq_true rfl) (fun K Qf hkl X hM hQ => ?_)
  subst hkl
  obtain ⟨hK, hd, he⟩ := hM
  have hz : (kS K).heap.size ≤ (kS K).heap.size := Nat.le_refl _
  refine vv_sub (lv' := [(0, .ref b)]) [0] rfl ?_
  refine vv_aload_n X dJ1_removeLast_0 rfl 0 rfl ?_
  refine vv_callV X (mJ1_pollLast (kL K) D b a h t F x hh ht hx hka) q2884 q2885 q2886 q139 q2887 nJ1_pollLast ⟨(Nat.le_of_ble_eq_true rfl), (Nat.le_of_ble_eq_true rfl)⟩ dJ1_removeLast_1 rfl (Nat.le_of_ble_eq_true rfl) (recv X hd CL_J1) ⟨hK, hd, he⟩ (fun q z => by rcases z with rfl | rfl; exact (Or.inl (Or.inl rfl)); exact (Or.inl (Or.inr rfl))) ⟨(Nat.le_of_ble_eq_true rfl), (Nat.le_of_ble_eq_true rfl)⟩ (fun v_ H hq hz_ hk => ?_)
  obtain ⟨rfl, hd2, he2⟩ := hq
  replace hK := hK.to hk (fun q z => by rcases z with rfl | rfl; exact (X.ko hK hd CL_J1 (by decide) (by decide)); exact hka)
  replace hz := Nat.le_trans hz hz_
  clear hd he hk hz_
  have hd := hd2
  have he := he2
  clear hd2 he2
  refine vv_astore_n (lv' := [(1, .ref x), (0, .ref b)]) X dJ1_removeLast_4 rfl (by decide) rfl ?_
  refine vv_aload_n X dJ1_removeLast_5 rfl 0 rfl ?_
  refine vv_ifnonnull (tgt := 17) X dJ1_removeLast_6 (by decide) ?_
  refine vv_aload_n X dJ1_removeLast_17 rfl 0 rfl ?_
  exact vv_aret X (Or.inl ⟨_, rfl⟩) (Or.inr ⟨_, rfl⟩) hQ dJ1_removeLast_18 (Nat.le_of_ble_eq_true rfl) (Nat.le_of_ble_eq_true rfl) (⟨rfl, hd, he⟩)
theorem nJ1_circularClear : notMH yJ1_circularClear 3 := by decide +kernel
set_option maxHeartbeats 800000 in
theorem mJ1_circularClear (l : Launch) (D : DD) (a h t : Nat) (F : Nat → Option Nat) (hh : h < 17) (ht : t < 17) (hka : KN D a) : Ct l yJ1_circularClear cJ1_circularClear 4 none { frames := 1, cells := 0, slots := 0, locals := 12 } D [.ref a, .int (nI h), .int (nI t)] (fun H => KH D H ∧ qA D H a 9 17 F) (fun q => q = a) (fun r H H1 => r = none ∧ ∃ F2, qA D H1 a 9 17 F2) := by
  refine Ct.of (by decide +kernel) (Nat.le_of_ble_eq_true rfl) (fun K Qf hkl X hM hQ => ?_)
  subst hkl
  obtain ⟨hK, he⟩ := hM
  have hz : (kS K).heap.size ≤ (kS K).heap.size := Nat.le_refl _
  refine vv_sub (lv' := [(0, .ref a), (1, .int (nI h)), (2, .int (nI t))]) [0, 1, 2] rfl ?_
  refine vv_iload_n X dJ1_circularClear_0 rfl 1 rfl ?_
  refine vv_iload_n X dJ1_circularClear_1 rfl 2 rfl ?_
  refine vn_gt (tgt := 9) X (by omega) (by omega) dJ1_circularClear_2 (by decide) (fun c_2 => ?_) (fun c_2 => ?_)
  · refine vv_aload_n X dJ1_circularClear_9 rfl 0 rfl ?_
    refine vv_alen (ty := 9) X he rfl dJ1_circularClear_10 ?_
    refine vv_istore_n (lv' := [(3, .int (nI 17)), (0, .ref a), (1, .int (nI h)), (2, .int (nI t))]) X dJ1_circularClear_11 rfl (by decide) rfl ?_
    have hx_1 : ∀ (H : Heap) (F : Nat → Option Nat) (hK : KH D H) (he : qA D H a 9 17 F) (hz : (kS K).heap.size ≤ H.size) (hil : 17 ≤ 17), V K 4 (fun q => q = a) H 0 0 Qf 27 [(0, .ref a), (1, .int (nI 17)), (2, .int (nI t)), (3, .int (nI 17))] [] := by
      intro H F hK he hz hil
      refine vv_iload_n X dJ1_circularClear_27 rfl 3 rfl ?_
      refine vv_iload_n X dJ1_circularClear_28 rfl 2 rfl ?_
      refine vn_ne (tgt := 35) X (by omega) (by omega) dJ1_circularClear_29 (by decide) (fun c_29 => ?_) (fun c_29 => ?_)
      · refine vv_iconst (v := nI 0) X dJ1_circularClear_35 (by decide) ?_
        refine vv_istore_n (lv' := [(1, .int (nI 0)), (0, .ref a), (2, .int (nI t)), (3, .int (nI 17))]) X dJ1_circularClear_36 rfl (by decide) rfl ?_
        refine vv_iload_n X dJ1_circularClear_37 rfl 2 rfl ?_
        refine vv_istore_n (lv' := [(3, .int (nI t)), (1, .int (nI 0)), (0, .ref a), (2, .int (nI t))]) X dJ1_circularClear_38 rfl (by decide) rfl ?_
        refine vv_goto (tgt := 12) X dJ1_circularClear_39 (by decide) ?_
        have hx_2 : ∀ (H : Heap) (F : Nat → Option Nat) (hK : KH D H) (he : qA D H a 9 17 F) (hz : (kS K).heap.size ≤ H.size) (hil : t ≤ t), V K 4 (fun q => q = a) H 0 0 Qf 27 [(0, .ref a), (1, .int (nI t)), (2, .int (nI t)), (3, .int (nI t))] [] := by
          intro H F hK he hz hil
          refine vv_iload_n X dJ1_circularClear_27 rfl 3 rfl ?_
          refine vv_iload_n X dJ1_circularClear_28 rfl 2 rfl ?_
          refine vn_ne (tgt := 35) X (by omega) (by omega) dJ1_circularClear_29 (by decide) (fun c_29 => ?_) (fun c_29 => ?_)
          · exact absurd rfl c_29
          · refine vv_goto (tgt := 42) X dJ1_circularClear_32 (by decide) ?_
            exact vv_vret X hQ dJ1_circularClear_42 (Nat.le_of_ble_eq_true rfl) (Nat.le_of_ble_eq_true rfl) (⟨rfl, _, he⟩)
        have hl_3 : ∀ (n_i i : Nat) (H : Heap) (F : Nat → Option Nat), i + n_i = t → (KH D H) → (qA D H a 9 17 F) → ((kS K).heap.size ≤ H.size) → (i ≤ t) → V K 4 (fun q => q = a) H 0 0 Qf 12 [(0, .ref a), (1, .int (nI i)), (2, .int (nI t)), (3, .int (nI t))] [] := by
          intro n_i
          induction n_i with
          | zero =>
            intro i H F hi hK he hz hil
            obtain rfl : i = t := by omega
            refine vv_iload_n X dJ1_circularClear_12 rfl 1 rfl ?_
            refine vv_iload_n X dJ1_circularClear_13 rfl 3 rfl ?_
            refine vn_ge (tgt := 27) X (by omega) (by omega) dJ1_circularClear_14 (by decide) (fun c_14 => ?_) (fun c_14 => ?_)
            · exact hx_2 H F hK he hz hil
            · exact absurd c_14 (by omega)
          | succ n_i ihi =>
            intro i H F hi hK he hz hil
            refine vv_iload_n X dJ1_circularClear_12 rfl 1 rfl ?_
            refine vv_iload_n X dJ1_circularClear_13 rfl 3 rfl ?_
            refine vn_ge (tgt := 27) X (by omega) (by omega) dJ1_circularClear_14 (by decide) (fun c_14 => ?_) (fun c_14 => ?_)
            · exact absurd hi (by omega)
            · refine vv_aload_n X dJ1_circularClear_17 rfl 0 rfl ?_
              refine vv_iload_n X dJ1_circularClear_18 rfl 1 rfl ?_
              refine vv_null X dJ1_circularClear_19 ?_
              refine vv_aastN (ty := 9) X he rfl (i) (by omega) (by omega) rfl (Or.inl rfl) dJ1_circularClear_20 (fun H hc ho => ?_)
              replace hK := hK.ch hc hka
              replace hz := Nat.le_trans hz (Nat.le_of_eq hc.1.symm)
              clear he
              have he : qA D H a 9 17 (va_up F i none) := ho
              clear hc ho
              refine vv_iinc (v := nI (i + 1)) (lv' := [(1, .int (nI (i + 1))), (0, .ref a), (2, .int (nI t)), (3, .int (nI t))]) X dJ1_circularClear_21 (k := 1) rfl (nI_add _ 1) (by decide) rfl ?_
              refine vv_goto (tgt := 12) X dJ1_circularClear_24 (by decide) ?_
              refine vv_sub [1, 0, 2, 3] rfl ?_
              exact ihi (i + 1) H (va_up F i none) (by omega) (hK) (he) (hz) (by omega)
        refine vv_sub [2, 1, 3, 0] rfl ?_
        exact hl_3 (t) 0 H F (by first | omega | assumption) (hK) (he) (hz) (by omega)
      · exact absurd c_29 (by omega)
    have hl_4 : ∀ (n_i i : Nat) (H : Heap) (F : Nat → Option Nat), i + n_i = 17 → (KH D H) → (qA D H a 9 17 F) → ((kS K).heap.size ≤ H.size) → (i ≤ 17) → V K 4 (fun q => q = a) H 0 0 Qf 12 [(0, .ref a), (1, .int (nI i)), (2, .int (nI t)), (3, .int (nI 17))] [] := by
      intro n_i
      induction n_i with
      | zero =>
        intro i H F hi hK he hz hil
        obtain rfl : i = 17 := by omega
        refine vv_iload_n X dJ1_circularClear_12 rfl 1 rfl ?_
        refine vv_iload_n X dJ1_circularClear_13 rfl 3 rfl ?_
        refine vn_ge (tgt := 27) X (by omega) (by omega) dJ1_circularClear_14 (by decide) (fun c_14 => ?_) (fun c_14 => ?_)
        · exact hx_1 H F hK he hz hil
        · exact absurd c_14 (by omega)
      | succ n_i ihi =>
        intro i H F hi hK he hz hil
        refine vv_iload_n X dJ1_circularClear_12 rfl 1 rfl ?_
        refine vv_iload_n X dJ1_circularClear_13 rfl 3 rfl ?_
        refine vn_ge (tgt := 27) X (by omega) (by omega) dJ1_circularClear_14 (by decide) (fun c_14 => ?_) (fun c_14 => ?_)
        · exact absurd hi (by omega)
        · refine vv_aload_n X dJ1_circularClear_17 rfl 0 rfl ?_
          refine vv_iload_n X dJ1_circularClear_18 rfl 1 rfl ?_
          refine vv_null X dJ1_circularClear_19 ?_
          refine vv_aastN (ty := 9) X he rfl (i) (by omega) (by omega) rfl (Or.inl rfl) dJ1_circularClear_20 (fun H hc ho => ?_)
          replace hK := hK.ch hc hka
          replace hz := Nat.le_trans hz (Nat.le_of_eq hc.1.symm)
          clear he
          have he : qA D H a 9 17 (va_up F i none) := ho
          clear hc ho
          refine vv_iinc (v := nI (i + 1)) (lv' := [(1, .int (nI (i + 1))), (0, .ref a), (2, .int (nI t)), (3, .int (nI 17))]) X dJ1_circularClear_21 (k := 1) rfl (nI_add _ 1) (by decide) rfl ?_
          refine vv_goto (tgt := 12) X dJ1_circularClear_24 (by decide) ?_
          refine vv_sub [1, 0, 2, 3] rfl ?_
          exact ihi (i + 1) H (va_up F i none) (by omega) (hK) (he) (hz) (by omega)
    refine vv_sub [1, 2, 3, 0] rfl ?_
    exact hl_4 (17 - (h)) h ((kS K).heap) F (by first | omega | assumption) (hK) (he) (hz) (by omega)
  · refine vv_iload_n X dJ1_circularClear_5 rfl 2 rfl ?_
    refine vv_goto (tgt := 11) X dJ1_circularClear_6 (by decide) ?_
    refine vv_istore_n (lv' := [(3, .int (nI t)), (0, .ref a), (1, .int (nI h)), (2, .int (nI t))]) X dJ1_circularClear_11 rfl (by decide) rfl ?_
    have hx_5 : ∀ (H : Heap) (F : Nat → Option Nat) (hK : KH D H) (he : qA D H a 9 17 F) (hz : (kS K).heap.size ≤ H.size) (hil : t ≤ t), V K 4 (fun q => q = a) H 0 0 Qf 27 [(0, .ref a), (1, .int (nI t)), (2, .int (nI t)), (3, .int (nI t))] [] := by
      intro H F hK he hz hil
      refine vv_iload_n X dJ1_circularClear_27 rfl 3 rfl ?_
      refine vv_iload_n X dJ1_circularClear_28 rfl 2 rfl ?_
      refine vn_ne (tgt := 35) X (by omega) (by omega) dJ1_circularClear_29 (by decide) (fun c_29 => ?_) (fun c_29 => ?_)
      · exact absurd rfl c_29
      · refine vv_goto (tgt := 42) X dJ1_circularClear_32 (by decide) ?_
        exact vv_vret X hQ dJ1_circularClear_42 (Nat.le_of_ble_eq_true rfl) (Nat.le_of_ble_eq_true rfl) (⟨rfl, _, he⟩)
    have hl_6 : ∀ (n_i i : Nat) (H : Heap) (F : Nat → Option Nat), i + n_i = t → (KH D H) → (qA D H a 9 17 F) → ((kS K).heap.size ≤ H.size) → (i ≤ t) → V K 4 (fun q => q = a) H 0 0 Qf 12 [(0, .ref a), (1, .int (nI i)), (2, .int (nI t)), (3, .int (nI t))] [] := by
      intro n_i
      induction n_i with
      | zero =>
        intro i H F hi hK he hz hil
        obtain rfl : i = t := by omega
        refine vv_iload_n X dJ1_circularClear_12 rfl 1 rfl ?_
        refine vv_iload_n X dJ1_circularClear_13 rfl 3 rfl ?_
        refine vn_ge (tgt := 27) X (by omega) (by omega) dJ1_circularClear_14 (by decide) (fun c_14 => ?_) (fun c_14 => ?_)
        · exact hx_5 H F hK he hz hil
        · exact absurd c_14 (by omega)
      | succ n_i ihi =>
        intro i H F hi hK he hz hil
        refine vv_iload_n X dJ1_circularClear_12 rfl 1 rfl ?_
        refine vv_iload_n X dJ1_circularClear_13 rfl 3 rfl ?_
        refine vn_ge (tgt := 27) X (by omega) (by omega) dJ1_circularClear_14 (by decide) (fun c_14 => ?_) (fun c_14 => ?_)
        · exact absurd hi (by omega)
        · refine vv_aload_n X dJ1_circularClear_17 rfl 0 rfl ?_
          refine vv_iload_n X dJ1_circularClear_18 rfl 1 rfl ?_
          refine vv_null X dJ1_circularClear_19 ?_
          refine vv_aastN (ty := 9) X he rfl (i) (by omega) (by omega) rfl (Or.inl rfl) dJ1_circularClear_20 (fun H hc ho => ?_)
          replace hK := hK.ch hc hka
          replace hz := Nat.le_trans hz (Nat.le_of_eq hc.1.symm)
          clear he
          have he : qA D H a 9 17 (va_up F i none) := ho
          clear hc ho
          refine vv_iinc (v := nI (i + 1)) (lv' := [(1, .int (nI (i + 1))), (0, .ref a), (2, .int (nI t)), (3, .int (nI t))]) X dJ1_circularClear_21 (k := 1) rfl (nI_add _ 1) (by decide) rfl ?_
          refine vv_goto (tgt := 12) X dJ1_circularClear_24 (by decide) ?_
          refine vv_sub [1, 0, 2, 3] rfl ?_
          exact ihi (i + 1) H (va_up F i none) (by omega) (hK) (he) (hz) (by omega)
    refine vv_sub [1, 2, 3, 0] rfl ?_
    exact hl_6 (t - (h)) h ((kS K).heap) F (by first | omega | assumption) (hK) (he) (hz) (by omega)
theorem nJ1_clear : notMH yJ1_clear 0 := by decide +kernel
set_option maxHeartbeats 800000 in
theorem mJ1_clear (l : Launch) (D : DD) (b a h t : Nat) (F : Nat → Option Nat) (hh : h < 17) (ht : t < 17) (hka : KN D a) : Ct l yJ1_clear cJ1_clear 1 none { frames := 2, cells := 0, slots := 0, locals := 35 } D [.ref b] (fun H => KH D H ∧ oB D H b 10 [.ref a, .int (nI h), .int (nI t)] ∧ qA D H a 9 17 F) (fun q => q = b ∨ q = a) (fun r H H1 => r = none ∧ oB D H1 b 10 [.ref a, .int (nI 0), .int (nI 0)] ∧ ∃ F2, qA D H1 a 9 17 F2) := by
  refine Ct.of (by decide +kernel) (Nat.le_of_ble_eq_true rfl) (fun K Qf hkl X hM hQ => ?_)
  subst hkl
  obtain ⟨hK, hd, he⟩ := hM
  have hz : (kS K).heap.size ≤ (kS K).heap.size := Nat.le_refl _
  refine vv_sub (lv' := [(0, .ref b)]) [0] rfl ?_
  refine vv_aload_n X dJ1_clear_0 rfl 0 rfl ?_
  refine vv_getf (C := RJ1) (T := TJ1) (N := 3) (ref := "java/util/ArrayDeque") X hd in_J1 CL_J1 0 (by decide) q210 rfl rfl dJ1_clear_1 ?_
  refine vv_aload_n X dJ1_clear_4 rfl 0 rfl ?_
  refine vv_getf (C := RJ1) (T := TJ1) (N := 3) (ref := "java/util/ArrayDeque") X hd in_J1 CL_J1 1 (by decide) q211 rfl rfl dJ1_clear_5 ?_
  refine vv_aload_n X dJ1_clear_8 rfl 0 rfl ?_
  refine vv_getf (C := RJ1) (T := TJ1) (N := 3) (ref := "java/util/ArrayDeque") X hd in_J1 CL_J1 2 (by decide) q212 rfl rfl dJ1_clear_9 ?_
  refine vv_callS X (mJ1_circularClear (kL K) D a h t F hh ht hka) q1776 q1777 q139 q1778 nJ1_circularClear ⟨(Nat.le_of_ble_eq_true rfl), (Nat.le_of_ble_eq_true rfl)⟩ dJ1_clear_12 rfl (Nat.le_of_ble_eq_true rfl) ⟨hK, he⟩ (fun q z => by rcases z with rfl; exact (Or.inl (Or.inr rfl))) ⟨(Nat.le_of_ble_eq_true rfl), (Nat.le_of_ble_eq_true rfl)⟩ (fun v_ H hq hz_ hk => ?_)
  obtain ⟨rfl, F2, he2⟩ := hq
  replace hd := hd.kept (hk _ hd.lt (X.oa hd he CL_J1 rfl))
  replace hK := hK.to hk (fun q z => by rcases z with rfl; exact hka)
  replace hz := Nat.le_trans hz hz_
  clear he hk hz_
  have he := he2
  clear he2
  refine vv_aload_n X dJ1_clear_15 rfl 0 rfl ?_
  refine vv_aload_n X dJ1_clear_16 rfl 0 rfl ?_
  refine vv_iconst (v := nI 0) X dJ1_clear_17 (by decide) ?_
  refine vv_dup_x1 X dJ1_clear_18 rfl rfl ?_
  refine vv_putf (C := RJ1) (T := TJ1) (N := 3) (ref := "java/util/ArrayDeque") X hd in_J1 CL_J1 tyJ1 tyJ1_ok nmJ1 2 (by decide) q212 rfl rfl rfl rfl (Nat.le_of_ble_eq_true rfl) (Or.inl (Or.inl rfl)) dJ1_clear_19 (fun H hc ho => ?_)
  have k_0 := he.kept (hc.2 _ (X.ao he hd CL_J1 rfl))
  replace hK := hK.ch hc (X.ko hK hd CL_J1 (by decide) (by decide))
  clear he
  have he := k_0
  clear k_0
  replace hz := Nat.le_trans hz (Nat.le_of_eq hc.1.symm)
  clear hd
  have hd : oB D H b 10 [.ref a, .int (nI h), .int (nI 0)] := ho
  clear hc ho
  refine vv_putf (C := RJ1) (T := TJ1) (N := 3) (ref := "java/util/ArrayDeque") X hd in_J1 CL_J1 tyJ1 tyJ1_ok nmJ1 1 (by decide) q211 rfl rfl rfl rfl (Nat.le_of_ble_eq_true rfl) (Or.inl (Or.inl rfl)) dJ1_clear_22 (fun H hc ho => ?_)
  have k_0 := he.kept (hc.2 _ (X.ao he hd CL_J1 rfl))
  replace hK := hK.ch hc (X.ko hK hd CL_J1 (by decide) (by decide))
  clear he
  have he := k_0
  clear k_0
  replace hz := Nat.le_trans hz (Nat.le_of_eq hc.1.symm)
  clear hd
  have hd : oB D H b 10 [.ref a, .int (nI 0), .int (nI 0)] := ho
  clear hc ho
  exact vv_vret X hQ dJ1_clear_25 (Nat.le_of_ble_eq_true rfl) (Nat.le_of_ble_eq_true rfl) (⟨rfl, hd, _, he⟩)
