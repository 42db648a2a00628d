/-! leaves of the component: printed by gen/s1.py -/
set_option maxRecDepth 100000
theorem nJ12_size : notMH yJ12_size 0 := by decide +kernel
set_option maxHeartbeats 800000 in
theorem mJ12_size (l : Launch) (D : DD) (a e m n : Nat)  : Cp l yJ12_size cJ12_size 1 (some .int) { frames := 1, cells := 0, slots := 0, locals := 12 } D [.ref a] (fun H => oB D H a 16 [.int (nI m), .ref e, .int (nI n)]) (.int (nI n)) := by
  refine Ct.of (by decide +kernel) (Nat.le_of_ble_eq_true rfl) (fun K Qf hkl X hM hQ => ?_)
  subst hkl
  have hO := hM
  refine vv_sub (lv' := [(0, .ref a)]) [0] rfl ?_
  refine vv_aload_n X dJ12_size_0 rfl 0 rfl ?_
  refine vv_getf (C := RJ12) (T := TJ12) (N := 3) (ref := "java/util/ArrayList") X hO in_J12 CL_J12 2 (by decide) q730 rfl rfl dJ12_size_1 ?_
  exact vv_iret X hQ dJ12_size_4 (Nat.le_of_ble_eq_true rfl) (Nat.le_of_ble_eq_true rfl) (pq (rfl))
theorem nJ12_isEmpty : notMH yJ12_isEmpty 0 := by decide +kernel
set_option maxHeartbeats 800000 in
theorem mJ12_isEmpty (l : Launch) (D : DD) (a e m n : Nat) (hn : n < 2 ^ 31) : Cp l yJ12_isEmpty cJ12_isEmpty 1 (some .boolean) { frames := 1, cells := 0, slots := 0, locals := 12 } D [.ref a] (fun H => oB D H a 16 [.int (nI m), .ref e, .int (nI n)]) (.int (b2 (n = 0))) := by
  refine Ct.of (by decide +kernel) (Nat.le_of_ble_eq_true rfl) (fun K Qf hkl X hM hQ => ?_)
  subst hkl
  have hO := hM
  refine vv_sub (lv' := [(0, .ref a)]) [0] rfl ?_
  refine vv_aload_n X dJ12_isEmpty_0 rfl 0 rfl ?_
  refine vv_getf (C := RJ12) (T := TJ12) (N := 3) (ref := "java/util/ArrayList") X hO in_J12 CL_J12 2 (by decide) q730 rfl rfl dJ12_isEmpty_1 ?_
  refine vn_if_ne (tgt := 11) X (by omega) dJ12_isEmpty_4 (by decide) (fun c_4 => ?_) (fun c_4 => ?_)
  · refine vv_iconst (v := nI 0) X dJ12_isEmpty_11 (by decide) ?_
    exact vv_zret X (rfl) hQ dJ12_isEmpty_12 (Nat.le_of_ble_eq_true rfl) (Nat.le_of_ble_eq_true rfl) (pq (b2_0 (by omega)))
  · refine vv_iconst (v := nI 1) X dJ12_isEmpty_7 (by decide) ?_
    refine vv_goto (tgt := 12) X dJ12_isEmpty_8 (by decide) ?_
    exact vv_zret X (rfl) hQ dJ12_isEmpty_12 (Nat.le_of_ble_eq_true rfl) (Nat.le_of_ble_eq_true rfl) (pq (b2_1 c_4))
set_option maxHeartbeats 800000 in
theorem mJ17_checkIndexN (l : Launch) (D : DD) (i n : Nat) (hi : i < n) (hn : n < 2 ^ 31) : Cp l yJ17_checkIndex cJ17_checkIndex 3 (some .int) { frames := 1, cells := 0, slots := 0, locals := 12 } D [.int (nI i), .int (nI n), .null] (fun H => True) (.int (nI i)) := by
  refine Ct.of (by decide +kernel) (Nat.le_of_ble_eq_true rfl) (fun K Qf hkl X hM hQ => ?_)
  subst hkl
  refine vv_sub (lv' := [(0, .int (nI i)), (1, .int (nI n)), (2, .null)]) [0, 1, 2] rfl ?_
  refine vv_iload_n X dJ17_checkIndex_0 rfl 0 rfl ?_
  refine vn_if_lt (tgt := 9) X (by omega) dJ17_checkIndex_1 (by decide) ?_
  refine vv_iload_n X dJ17_checkIndex_4 rfl 0 rfl ?_
  refine vv_iload_n X dJ17_checkIndex_5 rfl 1 rfl ?_
  refine vn_lt (tgt := 16) X (by omega) (by omega) dJ17_checkIndex_6 (by decide) (fun c_6 => ?_) (fun c_6 => ?_)
  · refine vv_iload_n X dJ17_checkIndex_16 rfl 0 rfl ?_
    exact vv_iret X hQ dJ17_checkIndex_17 (Nat.le_of_ble_eq_true rfl) (Nat.le_of_ble_eq_true rfl) (pq (rfl))
  · exact absurd hi (by omega)
theorem nJ25_checkIndex : notMH yJ25_checkIndex 2 := by decide +kernel
set_option maxHeartbeats 800000 in
theorem mJ25_checkIndex (l : Launch) (D : DD) (i n : Nat) (hi : i < n) (hn : n < 2 ^ 31) : Cp l yJ25_checkIndex cJ25_checkIndex 2 (some .int) { frames := 2, cells := 0, slots := 0, locals := 34 } D [.int (nI i), .int (nI n)] (fun H => True) (.int (nI i)) := by
  refine Ct.of (by decide +kernel) (Nat.le_of_ble_eq_true rfl) (fun K Qf hkl X hM hQ => ?_)
  subst hkl
  refine vv_sub (lv' := [(0, .int (nI i)), (1, .int (nI n))]) [0, 1] rfl ?_
  refine vv_iload_n X dJ25_checkIndex_0 rfl 0 rfl ?_
  refine vv_iload_n X dJ25_checkIndex_1 rfl 1 rfl ?_
  refine vv_null X dJ25_checkIndex_2 ?_
  refine vv_callSp X (mJ17_checkIndexN (kL K) D i n (by omega) (by omega)) q1583 q924 q160 q925 nJ17_checkIndex ⟨(Nat.le_of_ble_eq_true rfl), (Nat.le_of_ble_eq_true rfl)⟩ dJ25_checkIndex_3 rfl (Nat.le_of_ble_eq_true rfl) trivial ⟨(Nat.le_of_ble_eq_true rfl), (Nat.le_of_ble_eq_true rfl)⟩ ?_
  exact vv_iret X hQ dJ25_checkIndex_6 (Nat.le_of_ble_eq_true rfl) (Nat.le_of_ble_eq_true rfl) (pq (rfl))
theorem nJ12_elementData : notMH yJ12_elementData 1 := by decide +kernel
set_option maxHeartbeats 800000 in
theorem mJ12_elementData (l : Launch) (D : DD) (a e m n cap i x : Nat) (f : Nat → Option Nat) (hi : i < cap) (hc : cap < 2 ^ 31) (hx : f i = some x) : Cp l yJ12_elementData cJ12_elementData 2 (some (.object "java/lang/Object")) { frames := 1, cells := 0, slots := 0, locals := 12 } D [.ref a, .int (nI i)] (fun H => oB D H a 16 [.int (nI m), .ref e, .int (nI n)] ∧ qA D H e 9 cap f) (.ref x) := by
  refine Ct.of (by decide +kernel) (Nat.le_of_ble_eq_true rfl) (fun K Qf hkl X hM hQ => ?_)
  subst hkl
  obtain ⟨hO, hA⟩ := hM
  refine vv_sub (lv' := [(0, .ref a), (1, .int (nI i))]) [0, 1] rfl ?_
  refine vv_aload_n X dJ12_elementData_0 rfl 0 rfl ?_
  refine vv_getf (C := RJ12) (T := TJ12) (N := 3) (ref := "java/util/ArrayList") X hO in_J12 CL_J12 1 (by decide) q727 rfl rfl dJ12_elementData_1 ?_
  refine vv_iload_n X dJ12_elementData_4 rfl 1 rfl ?_
  refine vv_aald (ty := 9) X hA rfl rfl (i) (by omega) (by omega) rfl dJ12_elementData_5 (v := .ref x) (by rw [hx]; rfl) ?_
  exact vv_aret X (Or.inl ⟨_, rfl⟩) (Or.inr ⟨_, rfl⟩) hQ dJ12_elementData_6 (Nat.le_of_ble_eq_true rfl) (Nat.le_of_ble_eq_true rfl) (pqa (rfl))
theorem nJ12_get : notMH yJ12_get 1 := by decide +kernel
set_option maxHeartbeats 800000 in
theorem mJ12_get (l : Launch) (D : DD) (a e n i : Nat) (el : Nat → Nat) (hi : i < n) : Cp l yJ12_get cJ12_get 2 (some (.object "java/lang/Object")) { frames := 3, cells := 0, slots := 0, locals := 55 } D [.ref a, .int (nI i)] (fun H => AL D H a e n el) (.ref (el i)) := by
  refine Ct.of (by decide +kernel) (Nat.le_of_ble_eq_true rfl) (fun K Qf hkl X hM hQ => ?_)
  subst hkl
  have hL := hM
  obtain ⟨hO, cap, hin, hc4, hA⟩ := hL
  have hc : cap < 2 ^ 31 := by omega
  have hx : (fun j => if j < n then some (el j) else none) i = some (el i) := if_pos hi
  refine vv_sub (lv' := [(0, .ref a), (1, .int (nI i))]) [0, 1] rfl ?_
  refine vv_iload_n X dJ12_get_0 rfl 1 rfl ?_
  refine vv_aload_n X dJ12_get_1 rfl 0 rfl ?_
  refine vv_getf (C := RJ12) (T := TJ12) (N := 3) (ref := "java/util/ArrayList") X hO in_J12 CL_J12 2 (by decide) q730 rfl rfl dJ12_get_2 ?_
  refine vv_callSp X (mJ25_checkIndex (kL K) D i n (by omega) (by omega)) q1580 q1581 q170 q1582 nJ25_checkIndex ⟨(Nat.le_of_ble_eq_true rfl), (Nat.le_of_ble_eq_true rfl)⟩ dJ12_get_5 rfl (Nat.le_of_ble_eq_true rfl) trivial ⟨(Nat.le_of_ble_eq_true rfl), (Nat.le_of_ble_eq_true rfl)⟩ ?_
  refine vv_pop X dJ12_get_8 rfl ?_
  refine vv_aload_n X dJ12_get_9 rfl 0 rfl ?_
  refine vv_iload_n X dJ12_get_10 rfl 1 rfl ?_
  refine vv_callVp X (mJ12_elementData (kL K) D a _ _ _ _ i _ _ (by omega) hc hx) q1584 q1585 q1586 q154 q1587 nJ12_elementData ⟨(Nat.le_of_ble_eq_true rfl), (Nat.le_of_ble_eq_true rfl)⟩ dJ12_get_11 rfl (Nat.le_of_ble_eq_true rfl) (recv X hO CL_J12) ⟨hO, hA⟩ ⟨(Nat.le_of_ble_eq_true rfl), (Nat.le_of_ble_eq_true rfl)⟩ ?_
  exact vv_aret X (Or.inl ⟨_, rfl⟩) (Or.inr ⟨_, rfl⟩) hQ dJ12_get_14 (Nat.le_of_ble_eq_true rfl) (Nat.le_of_ble_eq_true rfl) (pqa (rfl))
theorem lle_N {a b : Nat} (ha : a < 2 ^ 63) (hb : b < 2 ^ 63) : lN a ≤ lN b ↔ a ≤ b := by
  rw [Int64.le_iff_toInt_le]
  have e : ∀ z : Nat, z < 2 ^ 63 → (lN z).toInt = (z : Int) := fun z hz => Int64.toInt_ofNat_of_lt hz
  rw [e a ha, e b hb]
  omega
theorem lle_I {a b : Int32} : a.toInt64 ≤ b.toInt64 ↔ a ≤ b := by
  rw [Int64.le_iff_toInt_le, Int32.le_iff_toInt_le, Int32.toInt_toInt64, Int32.toInt_toInt64]
theorem in_N {v lo hi : Nat} (h1 : v < 2 ^ 63) (h2 : lo < 2 ^ 63) (h3 : hi < 2 ^ 63) : (lN lo ≤ lN v ∧ lN v ≤ lN hi) ↔ (lo ≤ v ∧ v ≤ hi) := by rw [lle_N h2 h1, lle_N h1 h3]
theorem in_I {v lo hi : Int32} : (lo.toInt64 ≤ v.toInt64 ∧ v.toInt64 ≤ hi.toInt64) ↔ (lo ≤ v ∧ v ≤ hi) := by rw [lle_I, lle_I]
theorem nX1_in : notMH yX1_in 3 := by decide +kernel
set_option maxHeartbeats 800000 in
theorem mX1_in (l : Launch) (D : DD) (v lo hi : Int64)  : Cp l yX1_in cX1_in 6 (some .boolean) { frames := 1, cells := 0, slots := 0, locals := 12 } D [.long (v), .long (lo), .long (hi)] (fun H => True) (.int (b2 (lo ≤ v ∧ v ≤ hi))) := by
  refine Ct.of (by decide +kernel) (Nat.le_of_ble_eq_true rfl) (fun K Qf hkl X hM hQ => ?_)
  subst hkl
  refine vv_sub (lv' := [(0, .long (v)), (2, .long (lo)), (4, .long (hi))]) [0, 1, 2] rfl ?_
  refine vv_lload_n X dX1_in_0 rfl 0 rfl ?_
  refine vv_lload_n X dX1_in_1 rfl 1 rfl ?_
  refine vv_lcmp X dX1_in_2 ?_
  refine vz_lt (tgt := 17) X dX1_in_3 (by decide) (fun c_3 => ?_) (fun c_3 => ?_)
  · refine vv_iconst (v := nI 0) X dX1_in_17 (by decide) ?_
    exact vv_zret X (rfl) hQ dX1_in_18 (Nat.le_of_ble_eq_true rfl) (Nat.le_of_ble_eq_true rfl) (pq (b2_0 (fun z => absurd z.1 (Int64.not_le.mpr c_3))))
  · refine vv_lload_n X dX1_in_6 rfl 0 rfl ?_
    refine vv_lload X dX1_in_7 2 rfl ?_
    refine vv_lcmp X dX1_in_9 ?_
    refine vz_gt (tgt := 17) X dX1_in_10 (by decide) (fun c_10 => ?_) (fun c_10 => ?_)
    · refine vv_iconst (v := nI 0) X dX1_in_17 (by decide) ?_
      exact vv_zret X (rfl) hQ dX1_in_18 (Nat.le_of_ble_eq_true rfl) (Nat.le_of_ble_eq_true rfl) (pq (b2_0 (fun z => absurd z.2 (Int64.not_le.mpr c_10))))
    · refine vv_iconst (v := nI 1) X dX1_in_13 (by decide) ?_
      refine vv_goto (tgt := 18) X dX1_in_14 (by decide) ?_
      exact vv_zret X (rfl) hQ dX1_in_18 (Nat.le_of_ble_eq_true rfl) (Nat.le_of_ble_eq_true rfl) (pq (b2_1 ⟨c_3, c_10⟩))
theorem lN_sr : ∀ i, i < 16 → (lN (32768 / 2 ^ i)) >>> ((nI 1).toInt64 &&& 63) = lN (32768 / 2 ^ (i + 1)) := by decide +kernel
theorem nX1_root : notMH yX1_root 1 := by decide +kernel
set_option maxHeartbeats 800000 in
theorem mX1_root (l : Launch) (D : DD) (v : Nat) (hv : v < 2 ^ 62) : Cp l yX1_root cX1_root 6 (some .int) { frames := 1, cells := 0, slots := 0, locals := 12 } D [.long (lN v)] (fun H => True) (.int (nI (rtN v))) := by
  refine Ct.of (by decide +kernel) (Nat.le_of_ble_eq_true rfl) (fun K Qf hkl X hM hQ => ?_)
  subst hkl
  refine vv_sub (lv' := [(0, .long (lN v))]) [0] rfl ?_
  refine vv_lconst (v := 0) X dX1_root_0 (by decide) ?_
  refine vv_eql (show _ = lN 0 from rfl) ?_
  refine vv_lstore_n (lv' := [(2, .long (lN 0)), (0, .long (lN v))]) X dX1_root_1 rfl (by decide) rfl ?_
  refine vv_ldc2 (v := 32768) X q1652 dX1_root_2 ?_
  refine vv_eql (show _ = lN 32768 from rfl) ?_
  refine vv_lstore (lv' := [(4, .long (lN 32768)), (2, .long (lN 0)), (0, .long (lN v))]) X dX1_root_5 (by decide) rfl ?_
  have hx_1 : ∀ (r : Nat) (b : Nat) (hr : r = fo (rt1 v) 16 0) (hb : b = 32768 / 2 ^ 16), V K 6 (fun _ => False) (kS K).heap 0 0 Qf 42 [(0, .long (lN v)), (2, .long (lN r)), (4, .long (lN b))] [] := by
    intro r b hr hb
    refine vv_lload_n X dX1_root_42 rfl 1 rfl ?_
    refine vv_l2i X dX1_root_43 rfl ?_
    refine vv_eqi ((lN_i _).trans (congrArg nI hr)) ?_
    exact vv_iret X hQ dX1_root_44 (Nat.le_of_ble_eq_true rfl) (Nat.le_of_ble_eq_true rfl) (pq (rfl))
  have hl_2 : ∀ (n_i i : Nat) (r : Nat) (b : Nat), i + n_i = 16 → (r = fo (rt1 v) i 0) → (b = 32768 / 2 ^ i) → V K 6 (fun _ => False) (kS K).heap 0 0 Qf 7 [(0, .long (lN v)), (2, .long (lN r)), (4, .long (lN b))] [] := by
    intro n_i
    induction n_i with
    | zero =>
      intro i r b hi hr hb
      obtain rfl : i = 16 := by omega
      have hrb : r + 2 * b ≤ 65536 := by rw [hr, hb]; exact rt_in v 16 (by omega)
      have hm : (r + b) * (r + b) ≤ 65536 * 65536 := Nat.mul_le_mul (by omega) (by omega)
      refine vv_lload X dX1_root_7 2 rfl ?_
      refine vv_lconst (v := 0) X dX1_root_9 (by decide) ?_
      refine vv_eql (show _ = lN 0 from rfl) ?_
      refine vv_lcmp X dX1_root_10 ?_
      refine vcn_le (tgt := 42) X (by omega) (by omega) dX1_root_11 (by decide) (fun c_11 => ?_) (fun c_11 => ?_)
      · exact hx_1 r b hr hb
      · exact absurd c_11 (by rw [hb]; decide)
    | succ n_i ihi =>
      intro i r b hi hr hb
      have hrb : r + 2 * b ≤ 65536 := by rw [hr, hb]; exact rt_in v i (by omega)
      have hm : (r + b) * (r + b) ≤ 65536 * 65536 := Nat.mul_le_mul (by omega) (by omega)
      refine vv_lload X dX1_root_7 2 rfl ?_
      refine vv_lconst (v := 0) X dX1_root_9 (by decide) ?_
      refine vv_eql (show _ = lN 0 from rfl) ?_
      refine vv_lcmp X dX1_root_10 ?_
      refine vcn_le (tgt := 42) X (by omega) (by omega) dX1_root_11 (by decide) (fun c_11 => ?_) (fun c_11 => ?_)
      · exact absurd c_11 (Nat.not_le.mpr (by rw [hb]; exact (by decide : ∀ j, j < 16 → 0 < 32768 / 2 ^ j) i (by omega)))
      · refine vv_lload_n X dX1_root_14 rfl 1 rfl ?_
        refine vv_lload X dX1_root_15 2 rfl ?_
        refine vl_add X dX1_root_17 ?_
        refine vv_lload_n X dX1_root_18 rfl 1 rfl ?_
        refine vv_lload X dX1_root_19 2 rfl ?_
        refine vl_add X dX1_root_21 ?_
        refine vl_mul X dX1_root_22 ?_
        refine vv_lload_n X dX1_root_23 rfl 0 rfl ?_
        refine vv_lcmp X dX1_root_24 ?_
        refine vcn_gt (tgt := 33) X (by omega) (by omega) dX1_root_25 (by decide) (fun c_25 => ?_) (fun c_25 => ?_)
        · refine vv_lload X dX1_root_33 2 rfl ?_
          refine vv_iconst (v := nI 1) X dX1_root_35 (by decide) ?_
          refine vv_lshr (v := lN (32768 / 2 ^ (i + 1))) X dX1_root_36 (by rw [hb]; exact lN_sr i (by omega)) ?_
          refine vv_lstore (lv' := [(4, .long (lN (32768 / 2 ^ (i + 1)))), (0, .long (lN v)), (2, .long (lN r))]) X dX1_root_37 (by decide) rfl ?_
          refine vv_goto (tgt := 7) X dX1_root_39 (by decide) ?_
          refine vv_sub [1, 2, 0] rfl ?_
          exact ihi (i + 1) r (32768 / 2 ^ (i + 1)) (by omega) (by subst hr hb; exact (if_neg (Nat.not_le.mpr c_25)).symm) (rfl)
        · refine vv_lload_n X dX1_root_28 rfl 1 rfl ?_
          refine vv_lload X dX1_root_29 2 rfl ?_
          refine vl_add X dX1_root_31 ?_
          refine vv_lstore_n (lv' := [(2, .long (lN (r + b))), (0, .long (lN v)), (4, .long (lN b))]) X dX1_root_32 rfl (by decide) rfl ?_
          refine vv_lload X dX1_root_33 2 rfl ?_
          refine vv_iconst (v := nI 1) X dX1_root_35 (by decide) ?_
          refine vv_lshr (v := lN (32768 / 2 ^ (i + 1))) X dX1_root_36 (by rw [hb]; exact lN_sr i (by omega)) ?_
          refine vv_lstore (lv' := [(4, .long (lN (32768 / 2 ^ (i + 1)))), (2, .long (lN (r + b))), (0, .long (lN v))]) X dX1_root_37 (by decide) rfl ?_
          refine vv_goto (tgt := 7) X dX1_root_39 (by decide) ?_
          refine vv_sub [2, 1, 0] rfl ?_
          exact ihi (i + 1) (r + b) (32768 / 2 ^ (i + 1)) (by omega) (by subst hr hb; exact (if_pos c_25).symm) (rfl)
  refine vv_sub [2, 1, 0] rfl ?_
  exact hl_2 (16) 0 0 32768 (by first | omega | assumption) (rfl) (rfl)
theorem nX5_cells : notMH yX5_cells 0 := by decide +kernel
set_option maxHeartbeats 800000 in
theorem mX5_cells (l : Launch) (D : DD) (u : Nat → Nat) (P T : Nat → Int32) (o : Nat)   : Cp l yX5_cells cX5_cells 1 (some .int) { frames := 1, cells := 0, slots := 0, locals := 12 } D [.ref (u 0)] (fun H => UR D u P T o H) (.int (nI (nC P))) := by
  refine Ct.of (by decide +kernel) (Nat.le_of_ble_eq_true rfl) (fun K Qf hkl X hM hQ => ?_)
  subst hkl
  have hU := hM
  refine vv_sub (lv' := [(0, .ref (u 0))]) [0] rfl ?_
  refine vv_aload_n X dX5_cells_0 rfl 0 rfl ?_
  refine vv_getf (C := RX5) (T := TX5) (N := 19) (ref := "AcousticCamera$Setup") X hU.ob in_X5 CL_X5 16 (by decide) q815 rfl rfl dX5_cells_1 ?_
  refine vv_aload_n X dX5_cells_4 rfl 0 rfl ?_
  refine vv_getf (C := RX5) (T := TX5) (N := 19) (ref := "AcousticCamera$Setup") X hU.ob in_X5 CL_X5 17 (by decide) q819 rfl rfl dX5_cells_5 ?_
  refine vn_mul X dX5_cells_8 ?_
  exact vv_iret X hQ dX5_cells_9 (Nat.le_of_ble_eq_true rfl) (Nat.le_of_ble_eq_true rfl) (pq (rfl))
theorem nX5_xOf : notMH yX5_xOf 1 := by decide +kernel
set_option maxHeartbeats 800000 in
theorem mX5_xOf (l : Launch) (D : DD) (u : Nat → Nat) (P T : Nat → Int32) (o : Nat) (c : Nat) (hC : VC P) (hc : c < nC P) : Cp l yX5_xOf cX5_xOf 2 (some .int) { frames := 1, cells := 0, slots := 0, locals := 12 } D [.ref (u 0), .int (nI c)] (fun H => UR D u P T o H) (.int (cx P c)) := by
  refine Ct.of (by decide +kernel) (Nat.le_of_ble_eq_true rfl) (fun K Qf hkl X hM hQ => ?_)
  subst hkl
  have hU := hM
  have hP := hC.v
  have l0 := hP.l0
  have l1 := hP.l1
  have l2 := hP.l2
  have l4 := hP.l4
  have l5 := hP.l5
  have l8 := hP.l8
  have l9 := hP.l9
  have l10 := hP.l10
  have l71 := hP.l71
  have l76 := hP.l76
  have l77 := hP.l77
  have hx1 := hC.x1
  have hy1 := hC.y1
  have ht1 := hC.t1
  have he1 := hC.e1
  have hm1 := hC.m1
  have hcc : nC P ≤ 144 := Nat.mul_le_mul l9 l10
  refine vv_sub (lv' := [(0, .ref (u 0)), (1, .int (nI c))]) [0, 1] rfl ?_
  refine vv_aload_n X dX5_xOf_0 rfl 0 rfl ?_
  refine vv_getf (C := RX5) (T := TX5) (N := 19) (ref := "AcousticCamera$Setup") X hU.ob in_X5 CL_X5 13 (by decide) q809 rfl rfl dX5_xOf_1 ?_
  refine vv_aload_n X dX5_xOf_4 rfl 0 rfl ?_
  refine vv_getf (C := RX5) (T := TX5) (N := 19) (ref := "AcousticCamera$Setup") X hU.ob in_X5 CL_X5 15 (by decide) q813 rfl rfl dX5_xOf_5 ?_
  refine vv_iload_n X dX5_xOf_8 rfl 1 rfl ?_
  refine vv_aload_n X dX5_xOf_9 rfl 0 rfl ?_
  refine vv_getf (C := RX5) (T := TX5) (N := 19) (ref := "AcousticCamera$Setup") X hU.ob in_X5 CL_X5 16 (by decide) q815 rfl rfl dX5_xOf_10 ?_
  refine vn_rem X (by omega) (by omega) (by omega) dX5_xOf_13 ?_
  refine vn_mul X dX5_xOf_14 ?_
  refine vv_iadd X dX5_xOf_15 ?_
  exact vv_iret X hQ dX5_xOf_16 (Nat.le_of_ble_eq_true rfl) (Nat.le_of_ble_eq_true rfl) (pq (rfl))
theorem nX5_yOf : notMH yX5_yOf 1 := by decide +kernel
set_option maxHeartbeats 800000 in
theorem mX5_yOf (l : Launch) (D : DD) (u : Nat → Nat) (P T : Nat → Int32) (o : Nat) (c : Nat) (hC : VC P) (hc : c < nC P) : Cp l yX5_yOf cX5_yOf 2 (some .int) { frames := 1, cells := 0, slots := 0, locals := 12 } D [.ref (u 0), .int (nI c)] (fun H => UR D u P T o H) (.int (cy P c)) := by
  refine Ct.of (by decide +kernel) (Nat.le_of_ble_eq_true rfl) (fun K Qf hkl X hM hQ => ?_)
  subst hkl
  have hU := hM
  have hP := hC.v
  have l0 := hP.l0
  have l1 := hP.l1
  have l2 := hP.l2
  have l4 := hP.l4
  have l5 := hP.l5
  have l8 := hP.l8
  have l9 := hP.l9
  have l10 := hP.l10
  have l71 := hP.l71
  have l76 := hP.l76
  have l77 := hP.l77
  have hx1 := hC.x1
  have hy1 := hC.y1
  have ht1 := hC.t1
  have he1 := hC.e1
  have hm1 := hC.m1
  have hcc : nC P ≤ 144 := Nat.mul_le_mul l9 l10
  refine vv_sub (lv' := [(0, .ref (u 0)), (1, .int (nI c))]) [0, 1] rfl ?_
  refine vv_aload_n X dX5_yOf_0 rfl 0 rfl ?_
  refine vv_getf (C := RX5) (T := TX5) (N := 19) (ref := "AcousticCamera$Setup") X hU.ob in_X5 CL_X5 14 (by decide) q811 rfl rfl dX5_yOf_1 ?_
  refine vv_aload_n X dX5_yOf_4 rfl 0 rfl ?_
  refine vv_getf (C := RX5) (T := TX5) (N := 19) (ref := "AcousticCamera$Setup") X hU.ob in_X5 CL_X5 15 (by decide) q813 rfl rfl dX5_yOf_5 ?_
  refine vv_iload_n X dX5_yOf_8 rfl 1 rfl ?_
  refine vv_aload_n X dX5_yOf_9 rfl 0 rfl ?_
  refine vv_getf (C := RX5) (T := TX5) (N := 19) (ref := "AcousticCamera$Setup") X hU.ob in_X5 CL_X5 16 (by decide) q815 rfl rfl dX5_yOf_10 ?_
  refine vn_div X (by omega) (by omega) (by omega) dX5_yOf_13 ?_
  refine vn_mul X dX5_yOf_14 ?_
  refine vv_iadd X dX5_yOf_15 ?_
  exact vv_iret X hQ dX5_yOf_16 (Nat.le_of_ble_eq_true rfl) (Nat.le_of_ble_eq_true rfl) (pq (rfl))
theorem l_toInt (x : Int32) : x.toInt64.toInt = x.toInt := Int32.toInt_toInt64 x
theorem dsq_L {P : Nat → Int32} (hP : VP P) {m : Nat} (hm : m < 12) {x y : Int32} (hx : rg 9999 x) (hy : rg 9999 y) : (x - P (11 + m)).toInt64 * (x - P (11 + m)).toInt64 + (y - P (23 + m)).toInt64 * (y - P (23 + m)).toInt64 + lN (pD P * pD P) = lN (dsq P m x y).toNat := by
  have l0 := hP.l0
  have r1 := hP.r11 m hm
  have r2 := hP.r23 m hm
  have hd := (dsq_I hP hm hx hy).2
  obtain ⟨x1, x2⟩ := hx
  obtain ⟨y1, y2⟩ := hy
  have ea := i_sub (a := x) (b := P (11 + m)) (by omega) (by omega)
  have eb := i_sub (a := y) (b := P (23 + m)) (by omega) (by omega)
  have sa := sq_le (a := x.toInt - (P (11 + m)).toInt) (B := 10499) (by omega) (by omega)
  have sb := sq_le (a := y.toInt - (P (23 + m)).toInt) (B := 10499) (by omega) (by omega)
  have sd := sq_le (a := (pD P : Int)) (B := 5000) (by omega) (by omega)
  have ed : dsq P m x y = (x.toInt - (P (11 + m)).toInt) * (x.toInt - (P (11 + m)).toInt) + (y.toInt - (P (23 + m)).toInt) * (y.toInt - (P (23 + m)).toInt) + (pD P : Int) * (pD P : Int) := rfl
  have h0 : 0 ≤ dsq P m x y := by rw [ed]; omega
  have k1 : (x - P (11 + m)).toInt64 = Int64.ofInt (x.toInt - (P (11 + m)).toInt) := by rw [← ea]; exact Int64.toInt_inj.mp (by rw [l_toInt, Int64.toInt_ofInt_of_le (by rw [ea]; omega) (by rw [ea]; omega)])
  have k2 : (y - P (23 + m)).toInt64 = Int64.ofInt (y.toInt - (P (23 + m)).toInt) := by rw [← eb]; exact Int64.toInt_inj.mp (by rw [l_toInt, Int64.toInt_ofInt_of_le (by rw [eb]; omega) (by rw [eb]; omega)])
  have k3 : ∀ z : Nat, lN z = Int64.ofInt (z : Int) := fun z => (Int64.ofInt_eq_ofNat).symm
  rw [k1, k2, k3, k3, ← Int64.ofInt_mul, ← Int64.ofInt_mul, ← Int64.ofInt_add, ← Int64.ofInt_add, Int.toNat_of_nonneg h0, ed, Int.natCast_mul]
theorem nX5_delay : notMH yX5_delay 3 := by decide +kernel
set_option maxHeartbeats 800000 in
theorem mX5_delay (l : Launch) (D : DD) (u : Nat → Nat) (P T : Nat → Int32) (o : Nat) (m : Nat) (a b : Int32) (hC : VC P) (hm : m < nM P) (ha : rg 9999 a) (hb : rg 9999 b) : Cp l yX5_delay cX5_delay 8 (some .int) { frames := 4, cells := 0, slots := 0, locals := 76 } D [.ref (u 0), .int (nI m), .int (a), .int (b)] (fun H => UR D u P T o H) (.int (nI (dN P m a b))) := by
  refine Ct.of (by decide +kernel) (Nat.le_of_ble_eq_true rfl) (fun K Qf hkl X hM hQ => ?_)
  subst hkl
  have hU := hM
  have hP := hC.v
  have l0 := hP.l0
  have l1 := hP.l1
  have l2 := hP.l2
  have l4 := hP.l4
  have l5 := hP.l5
  have l8 := hP.l8
  have l9 := hP.l9
  have l10 := hP.l10
  have l71 := hP.l71
  have l76 := hP.l76
  have l77 := hP.l77
  have hx1 := hC.x1
  have hy1 := hC.y1
  have ht1 := hC.t1
  have he1 := hC.e1
  have hm1 := hC.m1
  have hcc : nC P ≤ 144 := Nat.mul_le_mul l9 l10
  have hd := (dsq_I (m := m) hP (by omega) ha hb).2
  have hr := rt_lt (dsq P m a b).toNat
  have hdd : pD P * pD P ≤ 5000 * 5000 := Nat.mul_le_mul l0 l0
  refine vv_sub (lv' := [(0, .ref (u 0)), (1, .int (nI m)), (2, .int (a)), (3, .int (b))]) [0, 1, 2, 3] rfl ?_
  refine vv_iload_n X dX5_delay_0 rfl 2 rfl ?_
  refine vv_aload_n X dX5_delay_1 rfl 0 rfl ?_
  refine vv_getf (C := RX5) (T := TX5) (N := 19) (ref := "AcousticCamera$Setup") X hU.ob in_X5 CL_X5 0 (by decide) q772 rfl rfl dX5_delay_2 ?_
  refine vv_iload_n X dX5_delay_5 rfl 1 rfl ?_
  refine vv_callFp X (mJ12_get (kL K) D _ _ _ _ _ (by omega)) (by decide) q1572 q1577 q1575 q154 q1579 (show notMH ⟨"java/util/List", "get", "(I)Ljava/lang/Object;"⟩ 1 by decide +kernel) ⟨(Nat.le_of_ble_eq_true rfl), (Nat.le_of_ble_eq_true rfl)⟩ dX5_delay_6 rfl (Nat.le_of_ble_eq_true rfl) hU.lm.1 CL_J12 hU.lm ⟨(Nat.le_of_ble_eq_true rfl), (Nat.le_of_ble_eq_true rfl)⟩ ?_
  refine vv_castS X (hU.mic m (by omega)) CL_X7 q1648 dX5_delay_11 ?_
  refine vv_getfN (C := RX7) (T := TX7) (N := 3) (ref := "AcousticCamera$Mic") X (hU.mic m (by omega)) in_X7 CL_X7 0 (by decide) q1096 rfl rfl dX5_delay_14 ?_
  refine vv_isub X dX5_delay_17 ?_
  refine vv_i2l (v := (a - (P (11 + m))).toInt64) X dX5_delay_18 rfl ?_
  refine vv_lstore (lv' := [(4, .long ((a - (P (11 + m))).toInt64)), (0, .ref (u 0)), (1, .int (nI m)), (2, .int (a)), (3, .int (b))]) X dX5_delay_19 (by decide) rfl ?_
  refine vv_iload_n X dX5_delay_21 rfl 4 rfl ?_
  refine vv_aload_n X dX5_delay_22 rfl 1 rfl ?_
  refine vv_getf (C := RX5) (T := TX5) (N := 19) (ref := "AcousticCamera$Setup") X hU.ob in_X5 CL_X5 0 (by decide) q772 rfl rfl dX5_delay_23 ?_
  refine vv_iload_n X dX5_delay_26 rfl 2 rfl ?_
  refine vv_callFp X (mJ12_get (kL K) D _ _ _ _ _ (by omega)) (by decide) q1572 q1577 q1575 q154 q1579 (show notMH ⟨"java/util/List", "get", "(I)Ljava/lang/Object;"⟩ 1 by decide +kernel) ⟨(Nat.le_of_ble_eq_true rfl), (Nat.le_of_ble_eq_true rfl)⟩ dX5_delay_27 rfl (Nat.le_of_ble_eq_true rfl) hU.lm.1 CL_J12 hU.lm ⟨(Nat.le_of_ble_eq_true rfl), (Nat.le_of_ble_eq_true rfl)⟩ ?_
  refine vv_castS X (hU.mic m (by omega)) CL_X7 q1648 dX5_delay_32 ?_
  refine vv_getfN (C := RX7) (T := TX7) (N := 3) (ref := "AcousticCamera$Mic") X (hU.mic m (by omega)) in_X7 CL_X7 1 (by decide) q1099 rfl rfl dX5_delay_35 ?_
  refine vv_isub X dX5_delay_38 ?_
  refine vv_i2l (v := (b - (P (23 + m))).toInt64) X dX5_delay_39 rfl ?_
  refine vv_lstore (lv' := [(6, .long ((b - (P (23 + m))).toInt64)), (4, .long ((a - (P (11 + m))).toInt64)), (0, .ref (u 0)), (1, .int (nI m)), (2, .int (a)), (3, .int (b))]) X dX5_delay_40 (by decide) rfl ?_
  refine vv_lload X dX5_delay_42 1 rfl ?_
  refine vv_lload X dX5_delay_44 1 rfl ?_
  refine vv_lmul X dX5_delay_46 ?_
  refine vv_lload X dX5_delay_47 0 rfl ?_
  refine vv_lload X dX5_delay_49 0 rfl ?_
  refine vv_lmul X dX5_delay_51 ?_
  refine vv_ladd X dX5_delay_52 ?_
  refine vv_aload_n X dX5_delay_53 rfl 2 rfl ?_
  refine vv_getf (C := RX5) (T := TX5) (N := 19) (ref := "AcousticCamera$Setup") X hU.ob in_X5 CL_X5 8 (by decide) q798 rfl rfl dX5_delay_54 ?_
  refine vv_i2l (v := lN (pD P)) X dX5_delay_57 (nI_l (by omega)) ?_
  refine vv_aload_n X dX5_delay_58 rfl 2 rfl ?_
  refine vv_getf (C := RX5) (T := TX5) (N := 19) (ref := "AcousticCamera$Setup") X hU.ob in_X5 CL_X5 8 (by decide) q798 rfl rfl dX5_delay_59 ?_
  refine vv_i2l (v := lN (pD P)) X dX5_delay_62 (nI_l (by omega)) ?_
  refine vl_mul X dX5_delay_63 ?_
  refine vv_ladd X dX5_delay_64 ?_
  refine vv_eql (dsq_L hP (by omega) ha hb) ?_
  refine vv_callSNp X (mX1_root (kL K) D ((dsq P m a b).toNat) (by omega)) q1649 q1650 q137 q1651 nX1_root ⟨(Nat.le_of_ble_eq_true rfl), (Nat.le_of_ble_eq_true rfl)⟩ dX5_delay_65 rfl (Nat.le_of_ble_eq_true rfl) trivial ⟨(Nat.le_of_ble_eq_true rfl), (Nat.le_of_ble_eq_true rfl)⟩ ?_
  refine vv_aload_n X dX5_delay_68 rfl 2 rfl ?_
  refine vv_getf (C := RX5) (T := TX5) (N := 19) (ref := "AcousticCamera$Setup") X hU.ob in_X5 CL_X5 9 (by decide) q800 rfl rfl dX5_delay_69 ?_
  refine vn_div X (by omega) (by omega) (by omega) dX5_delay_72 ?_
  refine vv_aload_n X dX5_delay_73 rfl 2 rfl ?_
  refine vv_getf (C := RX5) (T := TX5) (N := 19) (ref := "AcousticCamera$Setup") X hU.ob in_X5 CL_X5 8 (by decide) q798 rfl rfl dX5_delay_74 ?_
  refine vv_aload_n X dX5_delay_77 rfl 2 rfl ?_
  refine vv_getf (C := RX5) (T := TX5) (N := 19) (ref := "AcousticCamera$Setup") X hU.ob in_X5 CL_X5 9 (by decide) q800 rfl rfl dX5_delay_78 ?_
  refine vn_div X (by omega) (by omega) (by omega) dX5_delay_81 ?_
  refine vn_sub X (by exact dN_root (by omega)) dX5_delay_82 ?_
  exact vv_iret X hQ dX5_delay_83 (Nat.le_of_ble_eq_true rfl) (Nat.le_of_ble_eq_true rfl) (pq (rfl))
theorem nX9_lambda_square_0 : notMH yX9_lambda_square_0 4 := by decide +kernel
set_option maxHeartbeats 800000 in
theorem mX9_lambda_square_0 (l : Launch) (D : DD) (am pe ph t : Nat) (ha : am ≤ 999) (hp1 : 2 ≤ pe) (hp : pe ≤ 99) (hh : ph ≤ 99) (ht : t < 200) : Cp l yX9_lambda_square_0 cX9_lambda_square_0 4 (some .int) { frames := 1, cells := 0, slots := 0, locals := 12 } D [.int (nI ph), .int (nI pe), .int (nI am), .int (nI t)] (fun H => True) (.int (if (t + ph) % pe < pe / 2 then nI am else -nI am)) := by
  refine Ct.of (by decide +kernel) (Nat.le_of_ble_eq_true rfl) (fun K Qf hkl X hM hQ => ?_)
  subst hkl
  have hq := Nat.mod_lt (t + ph) (show 0 < pe by omega)
  refine vv_sub (lv' := [(0, .int (nI ph)), (1, .int (nI pe)), (2, .int (nI am)), (3, .int (nI t))]) [0, 1, 2, 3] rfl ?_
  refine vv_iload_n X dX9_lambda_square_0_0 rfl 3 rfl ?_
  refine vv_iload_n X dX9_lambda_square_0_1 rfl 0 rfl ?_
  refine vn_add X dX9_lambda_square_0_2 ?_
  refine vv_iload_n X dX9_lambda_square_0_3 rfl 1 rfl ?_
  refine vn_rem X (by omega) (by omega) (by omega) dX9_lambda_square_0_4 ?_
  refine vv_iload_n X dX9_lambda_square_0_5 rfl 1 rfl ?_
  refine vv_iconst (v := nI 2) X dX9_lambda_square_0_6 (by decide) ?_
  refine vn_div X (by omega) (by omega) (by omega) dX9_lambda_square_0_7 ?_
  refine vn_ge (tgt := 15) X (by omega) (by omega) dX9_lambda_square_0_8 (by decide) (fun c_8 => ?_) (fun c_8 => ?_)
  · refine vv_iload_n X dX9_lambda_square_0_15 rfl 2 rfl ?_
    refine vv_ineg X dX9_lambda_square_0_16 ?_
    exact vv_iret X hQ dX9_lambda_square_0_17 (Nat.le_of_ble_eq_true rfl) (Nat.le_of_ble_eq_true rfl) (pq ((if_neg (Nat.not_lt.mpr c_8)).symm))
  · refine vv_iload_n X dX9_lambda_square_0_11 rfl 2 rfl ?_
    refine vv_goto (tgt := 17) X dX9_lambda_square_0_12 (by decide) ?_
    exact vv_iret X hQ dX9_lambda_square_0_17 (Nat.le_of_ble_eq_true rfl) (Nat.le_of_ble_eq_true rfl) (pq ((if_pos c_8).symm))
theorem nX9_lambda_triangle_1 : notMH yX9_lambda_triangle_1 4 := by decide +kernel
set_option maxHeartbeats 800000 in
theorem mX9_lambda_triangle_1 (l : Launch) (D : DD) (am pe ph t : Nat) (ha : am ≤ 999) (hp1 : 2 ≤ pe) (hp : pe ≤ 99) (hh : ph ≤ 99) (ht : t < 200) : Cp l yX9_lambda_triangle_1 cX9_lambda_triangle_1 5 (some .int) { frames := 1, cells := 0, slots := 0, locals := 20 } D [.int (nI ph), .int (nI pe), .int (nI am), .int (nI t)] (fun H => True) (.int (wTri (nI am) (nI pe) ((t + ph) % pe) (pe / 2))) := by
  refine Ct.of (by decide +kernel) (Nat.le_of_ble_eq_true rfl) (fun K Qf hkl X hM hQ => ?_)
  subst hkl
  have hq := Nat.mod_lt (t + ph) (show 0 < pe by omega)
  refine vv_sub (lv' := [(0, .int (nI ph)), (1, .int (nI pe)), (2, .int (nI am)), (3, .int (nI t))]) [0, 1, 2, 3] rfl ?_
  refine vv_iload_n X dX9_lambda_triangle_1_0 rfl 3 rfl ?_
  refine vv_iload_n X dX9_lambda_triangle_1_1 rfl 0 rfl ?_
  refine vn_add X dX9_lambda_triangle_1_2 ?_
  refine vv_iload_n X dX9_lambda_triangle_1_3 rfl 1 rfl ?_
  refine vn_rem X (by omega) (by omega) (by omega) dX9_lambda_triangle_1_4 ?_
  refine vv_iload_n X dX9_lambda_triangle_1_5 rfl 1 rfl ?_
  refine vv_iconst (v := nI 2) X dX9_lambda_triangle_1_6 (by decide) ?_
  refine vn_div X (by omega) (by omega) (by omega) dX9_lambda_triangle_1_7 ?_
  refine vv_isub X dX9_lambda_triangle_1_8 ?_
  refine vv_mabs X q1377 (Nat.le_of_ble_eq_true rfl) (Nat.le_of_ble_eq_true rfl) ((Nat.le_of_ble_eq_true rfl)) ((Nat.le_of_ble_eq_true rfl)) dX9_lambda_triangle_1_9 ?_
  refine vv_istore (lv' := [(4, .int (if 0 ≤ (nI ((t + ph) % pe)) - (nI (pe / 2)) then (nI ((t + ph) % pe)) - (nI (pe / 2)) else 0 - ((nI ((t + ph) % pe)) - (nI (pe / 2))))), (0, .int (nI ph)), (1, .int (nI pe)), (2, .int (nI am)), (3, .int (nI t))]) X dX9_lambda_triangle_1_12 (by decide) rfl ?_
  refine vv_iload_n X dX9_lambda_triangle_1_14 rfl 3 rfl ?_
  refine vv_iconst (v := nI 4) X dX9_lambda_triangle_1_15 (by decide) ?_
  refine vv_iload X dX9_lambda_triangle_1_16 0 rfl ?_
  refine vv_imul X dX9_lambda_triangle_1_18 ?_
  refine vv_iload_n X dX9_lambda_triangle_1_19 rfl 2 rfl ?_
  refine vv_isub X dX9_lambda_triangle_1_20 ?_
  refine vv_imul X dX9_lambda_triangle_1_21 ?_
  refine vv_iload_n X dX9_lambda_triangle_1_22 rfl 2 rfl ?_
  refine vv_idiv X dX9_lambda_triangle_1_23 (nI_ne0 (by omega) (by omega)) ?_
  exact vv_iret X hQ dX9_lambda_triangle_1_24 (Nat.le_of_ble_eq_true rfl) (Nat.le_of_ble_eq_true rfl) (pq (rfl))
theorem nX9_lambda_pulse_2 : notMH yX9_lambda_pulse_2 4 := by decide +kernel
set_option maxHeartbeats 800000 in
theorem mX9_lambda_pulse_2 (l : Launch) (D : DD) (am pe ph t : Nat) (ha : am ≤ 999) (hp1 : 2 ≤ pe) (hp : pe ≤ 99) (hh : ph ≤ 99) (ht : t < 200) : Cp l yX9_lambda_pulse_2 cX9_lambda_pulse_2 4 (some .int) { frames := 1, cells := 0, slots := 0, locals := 12 } D [.int (nI ph), .int (nI pe), .int (nI am), .int (nI t)] (fun H => True) (.int (if (t + ph) % pe = 0 then nI am else nI 0)) := by
  refine Ct.of (by decide +kernel) (Nat.le_of_ble_eq_true rfl) (fun K Qf hkl X hM hQ => ?_)
  subst hkl
  have hq := Nat.mod_lt (t + ph) (show 0 < pe by omega)
  refine vv_sub (lv' := [(0, .int (nI ph)), (1, .int (nI pe)), (2, .int (nI am)), (3, .int (nI t))]) [0, 1, 2, 3] rfl ?_
  refine vv_iload_n X dX9_lambda_pulse_2_0 rfl 3 rfl ?_
  refine vv_iload_n X dX9_lambda_pulse_2_1 rfl 0 rfl ?_
  refine vn_add X dX9_lambda_pulse_2_2 ?_
  refine vv_iload_n X dX9_lambda_pulse_2_3 rfl 1 rfl ?_
  refine vn_rem X (by omega) (by omega) (by omega) dX9_lambda_pulse_2_4 ?_
  refine vn_if_ne (tgt := 12) X (by omega) dX9_lambda_pulse_2_5 (by decide) (fun c_5 => ?_) (fun c_5 => ?_)
  · refine vv_iconst (v := nI 0) X dX9_lambda_pulse_2_12 (by decide) ?_
    exact vv_iret X hQ dX9_lambda_pulse_2_13 (Nat.le_of_ble_eq_true rfl) (Nat.le_of_ble_eq_true rfl) (pq ((if_neg (show ¬ (t + ph) % pe = 0 by omega)).symm))
  · refine vv_iload_n X dX9_lambda_pulse_2_8 rfl 2 rfl ?_
    refine vv_goto (tgt := 13) X dX9_lambda_pulse_2_9 (by decide) ?_
    exact vv_iret X hQ dX9_lambda_pulse_2_13 (Nat.le_of_ble_eq_true rfl) (Nat.le_of_ble_eq_true rfl) (pq ((if_pos c_5).symm))
theorem lN_rem {a b : Nat} (ha : a < 2 ^ 62) (h0 : 0 < b) (hb : b < 2 ^ 62) : lN a - lN a / lN b * lN b = lN (a % b) := by
  have e : ∀ z : Nat, z < 2 ^ 63 → (lN z).toInt = (z : Int) := fun z hz => Int64.toInt_ofNat_of_lt hz
  have ed : lN a / lN b = lN (a / b) := by
    apply Int64.toInt_inj.mp
    have hq := Nat.div_le_self a b
    have hq2 : (a : Int).tdiv (b : Int) = ((a / b : Nat) : Int) := by rw [Int.tdiv_eq_ediv_of_nonneg (Int.natCast_nonneg _)]; rfl
    have h := Int64.toInt_div (lN a) (lN b)
    rw [e a (by omega), e b (by omega), hq2] at h
    rw [h, e (a / b) (by omega)]
    generalize hg : a / b = g at hq ⊢
    exact Int.bmod_eq_of_le (by have := Int.natCast_nonneg g; omega) (by omega)
  have em : lN (a / b) * lN b = lN (a / b * b) := by
    apply Int64.toBitVec_inj.mp
    rw [Int64.toBitVec_mul]
    show BitVec.ofNat 64 (a / b) * BitVec.ofNat 64 b = BitVec.ofNat 64 (a / b * b)
    rw [BitVec.ofNat_mul]
  rw [ed, em, lN_sub (Nat.div_mul_le_self _ _)]
  refine congrArg lN ?_
  have := Nat.div_add_mod a b
  rw [Nat.mul_comm] at this
  omega
theorem nX9_lambda_noise_3 : notMH yX9_lambda_noise_3 3 := by decide +kernel
set_option maxHeartbeats 800000 in
theorem mX9_lambda_noise_3 (l : Launch) (D : DD) (am ph t : Nat) (ha : am ≤ 999) (hh : ph ≤ 99) (ht : t < 200) : Cp l yX9_lambda_noise_3 cX9_lambda_noise_3 3 (some .int) { frames := 1, cells := 0, slots := 0, locals := 12 } D [.int (nI ph), .int (nI am), .int (nI t)] (fun H => True) (.int (nI ((31 * t * t + 7919 * t + 104729 * ph) % (2 * am + 1)) - nI am)) := by
  refine Ct.of (by decide +kernel) (Nat.le_of_ble_eq_true rfl) (fun K Qf hkl X hM hQ => ?_)
  subst hkl
  have h7 : 31 * t * t ≤ 31 * 199 * 199 := Nat.mul_le_mul (Nat.mul_le_mul_left _ (by omega)) (by omega)
  refine vv_sub (lv' := [(0, .int (nI ph)), (1, .int (nI am)), (2, .int (nI t))]) [0, 1, 2] rfl ?_
  refine vv_ldc2 (v := 31) X q1390 dX9_lambda_noise_3_0 ?_
  refine vv_eql (show _ = lN 31 from rfl) ?_
  refine vv_iload_n X dX9_lambda_noise_3_3 rfl 2 rfl ?_
  refine vv_i2l (v := lN t) X dX9_lambda_noise_3_4 (nI_l (by omega)) ?_
  refine vl_mul X dX9_lambda_noise_3_5 ?_
  refine vv_iload_n X dX9_lambda_noise_3_6 rfl 2 rfl ?_
  refine vv_i2l (v := lN t) X dX9_lambda_noise_3_7 (nI_l (by omega)) ?_
  refine vl_mul X dX9_lambda_noise_3_8 ?_
  refine vv_ldc2 (v := 7919) X q1391 dX9_lambda_noise_3_9 ?_
  refine vv_eql (show _ = lN 7919 from rfl) ?_
  refine vv_iload_n X dX9_lambda_noise_3_12 rfl 2 rfl ?_
  refine vv_i2l (v := lN t) X dX9_lambda_noise_3_13 (nI_l (by omega)) ?_
  refine vl_mul X dX9_lambda_noise_3_14 ?_
  refine vl_add X dX9_lambda_noise_3_15 ?_
  refine vv_ldc2 (v := 104729) X q1392 dX9_lambda_noise_3_16 ?_
  refine vv_eql (show _ = lN 104729 from rfl) ?_
  refine vv_iload_n X dX9_lambda_noise_3_19 rfl 0 rfl ?_
  refine vv_i2l (v := lN ph) X dX9_lambda_noise_3_20 (nI_l (by omega)) ?_
  refine vl_mul X dX9_lambda_noise_3_21 ?_
  refine vl_add X dX9_lambda_noise_3_22 ?_
  refine vv_iconst (v := nI 2) X dX9_lambda_noise_3_23 (by decide) ?_
  refine vv_iload_n X dX9_lambda_noise_3_24 rfl 1 rfl ?_
  refine vn_mul X dX9_lambda_noise_3_25 ?_
  refine vv_iconst (v := nI 1) X dX9_lambda_noise_3_26 (by decide) ?_
  refine vn_add X dX9_lambda_noise_3_27 ?_
  refine vv_i2l (v := lN ((2 * am) + 1)) X dX9_lambda_noise_3_28 (nI_l (by omega)) ?_
  refine vv_lrem X dX9_lambda_noise_3_29 (lN_nz (by omega) (by omega)) ?_
  refine vv_eql (lN_rem (by omega) (by omega) (by omega)) ?_
  refine vv_l2i X dX9_lambda_noise_3_30 rfl ?_
  refine vv_eqi (lN_i _) ?_
  refine vv_iload_n X dX9_lambda_noise_3_31 rfl 1 rfl ?_
  refine vv_isub X dX9_lambda_noise_3_32 ?_
  exact vv_iret X hQ dX9_lambda_noise_3_33 (Nat.le_of_ble_eq_true rfl) (Nat.le_of_ble_eq_true rfl) (pq (rfl))
theorem nX8_at : notMH yX8_at 1 := by decide +kernel
set_option maxHeartbeats 800000 in
theorem mX8_at (l : Launch) (D : DD) (a w so am pe ph fr : Nat) (x y vx vy : Int32) (t : Nat) (hf : fr ≤ 199) (ha : am ≤ 999) (hp1 : 2 ≤ pe) (hp : pe ≤ 99) (hh : ph ≤ 99) (ht : t < 200) : Cp l yX8_at cX8_at 2 (some .int) { frames := 3, cells := 0, slots := 0, locals := 70 } D [.ref a, .int (nI t)] (fun H => SO D H a w so am pe ph fr x y vx vy) (.int (wvg so am pe ph fr t)) := by
  refine Ct.of (by decide +kernel) (Nat.le_of_ble_eq_true rfl) (fun K Qf hkl X hM hQ => ?_)
  subst hkl
  have hS := hM
  refine vv_sub (lv' := [(0, .ref a), (1, .int (nI t))]) [0, 1] rfl ?_
  refine vv_iload_n X dX8_at_0 rfl 1 rfl ?_
  refine vv_aload_n X dX8_at_1 rfl 0 rfl ?_
  refine vv_getf (C := RX8) (T := TX8) (N := 6) (ref := "AcousticCamera$Source") X hS.1 in_X8 CL_X8 1 (by decide) q1399 rfl rfl dX8_at_2 ?_
  refine vn_ge (tgt := 12) X (by omega) (by omega) dX8_at_5 (by decide) (fun c_5 => ?_) (fun c_5 => ?_)
  · refine vv_aload_n X dX8_at_12 rfl 0 rfl ?_
    refine vv_getf (C := RX8) (T := TX8) (N := 6) (ref := "AcousticCamera$Source") X hS.1 in_X8 CL_X8 0 (by decide) q1397 rfl rfl dX8_at_13 ?_
    refine vv_iload_n X dX8_at_16 rfl 1 rfl ?_
    rcases hS.2 with ⟨e, hl⟩ | ⟨e, hl⟩ | ⟨e, hl⟩ | ⟨e, hl⟩
    · refine vv_lam0 X (mX9_lambda_square_0 (kL K) D am pe ph t ha hp1 hp hh ht) hl q1761 ⟨(Nat.le_of_ble_eq_true rfl), (Nat.le_of_ble_eq_true rfl)⟩ dX8_at_17 rfl (Nat.le_of_ble_eq_true rfl) trivial (fun _ z => z.elim) ⟨(Nat.le_of_ble_eq_true rfl), (Nat.le_of_ble_eq_true rfl)⟩ (fun v H H1 h => ⟨_, h.1, rfl⟩) (fun v_ H hq hz_ hk => ?_)
      obtain ⟨rfl, rfl⟩ := hq
      clear hk hz_
      exact vv_iret X hQ dX8_at_22 (Nat.le_of_ble_eq_true rfl) (Nat.le_of_ble_eq_true rfl) (pq (by unfold wvg wvf; rw [if_neg (Nat.not_lt.mpr c_5), e, if_pos (show 0 = 0 from rfl)]))
    · refine vv_lam1 X (mX9_lambda_triangle_1 (kL K) D am pe ph t ha hp1 hp hh ht) hl q1761 ⟨(Nat.le_of_ble_eq_true rfl), (Nat.le_of_ble_eq_true rfl)⟩ dX8_at_17 rfl (Nat.le_of_ble_eq_true rfl) trivial (fun _ z => z.elim) ⟨(Nat.le_of_ble_eq_true rfl), (Nat.le_of_ble_eq_true rfl)⟩ (fun v H H1 h => ⟨_, h.1, rfl⟩) (fun v_ H hq hz_ hk => ?_)
      obtain ⟨rfl, rfl⟩ := hq
      clear hk hz_
      exact vv_iret X hQ dX8_at_22 (Nat.le_of_ble_eq_true rfl) (Nat.le_of_ble_eq_true rfl) (pq (by unfold wvg wvf; rw [if_neg (Nat.not_lt.mpr c_5), e, if_neg (show ¬ 1 = 0 by decide), if_pos (show 1 = 1 from rfl)]))
    · refine vv_lam2 X (mX9_lambda_pulse_2 (kL K) D am pe ph t ha hp1 hp hh ht) hl q1761 ⟨(Nat.le_of_ble_eq_true rfl), (Nat.le_of_ble_eq_true rfl)⟩ dX8_at_17 rfl (Nat.le_of_ble_eq_true rfl) trivial (fun _ z => z.elim) ⟨(Nat.le_of_ble_eq_true rfl), (Nat.le_of_ble_eq_true rfl)⟩ (fun v H H1 h => ⟨_, h.1, rfl⟩) (fun v_ H hq hz_ hk => ?_)
      obtain ⟨rfl, rfl⟩ := hq
      clear hk hz_
      exact vv_iret X hQ dX8_at_22 (Nat.le_of_ble_eq_true rfl) (Nat.le_of_ble_eq_true rfl) (pq (by unfold wvg wvf; rw [if_neg (Nat.not_lt.mpr c_5), e, if_neg (show ¬ 2 = 0 by decide), if_neg (show ¬ 2 = 1 by decide), if_pos (show 2 = 2 from rfl)]))
    · refine vv_lam3 X (mX9_lambda_noise_3 (kL K) D am ph t ha hh ht) hl q1761 ⟨(Nat.le_of_ble_eq_true rfl), (Nat.le_of_ble_eq_true rfl)⟩ dX8_at_17 rfl (Nat.le_of_ble_eq_true rfl) trivial (fun _ z => z.elim) ⟨(Nat.le_of_ble_eq_true rfl), (Nat.le_of_ble_eq_true rfl)⟩ (fun v H H1 h => ⟨_, h.1, rfl⟩) (fun v_ H hq hz_ hk => ?_)
      obtain ⟨rfl, rfl⟩ := hq
      clear hk hz_
      exact vv_iret X hQ dX8_at_22 (Nat.le_of_ble_eq_true rfl) (Nat.le_of_ble_eq_true rfl) (pq (by unfold wvg wvf; rw [if_neg (Nat.not_lt.mpr c_5), e, if_neg (show ¬ 3 = 0 by decide), if_neg (show ¬ 3 = 1 by decide), if_neg (show ¬ 3 = 2 by decide)]))
  · refine vv_iconst (v := nI 0) X dX8_at_8 (by decide) ?_
    refine vv_goto (tgt := 22) X dX8_at_9 (by decide) ?_
    exact vv_iret X hQ dX8_at_22 (Nat.le_of_ble_eq_true rfl) (Nat.le_of_ble_eq_true rfl) (pq ((if_pos c_5).symm))
theorem nX8_xAt : notMH yX8_xAt 1 := by decide +kernel
set_option maxHeartbeats 800000 in
theorem mX8_xAt (l : Launch) (D : DD) (a w so am pe ph fr : Nat) (x y vx vy : Int32) (t : Nat)  : Cp l yX8_xAt cX8_xAt 2 (some .int) { frames := 1, cells := 0, slots := 0, locals := 12 } D [.ref a, .int (nI t)] (fun H => SO D H a w so am pe ph fr x y vx vy) (.int (x + vx * nI t / nI 100)) := by
  refine Ct.of (by decide +kernel) (Nat.le_of_ble_eq_true rfl) (fun K Qf hkl X hM hQ => ?_)
  subst hkl
  have hS := hM
  refine vv_sub (lv' := [(0, .ref a), (1, .int (nI t))]) [0, 1] rfl ?_
  refine vv_aload_n X dX8_xAt_0 rfl 0 rfl ?_
  refine vv_getf (C := RX8) (T := TX8) (N := 6) (ref := "AcousticCamera$Source") X hS.1 in_X8 CL_X8 2 (by decide) q1401 rfl rfl dX8_xAt_1 ?_
  refine vv_aload_n X dX8_xAt_4 rfl 0 rfl ?_
  refine vv_getf (C := RX8) (T := TX8) (N := 6) (ref := "AcousticCamera$Source") X hS.1 in_X8 CL_X8 4 (by decide) q1405 rfl rfl dX8_xAt_5 ?_
  refine vv_iload_n X dX8_xAt_8 rfl 1 rfl ?_
  refine vv_imul X dX8_xAt_9 ?_
  refine vv_bipush (v := nI 100) X dX8_xAt_10 (by decide) ?_
  refine vv_idiv X dX8_xAt_12 (by decide) ?_
  refine vv_iadd X dX8_xAt_13 ?_
  exact vv_iret X hQ dX8_xAt_14 (Nat.le_of_ble_eq_true rfl) (Nat.le_of_ble_eq_true rfl) (pq (rfl))
theorem nX8_yAt : notMH yX8_yAt 1 := by decide +kernel
set_option maxHeartbeats 800000 in
theorem mX8_yAt (l : Launch) (D : DD) (a w so am pe ph fr : Nat) (x y vx vy : Int32) (t : Nat)  : Cp l yX8_yAt cX8_yAt 2 (some .int) { frames := 1, cells := 0, slots := 0, locals := 12 } D [.ref a, .int (nI t)] (fun H => SO D H a w so am pe ph fr x y vx vy) (.int (y + vy * nI t / nI 100)) := by
  refine Ct.of (by decide +kernel) (Nat.le_of_ble_eq_true rfl) (fun K Qf hkl X hM hQ => ?_)
  subst hkl
  have hS := hM
  refine vv_sub (lv' := [(0, .ref a), (1, .int (nI t))]) [0, 1] rfl ?_
  refine vv_aload_n X dX8_yAt_0 rfl 0 rfl ?_
  refine vv_getf (C := RX8) (T := TX8) (N := 6) (ref := "AcousticCamera$Source") X hS.1 in_X8 CL_X8 3 (by decide) q1403 rfl rfl dX8_yAt_1 ?_
  refine vv_aload_n X dX8_yAt_4 rfl 0 rfl ?_
  refine vv_getf (C := RX8) (T := TX8) (N := 6) (ref := "AcousticCamera$Source") X hS.1 in_X8 CL_X8 5 (by decide) q1407 rfl rfl dX8_yAt_5 ?_
  refine vv_iload_n X dX8_yAt_8 rfl 1 rfl ?_
  refine vv_imul X dX8_yAt_9 ?_
  refine vv_bipush (v := nI 100) X dX8_yAt_10 (by decide) ?_
  refine vv_idiv X dX8_yAt_12 (by decide) ?_
  refine vv_iadd X dX8_yAt_13 ?_
  exact vv_iret X hQ dX8_yAt_14 (Nat.le_of_ble_eq_true rfl) (Nat.le_of_ble_eq_true rfl) (pq (rfl))
theorem nX11_has : notMH yX11_has 2 := by decide +kernel
set_option maxHeartbeats 800000 in
theorem mX11_has (l : Launch) (D : DD) (a c1 r1 c2 r2 c r : Nat) (h1 : c < 2 ^ 31) (h2 : r < 2 ^ 31) (h3 : c1 < 2 ^ 31) (h4 : r1 < 2 ^ 31) (h5 : c2 < 2 ^ 31) (h6 : r2 < 2 ^ 31) : Cp l yX11_has cX11_has 3 (some .boolean) { frames := 2, cells := 0, slots := 0, locals := 37 } D [.ref a, .int (nI c), .int (nI r)] (fun H => oB D H a 9 [.int (nI c1), .int (nI r1), .int (nI c2), .int (nI r2)]) (.int (b2 ((c1 ≤ c ∧ c ≤ c2) ∧ r1 ≤ r ∧ r ≤ r2))) := by
  refine Ct.of (by decide +kernel) (Nat.le_of_ble_eq_true rfl) (fun K Qf hkl X hM hQ => ?_)
  subst hkl
  have hO := hM
  refine vv_sub (lv' := [(0, .ref a), (1, .int (nI c)), (2, .int (nI r))]) [0, 1, 2] rfl ?_
  refine vv_iload_n X dX11_has_0 rfl 1 rfl ?_
  refine vv_i2l (v := lN c) X dX11_has_1 (nI_l (by omega)) ?_
  refine vv_aload_n X dX11_has_2 rfl 0 rfl ?_
  refine vv_getf (C := RX11) (T := TX11) (N := 4) (ref := "AcousticCamera$Zone") X hO in_X11 CL_X11 0 (by decide) q1503 rfl rfl dX11_has_3 ?_
  refine vv_i2l (v := lN c1) X dX11_has_6 (nI_l (by omega)) ?_
  refine vv_aload_n X dX11_has_7 rfl 0 rfl ?_
  refine vv_getf (C := RX11) (T := TX11) (N := 4) (ref := "AcousticCamera$Zone") X hO in_X11 CL_X11 2 (by decide) q1505 rfl rfl dX11_has_8 ?_
  refine vv_i2l (v := lN c2) X dX11_has_11 (nI_l (by omega)) ?_
  refine vv_callSNp X (mX1_in (kL K) D (lN c) (lN c1) (lN c2)) q2358 q450 q137 q451 nX1_in ⟨(Nat.le_of_ble_eq_true rfl), (Nat.le_of_ble_eq_true rfl)⟩ dX11_has_12 rfl (Nat.le_of_ble_eq_true rfl) trivial ⟨(Nat.le_of_ble_eq_true rfl), (Nat.le_of_ble_eq_true rfl)⟩ ?_
  refine vv_eqi (b2_eq (in_N (by omega) (by omega) (by omega))) ?_
  refine vb_eq (tgt := 40) X dX11_has_15 (by decide) (fun c_15 => ?_) (fun c_15 => ?_)
  · refine vv_iconst (v := nI 0) X dX11_has_40 (by decide) ?_
    exact vv_zret X (rfl) hQ dX11_has_41 (Nat.le_of_ble_eq_true rfl) (Nat.le_of_ble_eq_true rfl) (pq (b2_0 (fun z => c_15 z.1)))
  · refine vv_iload_n X dX11_has_18 rfl 2 rfl ?_
    refine vv_i2l (v := lN r) X dX11_has_19 (nI_l (by omega)) ?_
    refine vv_aload_n X dX11_has_20 rfl 0 rfl ?_
    refine vv_getf (C := RX11) (T := TX11) (N := 4) (ref := "AcousticCamera$Zone") X hO in_X11 CL_X11 1 (by decide) q1504 rfl rfl dX11_has_21 ?_
    refine vv_i2l (v := lN r1) X dX11_has_24 (nI_l (by omega)) ?_
    refine vv_aload_n X dX11_has_25 rfl 0 rfl ?_
    refine vv_getf (C := RX11) (T := TX11) (N := 4) (ref := "AcousticCamera$Zone") X hO in_X11 CL_X11 3 (by decide) q1506 rfl rfl dX11_has_26 ?_
    refine vv_i2l (v := lN r2) X dX11_has_29 (nI_l (by omega)) ?_
    refine vv_callSNp X (mX1_in (kL K) D (lN r) (lN r1) (lN r2)) q2358 q450 q137 q451 nX1_in ⟨(Nat.le_of_ble_eq_true rfl), (Nat.le_of_ble_eq_true rfl)⟩ dX11_has_30 rfl (Nat.le_of_ble_eq_true rfl) trivial ⟨(Nat.le_of_ble_eq_true rfl), (Nat.le_of_ble_eq_true rfl)⟩ ?_
    refine vv_eqi (b2_eq (in_N (by omega) (by omega) (by omega))) ?_
    refine vb_eq (tgt := 40) X dX11_has_33 (by decide) (fun c_33 => ?_) (fun c_33 => ?_)
    · refine vv_iconst (v := nI 0) X dX11_has_40 (by decide) ?_
      exact vv_zret X (rfl) hQ dX11_has_41 (Nat.le_of_ble_eq_true rfl) (Nat.le_of_ble_eq_true rfl) (pq (b2_0 (fun z => c_33 z.2)))
    · refine vv_iconst (v := nI 1) X dX11_has_36 (by decide) ?_
      refine vv_goto (tgt := 41) X dX11_has_37 (by decide) ?_
      exact vv_zret X (rfl) hQ dX11_has_41 (Nat.le_of_ble_eq_true rfl) (Nat.le_of_ble_eq_true rfl) (pq (b2_1 ⟨c_15, c_33⟩))
