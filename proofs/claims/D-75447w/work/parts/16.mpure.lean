/-! the model's methods that only read: printed by gen/m1.py -/
set_option maxRecDepth 100000
theorem nX2_in : notMH yX2_in 3 := by decide +kernel
set_option maxHeartbeats 800000 in
theorem mX2_in (l : Launch) (D : DD) (v lo hi : Int32) : Cp l yX2_in cX2_in 3 (some .boolean) { frames := 1, cells := 0, slots := 0, locals := 12 } D [.int (v), .int (lo), .int (hi)] (fun _ => True) (.int (b2 (lo ≤ v ∧ v ≤ hi))) := by
  refine Ct.of (by decide +kernel) (Nat.le_of_ble_eq_true rfl) (fun K Qf hkl X hM hQ => ?_)
  subst hkl
  refine vv_sub (lv' := [(0, .int (v)), (1, .int (lo)), (2, .int (hi))]) [0, 1, 2] rfl ?_
  refine vv_iload_n X dX2_in_0 rfl 0 rfl ?_
  refine vv_iload_n X dX2_in_1 rfl 1 rfl ?_
  refine vv_icmp_lt (tgt := 14) X dX2_in_2 (by decide) (fun c_2 => ?_) (fun c_2 => ?_)
  · refine vv_iconst (v := nI 0) X dX2_in_14 (by decide) ?_
    exact vv_zret X (rfl) hQ dX2_in_15 (Nat.le_refl _) (Nat.le_refl _) (pq (b2_0 (fun z => absurd z.1 (Int32.not_le.mpr c_2))))
  · refine vv_iload_n X dX2_in_5 rfl 0 rfl ?_
    refine vv_iload_n X dX2_in_6 rfl 2 rfl ?_
    refine vv_icmp_gt (tgt := 14) X dX2_in_7 (by decide) (fun c_7 => ?_) (fun c_7 => ?_)
    · refine vv_iconst (v := nI 0) X dX2_in_14 (by decide) ?_
      exact vv_zret X (rfl) hQ dX2_in_15 (Nat.le_refl _) (Nat.le_refl _) (pq (b2_0 (fun z => absurd z.2 (Int32.not_le.mpr c_7))))
    · refine vv_iconst (v := nI 1) X dX2_in_10 (by decide) ?_
      refine vv_goto (tgt := 15) X dX2_in_11 (by decide) ?_
      exact vv_zret X (rfl) hQ dX2_in_15 (Nat.le_refl _) (Nat.le_refl _) (pq (b2_1 ⟨Int32.not_lt.mp c_2, Int32.not_lt.mp c_7⟩))
theorem nX2_cellCount : notMH yX2_cellCount 0 := by decide +kernel
set_option maxHeartbeats 800000 in
theorem mX2_cellCount (l : Launch) (D : DD) (g : Nat → Nat) (x : Nat → Int32) (I : Nat → Nat → Int32) (J : Nat → Nat → Int64) (P : Nat → Int32) (hIP : I 10 = P)  (hP : VP P) : Cp l yX2_cellCount cX2_cellCount 1 (some .int) { frames := 1, cells := 0, slots := 0, locals := 12 } D [.ref (g 0)] (fun H => MR D g x I J H) (.int (nI (nC P))) := by
  refine Ct.of (by decide +kernel) (Nat.le_of_ble_eq_true rfl) (fun K Qf hkl X hM hQ => ?_)
  subst hkl
  subst hIP
  have l9 := hP.l9
  have l10 := hP.l10
  refine vv_sub (lv' := [(0, .ref (g 0))]) [0] rfl ?_
  refine vv_aload_n X dX2_cellCount_0 rfl 0 rfl ?_
  refine mg10 X rfl hM dX2_cellCount_1 ?_
  refine vv_bipush (v := nI 9) X dX2_cellCount_4 (by decide) ?_
  refine vv_iald X hM.a10 (9) (by omega) (by decide) rfl dX2_cellCount_6 ?_
  refine vv_eqi hP.e9 ?_
  refine vv_aload_n X dX2_cellCount_7 rfl 0 rfl ?_
  refine mg10 X rfl hM dX2_cellCount_8 ?_
  refine vv_bipush (v := nI 10) X dX2_cellCount_11 (by decide) ?_
  refine vv_iald X hM.a10 (10) (by omega) (by decide) rfl dX2_cellCount_13 ?_
  refine vv_eqi hP.e10 ?_
  refine vn_mul X dX2_cellCount_14 ?_
  exact vv_iret X hQ dX2_cellCount_15 (Nat.le_refl _) (Nat.le_refl _) (pq (rfl))
theorem nX2_centre : notMH yX2_centre 2 := by decide +kernel
set_option maxHeartbeats 800000 in
theorem mX2_centre (l : Launch) (D : DD) (g : Nat → Nat) (x : Nat → Int32) (I : Nat → Nat → Int32) (J : Nat → Nat → Int64) (P : Nat → Int32) (hIP : I 10 = P) (c : Nat) (ax r : Int32) (hC : VC P) (hc : c < nC P) (hr : r = if ax = 0 then cx P c else cy P c) : Cp l yX2_centre cX2_centre 3 (some .int) { frames := 1, cells := 0, slots := 0, locals := 12 } D [.ref (g 0), .int (nI c), .int (ax)] (fun H => MR D g x I J H) (.int (r)) := by
  refine Ct.of (by decide +kernel) (Nat.le_of_ble_eq_true rfl) (fun K Qf hkl X hM hQ => ?_)
  subst hkl
  subst hIP
  have hP := hC.v
  have l8 := hP.l8
  have l9 := hP.l9
  have l10 := hP.l10
  have hx := hC.x1
  have hcc : c < 144 := Nat.lt_of_lt_of_le hc (Nat.mul_le_mul l9 l10)
  refine vv_sub (lv' := [(0, .ref (g 0)), (1, .int (nI c)), (2, .int (ax))]) [0, 1, 2] rfl ?_
  refine vv_iload_n X dX2_centre_0 rfl 2 rfl ?_
  refine vv_if_ne (tgt := 32) X dX2_centre_1 (by decide) (fun c_1 => ?_) (fun c_1 => ?_)
  · refine vv_aload_n X dX2_centre_32 rfl 0 rfl ?_
    refine mg10 X rfl hM dX2_centre_33 ?_
    refine vv_bipush (v := nI 7) X dX2_centre_36 (by decide) ?_
    refine vv_iald X hM.a10 (7) (by omega) (by decide) rfl dX2_centre_38 ?_
    refine vv_aload_n X dX2_centre_39 rfl 0 rfl ?_
    refine mg10 X rfl hM dX2_centre_40 ?_
    refine vv_bipush (v := nI 8) X dX2_centre_43 (by decide) ?_
    refine vv_iald X hM.a10 (8) (by omega) (by decide) rfl dX2_centre_45 ?_
    refine vv_eqi hP.e8 ?_
    refine vv_iload_n X dX2_centre_46 rfl 1 rfl ?_
    refine vv_aload_n X dX2_centre_47 rfl 0 rfl ?_
    refine mg10 X rfl hM dX2_centre_48 ?_
    refine vv_bipush (v := nI 9) X dX2_centre_51 (by decide) ?_
    refine vv_iald X hM.a10 (9) (by omega) (by decide) rfl dX2_centre_53 ?_
    refine vv_eqi hP.e9 ?_
    refine vn_div X (by omega) (by omega) (by omega) dX2_centre_54 ?_
    refine vn_mul X dX2_centre_55 ?_
    refine vv_iadd X dX2_centre_56 ?_
    exact vv_iret X hQ dX2_centre_57 (Nat.le_refl _) (Nat.le_refl _) (pq (hr.symm ▸ (if_neg c_1).symm))
  · refine vv_aload_n X dX2_centre_4 rfl 0 rfl ?_
    refine mg10 X rfl hM dX2_centre_5 ?_
    refine vv_bipush (v := nI 6) X dX2_centre_8 (by decide) ?_
    refine vv_iald X hM.a10 (6) (by omega) (by decide) rfl dX2_centre_10 ?_
    refine vv_aload_n X dX2_centre_11 rfl 0 rfl ?_
    refine mg10 X rfl hM dX2_centre_12 ?_
    refine vv_bipush (v := nI 8) X dX2_centre_15 (by decide) ?_
    refine vv_iald X hM.a10 (8) (by omega) (by decide) rfl dX2_centre_17 ?_
    refine vv_eqi hP.e8 ?_
    refine vv_iload_n X dX2_centre_18 rfl 1 rfl ?_
    refine vv_aload_n X dX2_centre_19 rfl 0 rfl ?_
    refine mg10 X rfl hM dX2_centre_20 ?_
    refine vv_bipush (v := nI 9) X dX2_centre_23 (by decide) ?_
    refine vv_iald X hM.a10 (9) (by omega) (by decide) rfl dX2_centre_25 ?_
    refine vv_eqi hP.e9 ?_
    refine vn_rem X (by omega) (by omega) (by omega) dX2_centre_26 ?_
    refine vn_mul X dX2_centre_27 ?_
    refine vv_iadd X dX2_centre_28 ?_
    refine vv_goto (tgt := 57) X dX2_centre_29 (by decide) ?_
    exact vv_iret X hQ dX2_centre_57 (Nat.le_refl _) (Nat.le_refl _) (pq (hr.symm ▸ (if_pos c_1).symm))
theorem nX2_root : notMH yX2_root 1 := by decide +kernel
set_option maxHeartbeats 800000 in
theorem mX2_root (l : Launch) (D : DD) (v : Nat) (hv : v < 2 ^ 31) : Cp l yX2_root cX2_root 5 (some .int) { frames := 1, cells := 0, slots := 0, locals := 12 } D [.int (nI v)] (fun _ => True) (.int (nI (rtN v))) := by
  refine Ct.of (by decide +kernel) (Nat.le_of_ble_eq_true rfl) (fun K Qf hkl X hM hQ => ?_)
  subst hkl
  refine vv_sub (lv' := [(0, .int (nI v))]) [0] rfl ?_
  refine vv_iconst (v := nI 0) X dX2_root_0 (by decide) ?_
  refine vv_istore_n (lv' := [(1, .int (nI 0)), (0, .int (nI v))]) X dX2_root_1 rfl (by decide) rfl ?_
  refine vv_ldcw (v := nI 32768) X q3187 dX2_root_2 ?_
  refine vv_istore_n (lv' := [(2, .int (nI 32768)), (1, .int (nI 0)), (0, .int (nI v))]) X dX2_root_5 rfl (by decide) rfl ?_
  have hx_1 : ∀ (r : Nat) (b : Nat) (hr : r = fo (rt1 v) 16 0) (hb : b = 32768 / 2 ^ 16), V K 5 (fun _ => False) (kS K).heap 0 0 Qf 35 [(0, .int (nI v)), (1, .int (nI r)), (2, .int (nI b))] [] := by
    intro r b hr hb
    refine vv_iload_n X dX2_root_35 rfl 1 rfl ?_
    exact vv_iret X hQ dX2_root_36 (Nat.le_refl _) (Nat.le_refl _) (pq (congrArg nI hr))
  have hl_2 : ∀ (n_i i : Nat) (r : Nat) (b : Nat), i + n_i = 16 → (r = fo (rt1 v) i 0) → (b = 32768 / 2 ^ i) → V K 5 (fun _ => False) (kS K).heap 0 0 Qf 6 [(0, .int (nI v)), (1, .int (nI r)), (2, .int (nI b))] [] := by
    intro n_i
    induction n_i with
    | zero =>
      intro i r b hi hr hb
      obtain rfl : i = 16 := by omega
      have hrb : r + 2 * b ≤ 65536 := by rw [hr, hb]; exact rt_in v 16 (by omega)
      have hm : (r + b) * (r + b) ≤ 65536 * 65536 := Nat.mul_le_mul (by omega) (by omega)
      refine vv_iload_n X dX2_root_6 rfl 2 rfl ?_
      refine vn_if_le (tgt := 35) X (by omega) dX2_root_7 (by decide) (fun c_7 => ?_) (fun c_7 => ?_)
      · exact hx_1 r b hr hb
      · exact absurd c_7 (by rw [hb]; decide)
    | succ n_i ihi =>
      intro i r b hi hr hb
      have hrb : r + 2 * b ≤ 65536 := by rw [hr, hb]; exact rt_in v i (by omega)
      have hm : (r + b) * (r + b) ≤ 65536 * 65536 := Nat.mul_le_mul (by omega) (by omega)
      refine vv_iload_n X dX2_root_6 rfl 2 rfl ?_
      refine vn_if_le (tgt := 35) X (by omega) dX2_root_7 (by decide) (fun c_7 => ?_) (fun c_7 => ?_)
      · exact absurd c_7 (Nat.ne_of_gt (by rw [hb]; exact (by decide : ∀ j, j < 16 → 0 < 32768 / 2 ^ j) i (by omega)))
      · refine vv_iload_n X dX2_root_10 rfl 1 rfl ?_
        refine vv_iload_n X dX2_root_11 rfl 2 rfl ?_
        refine vn_add X dX2_root_12 ?_
        refine vv_i2l (v := lN (r + b)) X dX2_root_13 (nI_l (by omega)) ?_
        refine vv_lstore_n (lv' := [(3, .long (lN (r + b))), (0, .int (nI v)), (1, .int (nI r)), (2, .int (nI b))]) X dX2_root_14 rfl (by decide) rfl ?_
        refine vv_lload_n X dX2_root_15 rfl 0 rfl ?_
        refine vv_lload_n X dX2_root_16 rfl 0 rfl ?_
        refine vl_mul X dX2_root_17 ?_
        refine vv_iload_n X dX2_root_18 rfl 1 rfl ?_
        refine vv_i2l (v := lN v) X dX2_root_19 (nI_l (by omega)) ?_
        refine vv_lcmp X dX2_root_20 ?_
        refine vcn_gt (tgt := 28) X (by omega) (by omega) dX2_root_21 (by decide) (fun c_21 => ?_) (fun c_21 => ?_)
        · refine vv_iload_n X dX2_root_28 rfl 3 rfl ?_
          refine vv_iconst (v := nI 2) X dX2_root_29 (by decide) ?_
          refine vn_div X (by omega) (by omega) (by omega) dX2_root_30 ?_
          refine vv_istore_n (lv' := [(2, .int (nI (b / 2))), (3, .long (lN (r + b))), (0, .int (nI v)), (1, .int (nI r))]) X dX2_root_31 rfl (by decide) rfl ?_
          refine vv_goto (tgt := 6) X dX2_root_32 (by decide) ?_
          refine vv_sub [2, 3, 0] rfl ?_
          exact ihi (i + 1) r (b / 2) (by omega) (by subst hr hb; exact (if_neg (Nat.not_le.mpr c_21)).symm) (by rw [hb, Nat.pow_succ, Nat.div_div_eq_div_mul])
        · refine vv_iload_n X dX2_root_24 rfl 2 rfl ?_
          refine vv_iload_n X dX2_root_25 rfl 3 rfl ?_
          refine vn_add X dX2_root_26 ?_
          refine vv_istore_n (lv' := [(1, .int (nI (r + b))), (3, .long (lN (r + b))), (0, .int (nI v)), (2, .int (nI b))]) X dX2_root_27 rfl (by decide) rfl ?_
          refine vv_iload_n X dX2_root_28 rfl 3 rfl ?_
          refine vv_iconst (v := nI 2) X dX2_root_29 (by decide) ?_
          refine vn_div X (by omega) (by omega) (by omega) dX2_root_30 ?_
          refine vv_istore_n (lv' := [(2, .int (nI (b / 2))), (1, .int (nI (r + b))), (3, .long (lN (r + b))), (0, .int (nI v))]) X dX2_root_31 rfl (by decide) rfl ?_
          refine vv_goto (tgt := 6) X dX2_root_32 (by decide) ?_
          refine vv_sub [3, 1, 0] rfl ?_
          exact ihi (i + 1) (r + b) (b / 2) (by omega) (by subst hr hb; exact (if_pos c_21).symm) (by rw [hb, Nat.pow_succ, Nat.div_div_eq_div_mul])
  refine vv_sub [2, 1, 0] rfl ?_
  exact hl_2 (16) 0 0 32768 (by omega) (rfl) (rfl)
theorem nX2_delayFrom : notMH yX2_delayFrom 3 := by decide +kernel
set_option maxHeartbeats 800000 in
theorem mX2_delayFrom (l : Launch) (D : DD) (g : Nat → Nat) (x : Nat → Int32) (I : Nat → Nat → Int32) (J : Nat → Nat → Int64) (P : Nat → Int32) (hIP : I 10 = P) (m : Nat) (a b : Int32) (hC : VC P) (hm : m < nM P) (ha : rg 9999 a) (hb : rg 9999 b) : Cp l yX2_delayFrom cX2_delayFrom 7 (some .int) { frames := 2, cells := 0, slots := 0, locals := 36 } D [.ref (g 0), .int (nI m), .int (a), .int (b)] (fun H => MR D g x I J H) (.int (nI (dN P m a b))) := by
  refine Ct.of (by decide +kernel) (Nat.le_of_ble_eq_true rfl) (fun K Qf hkl X hM hQ => ?_)
  subst hkl
  subst hIP
  have hP := hC.v
  have l0 := hP.l0
  have l1 := hP.l1
  have l4 := hP.l4
  have e1 := hC.e1
  have hd := (dsq_I (m := m) hP (by omega) ha hb).2
  have hr := rt_lt (dsq (I 10) m a b).toNat
  refine vv_sub (lv' := [(0, .ref (g 0)), (1, .int (nI m)), (2, .int (a)), (3, .int (b))]) [0, 1, 2, 3] rfl ?_
  refine vv_iload_n X dX2_delayFrom_0 rfl 2 rfl ?_
  refine vv_aload_n X dX2_delayFrom_1 rfl 0 rfl ?_
  refine mg10 X rfl hM dX2_delayFrom_2 ?_
  refine vv_bipush (v := nI 11) X dX2_delayFrom_5 (by decide) ?_
  refine vv_iload_n X dX2_delayFrom_7 rfl 1 rfl ?_
  refine vn_add X dX2_delayFrom_8 ?_
  refine vv_iald X hM.a10 (11 + m) (by omega) (by decide) rfl dX2_delayFrom_9 ?_
  refine vv_isub X dX2_delayFrom_10 ?_
  refine vv_istore (lv' := [(4, .int (a - (I 10 (11 + m)))), (0, .ref (g 0)), (1, .int (nI m)), (2, .int (a)), (3, .int (b))]) X dX2_delayFrom_11 (by decide) rfl ?_
  refine vv_iload_n X dX2_delayFrom_13 rfl 4 rfl ?_
  refine vv_aload_n X dX2_delayFrom_14 rfl 1 rfl ?_
  refine mg10 X rfl hM dX2_delayFrom_15 ?_
  refine vv_bipush (v := nI 23) X dX2_delayFrom_18 (by decide) ?_
  refine vv_iload_n X dX2_delayFrom_20 rfl 2 rfl ?_
  refine vn_add X dX2_delayFrom_21 ?_
  refine vv_iald X hM.a10 (23 + m) (by omega) (by decide) rfl dX2_delayFrom_22 ?_
  refine vv_isub X dX2_delayFrom_23 ?_
  refine vv_istore (lv' := [(5, .int (b - (I 10 (23 + m)))), (4, .int (a - (I 10 (11 + m)))), (0, .ref (g 0)), (1, .int (nI m)), (2, .int (a)), (3, .int (b))]) X dX2_delayFrom_24 (by decide) rfl ?_
  refine vv_aload_n X dX2_delayFrom_26 rfl 2 rfl ?_
  refine mg10 X rfl hM dX2_delayFrom_27 ?_
  refine vv_iconst (v := nI 0) X dX2_delayFrom_30 (by decide) ?_
  refine vv_iald X hM.a10 (0) (by omega) (by decide) rfl dX2_delayFrom_31 ?_
  refine vv_eqi hP.e0 ?_
  refine vv_istore (lv' := [(6, .int (nI (pD (I 10)))), (5, .int (b - (I 10 (23 + m)))), (4, .int (a - (I 10 (11 + m)))), (0, .ref (g 0)), (1, .int (nI m)), (2, .int (a)), (3, .int (b))]) X dX2_delayFrom_32 (by decide) rfl ?_
  refine vv_iload X dX2_delayFrom_34 2 rfl ?_
  refine vv_iload X dX2_delayFrom_36 2 rfl ?_
  refine vv_imul X dX2_delayFrom_38 ?_
  refine vv_iload X dX2_delayFrom_39 1 rfl ?_
  refine vv_iload X dX2_delayFrom_41 1 rfl ?_
  refine vv_imul X dX2_delayFrom_43 ?_
  refine vv_iadd X dX2_delayFrom_44 ?_
  refine vv_iload X dX2_delayFrom_45 0 rfl ?_
  refine vv_iload X dX2_delayFrom_47 0 rfl ?_
  refine vn_mul X dX2_delayFrom_49 ?_
  refine vv_iadd X dX2_delayFrom_50 ?_
  refine vv_eqi (dsq_I hP (by omega) ha hb).1 ?_
  refine vv_callSp X (mX2_root (kL K) D ((dsq (I 10) m a b).toNat) (by omega)) q3184 q3185 q144 q3186 nX2_root ⟨(Nat.le_of_ble_eq_true rfl), (Nat.le_of_ble_eq_true rfl)⟩ dX2_delayFrom_51 rfl (Nat.le_of_ble_eq_true rfl) trivial ⟨(Nat.le_of_ble_eq_true rfl), (Nat.le_of_ble_eq_true rfl)⟩ ?_
  refine vv_aload_n X dX2_delayFrom_54 rfl 3 rfl ?_
  refine mg10 X rfl hM dX2_delayFrom_55 ?_
  refine vv_iconst (v := nI 1) X dX2_delayFrom_58 (by decide) ?_
  refine vv_iald X hM.a10 (1) (by omega) (by decide) rfl dX2_delayFrom_59 ?_
  refine vv_eqi hP.e1 ?_
  refine vn_div X (by omega) (by omega) (by omega) dX2_delayFrom_60 ?_
  refine vv_iload X dX2_delayFrom_61 0 rfl ?_
  refine vv_aload_n X dX2_delayFrom_63 rfl 3 rfl ?_
  refine mg10 X rfl hM dX2_delayFrom_64 ?_
  refine vv_iconst (v := nI 1) X dX2_delayFrom_67 (by decide) ?_
  refine vv_iald X hM.a10 (1) (by omega) (by decide) rfl dX2_delayFrom_68 ?_
  refine vv_eqi hP.e1 ?_
  refine vn_div X (by omega) (by omega) (by omega) dX2_delayFrom_69 ?_
  refine vn_sub X (by exact dN_root (by omega)) dX2_delayFrom_70 ?_
  exact vv_iret X hQ dX2_delayFrom_71 (Nat.le_refl _) (Nat.le_refl _) (pq (rfl))
theorem nX2_sourcePlace : notMH yX2_sourcePlace 4 := by decide +kernel
set_option maxHeartbeats 800000 in
theorem mX2_sourcePlace (l : Launch) (D : DD) (g : Nat → Nat) (x : Nat → Int32) (I : Nat → Nat → Int32) (J : Nat → Nat → Int64) (q : Nat) (S : Nat → Int32) (hIS : I q = S) (k t : Nat) (ax r : Int32) (hq : ∀ {H : Heap}, MR D g x I J H → iA D H (g q) 2455 (I q)) (hk : k < 6) (hr : r = if ax = 0 then sxA S k t else syA S k t) : Cp l yX2_sourcePlace cX2_sourcePlace 5 (some .int) { frames := 1, cells := 0, slots := 0, locals := 12 } D [.ref (g 0), .ref (g q), .int (nI k), .int (ax), .int (nI t)] (fun H => MR D g x I J H) (.int (r)) := by
  refine Ct.of (by decide +kernel) (Nat.le_of_ble_eq_true rfl) (fun K Qf hkl X hM hQ => ?_)
  subst hkl
  subst hIS
  refine vv_sub (lv' := [(0, .ref (g 0)), (1, .ref (g q)), (2, .int (nI k)), (3, .int (ax)), (4, .int (nI t))]) [0, 1, 2, 3, 4] rfl ?_
  refine vv_iload_n X dX2_sourcePlace_0 rfl 3 rfl ?_
  refine vv_if_ne (tgt := 26) X dX2_sourcePlace_1 (by decide) (fun c_1 => ?_) (fun c_1 => ?_)
  · refine vv_aload_n X dX2_sourcePlace_26 rfl 1 rfl ?_
    refine vv_bipush (v := nI 37) X dX2_sourcePlace_27 (by decide) ?_
    refine vv_iload_n X dX2_sourcePlace_29 rfl 2 rfl ?_
    refine vn_add X dX2_sourcePlace_30 ?_
    refine vv_iald X (hq hM) (37 + k) (by omega) (by decide) rfl dX2_sourcePlace_31 ?_
    refine vv_aload_n X dX2_sourcePlace_32 rfl 1 rfl ?_
    refine vv_bipush (v := nI 49) X dX2_sourcePlace_33 (by decide) ?_
    refine vv_iload_n X dX2_sourcePlace_35 rfl 2 rfl ?_
    refine vn_add X dX2_sourcePlace_36 ?_
    refine vv_iald X (hq hM) (49 + k) (by omega) (by decide) rfl dX2_sourcePlace_37 ?_
    refine vv_iload X dX2_sourcePlace_38 4 rfl ?_
    refine vv_imul X dX2_sourcePlace_40 ?_
    refine vv_bipush (v := nI 100) X dX2_sourcePlace_41 (by decide) ?_
    refine vv_idiv X dX2_sourcePlace_43 (by decide) ?_
    refine vv_iadd X dX2_sourcePlace_44 ?_
    exact vv_iret X hQ dX2_sourcePlace_45 (Nat.le_refl _) (Nat.le_refl _) (pq (hr.symm ▸ (if_neg c_1).symm))
  · refine vv_aload_n X dX2_sourcePlace_4 rfl 1 rfl ?_
    refine vv_bipush (v := nI 31) X dX2_sourcePlace_5 (by decide) ?_
    refine vv_iload_n X dX2_sourcePlace_7 rfl 2 rfl ?_
    refine vn_add X dX2_sourcePlace_8 ?_
    refine vv_iald X (hq hM) (31 + k) (by omega) (by decide) rfl dX2_sourcePlace_9 ?_
    refine vv_aload_n X dX2_sourcePlace_10 rfl 1 rfl ?_
    refine vv_bipush (v := nI 43) X dX2_sourcePlace_11 (by decide) ?_
    refine vv_iload_n X dX2_sourcePlace_13 rfl 2 rfl ?_
    refine vn_add X dX2_sourcePlace_14 ?_
    refine vv_iald X (hq hM) (43 + k) (by omega) (by decide) rfl dX2_sourcePlace_15 ?_
    refine vv_iload X dX2_sourcePlace_16 4 rfl ?_
    refine vv_imul X dX2_sourcePlace_18 ?_
    refine vv_bipush (v := nI 100) X dX2_sourcePlace_19 (by decide) ?_
    refine vv_idiv X dX2_sourcePlace_21 (by decide) ?_
    refine vv_iadd X dX2_sourcePlace_22 ?_
    refine vv_goto (tgt := 45) X dX2_sourcePlace_23 (by decide) ?_
    exact vv_iret X hQ dX2_sourcePlace_45 (Nat.le_refl _) (Nat.le_refl _) (pq (hr.symm ▸ (if_pos c_1).symm))
theorem nX2_wave : notMH yX2_wave 2 := by decide +kernel
set_option maxHeartbeats 800000 in
theorem mX2_wave (l : Launch) (D : DD) (g : Nat → Nat) (x : Nat → Int32) (I : Nat → Nat → Int32) (J : Nat → Nat → Int64) (P : Nat → Int32) (hIP : I 10 = P) (k t : Nat) (hC : VC P) (hk : k < nS P) (ht : t < 200) : Cp l yX2_wave cX2_wave 6 (some .int) { frames := 1, cells := 0, slots := 0, locals := 20 } D [.ref (g 0), .int (nI k), .int (nI t)] (fun H => MR D g x I J H) (.int (wav P k t)) := by
  refine Ct.of (by decide +kernel) (Nat.le_of_ble_eq_true rfl) (fun K Qf hkl X hM hQ => ?_)
  subst hkl
  subst hIP
  have hP := hC.v
  have l5 := hP.l5
  have h1 := (hP.amp k (by omega)).2
  have h2 := (hP.per k (by omega)).2
  have h3 := (hP.pha k (by omega)).2
  have h4 := (hP.frm k (by omega)).2
  have h5 := (hP.sort k (by omega)).2
  have h6 := hC.per1 k hk
  have h7 : 31 * t * t ≤ 31 * 199 * 199 := Nat.mul_le_mul (Nat.mul_le_mul_left _ (by omega)) (by omega)
  have h8 := Nat.mod_lt (t + pha (I 10) k) (show 0 < per (I 10) k by omega)
  refine vv_sub (lv' := [(0, .ref (g 0)), (1, .int (nI k)), (2, .int (nI t))]) [0, 1, 2] rfl ?_
  refine vv_aload_n X dX2_wave_0 rfl 0 rfl ?_
  refine mg10 X rfl hM dX2_wave_1 ?_
  refine vv_bipush (v := nI 53) X dX2_wave_4 (by decide) ?_
  refine vv_iload_n X dX2_wave_6 rfl 1 rfl ?_
  refine vn_add X dX2_wave_7 ?_
  refine vv_iald X hM.a10 (53 + k) (by omega) (by decide) rfl dX2_wave_8 ?_
  refine vv_eqi (hP.amp k (by omega)).1 ?_
  refine vv_istore_n (lv' := [(3, .int (nI (amp (I 10) k))), (0, .ref (g 0)), (1, .int (nI k)), (2, .int (nI t))]) X dX2_wave_9 rfl (by decide) rfl ?_
  refine vv_aload_n X dX2_wave_10 rfl 1 rfl ?_
  refine mg10 X rfl hM dX2_wave_11 ?_
  refine vv_bipush (v := nI 59) X dX2_wave_14 (by decide) ?_
  refine vv_iload_n X dX2_wave_16 rfl 2 rfl ?_
  refine vn_add X dX2_wave_17 ?_
  refine vv_iald X hM.a10 (59 + k) (by omega) (by decide) rfl dX2_wave_18 ?_
  refine vv_eqi (hP.per k (by omega)).1 ?_
  refine vv_istore (lv' := [(4, .int (nI (per (I 10) k))), (3, .int (nI (amp (I 10) k))), (0, .ref (g 0)), (1, .int (nI k)), (2, .int (nI t))]) X dX2_wave_19 (by decide) rfl ?_
  refine vv_iload_n X dX2_wave_21 rfl 4 rfl ?_
  refine vv_aload_n X dX2_wave_22 rfl 2 rfl ?_
  refine mg10 X rfl hM dX2_wave_23 ?_
  refine vv_bipush (v := nI 95) X dX2_wave_26 (by decide) ?_
  refine vv_iload_n X dX2_wave_28 rfl 3 rfl ?_
  refine vn_add X dX2_wave_29 ?_
  refine vv_iald X hM.a10 (95 + k) (by omega) (by decide) rfl dX2_wave_30 ?_
  refine vv_eqi (hP.frm k (by omega)).1 ?_
  refine vn_ge (tgt := 36) X (by omega) (by omega) dX2_wave_31 (by decide) (fun c_31 => ?_) (fun c_31 => ?_)
  · refine vv_iload_n X dX2_wave_36 rfl 4 rfl ?_
    refine vv_aload_n X dX2_wave_37 rfl 2 rfl ?_
    refine mg10 X rfl hM dX2_wave_38 ?_
    refine vv_bipush (v := nI 65) X dX2_wave_41 (by decide) ?_
    refine vv_iload_n X dX2_wave_43 rfl 3 rfl ?_
    refine vn_add X dX2_wave_44 ?_
    refine vv_iald X hM.a10 (65 + k) (by omega) (by decide) rfl dX2_wave_45 ?_
    refine vv_eqi (hP.pha k (by omega)).1 ?_
    refine vn_add X dX2_wave_46 ?_
    refine vv_iload X dX2_wave_47 0 rfl ?_
    refine vn_rem X (by omega) (by omega) (by omega) dX2_wave_49 ?_
    refine vv_istore (lv' := [(5, .int (nI ((t + (pha (I 10) k)) % (per (I 10) k)))), (4, .int (nI (per (I 10) k))), (3, .int (nI (amp (I 10) k))), (0, .ref (g 0)), (1, .int (nI k)), (2, .int (nI t))]) X dX2_wave_50 (by decide) rfl ?_
    refine vv_aload_n X dX2_wave_52 rfl 3 rfl ?_
    refine mg10 X rfl hM dX2_wave_53 ?_
    refine vv_bipush (v := nI 47) X dX2_wave_56 (by decide) ?_
    refine vv_iload_n X dX2_wave_58 rfl 4 rfl ?_
    refine vn_add X dX2_wave_59 ?_
    refine vv_iald X hM.a10 (47 + k) (by omega) (by decide) rfl dX2_wave_60 ?_
    refine vv_eqi (hP.sort k (by omega)).1 ?_
    rcases (show (sort (I 10) k) = 0 ∨ (sort (I 10) k) = 1 ∨ (sort (I 10) k) = 2 ∨ 2 < (sort (I 10) k) by omega) with sw_61 | sw_61 | sw_61 | sw_61
    · refine vv_eqi (congrArg nI sw_61) ?_
      refine vv_tableIn (tgt := 88) X dX2_wave_61 (by decide) (by decide) rfl (by decide) ?_
      refine vv_iload X dX2_wave_88 0 rfl ?_
      refine vv_iload X dX2_wave_90 1 rfl ?_
      refine vv_iconst (v := nI 2) X dX2_wave_92 (by decide) ?_
      refine vn_div X (by omega) (by omega) (by omega) dX2_wave_93 ?_
      refine vn_ge (tgt := 101) X (by omega) (by omega) dX2_wave_94 (by decide) (fun c_94 => ?_) (fun c_94 => ?_)
      · refine vv_iload_n X dX2_wave_101 rfl 2 rfl ?_
        refine vv_ineg X dX2_wave_102 ?_
        exact vv_iret X hQ dX2_wave_103 (Nat.le_refl _) (Nat.le_refl _) (pq (by unfold wav wTri; rw [if_neg (Nat.not_lt.mpr c_31), if_pos sw_61, if_neg (Nat.not_lt.mpr c_94)]))
      · refine vv_iload_n X dX2_wave_97 rfl 2 rfl ?_
        refine vv_goto (tgt := 103) X dX2_wave_98 (by decide) ?_
        exact vv_iret X hQ dX2_wave_103 (Nat.le_refl _) (Nat.le_refl _) (pq (by unfold wav wTri; rw [if_neg (Nat.not_lt.mpr c_31), if_pos sw_61, if_pos c_94]))
    · refine vv_eqi (congrArg nI sw_61) ?_
      refine vv_tableIn (tgt := 104) X dX2_wave_61 (by decide) (by decide) rfl (by decide) ?_
      refine vv_iload_n X dX2_wave_104 rfl 2 rfl ?_
      refine vv_iconst (v := nI 4) X dX2_wave_105 (by decide) ?_
      refine vv_iload X dX2_wave_106 0 rfl ?_
      refine vv_iload X dX2_wave_108 1 rfl ?_
      refine vv_iconst (v := nI 2) X dX2_wave_110 (by decide) ?_
      refine vn_div X (by omega) (by omega) (by omega) dX2_wave_111 ?_
      refine vv_isub X dX2_wave_112 ?_
      refine vv_mabs X q3212 (Nat.le_of_ble_eq_true rfl) (Nat.le_of_ble_eq_true rfl) (Nat.le_of_ble_eq_true rfl) (Nat.le_of_ble_eq_true rfl) dX2_wave_113 ?_
      refine vv_imul X dX2_wave_116 ?_
      refine vv_iload X dX2_wave_117 1 rfl ?_
      refine vv_isub X dX2_wave_119 ?_
      refine vv_imul X dX2_wave_120 ?_
      refine vv_iload X dX2_wave_121 1 rfl ?_
      refine vv_idiv X dX2_wave_123 (nI_ne0 (by omega) (by omega)) ?_
      exact vv_iret X hQ dX2_wave_124 (Nat.le_refl _) (Nat.le_refl _) (pq (by unfold wav wTri; rw [if_neg (Nat.not_lt.mpr c_31), if_neg (show ¬ sort (I 10) k = 0 by omega), if_pos sw_61]))
    · refine vv_eqi (congrArg nI sw_61) ?_
      refine vv_tableIn (tgt := 125) X dX2_wave_61 (by decide) (by decide) rfl (by decide) ?_
      refine vv_iload X dX2_wave_125 0 rfl ?_
      refine vn_if_ne (tgt := 134) X (by omega) dX2_wave_127 (by decide) (fun c_127 => ?_) (fun c_127 => ?_)
      · refine vv_iconst (v := nI 0) X dX2_wave_134 (by decide) ?_
        exact vv_iret X hQ dX2_wave_135 (Nat.le_refl _) (Nat.le_refl _) (pq (by unfold wav wTri; rw [if_neg (Nat.not_lt.mpr c_31), if_neg (show ¬ sort (I 10) k = 0 by omega), if_neg (show ¬ sort (I 10) k = 1 by omega), if_pos sw_61, if_neg (show ¬ (t + pha (I 10) k) % per (I 10) k = 0 by omega)]))
      · refine vv_iload_n X dX2_wave_130 rfl 2 rfl ?_
        refine vv_goto (tgt := 135) X dX2_wave_131 (by decide) ?_
        exact vv_iret X hQ dX2_wave_135 (Nat.le_refl _) (Nat.le_refl _) (pq (by unfold wav wTri; rw [if_neg (Nat.not_lt.mpr c_31), if_neg (show ¬ sort (I 10) k = 0 by omega), if_neg (show ¬ sort (I 10) k = 1 by omega), if_pos sw_61, if_pos c_127]))
    · refine vv_tableOut (tgt := 136) X dX2_wave_61 (Or.inr (by rw [nI_toInt (by omega)]; omega)) (by decide) ?_
      refine vv_bipush (v := nI 31) X dX2_wave_136 (by decide) ?_
      refine vv_iload_n X dX2_wave_138 rfl 5 rfl ?_
      refine vn_mul X dX2_wave_139 ?_
      refine vv_iload_n X dX2_wave_140 rfl 5 rfl ?_
      refine vn_mul X dX2_wave_141 ?_
      refine vv_sipush (v := nI 7919) X dX2_wave_142 (by decide) ?_
      refine vv_iload_n X dX2_wave_145 rfl 5 rfl ?_
      refine vn_mul X dX2_wave_146 ?_
      refine vn_add X dX2_wave_147 ?_
      refine vv_ldcw (v := nI 104729) X q3213 dX2_wave_148 ?_
      refine vv_aload_n X dX2_wave_151 rfl 3 rfl ?_
      refine mg10 X rfl hM dX2_wave_152 ?_
      refine vv_bipush (v := nI 65) X dX2_wave_155 (by decide) ?_
      refine vv_iload_n X dX2_wave_157 rfl 4 rfl ?_
      refine vn_add X dX2_wave_158 ?_
      refine vv_iald X hM.a10 (65 + k) (by omega) (by decide) rfl dX2_wave_159 ?_
      refine vv_eqi (hP.pha k (by omega)).1 ?_
      refine vn_mul X dX2_wave_160 ?_
      refine vn_add X dX2_wave_161 ?_
      refine vv_iconst (v := nI 2) X dX2_wave_162 (by decide) ?_
      refine vv_iload_n X dX2_wave_163 rfl 2 rfl ?_
      refine vn_mul X dX2_wave_164 ?_
      refine vv_iconst (v := nI 1) X dX2_wave_165 (by decide) ?_
      refine vn_add X dX2_wave_166 ?_
      refine vn_rem X (by omega) (by omega) (by omega) dX2_wave_167 ?_
      refine vv_iload_n X dX2_wave_168 rfl 2 rfl ?_
      refine vv_isub X dX2_wave_169 ?_
      exact vv_iret X hQ dX2_wave_170 (Nat.le_refl _) (Nat.le_refl _) (pq (by unfold wav wTri; rw [if_neg (Nat.not_lt.mpr c_31), if_neg (show ¬ sort (I 10) k = 0 by omega), if_neg (show ¬ sort (I 10) k = 1 by omega), if_neg (show ¬ sort (I 10) k = 2 by omega)]))
  · refine vv_iconst (v := nI 0) X dX2_wave_34 (by decide) ?_
    exact vv_iret X hQ dX2_wave_35 (Nat.le_refl _) (Nat.le_refl _) (pq ((if_pos c_31).symm))
theorem nX2_bounded : notMH yX2_bounded 1 := by decide +kernel
set_option maxHeartbeats 800000 in
theorem mX2_bounded (l : Launch) (D : DD) (g : Nat → Nat) (x : Nat → Int32) (I : Nat → Nat → Int32) (J : Nat → Nat → Int64) (P : Nat → Int32) (hIP : I 10 = P) (v : Int32) (hP : VP P) : Cp l yX2_bounded cX2_bounded 2 (some .int) { frames := 1, cells := 0, slots := 0, locals := 20 } D [.ref (g 0), .int (v)] (fun H => MR D g x I J H) (.int (bnd P v)) := by
  refine Ct.of (by decide +kernel) (Nat.le_of_ble_eq_true rfl) (fun K Qf hkl X hM hQ => ?_)
  subst hkl
  subst hIP
  refine vv_sub (lv' := [(0, .ref (g 0)), (1, .int (v))]) [0, 1] rfl ?_
  refine vv_aload_n X dX2_bounded_0 rfl 0 rfl ?_
  refine mg10 X rfl hM dX2_bounded_1 ?_
  refine vv_iconst (v := nI 3) X dX2_bounded_4 (by decide) ?_
  refine vv_iald X hM.a10 (3) (by omega) (by decide) rfl dX2_bounded_5 ?_
  refine vv_eqi hP.e3 ?_
  refine vv_ineg X dX2_bounded_6 ?_
  refine vv_aload_n X dX2_bounded_7 rfl 0 rfl ?_
  refine mg10 X rfl hM dX2_bounded_8 ?_
  refine vv_iconst (v := nI 3) X dX2_bounded_11 (by decide) ?_
  refine vv_iald X hM.a10 (3) (by omega) (by decide) rfl dX2_bounded_12 ?_
  refine vv_eqi hP.e3 ?_
  refine vv_iload_n X dX2_bounded_13 rfl 1 rfl ?_
  refine vv_mmin X q3226 (Nat.le_of_ble_eq_true rfl) (Nat.le_of_ble_eq_true rfl) (Nat.le_of_ble_eq_true rfl) (Nat.le_of_ble_eq_true rfl) dX2_bounded_14 ?_
  refine vv_mmax X q3227 (Nat.le_of_ble_eq_true rfl) (Nat.le_of_ble_eq_true rfl) (Nat.le_of_ble_eq_true rfl) (Nat.le_of_ble_eq_true rfl) dX2_bounded_17 ?_
  exact vv_iret X hQ dX2_bounded_20 (Nat.le_refl _) (Nat.le_refl _) (pq (rfl))
theorem nX2_waveNow : notMH yX2_waveNow 2 := by decide +kernel
set_option maxHeartbeats 800000 in
theorem mX2_waveNow (l : Launch) (D : DD) (g : Nat → Nat) (x : Nat → Int32) (I : Nat → Nat → Int32) (J : Nat → Nat → Int64) (P : Nat → Int32) (hIP : I 10 = P) (k t : Nat) (w : Nat → Int32) (hC : VC P) (hw : wmd x P k w) (ht : t < 200) : Cp l yX2_waveNow cX2_waveNow 3 (some .int) { frames := 2, cells := 0, slots := 0, locals := 45 } D [.ref (g 0), .int (nI k), .int (nI t)] (fun H => MR D g x I J H) (.int (w t)) := by
  refine Ct.of (by decide +kernel) (Nat.le_of_ble_eq_true rfl) (fun K Qf hkl X hM hQ => ?_)
  subst hkl
  subst hIP
  have hP := hC.v
  have l9 := hP.l9
  have l10 := hP.l10
  refine vv_sub (lv' := [(0, .ref (g 0)), (1, .int (nI k)), (2, .int (nI t))]) [0, 1, 2] rfl ?_
  rcases hw with ⟨h1, h2, h3⟩ | ⟨c, p, h1, h2, h3, h4, h5, h6⟩
  · refine vv_aload_n X dX2_waveNow_0 rfl 0 rfl ?_
    refine mg21 X rfl hM dX2_waveNow_1 ?_
    refine vv_iconst (v := -1) X dX2_waveNow_4 (by decide) ?_
    refine vv_icmp_ne (tgt := 17) X dX2_waveNow_5 (by decide) (fun c_5 => ?_) (fun c_5 => ?_)
    · exact absurd h1 c_5
    · refine vv_aload_n X dX2_waveNow_8 rfl 0 rfl ?_
      refine vv_iload_n X dX2_waveNow_9 rfl 1 rfl ?_
      refine vv_iload_n X dX2_waveNow_10 rfl 2 rfl ?_
      refine vv_callVp X (mX2_wave (kL K) D g x I J (I 10) rfl k t hC (by omega) (by omega)) q3208 q3210 qs92 q144 q3211 nX2_wave ⟨(Nat.le_of_ble_eq_true rfl), (Nat.le_of_ble_eq_true rfl)⟩ dX2_waveNow_11 rfl (Nat.le_of_ble_eq_true rfl) (recv X hM.1 CL_X2) hM ⟨(Nat.le_of_ble_eq_true rfl), (Nat.le_of_ble_eq_true rfl)⟩ ?_
      refine vv_goto (tgt := 39) X dX2_waveNow_14 (by decide) ?_
      exact vv_iret X hQ dX2_waveNow_39 (Nat.le_refl _) (Nat.le_refl _) (pq (by rw [h3]))
  · have hcc : c < 144 := Nat.lt_of_lt_of_le h2 (Nat.mul_le_mul l9 l10)
    have hmd := Nat.mod_lt t (show 0 < p by omega)
    refine vv_aload_n X dX2_waveNow_0 rfl 0 rfl ?_
    refine mg21 X rfl hM dX2_waveNow_1 ?_
    refine vv_eqi (h1) ?_
    refine vv_iconst (v := -1) X dX2_waveNow_4 (by decide) ?_
    refine vv_icmp_ne (tgt := 17) X dX2_waveNow_5 (by decide) (fun c_5 => ?_) (fun c_5 => ?_)
    · refine vv_iload_n X dX2_waveNow_17 rfl 2 rfl ?_
      refine vv_aload_n X dX2_waveNow_18 rfl 0 rfl ?_
      refine mg22 X rfl hM dX2_waveNow_19 ?_
      refine vv_eqi (h3) ?_
      refine vn_rem X (by omega) (by omega) (by omega) dX2_waveNow_22 ?_
      refine vv_aload_n X dX2_waveNow_23 rfl 0 rfl ?_
      refine mg22 X rfl hM dX2_waveNow_24 ?_
      refine vv_eqi (h3) ?_
      refine vv_iconst (v := nI 2) X dX2_waveNow_27 (by decide) ?_
      refine vn_div X (by omega) (by omega) (by omega) dX2_waveNow_28 ?_
      refine vn_ge (tgt := 37) X (by omega) (by omega) dX2_waveNow_29 (by decide) (fun c_29 => ?_) (fun c_29 => ?_)
      · refine vv_bipush (v := -100) X dX2_waveNow_37 (by decide) ?_
        exact vv_iret X hQ dX2_waveNow_39 (Nat.le_refl _) (Nat.le_refl _) (pq (by rw [h6]; exact (if_neg (Nat.not_lt.mpr c_29)).symm))
      · refine vv_bipush (v := nI 100) X dX2_waveNow_32 (by decide) ?_
        refine vv_goto (tgt := 39) X dX2_waveNow_34 (by decide) ?_
        exact vv_iret X hQ dX2_waveNow_39 (Nat.le_refl _) (Nat.le_refl _) (pq (by rw [h6]; exact (if_pos c_29).symm))
    · exact absurd c_5 (nI_nm1 (by omega))
theorem nX2_heardFrom : notMH yX2_heardFrom 5 := by decide +kernel
set_option maxHeartbeats 800000 in
theorem mX2_heardFrom (l : Launch) (D : DD) (g : Nat → Nat) (x : Nat → Int32) (I : Nat → Nat → Int32) (J : Nat → Nat → Int64) (P : Nat → Int32) (hIP : I 10 = P) (m : Nat) (a b : Int32) (k t : Nat) (w : Nat → Int32) (hC : VC P) (hm : m < nM P) (ha : rg 9999 a) (hb : rg 9999 b) (hw : wmd x P k w) (ht : t < 200) : Cp l yX2_heardFrom cX2_heardFrom 8 (some .int) { frames := 3, cells := 0, slots := 0, locals := 67 } D [.ref (g 0), .int (nI m), .int (a), .int (b), .int (nI k), .int (nI t)] (fun H => MR D g x I J H) (.int (hF P w m a b t)) := by
  refine Ct.of (by decide +kernel) (Nat.le_of_ble_eq_true rfl) (fun K Qf hkl X hM hQ => ?_)
  subst hkl
  subst hIP
  have hP := hC.v
  have l76 := hP.l76
  have hd := dN_lt (I 10) m a b
  refine vv_sub (lv' := [(0, .ref (g 0)), (1, .int (nI m)), (2, .int (a)), (3, .int (b)), (4, .int (nI k)), (5, .int (nI t))]) [0, 1, 2, 3, 4, 5] rfl ?_
  refine vv_aload_n X dX2_heardFrom_0 rfl 0 rfl ?_
  refine vv_iload_n X dX2_heardFrom_1 rfl 1 rfl ?_
  refine vv_iload_n X dX2_heardFrom_2 rfl 2 rfl ?_
  refine vv_iload_n X dX2_heardFrom_3 rfl 3 rfl ?_
  refine vv_callVp X (mX2_delayFrom (kL K) D g x I J (I 10) rfl m a b hC (by omega) (ha) (hb)) q3180 q3182 qs86 q144 q3183 nX2_delayFrom ⟨(Nat.le_of_ble_eq_true rfl), (Nat.le_of_ble_eq_true rfl)⟩ dX2_heardFrom_4 rfl (Nat.le_of_ble_eq_true rfl) (recv X hM.1 CL_X2) hM ⟨(Nat.le_of_ble_eq_true rfl), (Nat.le_of_ble_eq_true rfl)⟩ ?_
  refine vv_istore (lv' := [(6, .int (nI (dN (I 10) m a b))), (0, .ref (g 0)), (1, .int (nI m)), (2, .int (a)), (3, .int (b)), (4, .int (nI k)), (5, .int (nI t))]) X dX2_heardFrom_7 (by decide) rfl ?_
  refine vv_iload X dX2_heardFrom_9 6 rfl ?_
  refine vv_iload X dX2_heardFrom_11 0 rfl ?_
  refine vn_ge (tgt := 20) X (by omega) (by omega) dX2_heardFrom_13 (by decide) (fun c_13 => ?_) (fun c_13 => ?_)
  · refine vv_aload_n X dX2_heardFrom_20 rfl 1 rfl ?_
    refine vv_iload X dX2_heardFrom_21 5 rfl ?_
    refine vv_iload X dX2_heardFrom_23 6 rfl ?_
    refine vv_iload X dX2_heardFrom_25 0 rfl ?_
    refine vn_sub X (by omega) dX2_heardFrom_27 ?_
    refine vv_callVp X (mX2_waveNow (kL K) D g x I J (I 10) rfl k (t - (dN (I 10) m a b)) w hC hw (by omega)) q3204 q3206 qs91 q144 q3207 nX2_waveNow ⟨(Nat.le_of_ble_eq_true rfl), (Nat.le_of_ble_eq_true rfl)⟩ dX2_heardFrom_28 rfl (Nat.le_of_ble_eq_true rfl) (recv X hM.1 CL_X2) hM ⟨(Nat.le_of_ble_eq_true rfl), (Nat.le_of_ble_eq_true rfl)⟩ ?_
    refine vv_istore (lv' := [(7, .int (w (t - (dN (I 10) m a b)))), (6, .int (nI (dN (I 10) m a b))), (0, .ref (g 0)), (1, .int (nI m)), (2, .int (a)), (3, .int (b)), (4, .int (nI k)), (5, .int (nI t))]) X dX2_heardFrom_31 (by decide) rfl ?_
    refine vv_aload_n X dX2_heardFrom_33 rfl 2 rfl ?_
    refine mg10 X rfl hM dX2_heardFrom_34 ?_
    refine vv_bipush (v := nI 76) X dX2_heardFrom_37 (by decide) ?_
    refine vv_iald X hM.a10 (76) (by omega) (by decide) rfl dX2_heardFrom_39 ?_
    refine vv_eqi hP.e76 ?_
    refine vn_if_ne (tgt := 48) X (by omega) dX2_heardFrom_40 (by decide) (fun c_40 => ?_) (fun c_40 => ?_)
    · refine vv_iload X dX2_heardFrom_48 0 rfl ?_
      refine vv_aload_n X dX2_heardFrom_50 rfl 2 rfl ?_
      refine mg10 X rfl hM dX2_heardFrom_51 ?_
      refine vv_bipush (v := nI 76) X dX2_heardFrom_54 (by decide) ?_
      refine vv_iald X hM.a10 (76) (by omega) (by decide) rfl dX2_heardFrom_56 ?_
      refine vv_eqi hP.e76 ?_
      refine vv_imul X dX2_heardFrom_57 ?_
      refine vv_aload_n X dX2_heardFrom_58 rfl 2 rfl ?_
      refine mg10 X rfl hM dX2_heardFrom_59 ?_
      refine vv_bipush (v := nI 76) X dX2_heardFrom_62 (by decide) ?_
      refine vv_iald X hM.a10 (76) (by omega) (by decide) rfl dX2_heardFrom_64 ?_
      refine vv_eqi hP.e76 ?_
      refine vv_iload X dX2_heardFrom_65 1 rfl ?_
      refine vn_add X dX2_heardFrom_67 ?_
      refine vv_idiv X dX2_heardFrom_68 (nI_ne0 (by omega) (by omega)) ?_
      exact vv_iret X hQ dX2_heardFrom_69 (Nat.le_refl _) (Nat.le_refl _) (pq (by unfold hF; rw [if_neg (show ¬ nF (I 10) = 0 by omega), if_neg (Nat.not_lt.mpr c_13)]))
    · refine vv_iload X dX2_heardFrom_43 0 rfl ?_
      refine vv_goto (tgt := 69) X dX2_heardFrom_45 (by decide) ?_
      exact vv_iret X hQ dX2_heardFrom_69 (Nat.le_refl _) (Nat.le_refl _) (pq (by unfold hF; rw [if_pos c_40, if_neg (Nat.not_lt.mpr c_13)]))
  · refine vv_iconst (v := nI 0) X dX2_heardFrom_16 (by decide) ?_
    refine vv_goto (tgt := 31) X dX2_heardFrom_17 (by decide) ?_
    refine vv_istore (lv' := [(7, .int (nI 0)), (6, .int (nI (dN (I 10) m a b))), (0, .ref (g 0)), (1, .int (nI m)), (2, .int (a)), (3, .int (b)), (4, .int (nI k)), (5, .int (nI t))]) X dX2_heardFrom_31 (by decide) rfl ?_
    refine vv_aload_n X dX2_heardFrom_33 rfl 2 rfl ?_
    refine mg10 X rfl hM dX2_heardFrom_34 ?_
    refine vv_bipush (v := nI 76) X dX2_heardFrom_37 (by decide) ?_
    refine vv_iald X hM.a10 (76) (by omega) (by decide) rfl dX2_heardFrom_39 ?_
    refine vv_eqi hP.e76 ?_
    refine vn_if_ne (tgt := 48) X (by omega) dX2_heardFrom_40 (by decide) (fun c_40 => ?_) (fun c_40 => ?_)
    · refine vv_iload X dX2_heardFrom_48 0 rfl ?_
      refine vv_aload_n X dX2_heardFrom_50 rfl 2 rfl ?_
      refine mg10 X rfl hM dX2_heardFrom_51 ?_
      refine vv_bipush (v := nI 76) X dX2_heardFrom_54 (by decide) ?_
      refine vv_iald X hM.a10 (76) (by omega) (by decide) rfl dX2_heardFrom_56 ?_
      refine vv_eqi hP.e76 ?_
      refine vv_imul X dX2_heardFrom_57 ?_
      refine vv_aload_n X dX2_heardFrom_58 rfl 2 rfl ?_
      refine mg10 X rfl hM dX2_heardFrom_59 ?_
      refine vv_bipush (v := nI 76) X dX2_heardFrom_62 (by decide) ?_
      refine vv_iald X hM.a10 (76) (by omega) (by decide) rfl dX2_heardFrom_64 ?_
      refine vv_eqi hP.e76 ?_
      refine vv_iload X dX2_heardFrom_65 1 rfl ?_
      refine vn_add X dX2_heardFrom_67 ?_
      refine vv_idiv X dX2_heardFrom_68 (nI_ne0 (by omega) (by omega)) ?_
      exact vv_iret X hQ dX2_heardFrom_69 (Nat.le_refl _) (Nat.le_refl _) (pq (by unfold hF; rw [if_neg (show ¬ nF (I 10) = 0 by omega), if_pos c_13]))
    · refine vv_iload X dX2_heardFrom_43 0 rfl ?_
      refine vv_goto (tgt := 69) X dX2_heardFrom_45 (by decide) ?_
      exact vv_iret X hQ dX2_heardFrom_69 (Nat.le_refl _) (Nat.le_refl _) (pq (by unfold hF; rw [if_pos c_40, if_pos c_13]))
theorem nX2_heardOf : notMH yX2_heardOf 5 := by decide +kernel
set_option maxHeartbeats 800000 in
theorem mX2_heardOf (l : Launch) (D : DD) (g : Nat → Nat) (x : Nat → Int32) (I : Nat → Nat → Int32) (J : Nat → Nat → Int64) (P : Nat → Int32) (hIP : I 10 = P) (m : Nat) (a b : Int32) (k t : Nat) (w : Nat → Int32) (hC : VC P) (hm : m < nM P) (ha : rg 3990 a) (hb : rg 3990 b) (hw : wmd x P k w) (ht : t < 200) : Cp l yX2_heardOf cX2_heardOf 8 (some .int) { frames := 4, cells := 0, slots := 0, locals := 94 } D [.ref (g 0), .int (nI m), .int (a), .int (b), .int (nI k), .int (nI t)] (fun H => MR D g x I J H) (.int (hO P w m a b t)) := by
  refine Ct.of (by decide +kernel) (Nat.le_of_ble_eq_true rfl) (fun K Qf hkl X hM hQ => ?_)
  subst hkl
  subst hIP
  have hP := hC.v
  have l71 := hP.l71
  refine vv_sub (lv' := [(0, .ref (g 0)), (1, .int (nI m)), (2, .int (a)), (3, .int (b)), (4, .int (nI k)), (5, .int (nI t))]) [0, 1, 2, 3, 4, 5] rfl ?_
  refine vv_aload_n X dX2_heardOf_0 rfl 0 rfl ?_
  refine vv_iload_n X dX2_heardOf_1 rfl 1 rfl ?_
  refine vv_iload_n X dX2_heardOf_2 rfl 2 rfl ?_
  refine vv_iload_n X dX2_heardOf_3 rfl 3 rfl ?_
  refine vv_iload X dX2_heardOf_4 4 rfl ?_
  refine vv_iload X dX2_heardOf_6 5 rfl ?_
  refine vv_callVp X (mX2_heardFrom (kL K) D g x I J (I 10) rfl m a b k t w hC (by omega) (ha.mono (by omega)) (hb.mono (by omega)) hw (by omega)) q3200 q3202 qs90 q144 q3203 nX2_heardFrom ⟨(Nat.le_of_ble_eq_true rfl), (Nat.le_of_ble_eq_true rfl)⟩ dX2_heardOf_8 rfl (Nat.le_of_ble_eq_true rfl) (recv X hM.1 CL_X2) hM ⟨(Nat.le_of_ble_eq_true rfl), (Nat.le_of_ble_eq_true rfl)⟩ ?_
  refine vv_istore (lv' := [(6, .int (hF (I 10) w m a b t)), (0, .ref (g 0)), (1, .int (nI m)), (2, .int (a)), (3, .int (b)), (4, .int (nI k)), (5, .int (nI t))]) X dX2_heardOf_11 (by decide) rfl ?_
  refine vv_iconst (v := nI 0) X dX2_heardOf_13 (by decide) ?_
  refine vv_istore (lv' := [(7, .int (nI 0)), (6, .int (hF (I 10) w m a b t)), (0, .ref (g 0)), (1, .int (nI m)), (2, .int (a)), (3, .int (b)), (4, .int (nI k)), (5, .int (nI t))]) X dX2_heardOf_14 (by decide) rfl ?_
  have hx_1 : ∀ (s : Int32) (hs : s = fo (fun k s => s + hF (I 10) w m (nI 2 * I 10 (72 + k) - a) b t * nI (pct (I 10) k) / nI 100) (nW (I 10)) (hF (I 10) w m a b t)), V K 8 (fun _ => False) (kS K).heap 0 0 Qf 77 [(0, .ref (g 0)), (1, .int (nI m)), (2, .int (a)), (3, .int (b)), (4, .int (nI k)), (5, .int (nI t)), (6, .int (s)), (7, .int (nI (nW (I 10))))] [] := by
    intro s hs
    refine vv_iload X dX2_heardOf_77 6 rfl ?_
    exact vv_iret X hQ dX2_heardOf_79 (Nat.le_refl _) (Nat.le_refl _) (pq (by rw [hs]; rfl))
  have hl_2 : ∀ (n_i i : Nat) (s : Int32), i + n_i = nW (I 10) → (s = fo (fun k s => s + hF (I 10) w m (nI 2 * I 10 (72 + k) - a) b t * nI (pct (I 10) k) / nI 100) i (hF (I 10) w m a b t)) → V K 8 (fun _ => False) (kS K).heap 0 0 Qf 16 [(0, .ref (g 0)), (1, .int (nI m)), (2, .int (a)), (3, .int (b)), (4, .int (nI k)), (5, .int (nI t)), (6, .int (s)), (7, .int (nI i))] [] := by
    intro n_i
    induction n_i with
    | zero =>
      intro i s hi hs
      obtain rfl : i = nW (I 10) := by omega
      refine vv_iload X dX2_heardOf_16 7 rfl ?_
      refine vv_aload_n X dX2_heardOf_18 rfl 0 rfl ?_
      refine mg10 X rfl hM dX2_heardOf_19 ?_
      refine vv_bipush (v := nI 71) X dX2_heardOf_22 (by decide) ?_
      refine vv_iald X hM.a10 (71) (by omega) (by decide) rfl dX2_heardOf_24 ?_
      refine vv_eqi hP.e71 ?_
      refine vn_ge (tgt := 77) X (by omega) (by omega) dX2_heardOf_25 (by decide) (fun c_25 => ?_) (fun c_25 => ?_)
      · exact hx_1 s hs
      · exact absurd c_25 (by omega)
    | succ n_i ihi =>
      intro i s hi hs
      refine vv_iload X dX2_heardOf_16 7 rfl ?_
      refine vv_aload_n X dX2_heardOf_18 rfl 0 rfl ?_
      refine mg10 X rfl hM dX2_heardOf_19 ?_
      refine vv_bipush (v := nI 71) X dX2_heardOf_22 (by decide) ?_
      refine vv_iald X hM.a10 (71) (by omega) (by decide) rfl dX2_heardOf_24 ?_
      refine vv_eqi hP.e71 ?_
      refine vn_ge (tgt := 77) X (by omega) (by omega) dX2_heardOf_25 (by decide) (fun c_25 => ?_) (fun c_25 => ?_)
      · exact absurd hi (by omega)
      · refine vv_iload X dX2_heardOf_28 6 rfl ?_
        refine vv_aload_n X dX2_heardOf_30 rfl 0 rfl ?_
        refine vv_iload_n X dX2_heardOf_31 rfl 1 rfl ?_
        refine vv_iconst (v := nI 2) X dX2_heardOf_32 (by decide) ?_
        refine vv_aload_n X dX2_heardOf_33 rfl 0 rfl ?_
        refine mg10 X rfl hM dX2_heardOf_34 ?_
        refine vv_bipush (v := nI 72) X dX2_heardOf_37 (by decide) ?_
        refine vv_iload X dX2_heardOf_39 7 rfl ?_
        refine vn_add X dX2_heardOf_41 ?_
        refine vv_iald X hM.a10 (72 + i) (by omega) (by decide) rfl dX2_heardOf_42 ?_
        refine vv_imul X dX2_heardOf_43 ?_
        refine vv_iload_n X dX2_heardOf_44 rfl 2 rfl ?_
        refine vv_isub X dX2_heardOf_45 ?_
        refine vv_iload_n X dX2_heardOf_46 rfl 3 rfl ?_
        refine vv_iload X dX2_heardOf_47 4 rfl ?_
        refine vv_iload X dX2_heardOf_49 5 rfl ?_
        refine vv_callVp X (mX2_heardFrom (kL K) D g x I J (I 10) rfl m (((nI 2) * (I 10 (72 + i))) - a) b k t w hC (by omega) (mir_rg hP (by omega) ha) (hb.mono (by omega)) hw (by omega)) q3200 q3202 qs90 q144 q3203 nX2_heardFrom ⟨(Nat.le_of_ble_eq_true rfl), (Nat.le_of_ble_eq_true rfl)⟩ dX2_heardOf_51 rfl (Nat.le_of_ble_eq_true rfl) (recv X hM.1 CL_X2) hM ⟨(Nat.le_of_ble_eq_true rfl), (Nat.le_of_ble_eq_true rfl)⟩ ?_
        refine vv_aload_n X dX2_heardOf_54 rfl 0 rfl ?_
        refine mg10 X rfl hM dX2_heardOf_55 ?_
        refine vv_bipush (v := nI 74) X dX2_heardOf_58 (by decide) ?_
        refine vv_iload X dX2_heardOf_60 7 rfl ?_
        refine vn_add X dX2_heardOf_62 ?_
        refine vv_iald X hM.a10 (74 + i) (by omega) (by decide) rfl dX2_heardOf_63 ?_
        refine vv_eqi (hP.pct i (by omega)).1 ?_
        refine vv_imul X dX2_heardOf_64 ?_
        refine vv_bipush (v := nI 100) X dX2_heardOf_65 (by decide) ?_
        refine vv_idiv X dX2_heardOf_67 (by decide) ?_
        refine vv_iadd X dX2_heardOf_68 ?_
        refine vv_istore (lv' := [(6, .int (s + (((hF (I 10) w m (((nI 2) * (I 10 (72 + i))) - a) b t) * (nI (pct (I 10) i))) / (nI 100)))), (0, .ref (g 0)), (1, .int (nI m)), (2, .int (a)), (3, .int (b)), (4, .int (nI k)), (5, .int (nI t)), (7, .int (nI i))]) X dX2_heardOf_69 (by decide) rfl ?_
        refine vv_iinc (v := nI (i + 1)) (lv' := [(7, .int (nI (i + 1))), (6, .int (s + (((hF (I 10) w m (((nI 2) * (I 10 (72 + i))) - a) b t) * (nI (pct (I 10) i))) / (nI 100)))), (0, .ref (g 0)), (1, .int (nI m)), (2, .int (a)), (3, .int (b)), (4, .int (nI k)), (5, .int (nI t))]) X dX2_heardOf_71 (k := 7) rfl (nI_add _ 1) (by decide) rfl ?_
        refine vv_goto (tgt := 16) X dX2_heardOf_74 (by decide) ?_
        refine vv_sub [2, 3, 4, 5, 6, 7, 1, 0] rfl ?_
        exact ihi (i + 1) (s + (((hF (I 10) w m (((nI 2) * (I 10 (72 + i))) - a) b t) * (nI (pct (I 10) i))) / (nI 100))) (by omega) (by rw [hs]; rfl)
  refine vv_sub [2, 3, 4, 5, 6, 7, 1, 0] rfl ?_
  exact hl_2 (nW (I 10)) 0 (hF (I 10) w m a b t) (by omega) (rfl)
theorem nX2_rawAt : notMH yX2_rawAt 3 := by decide +kernel
set_option maxHeartbeats 800000 in
theorem mX2_rawAt (l : Launch) (D : DD) (g : Nat → Nat) (x : Nat → Int32) (I : Nat → Nat → Int32) (J : Nat → Nat → Int64) (q : Nat) (P : Nat → Int32) (hIP : I 10 = P) (S : Nat → Int32) (hIS : I q = S) (m t : Nat) (r : Int32) (hq : ∀ {H : Heap}, MR D g x I J H → iA D H (g q) 2455 (I q)) (hC : VC P) (hS : VS S) (hm : m < nM P) (ht : t < 200) (hr : (x 21 = -1 ∧ r = rawA P S m t) ∨ ∃ c p, x 21 = nI c ∧ c < nC P ∧ x 22 = nI p ∧ 2 ≤ p ∧ p ≤ 99 ∧ r = rawP P c p m t) : Cp l yX2_rawAt cX2_rawAt 7 (some .int) { frames := 5, cells := 0, slots := 0, locals := 121 } D [.ref (g 0), .ref (g q), .int (nI m), .int (nI t)] (fun H => MR D g x I J H) (.int (r)) := by
  refine Ct.of (by decide +kernel) (Nat.le_of_ble_eq_true rfl) (fun K Qf hkl X hM hQ => ?_)
  subst hkl
  subst hIP
  subst hIS
  have hP := hC.v
  have l4 := hP.l4
  have l5 := hP.l5
  have l9 := hP.l9
  have l10 := hP.l10
  have ho := (hP.ofs m (by omega)).2
  refine vv_sub (lv' := [(0, .ref (g 0)), (1, .ref (g q)), (2, .int (nI m)), (3, .int (nI t))]) [0, 1, 2, 3] rfl ?_
  refine vv_iload_n X dX2_rawAt_0 rfl 3 rfl ?_
  refine vv_aload_n X dX2_rawAt_1 rfl 0 rfl ?_
  refine mg10 X rfl hM dX2_rawAt_2 ?_
  refine vv_bipush (v := nI 83) X dX2_rawAt_5 (by decide) ?_
  refine vv_iload_n X dX2_rawAt_7 rfl 2 rfl ?_
  refine vn_add X dX2_rawAt_8 ?_
  refine vv_iald X hM.a10 (83 + m) (by omega) (by decide) rfl dX2_rawAt_9 ?_
  refine vv_eqi (hP.ofs m (by omega)).1 ?_
  by_cases hto : t < ofs (I 10) m
  · refine vv_isub X dX2_rawAt_10 ?_
    refine vv_istore (lv' := [(4, .int ((nI t) - (nI (ofs (I 10) m)))), (0, .ref (g 0)), (1, .ref (g q)), (2, .int (nI m)), (3, .int (nI t))]) X dX2_rawAt_11 (by decide) rfl ?_
    refine vv_iload X dX2_rawAt_13 0 rfl ?_
    refine vv_if_ge (tgt := 20) X dX2_rawAt_15 (by decide) (fun c_15 => ?_) (fun c_15 => ?_)
    · exact absurd c_15 (Int32.not_le.mpr (pk_sneg (by omega) hto))
    · refine vv_iconst (v := nI 0) X dX2_rawAt_18 (by decide) ?_
      exact vv_iret X hQ dX2_rawAt_19 (Nat.le_refl _) (Nat.le_refl _) (pq (by rcases hr with ⟨h1, h6⟩ | ⟨c, p, h1, h2, h3, h4, h5, h6⟩ <;> (rw [h6]; exact (if_pos hto).symm)))
  · refine vn_sub X (by omega) dX2_rawAt_10 ?_
    refine vv_istore (lv' := [(4, .int (nI (t - (ofs (I 10) m)))), (0, .ref (g 0)), (1, .ref (g q)), (2, .int (nI m)), (3, .int (nI t))]) X dX2_rawAt_11 (by decide) rfl ?_
    refine vv_iload X dX2_rawAt_13 0 rfl ?_
    refine vn_if_ge (tgt := 20) X (by omega) dX2_rawAt_15 (by decide) ?_
    rcases hr with ⟨h1, h6⟩ | ⟨c, p, h1, h2, h3, h4, h5, h6⟩
    · refine vv_aload_n X dX2_rawAt_20 rfl 1 rfl ?_
      refine mg21 X rfl hM dX2_rawAt_21 ?_
      refine vv_iconst (v := -1) X dX2_rawAt_24 (by decide) ?_
      refine vv_icmp_eq (tgt := 65) X dX2_rawAt_25 (by decide) (fun c_25 => ?_) (fun c_25 => ?_)
      · refine vv_iconst (v := nI 0) X dX2_rawAt_65 (by decide) ?_
        refine vv_istore (lv' := [(5, .int (nI 0)), (4, .int (nI (t - (ofs (I 10) m)))), (0, .ref (g 0)), (1, .ref (g q)), (2, .int (nI m)), (3, .int (nI t))]) X dX2_rawAt_66 (by decide) rfl ?_
        refine vv_iconst (v := nI 0) X dX2_rawAt_68 (by decide) ?_
        refine vv_istore (lv' := [(6, .int (nI 0)), (5, .int (nI 0)), (4, .int (nI (t - (ofs (I 10) m)))), (0, .ref (g 0)), (1, .ref (g q)), (2, .int (nI m)), (3, .int (nI t))]) X dX2_rawAt_69 (by decide) rfl ?_
        have hx_1 : ∀ (s : Int32) (hs : s = fo (fun k s => s + (if I q (25 + k) = 0 then nI 0 else hO (I 10) (wav (I 10) k) m (sxA (I q) k (t - ofs (I 10) m)) (syA (I q) k (t - ofs (I 10) m)) (t - ofs (I 10) m))) (nS (I 10)) (nI 0)), V K 7 (fun _ => False) (kS K).heap 0 0 Qf 136 [(0, .ref (g 0)), (1, .ref (g q)), (2, .int (nI m)), (3, .int (nI t)), (4, .int (nI (t - ofs (I 10) m))), (5, .int (s)), (6, .int (nI (nS (I 10))))] [] := by
          intro s hs
          refine vv_aload_n X dX2_rawAt_136 rfl 0 rfl ?_
          refine mg10 X rfl hM dX2_rawAt_137 ?_
          refine vv_bipush (v := nI 35) X dX2_rawAt_140 (by decide) ?_
          refine vv_iload_n X dX2_rawAt_142 rfl 2 rfl ?_
          refine vn_add X dX2_rawAt_143 ?_
          refine vv_iald X hM.a10 (35 + m) (by omega) (by decide) rfl dX2_rawAt_144 ?_
          refine vv_eqi (hP.gain m (by omega)).1 ?_
          refine vv_iload X dX2_rawAt_145 5 rfl ?_
          refine vv_imul X dX2_rawAt_147 ?_
          exact vv_iret X hQ dX2_rawAt_148 (Nat.le_refl _) (Nat.le_refl _) (pq (by rw [h6, hs]; exact (if_neg hto).symm))
        have hl_2 : ∀ (n_i i : Nat) (s : Int32), i + n_i = nS (I 10) → (s = fo (fun k s => s + (if I q (25 + k) = 0 then nI 0 else hO (I 10) (wav (I 10) k) m (sxA (I q) k (t - ofs (I 10) m)) (syA (I q) k (t - ofs (I 10) m)) (t - ofs (I 10) m))) i (nI 0)) → V K 7 (fun _ => False) (kS K).heap 0 0 Qf 71 [(0, .ref (g 0)), (1, .ref (g q)), (2, .int (nI m)), (3, .int (nI t)), (4, .int (nI (t - ofs (I 10) m))), (5, .int (s)), (6, .int (nI i))] [] := by
          intro n_i
          induction n_i with
          | zero =>
            intro i s hi hs
            obtain rfl : i = nS (I 10) := by omega
            refine vv_iload X dX2_rawAt_71 6 rfl ?_
            refine vv_aload_n X dX2_rawAt_73 rfl 0 rfl ?_
            refine mg10 X rfl hM dX2_rawAt_74 ?_
            refine vv_iconst (v := nI 5) X dX2_rawAt_77 (by decide) ?_
            refine vv_iald X hM.a10 (5) (by omega) (by decide) rfl dX2_rawAt_78 ?_
            refine vv_eqi hP.e5 ?_
            refine vn_ge (tgt := 136) X (by omega) (by omega) dX2_rawAt_79 (by decide) (fun c_79 => ?_) (fun c_79 => ?_)
            · exact hx_1 s hs
            · exact absurd c_79 (by omega)
          | succ n_i ihi =>
            intro i s hi hs
            refine vv_iload X dX2_rawAt_71 6 rfl ?_
            refine vv_aload_n X dX2_rawAt_73 rfl 0 rfl ?_
            refine mg10 X rfl hM dX2_rawAt_74 ?_
            refine vv_iconst (v := nI 5) X dX2_rawAt_77 (by decide) ?_
            refine vv_iald X hM.a10 (5) (by omega) (by decide) rfl dX2_rawAt_78 ?_
            refine vv_eqi hP.e5 ?_
            refine vn_ge (tgt := 136) X (by omega) (by omega) dX2_rawAt_79 (by decide) (fun c_79 => ?_) (fun c_79 => ?_)
            · exact absurd hi (by omega)
            · refine vv_iload X dX2_rawAt_82 5 rfl ?_
              refine vv_aload_n X dX2_rawAt_84 rfl 1 rfl ?_
              refine vv_bipush (v := nI 25) X dX2_rawAt_85 (by decide) ?_
              refine vv_iload X dX2_rawAt_87 6 rfl ?_
              refine vn_add X dX2_rawAt_89 ?_
              refine vv_iald X (hq hM) (25 + i) (by omega) (by decide) rfl dX2_rawAt_90 ?_
              refine vv_if_ne (tgt := 98) X dX2_rawAt_91 (by decide) (fun c_91 => ?_) (fun c_91 => ?_)
              · refine vv_aload_n X dX2_rawAt_98 rfl 0 rfl ?_
                refine vv_iload_n X dX2_rawAt_99 rfl 2 rfl ?_
                refine vv_aload_n X dX2_rawAt_100 rfl 0 rfl ?_
                refine vv_aload_n X dX2_rawAt_101 rfl 1 rfl ?_
                refine vv_iload X dX2_rawAt_102 6 rfl ?_
                refine vv_iconst (v := nI 0) X dX2_rawAt_104 (by decide) ?_
                refine vv_iload X dX2_rawAt_105 4 rfl ?_
                refine vv_callVp X (mX2_sourcePlace (kL K) D g x I J q (I q) rfl i (t - ofs (I 10) m) (nI 0) (sxA (I q) i (t - ofs (I 10) m)) hq (by omega) ((if_pos rfl).symm)) q3214 q3216 qs93 q144 q3217 nX2_sourcePlace ⟨(Nat.le_of_ble_eq_true rfl), (Nat.le_of_ble_eq_true rfl)⟩ dX2_rawAt_107 rfl (Nat.le_of_ble_eq_true rfl) (recv X hM.1 CL_X2) hM ⟨(Nat.le_of_ble_eq_true rfl), (Nat.le_of_ble_eq_true rfl)⟩ ?_
                refine vv_aload_n X dX2_rawAt_110 rfl 0 rfl ?_
                refine vv_aload_n X dX2_rawAt_111 rfl 1 rfl ?_
                refine vv_iload X dX2_rawAt_112 6 rfl ?_
                refine vv_iconst (v := nI 1) X dX2_rawAt_114 (by decide) ?_
                refine vv_iload X dX2_rawAt_115 4 rfl ?_
                refine vv_callVp X (mX2_sourcePlace (kL K) D g x I J q (I q) rfl i (t - ofs (I 10) m) (nI 1) (syA (I q) i (t - ofs (I 10) m)) hq (by omega) ((if_neg (by decide)).symm)) q3214 q3216 qs93 q144 q3217 nX2_sourcePlace ⟨(Nat.le_of_ble_eq_true rfl), (Nat.le_of_ble_eq_true rfl)⟩ dX2_rawAt_117 rfl (Nat.le_of_ble_eq_true rfl) (recv X hM.1 CL_X2) hM ⟨(Nat.le_of_ble_eq_true rfl), (Nat.le_of_ble_eq_true rfl)⟩ ?_
                refine vv_iload X dX2_rawAt_120 6 rfl ?_
                refine vv_iload X dX2_rawAt_122 4 rfl ?_
                refine vv_callVp X (mX2_heardOf (kL K) D g x I J (I 10) rfl m (sxA (I q) i (t - ofs (I 10) m)) (syA (I q) i (t - ofs (I 10) m)) i (t - ofs (I 10) m) (wav (I 10) i) hC (by omega) (sx_rg hS (by omega) (by omega)) (sy_rg hS (by omega) (by omega)) (Or.inl ⟨h1, by omega, rfl⟩) (by omega)) q3196 q3198 qs89 q144 q3199 nX2_heardOf ⟨(Nat.le_of_ble_eq_true rfl), (Nat.le_of_ble_eq_true rfl)⟩ dX2_rawAt_124 rfl (Nat.le_of_ble_eq_true rfl) (recv X hM.1 CL_X2) hM ⟨(Nat.le_of_ble_eq_true rfl), (Nat.le_of_ble_eq_true rfl)⟩ ?_
                refine vv_iadd X dX2_rawAt_127 ?_
                refine vv_istore (lv' := [(5, .int (s + (hO (I 10) (wav (I 10) i) m (sxA (I q) i (t - ofs (I 10) m)) (syA (I q) i (t - ofs (I 10) m)) (t - ofs (I 10) m)))), (0, .ref (g 0)), (1, .ref (g q)), (2, .int (nI m)), (3, .int (nI t)), (4, .int (nI (t - ofs (I 10) m))), (6, .int (nI i))]) X dX2_rawAt_128 (by decide) rfl ?_
                refine vv_iinc (v := nI (i + 1)) (lv' := [(6, .int (nI (i + 1))), (5, .int (s + (hO (I 10) (wav (I 10) i) m (sxA (I q) i (t - ofs (I 10) m)) (syA (I q) i (t - ofs (I 10) m)) (t - ofs (I 10) m)))), (0, .ref (g 0)), (1, .ref (g q)), (2, .int (nI m)), (3, .int (nI t)), (4, .int (nI (t - ofs (I 10) m)))]) X dX2_rawAt_130 (k := 6) rfl (nI_add _ 1) (by decide) rfl ?_
                refine vv_goto (tgt := 71) X dX2_rawAt_133 (by decide) ?_
                refine vv_sub [2, 3, 4, 5, 6, 1, 0] rfl ?_
                exact ihi (i + 1) (s + (hO (I 10) (wav (I 10) i) m (sxA (I q) i (t - ofs (I 10) m)) (syA (I q) i (t - ofs (I 10) m)) (t - ofs (I 10) m))) (by omega) (by rw [hs]; show _ = (fun k s => s + (if I q (25 + k) = 0 then nI 0 else hO (I 10) (wav (I 10) k) m (sxA (I q) k (t - ofs (I 10) m)) (syA (I q) k (t - ofs (I 10) m)) (t - ofs (I 10) m))) i _; rw [show (fun k s => s + (if I q (25 + k) = 0 then nI 0 else hO (I 10) (wav (I 10) k) m (sxA (I q) k (t - ofs (I 10) m)) (syA (I q) k (t - ofs (I 10) m)) (t - ofs (I 10) m))) i = fun s => s + _ from rfl]; dsimp only; rw [if_neg c_91])
              · refine vv_iconst (v := nI 0) X dX2_rawAt_94 (by decide) ?_
                refine vv_goto (tgt := 127) X dX2_rawAt_95 (by decide) ?_
                refine vv_iadd X dX2_rawAt_127 ?_
                refine vv_istore (lv' := [(5, .int (s + (nI 0))), (0, .ref (g 0)), (1, .ref (g q)), (2, .int (nI m)), (3, .int (nI t)), (4, .int (nI (t - ofs (I 10) m))), (6, .int (nI i))]) X dX2_rawAt_128 (by decide) rfl ?_
                refine vv_iinc (v := nI (i + 1)) (lv' := [(6, .int (nI (i + 1))), (5, .int (s + (nI 0))), (0, .ref (g 0)), (1, .ref (g q)), (2, .int (nI m)), (3, .int (nI t)), (4, .int (nI (t - ofs (I 10) m)))]) X dX2_rawAt_130 (k := 6) rfl (nI_add _ 1) (by decide) rfl ?_
                refine vv_goto (tgt := 71) X dX2_rawAt_133 (by decide) ?_
                refine vv_sub [2, 3, 4, 5, 6, 1, 0] rfl ?_
                exact ihi (i + 1) (s + (nI 0)) (by omega) (by rw [hs]; show _ = (fun k s => s + (if I q (25 + k) = 0 then nI 0 else hO (I 10) (wav (I 10) k) m (sxA (I q) k (t - ofs (I 10) m)) (syA (I q) k (t - ofs (I 10) m)) (t - ofs (I 10) m))) i _; rw [show (fun k s => s + (if I q (25 + k) = 0 then nI 0 else hO (I 10) (wav (I 10) k) m (sxA (I q) k (t - ofs (I 10) m)) (syA (I q) k (t - ofs (I 10) m)) (t - ofs (I 10) m))) i = fun s => s + _ from rfl]; dsimp only; rw [if_pos c_91])
        refine vv_sub [3, 4, 5, 6, 2, 1, 0] rfl ?_
        exact hl_2 (nS (I 10)) 0 (nI 0) (by omega) (rfl)
      · exact absurd h1 c_25
    · have hcc : c < 144 := Nat.lt_of_lt_of_le h2 (Nat.mul_le_mul l9 l10)
      refine vv_aload_n X dX2_rawAt_20 rfl 1 rfl ?_
      refine mg21 X rfl hM dX2_rawAt_21 ?_
      refine vv_eqi (h1) ?_
      refine vv_iconst (v := -1) X dX2_rawAt_24 (by decide) ?_
      refine vv_icmp_eq (tgt := 65) X dX2_rawAt_25 (by decide) (fun c_25 => ?_) (fun c_25 => ?_)
      · exact absurd c_25 (nI_nm1 (by omega))
      · refine vv_aload_n X dX2_rawAt_28 rfl 1 rfl ?_
        refine mg10 X rfl hM dX2_rawAt_29 ?_
        refine vv_bipush (v := nI 35) X dX2_rawAt_32 (by decide) ?_
        refine vv_iload_n X dX2_rawAt_34 rfl 3 rfl ?_
        refine vn_add X dX2_rawAt_35 ?_
        refine vv_iald X hM.a10 (35 + m) (by omega) (by decide) rfl dX2_rawAt_36 ?_
        refine vv_eqi (hP.gain m (by omega)).1 ?_
        refine vv_aload_n X dX2_rawAt_37 rfl 1 rfl ?_
        refine vv_iload_n X dX2_rawAt_38 rfl 3 rfl ?_
        refine vv_aload_n X dX2_rawAt_39 rfl 1 rfl ?_
        refine vv_aload_n X dX2_rawAt_40 rfl 1 rfl ?_
        refine mg21 X rfl hM dX2_rawAt_41 ?_
        refine vv_eqi (h1) ?_
        refine vv_iconst (v := nI 0) X dX2_rawAt_44 (by decide) ?_
        refine vv_callVp X (mX2_centre (kL K) D g x I J (I 10) rfl c (nI 0) (cx (I 10) c) hC (by omega) ((if_pos rfl).symm)) q3176 q3178 qs85 q144 q3179 nX2_centre ⟨(Nat.le_of_ble_eq_true rfl), (Nat.le_of_ble_eq_true rfl)⟩ dX2_rawAt_45 rfl (Nat.le_of_ble_eq_true rfl) (recv X hM.1 CL_X2) hM ⟨(Nat.le_of_ble_eq_true rfl), (Nat.le_of_ble_eq_true rfl)⟩ ?_
        refine vv_aload_n X dX2_rawAt_48 rfl 1 rfl ?_
        refine vv_aload_n X dX2_rawAt_49 rfl 1 rfl ?_
        refine mg21 X rfl hM dX2_rawAt_50 ?_
        refine vv_eqi (h1) ?_
        refine vv_iconst (v := nI 1) X dX2_rawAt_53 (by decide) ?_
        refine vv_callVp X (mX2_centre (kL K) D g x I J (I 10) rfl c (nI 1) (cy (I 10) c) hC (by omega) ((if_neg (by decide)).symm)) q3176 q3178 qs85 q144 q3179 nX2_centre ⟨(Nat.le_of_ble_eq_true rfl), (Nat.le_of_ble_eq_true rfl)⟩ dX2_rawAt_54 rfl (Nat.le_of_ble_eq_true rfl) (recv X hM.1 CL_X2) hM ⟨(Nat.le_of_ble_eq_true rfl), (Nat.le_of_ble_eq_true rfl)⟩ ?_
        refine vv_iconst (v := nI 0) X dX2_rawAt_57 (by decide) ?_
        refine vv_iload X dX2_rawAt_58 0 rfl ?_
        refine vv_callVp X (mX2_heardOf (kL K) D g x I J (I 10) rfl m (cx (I 10) c) (cy (I 10) c) 0 (t - (ofs (I 10) m)) (wpt p) hC (by omega) ((cx_rg hC c).mono (by omega)) ((cy_rg hC h2).mono (by omega)) (Or.inr ⟨c, p, h1, h2, h3, h4, h5, rfl⟩) (by omega)) q3196 q3198 qs89 q144 q3199 nX2_heardOf ⟨(Nat.le_of_ble_eq_true rfl), (Nat.le_of_ble_eq_true rfl)⟩ dX2_rawAt_60 rfl (Nat.le_of_ble_eq_true rfl) (recv X hM.1 CL_X2) hM ⟨(Nat.le_of_ble_eq_true rfl), (Nat.le_of_ble_eq_true rfl)⟩ ?_
        refine vv_imul X dX2_rawAt_63 ?_
        exact vv_iret X hQ dX2_rawAt_64 (Nat.le_refl _) (Nat.le_refl _) (pq (by rw [h6]; exact (if_neg hto).symm))
theorem nX2_filtered : notMH yX2_filtered 1 := by decide +kernel
set_option maxHeartbeats 800000 in
theorem mX2_filtered (l : Launch) (D : DD) (g : Nat → Nat) (x : Nat → Int32) (I : Nat → Nat → Int32) (J : Nat → Nat → Int64) (P : Nat → Int32) (hIP : I 10 = P) (t : Nat) (hP : VP P) (ht : t < 200) : Cp l yX2_filtered cX2_filtered 4 (some .int) { frames := 1, cells := 0, slots := 0, locals := 12 } D [.ref (g 0), .int (nI t)] (fun H => MR D g x I J H) (.int (flt P (I 23) t)) := by
  refine Ct.of (by decide +kernel) (Nat.le_of_ble_eq_true rfl) (fun K Qf hkl X hM hQ => ?_)
  subst hkl
  subst hIP
  have l77 := hP.l77
  refine vv_sub (lv' := [(0, .ref (g 0)), (1, .int (nI t))]) [0, 1] rfl ?_
  refine vv_aload_n X dX2_filtered_0 rfl 0 rfl ?_
  refine mg10 X rfl hM dX2_filtered_1 ?_
  refine vv_bipush (v := nI 77) X dX2_filtered_4 (by decide) ?_
  refine vv_iald X hM.a10 (77) (by omega) (by decide) rfl dX2_filtered_6 ?_
  refine vv_eqi hP.e77 ?_
  refine vn_if_ne (tgt := 17) X (by omega) dX2_filtered_7 (by decide) (fun c_7 => ?_) (fun c_7 => ?_)
  · refine vv_iconst (v := nI 0) X dX2_filtered_17 (by decide) ?_
    refine vv_istore_n (lv' := [(2, .int (nI 0)), (0, .ref (g 0)), (1, .int (nI t))]) X dX2_filtered_18 rfl (by decide) rfl ?_
    refine vv_iconst (v := nI 0) X dX2_filtered_19 (by decide) ?_
    refine vv_istore_n (lv' := [(3, .int (nI 0)), (2, .int (nI 0)), (0, .ref (g 0)), (1, .int (nI t))]) X dX2_filtered_20 rfl (by decide) rfl ?_
    have hx_1 : ∀ (s : Int32) (hs : s = fo (fun i s => s + I 10 (78 + i) * I 23 (t - i)) (min (nP (I 10)) (t + 1)) (nI 0)), V K 4 (fun _ => False) (kS K).heap 0 0 Qf 64 [(0, .ref (g 0)), (1, .int (nI t)), (2, .int (s)), (3, .int (nI (min (nP (I 10)) (t + 1))))] [] := by
      intro s hs
      refine vv_iload_n X dX2_filtered_64 rfl 2 rfl ?_
      exact vv_iret X hQ dX2_filtered_65 (Nat.le_refl _) (Nat.le_refl _) (pq (by rw [hs]; exact (if_neg (by omega)).symm))
    have hl_2 : ∀ (n_i i : Nat) (s : Int32), i + n_i = min (nP (I 10)) (t + 1) → (s = fo (fun i s => s + I 10 (78 + i) * I 23 (t - i)) i (nI 0)) → V K 4 (fun _ => False) (kS K).heap 0 0 Qf 21 [(0, .ref (g 0)), (1, .int (nI t)), (2, .int (s)), (3, .int (nI i))] [] := by
      intro n_i
      induction n_i with
      | zero =>
        intro i s hi hs
        obtain rfl : i = min (nP (I 10)) (t + 1) := by omega
        refine vv_iload_n X dX2_filtered_21 rfl 3 rfl ?_
        refine vv_aload_n X dX2_filtered_22 rfl 0 rfl ?_
        refine mg10 X rfl hM dX2_filtered_23 ?_
        refine vv_bipush (v := nI 77) X dX2_filtered_26 (by decide) ?_
        refine vv_iald X hM.a10 (77) (by omega) (by decide) rfl dX2_filtered_28 ?_
        refine vv_eqi hP.e77 ?_
        refine vn_ge (tgt := 64) X (by omega) (by omega) dX2_filtered_29 (by decide) (fun c_29 => ?_) (fun c_29 => ?_)
        · exact hx_1 s hs
        · refine vv_iload_n X dX2_filtered_32 rfl 3 rfl ?_
          refine vv_iload_n X dX2_filtered_33 rfl 1 rfl ?_
          refine vn_gt (tgt := 64) X (by omega) (by omega) dX2_filtered_34 (by decide) (fun c_34 => ?_) (fun c_34 => ?_)
          · exact hx_1 s hs
          · exact absurd c_34 (by omega)
      | succ n_i ihi =>
        intro i s hi hs
        refine vv_iload_n X dX2_filtered_21 rfl 3 rfl ?_
        refine vv_aload_n X dX2_filtered_22 rfl 0 rfl ?_
        refine mg10 X rfl hM dX2_filtered_23 ?_
        refine vv_bipush (v := nI 77) X dX2_filtered_26 (by decide) ?_
        refine vv_iald X hM.a10 (77) (by omega) (by decide) rfl dX2_filtered_28 ?_
        refine vv_eqi hP.e77 ?_
        refine vn_ge (tgt := 64) X (by omega) (by omega) dX2_filtered_29 (by decide) (fun c_29 => ?_) (fun c_29 => ?_)
        · exact absurd hi (by omega)
        · refine vv_iload_n X dX2_filtered_32 rfl 3 rfl ?_
          refine vv_iload_n X dX2_filtered_33 rfl 1 rfl ?_
          refine vn_gt (tgt := 64) X (by omega) (by omega) dX2_filtered_34 (by decide) (fun c_34 => ?_) (fun c_34 => ?_)
          · exact absurd hi (by omega)
          · refine vv_iload_n X dX2_filtered_37 rfl 2 rfl ?_
            refine vv_aload_n X dX2_filtered_38 rfl 0 rfl ?_
            refine mg10 X rfl hM dX2_filtered_39 ?_
            refine vv_bipush (v := nI 78) X dX2_filtered_42 (by decide) ?_
            refine vv_iload_n X dX2_filtered_44 rfl 3 rfl ?_
            refine vn_add X dX2_filtered_45 ?_
            refine vv_iald X hM.a10 (78 + i) (by omega) (by decide) rfl dX2_filtered_46 ?_
            refine vv_aload_n X dX2_filtered_47 rfl 0 rfl ?_
            refine mg23 X rfl hM dX2_filtered_48 ?_
            refine vv_iload_n X dX2_filtered_51 rfl 1 rfl ?_
            refine vv_iload_n X dX2_filtered_52 rfl 3 rfl ?_
            refine vn_sub X (by omega) dX2_filtered_53 ?_
            refine vv_iald X hM.a23 (t - i) (by omega) (by decide) rfl dX2_filtered_54 ?_
            refine vv_imul X dX2_filtered_55 ?_
            refine vv_iadd X dX2_filtered_56 ?_
            refine vv_istore_n (lv' := [(2, .int (s + ((I 10 (78 + i)) * (I 23 (t - i))))), (0, .ref (g 0)), (1, .int (nI t)), (3, .int (nI i))]) X dX2_filtered_57 rfl (by decide) rfl ?_
            refine vv_iinc (v := nI (i + 1)) (lv' := [(3, .int (nI (i + 1))), (2, .int (s + ((I 10 (78 + i)) * (I 23 (t - i))))), (0, .ref (g 0)), (1, .int (nI t))]) X dX2_filtered_58 (k := 3) rfl (nI_add _ 1) (by decide) rfl ?_
            refine vv_goto (tgt := 21) X dX2_filtered_61 (by decide) ?_
            refine vv_sub [2, 3, 1, 0] rfl ?_
            exact ihi (i + 1) (s + ((I 10 (78 + i)) * (I 23 (t - i)))) (by omega) (by rw [hs]; rfl)
    refine vv_sub [2, 3, 1, 0] rfl ?_
    exact hl_2 (min (nP (I 10)) (t + 1)) 0 (nI 0) (by omega) (rfl)
  · refine vv_aload_n X dX2_filtered_10 rfl 0 rfl ?_
    refine mg23 X rfl hM dX2_filtered_11 ?_
    refine vv_iload_n X dX2_filtered_14 rfl 1 rfl ?_
    refine vv_iald X hM.a23 (t) (by omega) (by decide) rfl dX2_filtered_15 ?_
    exact vv_iret X hQ dX2_filtered_16 (Nat.le_refl _) (Nat.le_refl _) (pq ((if_pos c_7).symm))
theorem nX2_hears : notMH yX2_hears 2 := by decide +kernel
set_option maxHeartbeats 800000 in
theorem mX2_hears (l : Launch) (D : DD) (g : Nat → Nat) (x : Nat → Int32) (I : Nat → Nat → Int32) (J : Nat → Nat → Int64) (q : Nat) (S : Nat → Int32) (hIS : I q = S) (m : Nat) (hq : ∀ {H : Heap}, MR D g x I J H → iA D H (g q) 2455 (I q)) (hm : m < 12) : Cp l yX2_hears cX2_hears 3 (some .boolean) { frames := 1, cells := 0, slots := 0, locals := 12 } D [.ref (g 0), .ref (g q), .int (nI m)] (fun H => MR D g x I J H) (.int (b2 (S (1 + m) = 0))) := by
  refine Ct.of (by decide +kernel) (Nat.le_of_ble_eq_true rfl) (fun K Qf hkl X hM hQ => ?_)
  subst hkl
  subst hIS
  refine vv_sub (lv' := [(0, .ref (g 0)), (1, .ref (g q)), (2, .int (nI m))]) [0, 1, 2] rfl ?_
  refine vv_aload_n X dX2_hears_0 rfl 1 rfl ?_
  refine vv_iconst (v := nI 1) X dX2_hears_1 (by decide) ?_
  refine vv_iload_n X dX2_hears_2 rfl 2 rfl ?_
  refine vn_add X dX2_hears_3 ?_
  refine vv_iald X (hq hM) (1 + m) (by omega) (by decide) rfl dX2_hears_4 ?_
  refine vv_if_ne (tgt := 12) X dX2_hears_5 (by decide) (fun c_5 => ?_) (fun c_5 => ?_)
  · refine vv_iconst (v := nI 0) X dX2_hears_12 (by decide) ?_
    exact vv_zret X (rfl) hQ dX2_hears_13 (Nat.le_refl _) (Nat.le_refl _) (pq (b2_0 c_5))
  · refine vv_iconst (v := nI 1) X dX2_hears_8 (by decide) ?_
    refine vv_goto (tgt := 13) X dX2_hears_9 (by decide) ?_
    exact vv_zret X (rfl) hQ dX2_hears_13 (Nat.le_refl _) (Nat.le_refl _) (pq (b2_1 c_5))
theorem nX2_windowOf : notMH yX2_windowOf 1 := by decide +kernel
set_option maxHeartbeats 800000 in
theorem mX2_windowOf (l : Launch) (D : DD) (g : Nat → Nat) (x : Nat → Int32) (I : Nat → Nat → Int32) (J : Nat → Nat → Int64) (q : Nat) (P : Nat → Int32) (hIP : I 10 = P) (S : Nat → Int32) (hIS : I q = S) (dl : Nat → Nat) (hq : ∀ {H : Heap}, MR D g x I J H → iA D H (g q) 2455 (I q)) (hP : VP P) (hd : ∀ m, m < nM P → I 24 m = nI (dl m) ∧ dl m < 70000) : Cp l yX2_windowOf cX2_windowOf 4 (some .int) { frames := 2, cells := 0, slots := 0, locals := 34 } D [.ref (g 0), .ref (g q)] (fun H => MR D g x I J H) (.int (nI (win P S dl))) := by
  refine Ct.of (by decide +kernel) (Nat.le_of_ble_eq_true rfl) (fun K Qf hkl X hM hQ => ?_)
  subst hkl
  subst hIP
  subst hIS
  have l4 := hP.l4
  have l2 := hP.l2
  refine vv_sub (lv' := [(0, .ref (g 0)), (1, .ref (g q))]) [0, 1] rfl ?_
  refine vv_iconst (v := nI 0) X dX2_windowOf_0 (by decide) ?_
  refine vv_istore_n (lv' := [(2, .int (nI 0)), (0, .ref (g 0)), (1, .ref (g q))]) X dX2_windowOf_1 rfl (by decide) rfl ?_
  refine vv_iconst (v := nI 0) X dX2_windowOf_2 (by decide) ?_
  refine vv_istore_n (lv' := [(3, .int (nI 0)), (2, .int (nI 0)), (0, .ref (g 0)), (1, .ref (g q))]) X dX2_windowOf_3 rfl (by decide) rfl ?_
  have hx_1 : ∀ (a : Nat) (ha : a = mxd (I q) dl (nM (I 10))), V K 4 (fun _ => False) (kS K).heap 0 0 Qf 44 [(0, .ref (g 0)), (1, .ref (g q)), (2, .int (nI a)), (3, .int (nI (nM (I 10))))] [] := by
    intro a ha
    have hab : a ≤ 70000 := by rw [ha]; exact mxd_le _ (fun m hm => by have := (hd m (by omega)).2; omega)
    refine vv_iconst (v := nI 0) X dX2_windowOf_44 (by decide) ?_
    refine vv_aload_n X dX2_windowOf_45 rfl 0 rfl ?_
    refine mg10 X rfl hM dX2_windowOf_46 ?_
    refine vv_iconst (v := nI 2) X dX2_windowOf_49 (by decide) ?_
    refine vv_iald X hM.a10 (2) (by omega) (by decide) rfl dX2_windowOf_50 ?_
    refine vv_eqi hP.e2 ?_
    refine vv_iload_n X dX2_windowOf_51 rfl 2 rfl ?_
    refine vv_isub X dX2_windowOf_52 ?_
    refine vn_max0 X q3227 (Nat.le_of_ble_eq_true rfl) (Nat.le_of_ble_eq_true rfl) (Nat.le_of_ble_eq_true rfl) (Nat.le_of_ble_eq_true rfl) (by omega) (by omega) dX2_windowOf_53 ?_
    exact vv_iret X hQ dX2_windowOf_56 (Nat.le_refl _) (Nat.le_refl _) (pq (by rw [ha]; rfl))
  have hl_2 : ∀ (n_i i : Nat) (a : Nat), i + n_i = nM (I 10) → (a = mxd (I q) dl i) → V K 4 (fun _ => False) (kS K).heap 0 0 Qf 4 [(0, .ref (g 0)), (1, .ref (g q)), (2, .int (nI a)), (3, .int (nI i))] [] := by
    intro n_i
    induction n_i with
    | zero =>
      intro i a hi ha
      obtain rfl : i = nM (I 10) := by omega
      have hab : a ≤ 70000 := by rw [ha]; exact mxd_le _ (fun m hm => by have := (hd m (by omega)).2; omega)
      refine vv_iload_n X dX2_windowOf_4 rfl 3 rfl ?_
      refine vv_aload_n X dX2_windowOf_5 rfl 0 rfl ?_
      refine mg10 X rfl hM dX2_windowOf_6 ?_
      refine vv_iconst (v := nI 4) X dX2_windowOf_9 (by decide) ?_
      refine vv_iald X hM.a10 (4) (by omega) (by decide) rfl dX2_windowOf_10 ?_
      refine vv_eqi hP.e4 ?_
      refine vn_ge (tgt := 44) X (by omega) (by omega) dX2_windowOf_11 (by decide) (fun c_11 => ?_) (fun c_11 => ?_)
      · exact hx_1 a ha
      · exact absurd c_11 (by omega)
    | succ n_i ihi =>
      intro i a hi ha
      have hab : a ≤ 70000 := by rw [ha]; exact mxd_le _ (fun m hm => by have := (hd m (by omega)).2; omega)
      have hdi := (hd i (by omega)).2
      refine vv_iload_n X dX2_windowOf_4 rfl 3 rfl ?_
      refine vv_aload_n X dX2_windowOf_5 rfl 0 rfl ?_
      refine mg10 X rfl hM dX2_windowOf_6 ?_
      refine vv_iconst (v := nI 4) X dX2_windowOf_9 (by decide) ?_
      refine vv_iald X hM.a10 (4) (by omega) (by decide) rfl dX2_windowOf_10 ?_
      refine vv_eqi hP.e4 ?_
      refine vn_ge (tgt := 44) X (by omega) (by omega) dX2_windowOf_11 (by decide) (fun c_11 => ?_) (fun c_11 => ?_)
      · exact absurd hi (by omega)
      · refine vv_aload_n X dX2_windowOf_14 rfl 0 rfl ?_
        refine vv_aload_n X dX2_windowOf_15 rfl 1 rfl ?_
        refine vv_iload_n X dX2_windowOf_16 rfl 3 rfl ?_
        refine vv_callVp X (mX2_hears (kL K) D g x I J q (I q) rfl i hq (by omega)) q3252 q3254 qs99 q144 q3255 nX2_hears ⟨(Nat.le_of_ble_eq_true rfl), (Nat.le_of_ble_eq_true rfl)⟩ dX2_windowOf_17 rfl (Nat.le_of_ble_eq_true rfl) (recv X hM.1 CL_X2) hM ⟨(Nat.le_of_ble_eq_true rfl), (Nat.le_of_ble_eq_true rfl)⟩ ?_
        refine vb_eq (tgt := 36) X dX2_windowOf_20 (by decide) (fun c_20 => ?_) (fun c_20 => ?_)
        · refine vv_iload_n X dX2_windowOf_36 rfl 2 rfl ?_
          refine vv_istore_n (lv' := [(2, .int (nI a)), (0, .ref (g 0)), (1, .ref (g q)), (3, .int (nI i))]) X dX2_windowOf_37 rfl (by decide) rfl ?_
          refine vv_iinc (v := nI (i + 1)) (lv' := [(3, .int (nI (i + 1))), (2, .int (nI a)), (0, .ref (g 0)), (1, .ref (g q))]) X dX2_windowOf_38 (k := 3) rfl (nI_add _ 1) (by decide) rfl ?_
          refine vv_goto (tgt := 4) X dX2_windowOf_41 (by decide) ?_
          refine vv_sub [2, 3, 1, 0] rfl ?_
          exact ihi (i + 1) a (by omega) (by rw [ha]; exact (if_neg c_20).symm)
        · refine vv_iload_n X dX2_windowOf_23 rfl 2 rfl ?_
          refine vv_aload_n X dX2_windowOf_24 rfl 0 rfl ?_
          refine mg24 X rfl hM dX2_windowOf_25 ?_
          refine vv_iload_n X dX2_windowOf_28 rfl 3 rfl ?_
          refine vv_iald X hM.a24 (i) (by omega) (by decide) rfl dX2_windowOf_29 ?_
          refine vv_eqi ((hd i (by omega)).1) ?_
          refine vn_max X q3227 (Nat.le_of_ble_eq_true rfl) (Nat.le_of_ble_eq_true rfl) (Nat.le_of_ble_eq_true rfl) (Nat.le_of_ble_eq_true rfl) (by omega) (by omega) dX2_windowOf_30 ?_
          refine vv_goto (tgt := 37) X dX2_windowOf_33 (by decide) ?_
          refine vv_istore_n (lv' := [(2, .int (nI (max a (dl i)))), (0, .ref (g 0)), (1, .ref (g q)), (3, .int (nI i))]) X dX2_windowOf_37 rfl (by decide) rfl ?_
          refine vv_iinc (v := nI (i + 1)) (lv' := [(3, .int (nI (i + 1))), (2, .int (nI (max a (dl i)))), (0, .ref (g 0)), (1, .ref (g q))]) X dX2_windowOf_38 (k := 3) rfl (nI_add _ 1) (by decide) rfl ?_
          refine vv_goto (tgt := 4) X dX2_windowOf_41 (by decide) ?_
          refine vv_sub [2, 3, 1, 0] rfl ?_
          exact ihi (i + 1) (max a (dl i)) (by omega) (by rw [ha]; exact (if_pos c_20).symm)
  refine vv_sub [2, 3, 1, 0] rfl ?_
  exact hl_2 (nM (I 10)) 0 0 (by omega) (rfl)
theorem nX2_beamAt : notMH yX2_beamAt 2 := by decide +kernel
set_option maxHeartbeats 800000 in
theorem mX2_beamAt (l : Launch) (D : DD) (g : Nat → Nat) (x : Nat → Int32) (I : Nat → Nat → Int32) (J : Nat → Nat → Int64) (q : Nat) (P : Nat → Int32) (hIP : I 10 = P) (S : Nat → Int32) (hIS : I q = S) (t : Nat) (dl : Nat → Nat) (hq : ∀ {H : Heap}, MR D g x I J H → iA D H (g q) 2455 (I q)) (hP : VP P) (hS : VS S) (hd : ∀ m, m < nM P → I 24 m = nI (dl m) ∧ dl m < 70000) (ht : t < 200) : Cp l yX2_beamAt cX2_beamAt 5 (some .int) { frames := 2, cells := 0, slots := 0, locals := 34 } D [.ref (g 0), .ref (g q), .int (nI t)] (fun H => MR D g x I J H) (.int (bm P S dl t)) := by
  refine Ct.of (by decide +kernel) (Nat.le_of_ble_eq_true rfl) (fun K Qf hkl X hM hQ => ?_)
  subst hkl
  subst hIP
  subst hIS
  have l4 := hP.l4
  have l2 := hP.l2
  refine vv_sub (lv' := [(0, .ref (g 0)), (1, .ref (g q)), (2, .int (nI t))]) [0, 1, 2] rfl ?_
  refine vv_iconst (v := nI 0) X dX2_beamAt_0 (by decide) ?_
  refine vv_istore_n (lv' := [(3, .int (nI 0)), (0, .ref (g 0)), (1, .ref (g q)), (2, .int (nI t))]) X dX2_beamAt_1 rfl (by decide) rfl ?_
  refine vv_iconst (v := nI 0) X dX2_beamAt_2 (by decide) ?_
  refine vv_istore (lv' := [(4, .int (nI 0)), (3, .int (nI 0)), (0, .ref (g 0)), (1, .ref (g q)), (2, .int (nI t))]) X dX2_beamAt_3 (by decide) rfl ?_
  have hx_1 : ∀ (a : Int32) (ha : a = fo (bm1 (I 10) (I q) dl t) (nM (I 10)) (nI 0)), V K 5 (fun _ => False) (kS K).heap 0 0 Qf 86 [(0, .ref (g 0)), (1, .ref (g q)), (2, .int (nI t)), (3, .int (a)), (4, .int (nI (nM (I 10))))] [] := by
    intro a ha
    refine vv_iload_n X dX2_beamAt_86 rfl 3 rfl ?_
    exact vv_iret X hQ dX2_beamAt_87 (Nat.le_refl _) (Nat.le_refl _) (pq (ha))
  have hl_2 : ∀ (n_i i : Nat) (a : Int32), i + n_i = nM (I 10) → (a = fo (bm1 (I 10) (I q) dl t) i (nI 0)) → V K 5 (fun _ => False) (kS K).heap 0 0 Qf 5 [(0, .ref (g 0)), (1, .ref (g q)), (2, .int (nI t)), (3, .int (a)), (4, .int (nI i))] [] := by
    intro n_i
    induction n_i with
    | zero =>
      intro i a hi ha
      obtain rfl : i = nM (I 10) := by omega
      refine vv_iload X dX2_beamAt_5 4 rfl ?_
      refine vv_aload_n X dX2_beamAt_7 rfl 0 rfl ?_
      refine mg10 X rfl hM dX2_beamAt_8 ?_
      refine vv_iconst (v := nI 4) X dX2_beamAt_11 (by decide) ?_
      refine vv_iald X hM.a10 (4) (by omega) (by decide) rfl dX2_beamAt_12 ?_
      refine vv_eqi hP.e4 ?_
      refine vn_ge (tgt := 86) X (by omega) (by omega) dX2_beamAt_13 (by decide) (fun c_13 => ?_) (fun c_13 => ?_)
      · exact hx_1 a ha
      · exact absurd c_13 (by omega)
    | succ n_i ihi =>
      intro i a hi ha
      have hdi := (hd i (by omega)).2
      refine vv_iload X dX2_beamAt_5 4 rfl ?_
      refine vv_aload_n X dX2_beamAt_7 rfl 0 rfl ?_
      refine mg10 X rfl hM dX2_beamAt_8 ?_
      refine vv_iconst (v := nI 4) X dX2_beamAt_11 (by decide) ?_
      refine vv_iald X hM.a10 (4) (by omega) (by decide) rfl dX2_beamAt_12 ?_
      refine vv_eqi hP.e4 ?_
      refine vn_ge (tgt := 86) X (by omega) (by omega) dX2_beamAt_13 (by decide) (fun c_13 => ?_) (fun c_13 => ?_)
      · exact absurd hi (by omega)
      · refine vv_iload_n X dX2_beamAt_16 rfl 3 rfl ?_
        refine vv_aload_n X dX2_beamAt_17 rfl 0 rfl ?_
        refine vv_aload_n X dX2_beamAt_18 rfl 1 rfl ?_
        refine vv_iload X dX2_beamAt_19 4 rfl ?_
        refine vv_callVp X (mX2_hears (kL K) D g x I J q (I q) rfl i hq (by omega)) q3252 q3254 qs99 q144 q3255 nX2_hears ⟨(Nat.le_of_ble_eq_true rfl), (Nat.le_of_ble_eq_true rfl)⟩ dX2_beamAt_21 rfl (Nat.le_of_ble_eq_true rfl) (recv X hM.1 CL_X2) hM ⟨(Nat.le_of_ble_eq_true rfl), (Nat.le_of_ble_eq_true rfl)⟩ ?_
        refine vb_eq (tgt := 77) X dX2_beamAt_24 (by decide) (fun c_24 => ?_) (fun c_24 => ?_)
        · refine vv_iconst (v := nI 0) X dX2_beamAt_77 (by decide) ?_
          refine vv_iadd X dX2_beamAt_78 ?_
          refine vv_istore_n (lv' := [(3, .int (a + (nI 0))), (0, .ref (g 0)), (1, .ref (g q)), (2, .int (nI t)), (4, .int (nI i))]) X dX2_beamAt_79 rfl (by decide) rfl ?_
          refine vv_iinc (v := nI (i + 1)) (lv' := [(4, .int (nI (i + 1))), (3, .int (a + (nI 0))), (0, .ref (g 0)), (1, .ref (g q)), (2, .int (nI t))]) X dX2_beamAt_80 (k := 4) rfl (nI_add _ 1) (by decide) rfl ?_
          refine vv_goto (tgt := 5) X dX2_beamAt_83 (by decide) ?_
          refine vv_sub [2, 3, 4, 1, 0] rfl ?_
          exact ihi (i + 1) (a + (nI 0)) (by omega) (by rw [ha]; show _ = bm1 _ _ _ _ _ _; unfold bm1; rw [if_neg (fun z => c_24 z.1)])
        · refine vv_iload_n X dX2_beamAt_27 rfl 2 rfl ?_
          refine vv_aload_n X dX2_beamAt_28 rfl 0 rfl ?_
          refine mg24 X rfl hM dX2_beamAt_29 ?_
          refine vv_iload X dX2_beamAt_32 4 rfl ?_
          refine vv_iald X hM.a24 (i) (by omega) (by decide) rfl dX2_beamAt_34 ?_
          refine vv_eqi ((hd i (by omega)).1) ?_
          refine vn_add X dX2_beamAt_35 ?_
          refine vv_aload_n X dX2_beamAt_36 rfl 0 rfl ?_
          refine mg10 X rfl hM dX2_beamAt_37 ?_
          refine vv_iconst (v := nI 2) X dX2_beamAt_40 (by decide) ?_
          refine vv_iald X hM.a10 (2) (by omega) (by decide) rfl dX2_beamAt_41 ?_
          refine vv_eqi hP.e2 ?_
          refine vn_ge (tgt := 77) X (by omega) (by omega) dX2_beamAt_42 (by decide) (fun c_42 => ?_) (fun c_42 => ?_)
          · refine vv_iconst (v := nI 0) X dX2_beamAt_77 (by decide) ?_
            refine vv_iadd X dX2_beamAt_78 ?_
            refine vv_istore_n (lv' := [(3, .int (a + (nI 0))), (0, .ref (g 0)), (1, .ref (g q)), (2, .int (nI t)), (4, .int (nI i))]) X dX2_beamAt_79 rfl (by decide) rfl ?_
            refine vv_iinc (v := nI (i + 1)) (lv' := [(4, .int (nI (i + 1))), (3, .int (a + (nI 0))), (0, .ref (g 0)), (1, .ref (g q)), (2, .int (nI t))]) X dX2_beamAt_80 (k := 4) rfl (nI_add _ 1) (by decide) rfl ?_
            refine vv_goto (tgt := 5) X dX2_beamAt_83 (by decide) ?_
            refine vv_sub [2, 3, 4, 1, 0] rfl ?_
            exact ihi (i + 1) (a + (nI 0)) (by omega) (by rw [ha]; show _ = bm1 _ _ _ _ _ _; unfold bm1; rw [if_neg (fun z => absurd z.2 (Nat.not_lt.mpr c_42))])
          · refine vv_aload_n X dX2_beamAt_45 rfl 1 rfl ?_
            refine vv_bipush (v := nI 13) X dX2_beamAt_46 (by decide) ?_
            refine vv_iload X dX2_beamAt_48 4 rfl ?_
            refine vn_add X dX2_beamAt_50 ?_
            refine vv_iald X (hq hM) (13 + i) (by omega) (by decide) rfl dX2_beamAt_51 ?_
            refine vv_eqi (hS.wgt i (by omega)).1 ?_
            refine vv_aload_n X dX2_beamAt_52 rfl 1 rfl ?_
            refine vv_bipush (v := nI 55) X dX2_beamAt_53 (by decide) ?_
            refine vv_sipush (v := nI 200) X dX2_beamAt_55 (by decide) ?_
            refine vv_iload X dX2_beamAt_58 4 rfl ?_
            refine vn_mul X dX2_beamAt_60 ?_
            refine vn_add X dX2_beamAt_61 ?_
            refine vv_iload_n X dX2_beamAt_62 rfl 2 rfl ?_
            refine vn_add X dX2_beamAt_63 ?_
            refine vv_aload_n X dX2_beamAt_64 rfl 0 rfl ?_
            refine mg24 X rfl hM dX2_beamAt_65 ?_
            refine vv_iload X dX2_beamAt_68 4 rfl ?_
            refine vv_iald X hM.a24 (i) (by omega) (by decide) rfl dX2_beamAt_70 ?_
            refine vv_eqi ((hd i (by omega)).1) ?_
            refine vn_add X dX2_beamAt_71 ?_
            refine vv_iald X (hq hM) (((55 + (200 * i)) + t) + (dl i)) (by omega) (by decide) rfl dX2_beamAt_72 ?_
            refine vv_imul X dX2_beamAt_73 ?_
            refine vv_goto (tgt := 78) X dX2_beamAt_74 (by decide) ?_
            refine vv_iadd X dX2_beamAt_78 ?_
            refine vv_istore_n (lv' := [(3, .int (a + ((nI (wgt (I q) i)) * (I q (((55 + (200 * i)) + t) + (dl i)))))), (0, .ref (g 0)), (1, .ref (g q)), (2, .int (nI t)), (4, .int (nI i))]) X dX2_beamAt_79 rfl (by decide) rfl ?_
            refine vv_iinc (v := nI (i + 1)) (lv' := [(4, .int (nI (i + 1))), (3, .int (a + ((nI (wgt (I q) i)) * (I q (((55 + (200 * i)) + t) + (dl i)))))), (0, .ref (g 0)), (1, .ref (g q)), (2, .int (nI t))]) X dX2_beamAt_80 (k := 4) rfl (nI_add _ 1) (by decide) rfl ?_
            refine vv_goto (tgt := 5) X dX2_beamAt_83 (by decide) ?_
            refine vv_sub [2, 3, 4, 1, 0] rfl ?_
            exact ihi (i + 1) (a + ((nI (wgt (I q) i)) * (I q (((55 + (200 * i)) + t) + (dl i))))) (by omega) (by rw [ha]; show _ = bm1 _ _ _ _ _ _; unfold bm1; rw [if_pos ⟨c_24, c_42⟩])
  refine vv_sub [2, 3, 4, 1, 0] rfl ?_
  exact hl_2 (nM (I 10)) 0 (nI 0) (by omega) (rfl)
theorem nX2_energy : notMH yX2_energy 3 := by decide +kernel
set_option maxHeartbeats 800000 in
theorem mX2_energy (l : Launch) (D : DD) (g : Nat → Nat) (x : Nat → Int32) (I : Nat → Nat → Int32) (J : Nat → Nat → Int64) (q : Nat) (P : Nat → Int32) (hIP : I 10 = P) (S : Nat → Int32) (hIS : I q = S) (a b n : Nat) (dl : Nat → Nat) (hq : ∀ {H : Heap}, MR D g x I J H → iA D H (g q) 2455 (I q)) (hP : VP P) (hS : VS S) (hd : ∀ m, m < nM P → I 24 m = nI (dl m) ∧ dl m < 70000) (hb : b ≤ 200) (ha : a < 2 ^ 30) (hn : n = b - a) : Cp l yX2_energy cX2_energy 9 (some .long) { frames := 3, cells := 0, slots := 0, locals := 58 } D [.ref (g 0), .ref (g q), .int (nI a), .int (nI b)] (fun H => MR D g x I J H) (.long (en P S dl a n)) := by
  refine Ct.of (by decide +kernel) (Nat.le_of_ble_eq_true rfl) (fun K Qf hkl X hM hQ => ?_)
  subst hkl
  subst hIP
  subst hIS
  refine vv_sub (lv' := [(0, .ref (g 0)), (1, .ref (g q)), (2, .int (nI a)), (3, .int (nI b))]) [0, 1, 2, 3] rfl ?_
  refine vv_lconst (v := 0) X dX2_energy_0 (by decide) ?_
  refine vv_lstore (lv' := [(4, .long (0)), (0, .ref (g 0)), (1, .ref (g q)), (2, .int (nI a)), (3, .int (nI b))]) X dX2_energy_1 (by decide) rfl ?_
  refine vv_iload_n X dX2_energy_3 rfl 3 rfl ?_
  refine vv_istore (lv' := [(6, .int (nI a)), (4, .long (0)), (0, .ref (g 0)), (1, .ref (g q)), (2, .int (nI a)), (3, .int (nI b))]) X dX2_energy_4 (by decide) rfl ?_
  have hx_1 : ∀ (e : Int64) (he : e = en (I 10) (I q) dl a n), V K 9 (fun _ => False) (kS K).heap 0 0 Qf 38 [(0, .ref (g 0)), (1, .ref (g q)), (2, .int (nI a)), (3, .int (nI b)), (4, .long (e)), (6, .int (nI (a + n)))] [] := by
    intro e he
    refine vv_lload X dX2_energy_38 4 rfl ?_
    exact vv_lret X hQ dX2_energy_40 (Nat.le_refl _) (Nat.le_refl _) (pql (he))
  have hl_2 : ∀ (n_i i : Nat) (e : Int64), i + n_i = n → (e = en (I 10) (I q) dl a i) → V K 9 (fun _ => False) (kS K).heap 0 0 Qf 6 [(0, .ref (g 0)), (1, .ref (g q)), (2, .int (nI a)), (3, .int (nI b)), (4, .long (e)), (6, .int (nI (a + i)))] [] := by
    intro n_i
    induction n_i with
    | zero =>
      intro i e hi he
      obtain rfl : i = n := by omega
      refine vv_iload X dX2_energy_6 5 rfl ?_
      refine vv_iload_n X dX2_energy_8 rfl 3 rfl ?_
      refine vn_ge (tgt := 38) X (by omega) (by omega) dX2_energy_9 (by decide) (fun c_9 => ?_) (fun c_9 => ?_)
      · exact hx_1 e he
      · exact absurd c_9 (by omega)
    | succ n_i ihi =>
      intro i e hi he
      refine vv_iload X dX2_energy_6 5 rfl ?_
      refine vv_iload_n X dX2_energy_8 rfl 3 rfl ?_
      refine vn_ge (tgt := 38) X (by omega) (by omega) dX2_energy_9 (by decide) (fun c_9 => ?_) (fun c_9 => ?_)
      · exact absurd hi (by omega)
      · refine vv_aload_n X dX2_energy_12 rfl 0 rfl ?_
        refine vv_aload_n X dX2_energy_13 rfl 1 rfl ?_
        refine vv_iload X dX2_energy_14 5 rfl ?_
        refine vv_callVp X (mX2_beamAt (kL K) D g x I J q (I 10) rfl (I q) rfl (a + i) dl hq hP hS hd (by omega)) q3340 q3342 qs106 q144 q3343 nX2_beamAt ⟨(Nat.le_of_ble_eq_true rfl), (Nat.le_of_ble_eq_true rfl)⟩ dX2_energy_16 rfl (Nat.le_of_ble_eq_true rfl) (recv X hM.1 CL_X2) hM ⟨(Nat.le_of_ble_eq_true rfl), (Nat.le_of_ble_eq_true rfl)⟩ ?_
        refine vv_i2l (v := (bm (I 10) (I q) dl (a + i)).toInt64) X dX2_energy_19 rfl ?_
        refine vv_lstore (lv' := [(7, .long ((bm (I 10) (I q) dl (a + i)).toInt64)), (0, .ref (g 0)), (1, .ref (g q)), (2, .int (nI a)), (3, .int (nI b)), (4, .long (e)), (6, .int (nI (a + i)))]) X dX2_energy_20 (by decide) rfl ?_
        refine vv_lload X dX2_energy_22 5 rfl ?_
        refine vv_lload X dX2_energy_24 0 rfl ?_
        refine vv_lload X dX2_energy_26 0 rfl ?_
        refine vv_lmul X dX2_energy_28 ?_
        refine vv_ladd X dX2_energy_29 ?_
        refine vv_lstore (lv' := [(4, .long (e + (((bm (I 10) (I q) dl (a + i)).toInt64) * ((bm (I 10) (I q) dl (a + i)).toInt64)))), (7, .long ((bm (I 10) (I q) dl (a + i)).toInt64)), (0, .ref (g 0)), (1, .ref (g q)), (2, .int (nI a)), (3, .int (nI b)), (6, .int (nI (a + i)))]) X dX2_energy_30 (by decide) rfl ?_
        refine vv_iinc (v := nI ((a + i) + 1)) (lv' := [(6, .int (nI ((a + i) + 1))), (4, .long (e + (((bm (I 10) (I q) dl (a + i)).toInt64) * ((bm (I 10) (I q) dl (a + i)).toInt64)))), (7, .long ((bm (I 10) (I q) dl (a + i)).toInt64)), (0, .ref (g 0)), (1, .ref (g q)), (2, .int (nI a)), (3, .int (nI b))]) X dX2_energy_32 (k := 6) rfl (nI_add _ 1) (by decide) rfl ?_
        refine vv_goto (tgt := 6) X dX2_energy_35 (by decide) ?_
        refine vv_sub [3, 4, 5, 6, 1, 0] rfl ?_
        exact ihi (i + 1) (e + (((bm (I 10) (I q) dl (a + i)).toInt64) * ((bm (I 10) (I q) dl (a + i)).toInt64))) (by omega) (by rw [he]; rfl)
  refine vv_sub [2, 3, 4, 5, 1, 0] rfl ?_
  exact hl_2 (n) 0 0 (by omega) (rfl)
theorem nX2_powerHere : notMH yX2_powerHere 1 := by decide +kernel
set_option maxHeartbeats 800000 in
theorem mX2_powerHere (l : Launch) (D : DD) (g : Nat → Nat) (x : Nat → Int32) (I : Nat → Nat → Int32) (J : Nat → Nat → Int64) (q : Nat) (P : Nat → Int32) (hIP : I 10 = P) (S : Nat → Int32) (hIS : I q = S) (dl : Nat → Nat) (hq : ∀ {H : Heap}, MR D g x I J H → iA D H (g q) 2455 (I q)) (hP : VP P) (hS : VS S) (hd : ∀ m, m < nM P → I 24 m = nI (dl m) ∧ dl m < 70000) : Cp l yX2_powerHere cX2_powerHere 3 (some .long) { frames := 4, cells := 0, slots := 0, locals := 86 } D [.ref (g 0), .ref (g q)] (fun H => MR D g x I J H) (.long (pwr P S dl)) := by
  refine Ct.of (by decide +kernel) (Nat.le_of_ble_eq_true rfl) (fun K Qf hkl X hM hQ => ?_)
  subst hkl
  subst hIP
  subst hIS
  have l2 := hP.l2
  have hw : win (I 10) (I q) dl ≤ 200 := Nat.le_trans (Nat.sub_le _ _) l2
  refine vv_sub (lv' := [(0, .ref (g 0)), (1, .ref (g q))]) [0, 1] rfl ?_
  refine vv_aload_n X dX2_powerHere_0 rfl 0 rfl ?_
  refine vv_aload_n X dX2_powerHere_1 rfl 1 rfl ?_
  refine vv_callVp X (mX2_windowOf (kL K) D g x I J q (I 10) rfl (I q) rfl dl hq hP hd) q3328 q3330 qs105 q144 q3331 nX2_windowOf ⟨(Nat.le_of_ble_eq_true rfl), (Nat.le_of_ble_eq_true rfl)⟩ dX2_powerHere_2 rfl (Nat.le_of_ble_eq_true rfl) (recv X hM.1 CL_X2) hM ⟨(Nat.le_of_ble_eq_true rfl), (Nat.le_of_ble_eq_true rfl)⟩ ?_
  refine vv_istore_n (lv' := [(2, .int (nI (win (I 10) (I q) dl))), (0, .ref (g 0)), (1, .ref (g q))]) X dX2_powerHere_5 rfl (by decide) rfl ?_
  refine vv_iload_n X dX2_powerHere_6 rfl 0 rfl ?_
  refine vn_if_ne (tgt := 14) X (by omega) dX2_powerHere_7 (by decide) (fun c_7 => ?_) (fun c_7 => ?_)
  · refine vv_aload_n X dX2_powerHere_14 rfl 1 rfl ?_
    refine vv_aload_n X dX2_powerHere_15 rfl 2 rfl ?_
    refine vv_iconst (v := nI 0) X dX2_powerHere_16 (by decide) ?_
    refine vv_iload_n X dX2_powerHere_17 rfl 0 rfl ?_
    refine vv_callVp X (mX2_energy (kL K) D g x I J q (I 10) rfl (I q) rfl 0 (win (I 10) (I q) dl) (win (I 10) (I q) dl) dl hq hP hS hd (by omega) (by omega) (rfl)) q3356 q3358 qs109 q144 q3359 nX2_energy ⟨(Nat.le_of_ble_eq_true rfl), (Nat.le_of_ble_eq_true rfl)⟩ dX2_powerHere_18 rfl (Nat.le_of_ble_eq_true rfl) (recv X hM.1 CL_X2) hM ⟨(Nat.le_of_ble_eq_true rfl), (Nat.le_of_ble_eq_true rfl)⟩ ?_
    refine vv_iload_n X dX2_powerHere_21 rfl 0 rfl ?_
    refine vv_i2l (v := lN (win (I 10) (I q) dl)) X dX2_powerHere_22 (nI_l (by omega)) ?_
    refine vv_ldiv X dX2_powerHere_23 (lN_ne0 (by omega) (by omega)) ?_
    exact vv_lret X hQ dX2_powerHere_24 (Nat.le_refl _) (Nat.le_refl _) (pql (by unfold pwr; rw [if_neg (show ¬ win (I 10) (I q) dl = 0 by omega)]))
  · refine vv_lconst (v := 0) X dX2_powerHere_10 (by decide) ?_
    refine vv_goto (tgt := 24) X dX2_powerHere_11 (by decide) ?_
    exact vv_lret X hQ dX2_powerHere_24 (Nat.le_refl _) (Nat.le_refl _) (pql (by unfold pwr; rw [if_pos c_7]))
