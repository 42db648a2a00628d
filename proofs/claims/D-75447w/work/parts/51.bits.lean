/-! bits; sets of small numbers: printed by gen/j3.py -/
set_option maxRecDepth 100000
/-! bits of small words -/
def bu (v : Nat) : Nat := if v = 0 then 0 else 1
theorem bu_or (v : Nat) : (v = 0 ∧ bu v = 0) ∨ (0 < v ∧ bu v = 1) := by
  unfold bu
  by_cases h : v = 0
  · exact Or.inl ⟨h, if_pos h⟩
  · exact Or.inr ⟨by omega, if_neg h⟩
/-- a set of small numbers: the object at b, its word at w -/
def BS (D : DD) (H : Heap) (b w v : Nat) : Prop := oB D H b 19 [.ref w, .int (nI (bu v)), .int (nI 1)] ∧ lA D H w 1 (fun _ => lN v)
theorem BS.kept {D : DD} {H H1 : Heap} {b w v : Nat} (h : BS D H b w v) (h1 : H1[b]? = H[b]?) (h2 : H1[w]? = H[w]?) : BS D H1 b w v := ⟨h.1.kept h1, h.2.kept h2⟩
theorem lN_bv (a : Nat) : (lN a).toBitVec = BitVec.ofNat 64 a := rfl
theorem lN_and (a b : Nat) : lN a &&& lN b = lN (a &&& b) := by
  apply Int64.toBitVec_inj.mp
  rw [Int64.toBitVec_and, lN_bv, lN_bv, lN_bv, BitVec.ofNat_and]
theorem lN_or (a b : Nat) : lN a ||| lN b = lN (a ||| b) := by
  apply Int64.toBitVec_inj.mp
  rw [Int64.toBitVec_or, lN_bv, lN_bv, lN_bv, BitVec.ofNat_or]
theorem nI_bv (a : Nat) : (nI a).toBitVec = BitVec.ofNat 32 a := rfl
theorem nI_and (a b : Nat) : nI a &&& nI b = nI (a &&& b) := by
  apply Int32.toBitVec_inj.mp
  rw [Int32.toBitVec_and, nI_bv, nI_bv, nI_bv, BitVec.ofNat_and]
theorem lN_ush {v k : Nat} {s : UInt64} (hv : v < 2 ^ 63) (hs : s = UInt64.ofNat k) (hk : k < 64) : ((lN v).toUInt64 >>> s).toInt64 = lN (v / 2 ^ k) := by
  subst hs
  have e : (UInt64.ofNat v) >>> (UInt64.ofNat k) = UInt64.ofNat (v / 2 ^ k) := by
    apply UInt64.toNat_inj.mp
    rw [UInt64.toNat_shiftRight, UInt64.toNat_ofNat', UInt64.toNat_ofNat', UInt64.toNat_ofNat', Nat.mod_eq_of_lt (show v < 2 ^ 64 by omega), Nat.mod_eq_of_lt (show k < 2^64 by omega), Nat.mod_eq_of_lt hk, Nat.shiftRight_eq_div_pow, Nat.mod_eq_of_lt]
    exact Nat.lt_of_le_of_lt (Nat.div_le_self _ _) (by omega)
  show (UInt64.ofNat v >>> UInt64.ofNat k).toInt64 = _
  rw [e]; rfl
theorem nI_ush {v k : Nat} {s : UInt32} (hv : v < 2 ^ 31) (hs : s = UInt32.ofNat k) (hk : k < 32) : ((nI v).toUInt32 >>> s).toInt32 = nI (v / 2 ^ k) := by
  subst hs
  have e : (UInt32.ofNat v) >>> (UInt32.ofNat k) = UInt32.ofNat (v / 2 ^ k) := by
    apply UInt32.toNat_inj.mp
    rw [UInt32.toNat_shiftRight, UInt32.toNat_ofNat', UInt32.toNat_ofNat', UInt32.toNat_ofNat', Nat.mod_eq_of_lt (show v < 2 ^ 32 by omega), Nat.mod_eq_of_lt (show k < 2^32 by omega), Nat.mod_eq_of_lt hk, Nat.shiftRight_eq_div_pow, Nat.mod_eq_of_lt]
    exact Nat.lt_of_le_of_lt (Nat.div_le_self _ _) (by omega)
  show (UInt32.ofNat v >>> UInt32.ofNat k).toInt32 = _
  rw [e]; rfl
theorem lN_not {z : Nat} (h : z < 2 ^ 64) : lN z ^^^ (-1) = lN (2 ^ 64 - 1 - z) := by
  apply Int64.toBitVec_inj.mp
  rw [Int64.toBitVec_xor]
  show BitVec.ofNat 64 z ^^^ BitVec.allOnes 64 = BitVec.ofNat 64 (2 ^ 64 - 1 - z)
  rw [BitVec.xor_allOnes]
  apply BitVec.eq_of_toNat_eq
  rw [BitVec.toNat_not, BitVec.toNat_ofNat, BitVec.toNat_ofNat]; omega
theorem nI_not {z : Nat} (h : z < 2 ^ 32) : nI z ^^^ (-1) = nI (2 ^ 32 - 1 - z) := by
  apply Int32.toBitVec_inj.mp
  rw [Int32.toBitVec_xor]
  show BitVec.ofNat 32 z ^^^ BitVec.allOnes 32 = BitVec.ofNat 32 (2 ^ 32 - 1 - z)
  rw [BitVec.xor_allOnes]
  apply BitVec.eq_of_toNat_eq
  rw [BitVec.toNat_not, BitVec.toNat_ofNat, BitVec.toNat_ofNat]; omega
theorem all_r {n : Nat} {f : Nat → Bool} (h : (List.range n).all f = true) {k : Nat} (hk : k < n) : f k = true := List.all_eq_true.mp h k (List.mem_range.mpr hk)
theorem b_one : ∀ i, i < 12 → (1 : Int64) <<< ((nI i).toInt64 &&& 63) = lN (2 ^ i) := by decide +kernel
theorem b_not : ∀ i, i < 12 → ((1 : Int64) <<< ((nI i).toInt64 &&& 63)) ^^^ (-1) = lN (2 ^ 64 - 1 - 2 ^ i) := by decide +kernel
theorem b_m1 : ∀ i, i < 12 → (-1 : Int64) <<< ((nI i).toInt64 &&& 63) = lN (2 ^ 64 - 2 ^ i) := by decide +kernel
theorem b_ix : ∀ i, i < 12 → (nI i) >>> ((nI 6) &&& 31) = nI 0 := by decide +kernel
theorem lN_nz {a : Nat} (h : a < 2 ^ 63) (h0 : 0 < a) : lN a ≠ 0 := fun e => by
  have := congrArg (fun z : Int64 => z.toBitVec.toNat) e
  simp only [lN_bv, BitVec.toNat_ofNat] at this
  rw [Nat.mod_eq_of_lt (by omega)] at this
  exact absurd this (by show a ≠ 0; omega)
def clr (v i : Nat) : Nat := v &&& (2 ^ 64 - 1 - 2 ^ i)
def lst (v : Nat) : Nat := fo (fun j a => if a = 12 ∧ v.testBit j = true then j else a) 12 12
def pop (v : Nat) : Nat := fo (fun j a => a + (if v.testBit j = true then 1 else 0)) 12 0

def pc1 (v : Nat) : Nat := v - (v / 2 &&& 6148914691236517205)
def pc2 (v : Nat) : Nat := (pc1 v &&& 3689348814741910323) + (pc1 v / 4 &&& 3689348814741910323)
def pc3 (v : Nat) : Nat := (pc2 v + pc2 v / 16) &&& 1085102592571150095
def pc4 (v : Nat) : Nat := pc3 v + pc3 v / 256
theorem pc_l {v : Nat} (hv : v < 4096) : v / 2 &&& 6148914691236517205 ≤ v ∧ pc1 v < 4096 ∧ pc2 v < 8192 ∧ pc3 v < 16384 ∧ pc4 v < 32768 := by
  have h1 : v / 2 &&& 6148914691236517205 ≤ v / 2 := Nat.and_le_left
  have h2 : pc1 v ≤ v := Nat.sub_le _ _
  have h3 : pc1 v &&& 3689348814741910323 ≤ pc1 v := Nat.and_le_left
  have h4 : pc1 v / 4 &&& 3689348814741910323 ≤ pc1 v / 4 := Nat.and_le_left
  have h5 : pc2 v = (pc1 v &&& 3689348814741910323) + (pc1 v / 4 &&& 3689348814741910323) := rfl
  have h6 : pc3 v ≤ pc2 v + pc2 v / 16 := Nat.and_le_left
  have h7 : pc4 v = pc3 v + pc3 v / 256 := rfl
  omega
theorem pc_f : (List.range 4096).all (fun v => (pc4 v &&& 127) == pop v) = true := by decide +kernel
theorem pc_g {v : Nat} (hv : v < 4096) : nI (pc4 v) &&& nI 127 = nI (pop v) := by rw [nI_and]; exact congrArg nI (eq_of_beq (all_r pc_f hv))
theorem lN_a0 (a : Nat) : lN a + lN 0 = lN a := by apply Int64.toBitVec_inj.mp; rw [Int64.toBitVec_add, lN_bv, lN_bv]; exact BitVec.add_zero _

theorem nJ30_bitCount : notMH yJ30_bitCount 1 := by decide +kernel
set_option maxHeartbeats 800000 in
theorem mJ30_bitCount (l : Launch) (D : DD) (v : Nat) (hv : v < 4096) : Cp l yJ30_bitCount cJ30_bitCount 2 (some .int) { frames := 1, cells := 0, slots := 0, locals := 12 } D [.long (lN v)] (fun H => True) (.int (nI (pop v))) := by
  refine Ct.of (by decide +kernel) (Nat.le_of_ble_eq_true rfl) (fun K Qf hkl X hM hQ => ?_)
  subst hkl
  have hl := pc_l hv
  refine vv_sub (lv' := [(0, .long (lN v))]) [0] rfl ?_
  refine vv_lload_n X dJ30_bitCount_0 rfl 0 rfl ?_
  refine vv_lload_n X dJ30_bitCount_1 rfl 0 rfl ?_
  refine vv_iconst (v := nI 1) X dJ30_bitCount_2 (by decide) ?_
  refine vv_lushr (v := lN (v / 2)) X dJ30_bitCount_3 (lN_ush (k := 1) (by omega) (by decide) (by decide)) ?_
  refine vv_ldc2 (v := 6148914691236517205) X q2429 dJ30_bitCount_4 ?_
  refine vv_eql (show _ = lN 6148914691236517205 from by decide) ?_
  refine vv_land X dJ30_bitCount_7 ?_
  refine vv_eql (lN_and _ _) ?_
  refine vv_lsub X dJ30_bitCount_8 ?_
  refine vv_eql (lN_sub hl.1) ?_
  refine vv_lstore_n (lv' := [(0, .long (lN (pc1 v)))]) X dJ30_bitCount_9 rfl (by decide) rfl ?_
  refine vv_lload_n X dJ30_bitCount_10 rfl 0 rfl ?_
  refine vv_ldc2 (v := 3689348814741910323) X q2430 dJ30_bitCount_11 ?_
  refine vv_eql (show _ = lN 3689348814741910323 from by decide) ?_
  refine vv_land X dJ30_bitCount_14 ?_
  refine vv_eql (lN_and _ _) ?_
  refine vv_lload_n X dJ30_bitCount_15 rfl 0 rfl ?_
  refine vv_iconst (v := nI 2) X dJ30_bitCount_16 (by decide) ?_
  refine vv_lushr (v := lN (pc1 v / 4)) X dJ30_bitCount_17 (lN_ush (k := 2) (by omega) (by decide) (by decide)) ?_
  refine vv_ldc2 (v := 3689348814741910323) X q2430 dJ30_bitCount_18 ?_
  refine vv_eql (show _ = lN 3689348814741910323 from by decide) ?_
  refine vv_land X dJ30_bitCount_21 ?_
  refine vv_eql (lN_and _ _) ?_
  refine vl_add X dJ30_bitCount_22 ?_
  refine vv_eql (show lN ((pc1 v &&& 3689348814741910323) + (pc1 v / 4 &&& 3689348814741910323)) = lN (pc2 v) from rfl) ?_
  refine vv_lstore_n (lv' := [(0, .long (lN (pc2 v)))]) X dJ30_bitCount_23 rfl (by decide) rfl ?_
  refine vv_lload_n X dJ30_bitCount_24 rfl 0 rfl ?_
  refine vv_lload_n X dJ30_bitCount_25 rfl 0 rfl ?_
  refine vv_iconst (v := nI 4) X dJ30_bitCount_26 (by decide) ?_
  refine vv_lushr (v := lN (pc2 v / 16)) X dJ30_bitCount_27 (lN_ush (k := 4) (by omega) (by decide) (by decide)) ?_
  refine vl_add X dJ30_bitCount_28 ?_
  refine vv_ldc2 (v := 1085102592571150095) X q2431 dJ30_bitCount_29 ?_
  refine vv_eql (show _ = lN 1085102592571150095 from by decide) ?_
  refine vv_land X dJ30_bitCount_32 ?_
  refine vv_eql (lN_and _ _) ?_
  refine vv_lstore_n (lv' := [(0, .long (lN (pc3 v)))]) X dJ30_bitCount_33 rfl (by decide) rfl ?_
  refine vv_lload_n X dJ30_bitCount_34 rfl 0 rfl ?_
  refine vv_lload_n X dJ30_bitCount_35 rfl 0 rfl ?_
  refine vv_bipush (v := nI 8) X dJ30_bitCount_36 (by decide) ?_
  refine vv_lushr (v := lN (pc3 v / 256)) X dJ30_bitCount_38 (lN_ush (k := 8) (by omega) (by decide) (by decide)) ?_
  refine vl_add X dJ30_bitCount_39 ?_
  refine vv_eql (show lN (pc3 v + pc3 v / 256) = lN (pc4 v) from rfl) ?_
  refine vv_lstore_n (lv' := [(0, .long (lN (pc4 v)))]) X dJ30_bitCount_40 rfl (by decide) rfl ?_
  refine vv_lload_n X dJ30_bitCount_41 rfl 0 rfl ?_
  refine vv_lload_n X dJ30_bitCount_42 rfl 0 rfl ?_
  refine vv_bipush (v := nI 16) X dJ30_bitCount_43 (by decide) ?_
  refine vv_lushr (v := lN 0) X dJ30_bitCount_45 ((lN_ush (k := 16) (by omega) (by decide) (by decide)).trans (congrArg lN (by omega))) ?_
  refine vl_add X dJ30_bitCount_46 ?_
  refine vv_eql (show lN (pc4 v + 0) = lN (pc4 v) from rfl) ?_
  refine vv_lstore_n (lv' := [(0, .long (lN (pc4 v)))]) X dJ30_bitCount_47 rfl (by decide) rfl ?_
  refine vv_lload_n X dJ30_bitCount_48 rfl 0 rfl ?_
  refine vv_lload_n X dJ30_bitCount_49 rfl 0 rfl ?_
  refine vv_bipush (v := nI 32) X dJ30_bitCount_50 (by decide) ?_
  refine vv_lushr (v := lN 0) X dJ30_bitCount_52 ((lN_ush (k := 32) (by omega) (by decide) (by decide)).trans (congrArg lN (by omega))) ?_
  refine vl_add X dJ30_bitCount_53 ?_
  refine vv_eql (show lN (pc4 v + 0) = lN (pc4 v) from rfl) ?_
  refine vv_lstore_n (lv' := [(0, .long (lN (pc4 v)))]) X dJ30_bitCount_54 rfl (by decide) rfl ?_
  refine vv_lload_n X dJ30_bitCount_55 rfl 0 rfl ?_
  refine vv_l2i X dJ30_bitCount_56 rfl ?_
  refine vv_eqi (lN_i _) ?_
  refine vv_bipush (v := nI 127) X dJ30_bitCount_57 (by decide) ?_
  refine vv_iand X dJ30_bitCount_59 ?_
  refine vv_eqi (pc_g hv) ?_
  exact vv_iret X hQ dJ30_bitCount_60 (Nat.le_of_ble_eq_true rfl) (Nat.le_of_ble_eq_true rfl) (pq (rfl))
theorem nt_f0 : (List.range 4096).all (fun u => u == 0 || (((2 ^ 32 - 1 - u) &&& (u - 1)) == 2 ^ lst u - 1 && Nat.blt (lst u) 12)) = true := by decide +kernel
theorem nt_f {u : Nat} (hu : u < 4096) (h0 : 0 < u) : ((nI u ^^^ (-1)) &&& (nI u - nI 1)) = nI (2 ^ lst u - 1) ∧ lst u < 12 := by
  have h := all_r nt_f0 hu
  rw [Bool.or_eq_true, Bool.and_eq_true] at h
  rcases h with h | ⟨h1, h2⟩
  · have := eq_of_beq h
    omega
  · rw [nI_not (by omega), pk_sub (by omega), nI_and]
    exact ⟨congrArg nI (eq_of_beq h1), Nat.blt_eq.mp h2⟩
/-- what is left behind the steps -/
def nt_a (p : Nat) : Nat := if 256 < p then p / 256 else p
def nt_an (p : Nat) : Nat := if 256 < p then 1 + 8 else 1
theorem nt_fin : ∀ k, k < 12 → 0 < 2 ^ k - 1 → ∀ q n, (256 < 2 ^ k - 1 ∧ q = (2 ^ k - 1) / 256 ∧ n = 9 ∨ 2 ^ k - 1 ≤ 256 ∧ q = 2 ^ k - 1 ∧ n = 1) → ∀ q2 n2, (16 < q ∧ q2 = q / 16 ∧ n2 = n + 4 ∨ q ≤ 16 ∧ q2 = q ∧ n2 = n) → ∀ q3 n3, (4 < q2 ∧ q3 = q2 / 4 ∧ n3 = n2 + 2 ∨ q2 ≤ 4 ∧ q3 = q2 ∧ n3 = n2) → nI (n3 + q3 / 2) = nI k := by
  intro k hk h0 q n h1 q2 n2 h2 q3 n3 h3
  refine congrArg nI ?_
  rcases (show k = 0 ∨ k = 1 ∨ k = 2 ∨ k = 3 ∨ k = 4 ∨ k = 5 ∨ k = 6 ∨ k = 7 ∨ k = 8 ∨ k = 9 ∨ k = 10 ∨ k = 11 by omega) with e | e | e | e | e | e | e | e | e | e | e | e <;> subst e <;> simp only [Nat.reducePow, Nat.reduceSub] at h0 h1 <;> omega
theorem nt_0 : ∀ k, k < 12 → 2 ^ k - 1 = 0 → k = 0 := by decide
theorem nt_lt : ∀ k, k < 12 → 2 ^ k - 1 < 4096 := by decide
theorem nJ20_numberOfTrailingZeros : notMH yJ20_numberOfTrailingZeros 1 := by decide +kernel
set_option maxHeartbeats 800000 in
theorem mJ20_numberOfTrailingZeros (l : Launch) (D : DD) (u : Nat) (hu : u < 4096) (h0 : 0 < u) : Cp l yJ20_numberOfTrailingZeros cJ20_numberOfTrailingZeros 2 (some .int) { frames := 1, cells := 0, slots := 0, locals := 12 } D [.int (nI u)] (fun H => True) (.int (nI (lst u))) := by
  refine Ct.of (by decide +kernel) (Nat.le_of_ble_eq_true rfl) (fun K Qf hkl X hM hQ => ?_)
  subst hkl
  have hk := (nt_f hu h0).2
  have hp := nt_lt _ hk
  refine vv_sub (lv' := [(0, .int (nI u))]) [0] rfl ?_
  refine vv_iload_n X dJ20_numberOfTrailingZeros_0 rfl 0 rfl ?_
  refine vv_iconst (v := -1) X dJ20_numberOfTrailingZeros_1 (by decide) ?_
  refine vv_ixor X dJ20_numberOfTrailingZeros_2 ?_
  refine vv_iload_n X dJ20_numberOfTrailingZeros_3 rfl 0 rfl ?_
  refine vv_iconst (v := nI 1) X dJ20_numberOfTrailingZeros_4 (by decide) ?_
  refine vv_isub X dJ20_numberOfTrailingZeros_5 ?_
  refine vv_iand X dJ20_numberOfTrailingZeros_6 ?_
  refine vv_eqi ((nt_f hu h0).1) ?_
  refine vv_istore_n (lv' := [(0, .int (nI (2 ^ lst u - 1)))]) X dJ20_numberOfTrailingZeros_7 rfl (by decide) rfl ?_
  refine vv_iload_n X dJ20_numberOfTrailingZeros_8 rfl 0 rfl ?_
  refine vn_if_gt (tgt := 17) X (by omega) dJ20_numberOfTrailingZeros_9 (by decide) (fun c_9 => ?_) (fun c_9 => ?_)
  · refine vv_iconst (v := nI 1) X dJ20_numberOfTrailingZeros_17 (by decide) ?_
    refine vv_istore_n (lv' := [(1, .int (nI 1)), (0, .int (nI (2 ^ lst u - 1)))]) X dJ20_numberOfTrailingZeros_18 rfl (by decide) rfl ?_
    refine vv_iload_n X dJ20_numberOfTrailingZeros_19 rfl 1 rfl ?_
    refine vv_ldcw (v := nI 65536) X q1734 dJ20_numberOfTrailingZeros_20 ?_
    refine vn_le (tgt := 34) X (by omega) (by omega) dJ20_numberOfTrailingZeros_23 (by decide) (fun c_23 => ?_) (fun c_23 => ?_)
    · refine vv_iload_n X dJ20_numberOfTrailingZeros_34 rfl 1 rfl ?_
      refine vv_sipush (v := nI 256) X dJ20_numberOfTrailingZeros_35 (by decide) ?_
      refine vn_le (tgt := 49) X (by omega) (by omega) dJ20_numberOfTrailingZeros_38 (by decide) (fun c_38 => ?_) (fun c_38 => ?_)
      · refine vv_iload_n X dJ20_numberOfTrailingZeros_49 rfl 1 rfl ?_
        refine vv_bipush (v := nI 16) X dJ20_numberOfTrailingZeros_50 (by decide) ?_
        refine vn_le (tgt := 62) X (by omega) (by omega) dJ20_numberOfTrailingZeros_52 (by decide) (fun c_52 => ?_) (fun c_52 => ?_)
        · refine vv_iload_n X dJ20_numberOfTrailingZeros_62 rfl 1 rfl ?_
          refine vv_iconst (v := nI 4) X dJ20_numberOfTrailingZeros_63 (by decide) ?_
          refine vn_le (tgt := 74) X (by omega) (by omega) dJ20_numberOfTrailingZeros_64 (by decide) (fun c_64 => ?_) (fun c_64 => ?_)
          · refine vv_iload_n X dJ20_numberOfTrailingZeros_74 rfl 0 rfl ?_
            refine vv_iload_n X dJ20_numberOfTrailingZeros_75 rfl 1 rfl ?_
            refine vv_iconst (v := nI 1) X dJ20_numberOfTrailingZeros_76 (by decide) ?_
            refine vv_iushr (v := nI ((2 ^ lst u - 1) / 2)) X dJ20_numberOfTrailingZeros_77 (nI_ush (k := 1) (by omega) (by decide) (by decide)) ?_
            refine vn_add X dJ20_numberOfTrailingZeros_78 ?_
            exact vv_iret X hQ dJ20_numberOfTrailingZeros_79 (Nat.le_of_ble_eq_true rfl) (Nat.le_of_ble_eq_true rfl) (pq (nt_fin _ hk c_9 _ _ (Or.inr ⟨c_38, rfl, rfl⟩) _ _ (Or.inr ⟨c_52, rfl, rfl⟩) _ _ (Or.inr ⟨c_64, rfl, rfl⟩)))
          · refine vv_iinc (v := nI (1 + 2)) (lv' := [(1, .int (nI (1 + 2))), (0, .int (nI (2 ^ lst u - 1)))]) X dJ20_numberOfTrailingZeros_67 (k := 0) rfl (nI_add _ 2) (by decide) rfl ?_
            refine vv_iload_n X dJ20_numberOfTrailingZeros_70 rfl 1 rfl ?_
            refine vv_iconst (v := nI 2) X dJ20_numberOfTrailingZeros_71 (by decide) ?_
            refine vv_iushr (v := nI ((2 ^ lst u - 1) / 4)) X dJ20_numberOfTrailingZeros_72 (nI_ush (k := 2) (by omega) (by decide) (by decide)) ?_
            refine vv_istore_n (lv' := [(0, .int (nI ((2 ^ lst u - 1) / 4))), (1, .int (nI (1 + 2)))]) X dJ20_numberOfTrailingZeros_73 rfl (by decide) rfl ?_
            refine vv_iload_n X dJ20_numberOfTrailingZeros_74 rfl 1 rfl ?_
            refine vv_iload_n X dJ20_numberOfTrailingZeros_75 rfl 0 rfl ?_
            refine vv_iconst (v := nI 1) X dJ20_numberOfTrailingZeros_76 (by decide) ?_
            refine vv_iushr (v := nI (((2 ^ lst u - 1) / 4) / 2)) X dJ20_numberOfTrailingZeros_77 (nI_ush (k := 1) (by omega) (by decide) (by decide)) ?_
            refine vn_add X dJ20_numberOfTrailingZeros_78 ?_
            exact vv_iret X hQ dJ20_numberOfTrailingZeros_79 (Nat.le_of_ble_eq_true rfl) (Nat.le_of_ble_eq_true rfl) (pq (nt_fin _ hk c_9 _ _ (Or.inr ⟨c_38, rfl, rfl⟩) _ _ (Or.inr ⟨c_52, rfl, rfl⟩) _ _ (Or.inl ⟨c_64, rfl, rfl⟩)))
        · refine vv_iinc (v := nI (1 + 4)) (lv' := [(1, .int (nI (1 + 4))), (0, .int (nI (2 ^ lst u - 1)))]) X dJ20_numberOfTrailingZeros_55 (k := 0) rfl (nI_add _ 4) (by decide) rfl ?_
          refine vv_iload_n X dJ20_numberOfTrailingZeros_58 rfl 1 rfl ?_
          refine vv_iconst (v := nI 4) X dJ20_numberOfTrailingZeros_59 (by decide) ?_
          refine vv_iushr (v := nI ((2 ^ lst u - 1) / 16)) X dJ20_numberOfTrailingZeros_60 (nI_ush (k := 4) (by omega) (by decide) (by decide)) ?_
          refine vv_istore_n (lv' := [(0, .int (nI ((2 ^ lst u - 1) / 16))), (1, .int (nI (1 + 4)))]) X dJ20_numberOfTrailingZeros_61 rfl (by decide) rfl ?_
          refine vv_iload_n X dJ20_numberOfTrailingZeros_62 rfl 0 rfl ?_
          refine vv_iconst (v := nI 4) X dJ20_numberOfTrailingZeros_63 (by decide) ?_
          refine vn_le (tgt := 74) X (by omega) (by omega) dJ20_numberOfTrailingZeros_64 (by decide) (fun c_64 => ?_) (fun c_64 => ?_)
          · refine vv_iload_n X dJ20_numberOfTrailingZeros_74 rfl 1 rfl ?_
            refine vv_iload_n X dJ20_numberOfTrailingZeros_75 rfl 0 rfl ?_
            refine vv_iconst (v := nI 1) X dJ20_numberOfTrailingZeros_76 (by decide) ?_
            refine vv_iushr (v := nI (((2 ^ lst u - 1) / 16) / 2)) X dJ20_numberOfTrailingZeros_77 (nI_ush (k := 1) (by omega) (by decide) (by decide)) ?_
            refine vn_add X dJ20_numberOfTrailingZeros_78 ?_
            exact vv_iret X hQ dJ20_numberOfTrailingZeros_79 (Nat.le_of_ble_eq_true rfl) (Nat.le_of_ble_eq_true rfl) (pq (nt_fin _ hk c_9 _ _ (Or.inr ⟨c_38, rfl, rfl⟩) _ _ (Or.inl ⟨c_52, rfl, rfl⟩) _ _ (Or.inr ⟨c_64, rfl, rfl⟩)))
          · refine vv_iinc (v := nI ((1 + 4) + 2)) (lv' := [(1, .int (nI ((1 + 4) + 2))), (0, .int (nI ((2 ^ lst u - 1) / 16)))]) X dJ20_numberOfTrailingZeros_67 (k := 1) rfl (nI_add _ 2) (by decide) rfl ?_
            refine vv_iload_n X dJ20_numberOfTrailingZeros_70 rfl 1 rfl ?_
            refine vv_iconst (v := nI 2) X dJ20_numberOfTrailingZeros_71 (by decide) ?_
            refine vv_iushr (v := nI (((2 ^ lst u - 1) / 16) / 4)) X dJ20_numberOfTrailingZeros_72 (nI_ush (k := 2) (by omega) (by decide) (by decide)) ?_
            refine vv_istore_n (lv' := [(0, .int (nI (((2 ^ lst u - 1) / 16) / 4))), (1, .int (nI ((1 + 4) + 2)))]) X dJ20_numberOfTrailingZeros_73 rfl (by decide) rfl ?_
            refine vv_iload_n X dJ20_numberOfTrailingZeros_74 rfl 1 rfl ?_
            refine vv_iload_n X dJ20_numberOfTrailingZeros_75 rfl 0 rfl ?_
            refine vv_iconst (v := nI 1) X dJ20_numberOfTrailingZeros_76 (by decide) ?_
            refine vv_iushr (v := nI ((((2 ^ lst u - 1) / 16) / 4) / 2)) X dJ20_numberOfTrailingZeros_77 (nI_ush (k := 1) (by omega) (by decide) (by decide)) ?_
            refine vn_add X dJ20_numberOfTrailingZeros_78 ?_
            exact vv_iret X hQ dJ20_numberOfTrailingZeros_79 (Nat.le_of_ble_eq_true rfl) (Nat.le_of_ble_eq_true rfl) (pq (nt_fin _ hk c_9 _ _ (Or.inr ⟨c_38, rfl, rfl⟩) _ _ (Or.inl ⟨c_52, rfl, rfl⟩) _ _ (Or.inl ⟨c_64, rfl, rfl⟩)))
      · refine vv_iinc (v := nI (1 + 8)) (lv' := [(1, .int (nI (1 + 8))), (0, .int (nI (2 ^ lst u - 1)))]) X dJ20_numberOfTrailingZeros_41 (k := 0) rfl (nI_add _ 8) (by decide) rfl ?_
        refine vv_iload_n X dJ20_numberOfTrailingZeros_44 rfl 1 rfl ?_
        refine vv_bipush (v := nI 8) X dJ20_numberOfTrailingZeros_45 (by decide) ?_
        refine vv_iushr (v := nI ((2 ^ lst u - 1) / 256)) X dJ20_numberOfTrailingZeros_47 (nI_ush (k := 8) (by omega) (by decide) (by decide)) ?_
        refine vv_istore_n (lv' := [(0, .int (nI ((2 ^ lst u - 1) / 256))), (1, .int (nI (1 + 8)))]) X dJ20_numberOfTrailingZeros_48 rfl (by decide) rfl ?_
        refine vv_iload_n X dJ20_numberOfTrailingZeros_49 rfl 0 rfl ?_
        refine vv_bipush (v := nI 16) X dJ20_numberOfTrailingZeros_50 (by decide) ?_
        refine vn_le (tgt := 62) X (by omega) (by omega) dJ20_numberOfTrailingZeros_52 (by decide) (fun c_52 => ?_) (fun c_52 => ?_)
        · refine vv_iload_n X dJ20_numberOfTrailingZeros_62 rfl 0 rfl ?_
          refine vv_iconst (v := nI 4) X dJ20_numberOfTrailingZeros_63 (by decide) ?_
          refine vn_le (tgt := 74) X (by omega) (by omega) dJ20_numberOfTrailingZeros_64 (by decide) (fun c_64 => ?_) (fun c_64 => ?_)
          · refine vv_iload_n X dJ20_numberOfTrailingZeros_74 rfl 1 rfl ?_
            refine vv_iload_n X dJ20_numberOfTrailingZeros_75 rfl 0 rfl ?_
            refine vv_iconst (v := nI 1) X dJ20_numberOfTrailingZeros_76 (by decide) ?_
            refine vv_iushr (v := nI (((2 ^ lst u - 1) / 256) / 2)) X dJ20_numberOfTrailingZeros_77 (nI_ush (k := 1) (by omega) (by decide) (by decide)) ?_
            refine vn_add X dJ20_numberOfTrailingZeros_78 ?_
            exact vv_iret X hQ dJ20_numberOfTrailingZeros_79 (Nat.le_of_ble_eq_true rfl) (Nat.le_of_ble_eq_true rfl) (pq (nt_fin _ hk c_9 _ _ (Or.inl ⟨c_38, rfl, rfl⟩) _ _ (Or.inr ⟨c_52, rfl, rfl⟩) _ _ (Or.inr ⟨c_64, rfl, rfl⟩)))
          · refine vv_iinc (v := nI ((1 + 8) + 2)) (lv' := [(1, .int (nI ((1 + 8) + 2))), (0, .int (nI ((2 ^ lst u - 1) / 256)))]) X dJ20_numberOfTrailingZeros_67 (k := 1) rfl (nI_add _ 2) (by decide) rfl ?_
            refine vv_iload_n X dJ20_numberOfTrailingZeros_70 rfl 1 rfl ?_
            refine vv_iconst (v := nI 2) X dJ20_numberOfTrailingZeros_71 (by decide) ?_
            refine vv_iushr (v := nI (((2 ^ lst u - 1) / 256) / 4)) X dJ20_numberOfTrailingZeros_72 (nI_ush (k := 2) (by omega) (by decide) (by decide)) ?_
            refine vv_istore_n (lv' := [(0, .int (nI (((2 ^ lst u - 1) / 256) / 4))), (1, .int (nI ((1 + 8) + 2)))]) X dJ20_numberOfTrailingZeros_73 rfl (by decide) rfl ?_
            refine vv_iload_n X dJ20_numberOfTrailingZeros_74 rfl 1 rfl ?_
            refine vv_iload_n X dJ20_numberOfTrailingZeros_75 rfl 0 rfl ?_
            refine vv_iconst (v := nI 1) X dJ20_numberOfTrailingZeros_76 (by decide) ?_
            refine vv_iushr (v := nI ((((2 ^ lst u - 1) / 256) / 4) / 2)) X dJ20_numberOfTrailingZeros_77 (nI_ush (k := 1) (by omega) (by decide) (by decide)) ?_
            refine vn_add X dJ20_numberOfTrailingZeros_78 ?_
            exact vv_iret X hQ dJ20_numberOfTrailingZeros_79 (Nat.le_of_ble_eq_true rfl) (Nat.le_of_ble_eq_true rfl) (pq (nt_fin _ hk c_9 _ _ (Or.inl ⟨c_38, rfl, rfl⟩) _ _ (Or.inr ⟨c_52, rfl, rfl⟩) _ _ (Or.inl ⟨c_64, rfl, rfl⟩)))
        · refine vv_iinc (v := nI ((1 + 8) + 4)) (lv' := [(1, .int (nI ((1 + 8) + 4))), (0, .int (nI ((2 ^ lst u - 1) / 256)))]) X dJ20_numberOfTrailingZeros_55 (k := 1) rfl (nI_add _ 4) (by decide) rfl ?_
          refine vv_iload_n X dJ20_numberOfTrailingZeros_58 rfl 1 rfl ?_
          refine vv_iconst (v := nI 4) X dJ20_numberOfTrailingZeros_59 (by decide) ?_
          refine vv_iushr (v := nI (((2 ^ lst u - 1) / 256) / 16)) X dJ20_numberOfTrailingZeros_60 (nI_ush (k := 4) (by omega) (by decide) (by decide)) ?_
          refine vv_istore_n (lv' := [(0, .int (nI (((2 ^ lst u - 1) / 256) / 16))), (1, .int (nI ((1 + 8) + 4)))]) X dJ20_numberOfTrailingZeros_61 rfl (by decide) rfl ?_
          refine vv_iload_n X dJ20_numberOfTrailingZeros_62 rfl 0 rfl ?_
          refine vv_iconst (v := nI 4) X dJ20_numberOfTrailingZeros_63 (by decide) ?_
          refine vn_le (tgt := 74) X (by omega) (by omega) dJ20_numberOfTrailingZeros_64 (by decide) (fun c_64 => ?_) (fun c_64 => ?_)
          · refine vv_iload_n X dJ20_numberOfTrailingZeros_74 rfl 1 rfl ?_
            refine vv_iload_n X dJ20_numberOfTrailingZeros_75 rfl 0 rfl ?_
            refine vv_iconst (v := nI 1) X dJ20_numberOfTrailingZeros_76 (by decide) ?_
            refine vv_iushr (v := nI ((((2 ^ lst u - 1) / 256) / 16) / 2)) X dJ20_numberOfTrailingZeros_77 (nI_ush (k := 1) (by omega) (by decide) (by decide)) ?_
            refine vn_add X dJ20_numberOfTrailingZeros_78 ?_
            exact vv_iret X hQ dJ20_numberOfTrailingZeros_79 (Nat.le_of_ble_eq_true rfl) (Nat.le_of_ble_eq_true rfl) (pq (nt_fin _ hk c_9 _ _ (Or.inl ⟨c_38, rfl, rfl⟩) _ _ (Or.inl ⟨c_52, rfl, rfl⟩) _ _ (Or.inr ⟨c_64, rfl, rfl⟩)))
          · refine vv_iinc (v := nI (((1 + 8) + 4) + 2)) (lv' := [(1, .int (nI (((1 + 8) + 4) + 2))), (0, .int (nI (((2 ^ lst u - 1) / 256) / 16)))]) X dJ20_numberOfTrailingZeros_67 (k := 1) rfl (nI_add _ 2) (by decide) rfl ?_
            refine vv_iload_n X dJ20_numberOfTrailingZeros_70 rfl 1 rfl ?_
            refine vv_iconst (v := nI 2) X dJ20_numberOfTrailingZeros_71 (by decide) ?_
            refine vv_iushr (v := nI ((((2 ^ lst u - 1) / 256) / 16) / 4)) X dJ20_numberOfTrailingZeros_72 (nI_ush (k := 2) (by omega) (by decide) (by decide)) ?_
            refine vv_istore_n (lv' := [(0, .int (nI ((((2 ^ lst u - 1) / 256) / 16) / 4))), (1, .int (nI (((1 + 8) + 4) + 2)))]) X dJ20_numberOfTrailingZeros_73 rfl (by decide) rfl ?_
            refine vv_iload_n X dJ20_numberOfTrailingZeros_74 rfl 1 rfl ?_
            refine vv_iload_n X dJ20_numberOfTrailingZeros_75 rfl 0 rfl ?_
            refine vv_iconst (v := nI 1) X dJ20_numberOfTrailingZeros_76 (by decide) ?_
            refine vv_iushr (v := nI (((((2 ^ lst u - 1) / 256) / 16) / 4) / 2)) X dJ20_numberOfTrailingZeros_77 (nI_ush (k := 1) (by omega) (by decide) (by decide)) ?_
            refine vn_add X dJ20_numberOfTrailingZeros_78 ?_
            exact vv_iret X hQ dJ20_numberOfTrailingZeros_79 (Nat.le_of_ble_eq_true rfl) (Nat.le_of_ble_eq_true rfl) (pq (nt_fin _ hk c_9 _ _ (Or.inl ⟨c_38, rfl, rfl⟩) _ _ (Or.inl ⟨c_52, rfl, rfl⟩) _ _ (Or.inl ⟨c_64, rfl, rfl⟩)))
    · exact absurd c_23 (by omega)
  · refine vv_iload_n X dJ20_numberOfTrailingZeros_12 rfl 0 rfl ?_
    refine vv_bipush (v := nI 32) X dJ20_numberOfTrailingZeros_13 (by decide) ?_
    refine vv_iand X dJ20_numberOfTrailingZeros_15 ?_
    refine vv_eqi (rfl) ?_
    exact vv_iret X hQ dJ20_numberOfTrailingZeros_16 (Nat.le_of_ble_eq_true rfl) (Nat.le_of_ble_eq_true rfl) (pq (by rw [c_9, nt_0 _ hk c_9]; decide))
theorem nJ30_numberOfTrailingZeros : notMH yJ30_numberOfTrailingZeros 1 := by decide +kernel
set_option maxHeartbeats 800000 in
theorem mJ30_numberOfTrailingZeros (l : Launch) (D : DD) (u : Nat) (hu : u < 4096) (h0 : 0 < u) : Cp l yJ30_numberOfTrailingZeros cJ30_numberOfTrailingZeros 3 (some .int) { frames := 2, cells := 0, slots := 0, locals := 33 } D [.long (lN u)] (fun H => True) (.int (nI (lst u))) := by
  refine Ct.of (by decide +kernel) (Nat.le_of_ble_eq_true rfl) (fun K Qf hkl X hM hQ => ?_)
  subst hkl
  refine vv_sub (lv' := [(0, .long (lN u))]) [0] rfl ?_
  refine vv_lload_n X dJ30_numberOfTrailingZeros_0 rfl 0 rfl ?_
  refine vv_l2i X dJ30_numberOfTrailingZeros_1 rfl ?_
  refine vv_eqi (lN_i u) ?_
  refine vv_istore_n (lv' := [(2, .int (nI u)), (0, .long (lN u))]) X dJ30_numberOfTrailingZeros_2 rfl (by decide) rfl ?_
  refine vv_iload_n X dJ30_numberOfTrailingZeros_3 rfl 0 rfl ?_
  refine vn_if_ne (tgt := 21) X (by omega) dJ30_numberOfTrailingZeros_4 (by decide) (fun c_4 => ?_) (fun c_4 => ?_)
  · refine vv_iload_n X dJ30_numberOfTrailingZeros_21 rfl 0 rfl ?_
    refine vv_callSp X (mJ20_numberOfTrailingZeros (kL K) D u (by omega) (by omega)) q1731 q1732 q163 q1733 nJ20_numberOfTrailingZeros ⟨(Nat.le_of_ble_eq_true rfl), (Nat.le_of_ble_eq_true rfl)⟩ dJ30_numberOfTrailingZeros_22 rfl (Nat.le_of_ble_eq_true rfl) trivial ⟨(Nat.le_of_ble_eq_true rfl), (Nat.le_of_ble_eq_true rfl)⟩ ?_
    exact vv_iret X hQ dJ30_numberOfTrailingZeros_25 (Nat.le_of_ble_eq_true rfl) (Nat.le_of_ble_eq_true rfl) (pq (rfl))
  · exact absurd c_4 (by omega)
theorem nJ21_wordIndex : notMH yJ21_wordIndex 1 := by decide +kernel
set_option maxHeartbeats 800000 in
theorem mJ21_wordIndex (l : Launch) (D : DD) (i : Nat) (hi : i < 12) : Cp l yJ21_wordIndex cJ21_wordIndex 1 (some .int) { frames := 1, cells := 0, slots := 0, locals := 12 } D [.int (nI i)] (fun H => True) (.int (nI 0)) := by
  refine Ct.of (by decide +kernel) (Nat.le_of_ble_eq_true rfl) (fun K Qf hkl X hM hQ => ?_)
  subst hkl
  refine vv_sub (lv' := [(0, .int (nI i))]) [0] rfl ?_
  refine vv_iload_n X dJ21_wordIndex_0 rfl 0 rfl ?_
  refine vv_bipush (v := nI 6) X dJ21_wordIndex_1 (by decide) ?_
  refine vv_ishr X dJ21_wordIndex_3 ?_
  refine vv_eqi (b_ix i hi) ?_
  exact vv_iret X hQ dJ21_wordIndex_4 (Nat.le_of_ble_eq_true rfl) (Nat.le_of_ble_eq_true rfl) (pq (rfl))
theorem nJ21_checkInvariants : notMH yJ21_checkInvariants 0 := by decide +kernel
set_option maxHeartbeats 800000 in
theorem mJ21_checkInvariants (l : Launch) (D : DD) (b : Nat)  : Cv l yJ21_checkInvariants cJ21_checkInvariants 1 { frames := 1, cells := 0, slots := 0, locals := 12 } D [.ref b] (fun H => KH D H) := by
  refine Ct.of (by decide +kernel) (Nat.le_of_ble_eq_true rfl) (fun K Qf hkl X hM hQ => ?_)
  subst hkl
  have hK := hM
  refine vv_sub (lv' := [(0, .ref b)]) [0] rfl ?_
  refine vv_gets X hK (ref := "java/util/BitSet") 1 (by decide) rfl q1470 (fun _ z => z) dJ21_checkInvariants_0 ?_
  refine vv_eqi (show _ = nI 1 from by decide) ?_
  refine vn_if_ne (tgt := 37) X (by omega) dJ21_checkInvariants_3 (by decide) (fun c_3 => ?_) (fun c_3 => ?_)
  · refine vv_gets X hK (ref := "java/util/BitSet") 1 (by decide) rfl q1470 (fun _ z => z) dJ21_checkInvariants_37 ?_
    refine vv_eqi (show _ = nI 1 from by decide) ?_
    refine vn_if_ne (tgt := 70) X (by omega) dJ21_checkInvariants_40 (by decide) (fun c_40 => ?_) (fun c_40 => ?_)
    · refine vv_gets X hK (ref := "java/util/BitSet") 1 (by decide) rfl q1470 (fun _ z => z) dJ21_checkInvariants_70 ?_
      refine vv_eqi (show _ = nI 1 from by decide) ?_
      refine vn_if_ne (tgt := 110) X (by omega) dJ21_checkInvariants_73 (by decide) (fun c_73 => ?_) (fun c_73 => ?_)
      · exact vv_vret X hQ dJ21_checkInvariants_110 (Nat.le_of_ble_eq_true rfl) (Nat.le_of_ble_eq_true rfl) (⟨rfl, rfl⟩)
      · exact absurd c_73 (by decide)
    · exact absurd c_40 (by decide)
  · exact absurd c_3 (by decide)
theorem b_get {v i : Nat} : (lN v &&& lN (2 ^ i) = 0) → v < 4096 → i < 12 → v.testBit i = false := fun h hv hi => by
  rw [lN_and] at h
  refine Bool.eq_false_iff.mpr (fun z => ?_)
  have e : v &&& 2 ^ i = 2 ^ i := by
    apply Nat.eq_of_testBit_eq
    intro j
    rw [Nat.testBit_and, Nat.testBit_two_pow]
    by_cases q : i = j
    · subst q; simp [z]
    · simp [q]
  rw [e] at h
  exact lN_nz (Nat.lt_of_le_of_lt (Nat.pow_le_pow_right (by decide) (show i ≤ 12 by omega)) (by decide)) (Nat.two_pow_pos i) h
theorem b_got {v i : Nat} : ¬ (lN v &&& lN (2 ^ i) = 0) → v.testBit i = true := fun h => by
  rcases Bool.eq_false_or_eq_true (v.testBit i) with z | z
  · exact z
  refine absurd ?_ h
  rw [lN_and]
  have e : v &&& 2 ^ i = 0 := by
    apply Nat.eq_of_testBit_eq
    intro j
    rw [Nat.testBit_and, Nat.testBit_two_pow, Nat.zero_testBit]
    by_cases q : i = j
    · subst q; simp [z]
    · simp [q]
  rw [e]; rfl
theorem nJ21_get : notMH yJ21_get 1 := by decide +kernel
set_option maxHeartbeats 800000 in
theorem mJ21_get (l : Launch) (D : DD) (b w v i : Nat) (hv : v < 4096) (hi : i < 12) : Cp l yJ21_get cJ21_get 3 (some .boolean) { frames := 2, cells := 0, slots := 0, locals := 32 } D [.ref b, .int (nI i)] (fun H => KH D H ∧ oB D H b 19 [.ref w, .int (nI (bu v)), .int (nI 1)] ∧ lA D H w 1 (fun _ => lN v)) (.int (b2 (v.testBit i = true))) := by
  refine Ct.of (by decide +kernel) (Nat.le_of_ble_eq_true rfl) (fun K Qf hkl X hM hQ => ?_)
  subst hkl
  obtain ⟨hK, hO, hA⟩ := hM
  have hu := bu_or v
  refine vv_sub (lv' := [(0, .ref b), (1, .int (nI i))]) [0, 1] rfl ?_
  refine vv_iload_n X dJ21_get_0 rfl 1 rfl ?_
  refine vn_if_ge (tgt := 31) X (by omega) dJ21_get_1 (by decide) ?_
  refine vv_aload_n X dJ21_get_31 rfl 0 rfl ?_
  refine vv_callVv X (mJ21_checkInvariants (kL K) D b) q1466 q1468 qs23 q164 q1469 nJ21_checkInvariants ⟨(Nat.le_of_ble_eq_true rfl), (Nat.le_of_ble_eq_true rfl)⟩ dJ21_get_32 rfl (Nat.le_of_ble_eq_true rfl) (recv X hO CL_J21) hK ⟨(Nat.le_of_ble_eq_true rfl), (Nat.le_of_ble_eq_true rfl)⟩ ?_
  refine vv_iload_n X dJ21_get_35 rfl 1 rfl ?_
  refine vv_callSp X (mJ21_wordIndex (kL K) D i (by omega)) q756 q757 q164 q758 nJ21_wordIndex ⟨(Nat.le_of_ble_eq_true rfl), (Nat.le_of_ble_eq_true rfl)⟩ dJ21_get_36 rfl (Nat.le_of_ble_eq_true rfl) trivial ⟨(Nat.le_of_ble_eq_true rfl), (Nat.le_of_ble_eq_true rfl)⟩ ?_
  refine vv_istore_n (lv' := [(2, .int (nI 0)), (0, .ref b), (1, .int (nI i))]) X dJ21_get_39 rfl (by decide) rfl ?_
  refine vv_iload_n X dJ21_get_40 rfl 0 rfl ?_
  refine vv_aload_n X dJ21_get_41 rfl 1 rfl ?_
  refine vv_getf (C := RJ21) (T := TJ21) (N := 3) (ref := "java/util/BitSet") X hO in_J21 CL_J21 1 (by decide) q760 rfl rfl dJ21_get_42 ?_
  refine vn_ge (tgt := 67) X (by omega) (by omega) dJ21_get_45 (by decide) (fun c_45 => ?_) (fun c_45 => ?_)
  · refine vv_iconst (v := nI 0) X dJ21_get_67 (by decide) ?_
    exact vv_zret X (rfl) hQ dJ21_get_68 (Nat.le_of_ble_eq_true rfl) (Nat.le_of_ble_eq_true rfl) (pq (b2_0 (by rcases hu with ⟨e, -⟩ | ⟨-, e⟩; (rw [e, Nat.zero_testBit]; decide); omega)))
  · refine vv_aload_n X dJ21_get_48 rfl 1 rfl ?_
    refine vv_getf (C := RJ21) (T := TJ21) (N := 3) (ref := "java/util/BitSet") X hO in_J21 CL_J21 0 (by decide) q759 rfl rfl dJ21_get_49 ?_
    refine vv_iload_n X dJ21_get_52 rfl 0 rfl ?_
    refine vv_lald X hA (0) (by omega) (by omega) rfl dJ21_get_53 ?_
    refine vv_lconst (v := 1) X dJ21_get_54 (by decide) ?_
    refine vv_iload_n X dJ21_get_55 rfl 2 rfl ?_
    refine vv_lshl (v := lN (2 ^ i)) X dJ21_get_56 (b_one i hi) ?_
    refine vv_land X dJ21_get_57 ?_
    refine vv_lconst (v := 0) X dJ21_get_58 (by decide) ?_
    refine vv_lcmp X dJ21_get_59 ?_
    refine vz_eq (tgt := 67) X dJ21_get_60 (by decide) (fun c_60 => ?_) (fun c_60 => ?_)
    · refine vv_iconst (v := nI 0) X dJ21_get_67 (by decide) ?_
      exact vv_zret X (rfl) hQ dJ21_get_68 (Nat.le_of_ble_eq_true rfl) (Nat.le_of_ble_eq_true rfl) (pq (b2_0 (by rw [b_get c_60 hv hi]; decide)))
    · refine vv_iconst (v := nI 1) X dJ21_get_63 (by decide) ?_
      refine vv_goto (tgt := 68) X dJ21_get_64 (by decide) ?_
      exact vv_zret X (rfl) hQ dJ21_get_68 (Nat.le_of_ble_eq_true rfl) (Nat.le_of_ble_eq_true rfl) (pq (b2_1 (b_got c_60)))
theorem nJ21_ensureCapacity : notMH yJ21_ensureCapacity 1 := by decide +kernel
set_option maxHeartbeats 800000 in
theorem mJ21_ensureCapacity (l : Launch) (D : DD) (b w u : Nat) (f : Nat → Int64)  : Cv l yJ21_ensureCapacity cJ21_ensureCapacity 3 { frames := 1, cells := 0, slots := 0, locals := 12 } D [.ref b, .int (nI 1)] (fun H => KH D H ∧ oB D H b 19 [.ref w, .int (nI u), .int (nI 1)] ∧ lA D H w 1 f) := by
  refine Ct.of (by decide +kernel) (Nat.le_of_ble_eq_true rfl) (fun K Qf hkl X hM hQ => ?_)
  subst hkl
  obtain ⟨hK, hO, hA⟩ := hM
  refine vv_sub (lv' := [(0, .ref b), (1, .int (nI 1))]) [0, 1] rfl ?_
  refine vv_aload_n X dJ21_ensureCapacity_0 rfl 0 rfl ?_
  refine vv_getf (C := RJ21) (T := TJ21) (N := 3) (ref := "java/util/BitSet") X hO in_J21 CL_J21 0 (by decide) q759 rfl rfl dJ21_ensureCapacity_1 ?_
  refine vv_alen (ty := 1) X hA rfl dJ21_ensureCapacity_4 ?_
  refine vv_iload_n X dJ21_ensureCapacity_5 rfl 1 rfl ?_
  refine vn_ge (tgt := 38) X (by omega) (by omega) dJ21_ensureCapacity_6 (by decide) (fun c_6 => ?_) (fun c_6 => ?_)
  · exact vv_vret X hQ dJ21_ensureCapacity_38 (Nat.le_of_ble_eq_true rfl) (Nat.le_of_ble_eq_true rfl) (⟨rfl, rfl⟩)
  · exact absurd c_6 (by omega)
theorem nJ21_expandTo : notMH yJ21_expandTo 1 := by decide +kernel
set_option maxHeartbeats 800000 in
theorem mJ21_expandTo (l : Launch) (D : DD) (b w u : Nat) (f : Nat → Int64) (hu : u ≤ 1) : Ct l yJ21_expandTo cJ21_expandTo 3 none { frames := 2, cells := 0, slots := 0, locals := 34 } D [.ref b, .int (nI 0)] (fun H => KH D H ∧ oB D H b 19 [.ref w, .int (nI u), .int (nI 1)] ∧ lA D H w 1 f) (fun q => q = b) (fun r H H1 => r = none ∧ oB D H1 b 19 [.ref w, .int (nI 1), .int (nI 1)]) := by
  refine Ct.of (by decide +kernel) (Nat.le_of_ble_eq_true rfl) (fun K Qf hkl X hM hQ => ?_)
  subst hkl
  obtain ⟨hK, hO, hA⟩ := hM
  have hz : (kS K).heap.size ≤ (kS K).heap.size := Nat.le_refl _
  refine vv_sub (lv' := [(0, .ref b), (1, .int (nI 0))]) [0, 1] rfl ?_
  refine vv_iload_n X dJ21_expandTo_0 rfl 1 rfl ?_
  refine vv_iconst (v := nI 1) X dJ21_expandTo_1 (by decide) ?_
  refine vn_add X dJ21_expandTo_2 ?_
  refine vv_eqi (show nI (0 + 1) = nI 1 from rfl) ?_
  refine vv_istore_n (lv' := [(2, .int (nI 1)), (0, .ref b), (1, .int (nI 0))]) X dJ21_expandTo_3 rfl (by decide) rfl ?_
  refine vv_aload_n X dJ21_expandTo_4 rfl 1 rfl ?_
  refine vv_getf (C := RJ21) (T := TJ21) (N := 3) (ref := "java/util/BitSet") X hO in_J21 CL_J21 1 (by decide) q760 rfl rfl dJ21_expandTo_5 ?_
  refine vv_iload_n X dJ21_expandTo_8 rfl 0 rfl ?_
  refine vn_ge (tgt := 22) X (by omega) (by omega) dJ21_expandTo_9 (by decide) (fun c_9 => ?_) (fun c_9 => ?_)
  · obtain rfl : u = 1 := by omega
    exact vv_vret X hQ dJ21_expandTo_22 (Nat.le_of_ble_eq_true rfl) (Nat.le_of_ble_eq_true rfl) (⟨rfl, hO⟩)
  · refine vv_aload_n X dJ21_expandTo_12 rfl 1 rfl ?_
    refine vv_iload_n X dJ21_expandTo_13 rfl 0 rfl ?_
    refine vv_callVv X (mJ21_ensureCapacity (kL K) D b w _ _) q1480 q1482 qs25 q164 q1483 nJ21_ensureCapacity ⟨(Nat.le_of_ble_eq_true rfl), (Nat.le_of_ble_eq_true rfl)⟩ dJ21_expandTo_14 rfl (Nat.le_of_ble_eq_true rfl) (recv X hO CL_J21) ⟨hK, hO, hA⟩ ⟨(Nat.le_of_ble_eq_true rfl), (Nat.le_of_ble_eq_true rfl)⟩ ?_
    refine vv_aload_n X dJ21_expandTo_17 rfl 1 rfl ?_
    refine vv_iload_n X dJ21_expandTo_18 rfl 0 rfl ?_
    refine vv_putf (C := RJ21) (T := TJ21) (N := 3) (ref := "java/util/BitSet") X hO in_J21 CL_J21 tyJ21 tyJ21_ok nmJ21 1 (by decide) q760 rfl rfl rfl rfl (Nat.le_of_ble_eq_true rfl) (Or.inl rfl) dJ21_expandTo_19 (fun H hc ho => ?_)
    have k_0 := hA.kept (hc.2 _ (X.ao hA hO CL_J21 rfl))
    replace hK := hK.ch hc (X.ko hK hO CL_J21 (by decide) (by decide))
    clear hA
    have hA := k_0
    clear k_0
    replace hz := Nat.le_trans hz (Nat.le_of_eq hc.1.symm)
    clear hO
    have hO : oB D H b 19 [.ref w, .int (nI 1), .int (nI 1)] := ho
    clear hc ho
    exact vv_vret X hQ dJ21_expandTo_22 (Nat.le_of_ble_eq_true rfl) (Nat.le_of_ble_eq_true rfl) (⟨rfl, hO⟩)
theorem bu_1 {v : Nat} (h : 0 < v) : bu v = 1 := if_neg (by omega)
theorem bs_end {D : DD} {H : Heap} {b w u v : Nat} {f : Nat → Int64} (hO : oB D H b 19 [.ref w, .int (nI u), .int (nI 1)]) (hA : lA D H w 1 f) (hu : u = bu v) (hf : f 0 = lN v) : BS D H b w v := ⟨hu ▸ hO, lA_cg hA (fun j hj => by rw [show j = 0 by omega, hf])⟩
theorem or_pos (v i : Nat) : 0 < v ||| 2 ^ i := by
  rcases Nat.eq_zero_or_pos (v ||| 2 ^ i) with h | h
  · have := congrArg (fun z => z.testBit i) h
    simp [Nat.testBit_or, Nat.testBit_two_pow_self] at this
  · exact h
theorem nJ21_set : notMH yJ21_set 1 := by decide +kernel
set_option maxHeartbeats 800000 in
theorem mJ21_set (l : Launch) (D : DD) (b w v i : Nat) (hi : i < 12) : Ct l yJ21_set cJ21_set 3 none { frames := 3, cells := 0, slots := 0, locals := 56 } D [.ref b, .int (nI i)] (fun H => KH D H ∧ BS D H b w v) (fun q => q = b ∨ q = w) (fun r H H1 => r = none ∧ BS D H1 b w (v ||| 2 ^ i)) := by
  refine Ct.of (by decide +kernel) (Nat.le_of_ble_eq_true rfl) (fun K Qf hkl X hM hQ => ?_)
  subst hkl
  obtain ⟨hK, hB⟩ := hM
  have hz : (kS K).heap.size ≤ (kS K).heap.size := Nat.le_refl _
  obtain ⟨hO, hA⟩ := hB
  have hu := bu_or v
  refine vv_sub (lv' := [(0, .ref b), (1, .int (nI i))]) [0, 1] rfl ?_
  refine vv_iload_n X dJ21_set_0 rfl 1 rfl ?_
  refine vn_if_ge (tgt := 31) X (by omega) dJ21_set_1 (by decide) ?_
  refine vv_iload_n X dJ21_set_31 rfl 1 rfl ?_
  refine vv_callSp X (mJ21_wordIndex (kL K) D i (by omega)) q756 q757 q164 q758 nJ21_wordIndex ⟨(Nat.le_of_ble_eq_true rfl), (Nat.le_of_ble_eq_true rfl)⟩ dJ21_set_32 rfl (Nat.le_of_ble_eq_true rfl) trivial ⟨(Nat.le_of_ble_eq_true rfl), (Nat.le_of_ble_eq_true rfl)⟩ ?_
  refine vv_istore_n (lv' := [(2, .int (nI 0)), (0, .ref b), (1, .int (nI i))]) X dJ21_set_35 rfl (by decide) rfl ?_
  refine vv_aload_n X dJ21_set_36 rfl 1 rfl ?_
  refine vv_iload_n X dJ21_set_37 rfl 0 rfl ?_
  refine vv_callV X (mJ21_expandTo (kL K) D b w _ _ (by omega)) q1476 q1478 qs24 q164 q1479 nJ21_expandTo ⟨(Nat.le_of_ble_eq_true rfl), (Nat.le_of_ble_eq_true rfl)⟩ dJ21_set_38 rfl (Nat.le_of_ble_eq_true rfl) (recv X hO CL_J21) ⟨hK, hO, hA⟩ (fun q z => by rcases z with rfl; exact (Or.inl (Or.inl rfl))) ⟨(Nat.le_of_ble_eq_true rfl), (Nat.le_of_ble_eq_true rfl)⟩ (fun v_ H hq hz_ hk => ?_)
  obtain ⟨rfl, hOz⟩ := hq
  replace hA := hA.kept (hk _ hA.lt (X.ao hA hO CL_J21 rfl))
  replace hK := hK.to hk (fun q z => by rcases z with rfl; exact (X.ko hK hO CL_J21 (by decide) (by decide)))
  replace hz := Nat.le_trans hz hz_
  clear hO
  have hO := hOz
  clear hOz
  clear hk hz_
  refine vv_aload_n X dJ21_set_41 rfl 1 rfl ?_
  refine vv_getf (C := RJ21) (T := TJ21) (N := 3) (ref := "java/util/BitSet") X hO in_J21 CL_J21 0 (by decide) q759 rfl rfl dJ21_set_42 ?_
  refine vv_iload_n X dJ21_set_45 rfl 0 rfl ?_
  refine vv_dup2_11 X dJ21_set_46 rfl rfl ?_
  refine vv_lald X hA (0) (by omega) (by omega) rfl dJ21_set_47 ?_
  refine vv_lconst (v := 1) X dJ21_set_48 (by decide) ?_
  refine vv_iload_n X dJ21_set_49 rfl 2 rfl ?_
  refine vv_lshl (v := lN (2 ^ i)) X dJ21_set_50 (b_one i hi) ?_
  refine vv_lor X dJ21_set_51 ?_
  refine vv_eql (lN_or _ _) ?_
  refine vv_last X hA (0) (by omega) (by omega) rfl (Or.inl (Or.inr rfl)) dJ21_set_52 (fun H hc ho => ?_)
  have k_0 := hO.kept (hc.2 _ (X.oa hO hA CL_J21 rfl))
  replace hK := hK.ch hc (X.ka hK hA rfl (by decide +kernel) (by decide +kernel) (by decide +kernel))
  clear hO
  have hO := k_0
  clear k_0
  replace hz := Nat.le_trans hz (Nat.le_of_eq hc.1.symm)
  clear hA
  have hA : lA D H w 1 (va_up (fun _ => lN v) 0 (lN (v ||| 2 ^ i))) := ho
  clear hc ho
  refine vv_aload_n X dJ21_set_53 rfl 1 rfl ?_
  refine vv_callVv X (mJ21_checkInvariants (kL K) D b) q1466 q1468 qs23 q164 q1469 nJ21_checkInvariants ⟨(Nat.le_of_ble_eq_true rfl), (Nat.le_of_ble_eq_true rfl)⟩ dJ21_set_54 rfl (Nat.le_of_ble_eq_true rfl) (recv X hO CL_J21) hK ⟨(Nat.le_of_ble_eq_true rfl), (Nat.le_of_ble_eq_true rfl)⟩ ?_
  exact vv_vret X hQ dJ21_set_57 (Nat.le_of_ble_eq_true rfl) (Nat.le_of_ble_eq_true rfl) (⟨rfl, bs_end hO hA (bu_1 (or_pos v i)).symm (va_up_self _ _ _)⟩)
theorem nx_a (i : Nat) (hi : i < 12) (v : Nat) (hv : v < 4096) : v &&& (2 ^ 64 - 2 ^ i) = v / 2 ^ i * 2 ^ i := by
  have e : 2 ^ 64 - 2 ^ i = (2 ^ (64 - i) - 1) * 2 ^ i := (by decide : ∀ i, i < 12 → 2 ^ 64 - 2 ^ i = (2 ^ (64 - i) - 1) * 2 ^ i) i hi
  rw [e]
  apply Nat.eq_of_testBit_eq
  intro j
  rw [Nat.testBit_and, Nat.testBit_mul_two_pow, Nat.testBit_mul_two_pow, Nat.testBit_two_pow_sub_one, Nat.testBit_div_two_pow]
  by_cases q : i ≤ j
  · rw [show j - i + i = j by omega]
    by_cases r : j < 64
    · simp [q, show j - i < 64 - i by omega]
    · have : v.testBit j = false := Nat.testBit_lt_two_pow (Nat.lt_of_lt_of_le hv (Nat.le_trans (by decide : 4096 ≤ 2 ^ 64) (Nat.pow_le_pow_right (by decide) (by omega))))
      simp [this]
  · simp [q]
def nsb (v i : Nat) : Int32 := if v / 2 ^ i * 2 ^ i = 0 then -1 else nI (lst (v / 2 ^ i * 2 ^ i))
theorem nx_b {v i : Nat} (h : v < 4096) : v / 2 ^ i * 2 ^ i < 4096 := Nat.lt_of_le_of_lt (Nat.div_mul_le_self _ _) h
theorem nJ21_nextSetBit : notMH yJ21_nextSetBit 1 := by decide +kernel
set_option maxHeartbeats 800000 in
theorem mJ21_nextSetBit (l : Launch) (D : DD) (b w v i : Nat) (hv : v < 4096) (hi : i < 12) : Cp l yJ21_nextSetBit cJ21_nextSetBit 5 (some .int) { frames := 3, cells := 0, slots := 0, locals := 55 } D [.ref b, .int (nI i)] (fun H => KH D H ∧ BS D H b w v) (.int (nsb v i)) := by
  refine Ct.of (by decide +kernel) (Nat.le_of_ble_eq_true rfl) (fun K Qf hkl X hM hQ => ?_)
  subst hkl
  obtain ⟨hK, hB⟩ := hM
  obtain ⟨hO, hA⟩ := hB
  have hu := bu_or v
  have hx := @nx_b v i hv
  refine vv_sub (lv' := [(0, .ref b), (1, .int (nI i))]) [0, 1] rfl ?_
  refine vv_iload_n X dJ21_nextSetBit_0 rfl 1 rfl ?_
  refine vn_if_ge (tgt := 31) X (by omega) dJ21_nextSetBit_1 (by decide) ?_
  refine vv_aload_n X dJ21_nextSetBit_31 rfl 0 rfl ?_
  refine vv_callVv X (mJ21_checkInvariants (kL K) D b) q1466 q1468 qs23 q164 q1469 nJ21_checkInvariants ⟨(Nat.le_of_ble_eq_true rfl), (Nat.le_of_ble_eq_true rfl)⟩ dJ21_nextSetBit_32 rfl (Nat.le_of_ble_eq_true rfl) (recv X hO CL_J21) hK ⟨(Nat.le_of_ble_eq_true rfl), (Nat.le_of_ble_eq_true rfl)⟩ ?_
  refine vv_iload_n X dJ21_nextSetBit_35 rfl 1 rfl ?_
  refine vv_callSp X (mJ21_wordIndex (kL K) D i (by omega)) q756 q757 q164 q758 nJ21_wordIndex ⟨(Nat.le_of_ble_eq_true rfl), (Nat.le_of_ble_eq_true rfl)⟩ dJ21_nextSetBit_36 rfl (Nat.le_of_ble_eq_true rfl) trivial ⟨(Nat.le_of_ble_eq_true rfl), (Nat.le_of_ble_eq_true rfl)⟩ ?_
  refine vv_istore_n (lv' := [(2, .int (nI 0)), (0, .ref b), (1, .int (nI i))]) X dJ21_nextSetBit_39 rfl (by decide) rfl ?_
  refine vv_iload_n X dJ21_nextSetBit_40 rfl 0 rfl ?_
  refine vv_aload_n X dJ21_nextSetBit_41 rfl 1 rfl ?_
  refine vv_getf (C := RJ21) (T := TJ21) (N := 3) (ref := "java/util/BitSet") X hO in_J21 CL_J21 1 (by decide) q760 rfl rfl dJ21_nextSetBit_42 ?_
  refine vn_lt (tgt := 50) X (by omega) (by omega) dJ21_nextSetBit_45 (by decide) (fun c_45 => ?_) (fun c_45 => ?_)
  · refine vv_aload_n X dJ21_nextSetBit_50 rfl 1 rfl ?_
    refine vv_getf (C := RJ21) (T := TJ21) (N := 3) (ref := "java/util/BitSet") X hO in_J21 CL_J21 0 (by decide) q759 rfl rfl dJ21_nextSetBit_51 ?_
    refine vv_iload_n X dJ21_nextSetBit_54 rfl 0 rfl ?_
    refine vv_lald X hA (0) (by omega) (by omega) rfl dJ21_nextSetBit_55 ?_
    refine vv_ldc2 (v := -1) X q1676 dJ21_nextSetBit_56 ?_
    refine vv_iload_n X dJ21_nextSetBit_59 rfl 2 rfl ?_
    refine vv_lshl (v := lN (2 ^ 64 - 2 ^ i)) X dJ21_nextSetBit_60 (b_m1 i hi) ?_
    refine vv_land X dJ21_nextSetBit_61 ?_
    refine vv_eql (lN_and _ _) ?_
    refine vv_eql (by rw [nx_a i hi v hv]) ?_
    refine vv_lstore_n (lv' := [(3, .long (lN (v / 2 ^ i * 2 ^ i))), (2, .int (nI 0)), (0, .ref b), (1, .int (nI i))]) X dJ21_nextSetBit_62 rfl (by decide) rfl ?_
    refine vv_lload_n X dJ21_nextSetBit_63 rfl 0 rfl ?_
    refine vv_lconst (v := 0) X dJ21_nextSetBit_64 (by decide) ?_
    refine vv_lcmp X dJ21_nextSetBit_65 ?_
    refine vz_eq (tgt := 79) X dJ21_nextSetBit_66 (by decide) (fun c_66 => ?_) (fun c_66 => ?_)
    · refine vv_iinc (v := nI (0 + 1)) (lv' := [(2, .int (nI (0 + 1))), (3, .long (lN (v / 2 ^ i * 2 ^ i))), (0, .ref b), (1, .int (nI i))]) X dJ21_nextSetBit_79 (k := 1) rfl (nI_add _ 1) (by decide) rfl ?_
      refine vv_iload_n X dJ21_nextSetBit_82 rfl 0 rfl ?_
      refine vv_aload_n X dJ21_nextSetBit_83 rfl 2 rfl ?_
      refine vv_getf (C := RJ21) (T := TJ21) (N := 3) (ref := "java/util/BitSet") X hO in_J21 CL_J21 1 (by decide) q760 rfl rfl dJ21_nextSetBit_84 ?_
      refine vn_ne (tgt := 92) X (by omega) (by omega) dJ21_nextSetBit_87 (by decide) (fun c_87 => ?_) (fun c_87 => ?_)
      · exact absurd c_87 (by omega)
      · refine vv_iconst (v := -1) X dJ21_nextSetBit_90 (by decide) ?_
        exact vv_iret X hQ dJ21_nextSetBit_91 (Nat.le_of_ble_eq_true rfl) (Nat.le_of_ble_eq_true rfl) (pq ((if_pos (Decidable.byContradiction fun z => lN_nz (by omega) (by omega) c_66)).symm))
    · refine vv_iload_n X dJ21_nextSetBit_69 rfl 1 rfl ?_
      refine vv_bipush (v := nI 64) X dJ21_nextSetBit_70 (by decide) ?_
      refine vn_mul X dJ21_nextSetBit_72 ?_
      refine vv_lload_n X dJ21_nextSetBit_73 rfl 0 rfl ?_
      refine vv_callSp X (mJ30_numberOfTrailingZeros (kL K) D (v / 2 ^ i * 2 ^ i) (by omega) (by (rcases Nat.eq_zero_or_pos (v / 2 ^ i * 2 ^ i) with z | z; (rw [z] at c_66; exact absurd rfl c_66); exact z))) q1728 q1729 q179 q1730 nJ30_numberOfTrailingZeros ⟨(Nat.le_of_ble_eq_true rfl), (Nat.le_of_ble_eq_true rfl)⟩ dJ21_nextSetBit_74 rfl (Nat.le_of_ble_eq_true rfl) trivial ⟨(Nat.le_of_ble_eq_true rfl), (Nat.le_of_ble_eq_true rfl)⟩ ?_
      refine vn_add X dJ21_nextSetBit_77 ?_
      exact vv_iret X hQ dJ21_nextSetBit_78 (Nat.le_of_ble_eq_true rfl) (Nat.le_of_ble_eq_true rfl) (pq ((show nI (0 * 64 + lst (v / 2 ^ i * 2 ^ i)) = nI (lst (v / 2 ^ i * 2 ^ i)) by rw [Nat.zero_mul, Nat.zero_add]).trans (if_neg (fun e => by rw [e] at c_66; exact c_66 rfl)).symm))
  · refine vv_iconst (v := -1) X dJ21_nextSetBit_48 (by decide) ?_
    exact vv_iret X hQ dJ21_nextSetBit_49 (Nat.le_of_ble_eq_true rfl) (Nat.le_of_ble_eq_true rfl) (pq ((if_pos (by have e : v = 0 := (by omega); subst e; rw [Nat.zero_div, Nat.zero_mul])).symm))
theorem nJ21_cardinality : notMH yJ21_cardinality 0 := by decide +kernel
set_option maxHeartbeats 800000 in
theorem mJ21_cardinality (l : Launch) (D : DD) (b w v : Nat) (hv : v < 4096) : Cp l yJ21_cardinality cJ21_cardinality 3 (some .int) { frames := 2, cells := 0, slots := 0, locals := 33 } D [.ref b] (fun H => KH D H ∧ BS D H b w v) (.int (nI (pop v))) := by
  refine Ct.of (by decide +kernel) (Nat.le_of_ble_eq_true rfl) (fun K Qf hkl X hM hQ => ?_)
  subst hkl
  obtain ⟨hK, hB⟩ := hM
  obtain ⟨hO, hA⟩ := hB
  have hu := bu_or v
  refine vv_sub (lv' := [(0, .ref b)]) [0] rfl ?_
  refine vv_iconst (v := nI 0) X dJ21_cardinality_0 (by decide) ?_
  refine vv_istore_n (lv' := [(1, .int (nI 0)), (0, .ref b)]) X dJ21_cardinality_1 rfl (by decide) rfl ?_
  refine vv_iconst (v := nI 0) X dJ21_cardinality_2 (by decide) ?_
  refine vv_istore_n (lv' := [(2, .int (nI 0)), (1, .int (nI 0)), (0, .ref b)]) X dJ21_cardinality_3 rfl (by decide) rfl ?_
  refine vv_iload_n X dJ21_cardinality_4 rfl 0 rfl ?_
  refine vv_aload_n X dJ21_cardinality_5 rfl 2 rfl ?_
  refine vv_getf (C := RJ21) (T := TJ21) (N := 3) (ref := "java/util/BitSet") X hO in_J21 CL_J21 1 (by decide) q760 rfl rfl dJ21_cardinality_6 ?_
  refine vn_ge (tgt := 30) X (by omega) (by omega) dJ21_cardinality_9 (by decide) (fun c_9 => ?_) (fun c_9 => ?_)
  · refine vv_iload_n X dJ21_cardinality_30 rfl 1 rfl ?_
    exact vv_iret X hQ dJ21_cardinality_31 (Nat.le_of_ble_eq_true rfl) (Nat.le_of_ble_eq_true rfl) (pq (by have e : v = 0 := (by omega); subst e; rfl))
  · refine vv_iload_n X dJ21_cardinality_12 rfl 1 rfl ?_
    refine vv_aload_n X dJ21_cardinality_13 rfl 2 rfl ?_
    refine vv_getf (C := RJ21) (T := TJ21) (N := 3) (ref := "java/util/BitSet") X hO in_J21 CL_J21 0 (by decide) q759 rfl rfl dJ21_cardinality_14 ?_
    refine vv_iload_n X dJ21_cardinality_17 rfl 0 rfl ?_
    refine vv_lald X hA (0) (by omega) (by omega) rfl dJ21_cardinality_18 ?_
    refine vv_callSp X (mJ30_bitCount (kL K) D v (by omega)) q2426 q2427 q179 q2428 nJ30_bitCount ⟨(Nat.le_of_ble_eq_true rfl), (Nat.le_of_ble_eq_true rfl)⟩ dJ21_cardinality_19 rfl (Nat.le_of_ble_eq_true rfl) trivial ⟨(Nat.le_of_ble_eq_true rfl), (Nat.le_of_ble_eq_true rfl)⟩ ?_
    refine vn_add X dJ21_cardinality_22 ?_
    refine vv_istore_n (lv' := [(1, .int (nI (0 + (pop v)))), (2, .int (nI 0)), (0, .ref b)]) X dJ21_cardinality_23 rfl (by decide) rfl ?_
    refine vv_iinc (v := nI (0 + 1)) (lv' := [(2, .int (nI (0 + 1))), (1, .int (nI (0 + (pop v)))), (0, .ref b)]) X dJ21_cardinality_24 (k := 1) rfl (nI_add _ 1) (by decide) rfl ?_
    refine vv_goto (tgt := 4) X dJ21_cardinality_27 (by decide) ?_
    refine vv_iload_n X dJ21_cardinality_4 rfl 0 rfl ?_
    refine vv_aload_n X dJ21_cardinality_5 rfl 2 rfl ?_
    refine vv_getf (C := RJ21) (T := TJ21) (N := 3) (ref := "java/util/BitSet") X hO in_J21 CL_J21 1 (by decide) q760 rfl rfl dJ21_cardinality_6 ?_
    refine vn_ge (tgt := 30) X (by omega) (by omega) dJ21_cardinality_9 (by decide) (fun e_9 => ?_) (fun e_9 => ?_)
    · refine vv_iload_n X dJ21_cardinality_30 rfl 1 rfl ?_
      exact vv_iret X hQ dJ21_cardinality_31 (Nat.le_of_ble_eq_true rfl) (Nat.le_of_ble_eq_true rfl) (pq (by rw [Nat.zero_add]))
    · exact absurd e_9 (by omega)
theorem bu_0 {v : Nat} (h : v = 0) : bu v = 0 := if_pos h
theorem nJ21_recalculateWordsInUse : notMH yJ21_recalculateWordsInUse 0 := by decide +kernel
set_option maxHeartbeats 800000 in
theorem mJ21_recalculateWordsInUse (l : Launch) (D : DD) (b w u v : Nat) (hu : v = 0 ∧ u = 0 ∨ u = 1) (hv : v < 2 ^ 63) : Ct l yJ21_recalculateWordsInUse cJ21_recalculateWordsInUse 2 none { frames := 1, cells := 0, slots := 0, locals := 12 } D [.ref b] (fun H => KH D H ∧ oB D H b 19 [.ref w, .int (nI u), .int (nI 1)] ∧ lA D H w 1 (fun _ => lN v)) (fun q => q = b) (fun r H H1 => r = none ∧ oB D H1 b 19 [.ref w, .int (nI (bu v)), .int (nI 1)]) := by
  refine Ct.of (by decide +kernel) (Nat.le_of_ble_eq_true rfl) (fun K Qf hkl X hM hQ => ?_)
  subst hkl
  obtain ⟨hK, hO, hA⟩ := hM
  have hz : (kS K).heap.size ≤ (kS K).heap.size := Nat.le_refl _
  refine vv_sub (lv' := [(0, .ref b)]) [0] rfl ?_
  refine vv_aload_n X dJ21_recalculateWordsInUse_0 rfl 0 rfl ?_
  refine vv_getf (C := RJ21) (T := TJ21) (N := 3) (ref := "java/util/BitSet") X hO in_J21 CL_J21 1 (by decide) q760 rfl rfl dJ21_recalculateWordsInUse_1 ?_
  refine vv_iconst (v := nI 1) X dJ21_recalculateWordsInUse_4 (by decide) ?_
  rcases hu with ⟨e1, e2⟩ | e2
  · refine vv_isub X dJ21_recalculateWordsInUse_5 ?_
    refine vv_eqi (show _ = (-1 : Int32) from by rw [e2]; decide) ?_
    refine vv_istore_n (lv' := [(1, .int ((-1))), (0, .ref b)]) X dJ21_recalculateWordsInUse_6 rfl (by decide) rfl ?_
    refine vv_iload_n X dJ21_recalculateWordsInUse_7 rfl 0 rfl ?_
    refine vv_if_lt (tgt := 31) X dJ21_recalculateWordsInUse_8 (by decide) (fun c_8 => ?_) (fun c_8 => ?_)
    · refine vv_aload_n X dJ21_recalculateWordsInUse_31 rfl 1 rfl ?_
      refine vv_iload_n X dJ21_recalculateWordsInUse_32 rfl 0 rfl ?_
      refine vv_iconst (v := nI 1) X dJ21_recalculateWordsInUse_33 (by decide) ?_
      refine vv_iadd X dJ21_recalculateWordsInUse_34 ?_
      refine vv_eqi (show _ = nI 0 from by decide) ?_
      refine vv_putf (C := RJ21) (T := TJ21) (N := 3) (ref := "java/util/BitSet") X hO in_J21 CL_J21 tyJ21 tyJ21_ok nmJ21 1 (by decide) q760 rfl rfl rfl rfl (Nat.le_of_ble_eq_true rfl) (Or.inl rfl) dJ21_recalculateWordsInUse_35 (fun H hc ho => ?_)
      have k_0 := hA.kept (hc.2 _ (X.ao hA hO CL_J21 rfl))
      replace hK := hK.ch hc (X.ko hK hO CL_J21 (by decide) (by decide))
      clear hA
      have hA := k_0
      clear k_0
      replace hz := Nat.le_trans hz (Nat.le_of_eq hc.1.symm)
      clear hO
      have hO : oB D H b 19 [.ref w, .int (nI 0), .int (nI 1)] := ho
      clear hc ho
      exact vv_vret X hQ dJ21_recalculateWordsInUse_38 (Nat.le_of_ble_eq_true rfl) (Nat.le_of_ble_eq_true rfl) (⟨rfl, by rw [bu_0 e1]; exact hO⟩)
    · exact absurd (by decide) c_8
  · refine vv_isub X dJ21_recalculateWordsInUse_5 ?_
    refine vv_eqi (show _ = nI 0 from by rw [e2]; decide) ?_
    refine vv_istore_n (lv' := [(1, .int (nI 0)), (0, .ref b)]) X dJ21_recalculateWordsInUse_6 rfl (by decide) rfl ?_
    refine vv_iload_n X dJ21_recalculateWordsInUse_7 rfl 0 rfl ?_
    refine vn_if_lt (tgt := 31) X (by omega) dJ21_recalculateWordsInUse_8 (by decide) ?_
    refine vv_aload_n X dJ21_recalculateWordsInUse_11 rfl 1 rfl ?_
    refine vv_getf (C := RJ21) (T := TJ21) (N := 3) (ref := "java/util/BitSet") X hO in_J21 CL_J21 0 (by decide) q759 rfl rfl dJ21_recalculateWordsInUse_12 ?_
    refine vv_iload_n X dJ21_recalculateWordsInUse_15 rfl 0 rfl ?_
    refine vv_lald X hA (0) (by omega) (by omega) rfl dJ21_recalculateWordsInUse_16 ?_
    refine vv_lconst (v := 0) X dJ21_recalculateWordsInUse_17 (by decide) ?_
    refine vv_lcmp X dJ21_recalculateWordsInUse_18 ?_
    refine vz_eq (tgt := 25) X dJ21_recalculateWordsInUse_19 (by decide) (fun c_19 => ?_) (fun c_19 => ?_)
    · refine vv_iinc (v := (-1)) (lv' := [(1, .int ((-1))), (0, .ref b)]) X dJ21_recalculateWordsInUse_25 (k := 0) rfl (by decide) (by decide) rfl ?_
      refine vv_goto (tgt := 7) X dJ21_recalculateWordsInUse_28 (by decide) ?_
      refine vv_iload_n X dJ21_recalculateWordsInUse_7 rfl 0 rfl ?_
      refine vv_if_lt (tgt := 31) X dJ21_recalculateWordsInUse_8 (by decide) (fun c_8 => ?_) (fun c_8 => ?_)
      · refine vv_aload_n X dJ21_recalculateWordsInUse_31 rfl 1 rfl ?_
        refine vv_iload_n X dJ21_recalculateWordsInUse_32 rfl 0 rfl ?_
        refine vv_iconst (v := nI 1) X dJ21_recalculateWordsInUse_33 (by decide) ?_
        refine vv_iadd X dJ21_recalculateWordsInUse_34 ?_
        refine vv_eqi (show _ = nI 0 from by decide) ?_
        refine vv_putf (C := RJ21) (T := TJ21) (N := 3) (ref := "java/util/BitSet") X hO in_J21 CL_J21 tyJ21 tyJ21_ok nmJ21 1 (by decide) q760 rfl rfl rfl rfl (Nat.le_of_ble_eq_true rfl) (Or.inl rfl) dJ21_recalculateWordsInUse_35 (fun H hc ho => ?_)
        have k_0 := hA.kept (hc.2 _ (X.ao hA hO CL_J21 rfl))
        replace hK := hK.ch hc (X.ko hK hO CL_J21 (by decide) (by decide))
        clear hA
        have hA := k_0
        clear k_0
        replace hz := Nat.le_trans hz (Nat.le_of_eq hc.1.symm)
        clear hO
        have hO : oB D H b 19 [.ref w, .int (nI 0), .int (nI 1)] := ho
        clear hc ho
        exact vv_vret X hQ dJ21_recalculateWordsInUse_38 (Nat.le_of_ble_eq_true rfl) (Nat.le_of_ble_eq_true rfl) (⟨rfl, by rw [bu_0 (Decidable.byContradiction fun z => lN_nz hv (by omega) c_19)]; exact hO⟩)
      · exact absurd (by decide) c_8
    · refine vv_goto (tgt := 31) X dJ21_recalculateWordsInUse_22 (by decide) ?_
      refine vv_aload_n X dJ21_recalculateWordsInUse_31 rfl 1 rfl ?_
      refine vv_iload_n X dJ21_recalculateWordsInUse_32 rfl 0 rfl ?_
      refine vv_iconst (v := nI 1) X dJ21_recalculateWordsInUse_33 (by decide) ?_
      refine vn_add X dJ21_recalculateWordsInUse_34 ?_
      refine vv_eqi (show _ = nI 1 from by decide) ?_
      refine vv_putf (C := RJ21) (T := TJ21) (N := 3) (ref := "java/util/BitSet") X hO in_J21 CL_J21 tyJ21 tyJ21_ok nmJ21 1 (by decide) q760 rfl rfl rfl rfl (Nat.le_of_ble_eq_true rfl) (Or.inl rfl) dJ21_recalculateWordsInUse_35 (fun H hc ho => ?_)
      have k_0 := hA.kept (hc.2 _ (X.ao hA hO CL_J21 rfl))
      replace hK := hK.ch hc (X.ko hK hO CL_J21 (by decide) (by decide))
      clear hA
      have hA := k_0
      clear k_0
      replace hz := Nat.le_trans hz (Nat.le_of_eq hc.1.symm)
      clear hO
      have hO : oB D H b 19 [.ref w, .int (nI 1), .int (nI 1)] := ho
      clear hc ho
      exact vv_vret X hQ dJ21_recalculateWordsInUse_38 (Nat.le_of_ble_eq_true rfl) (Nat.le_of_ble_eq_true rfl) (⟨rfl, by rw [bu_1 (Nat.pos_of_ne_zero fun z => c_19 (by rw [z]; rfl))]; exact hO⟩)
theorem cl_a {v i : Nat} (h : v < 4096) : clr v i < 4096 := Nat.lt_of_le_of_lt Nat.and_le_left h
theorem cl_0 (i : Nat) : clr 0 i = 0 := Nat.zero_and _
theorem up_1 {f : Nat → Int64} {x : Int64} : ∀ j, j < 1 → va_up f 0 x j = (fun _ => x) j := fun j hj => by rw [show j = 0 by omega]; exact va_up_self _ _ _
theorem nJ21_clear_2 : notMH yJ21_clear_2 1 := by decide +kernel
set_option maxHeartbeats 800000 in
theorem mJ21_clear_2 (l : Launch) (D : DD) (b w v i : Nat) (hv : v < 4096) (hi : i < 12) : Ct l yJ21_clear_2 cJ21_clear_2 3 none { frames := 2, cells := 0, slots := 0, locals := 33 } D [.ref b, .int (nI i)] (fun H => KH D H ∧ BS D H b w v) (fun q => q = b ∨ q = w) (fun r H H1 => r = none ∧ BS D H1 b w (clr v i)) := by
  refine Ct.of (by decide +kernel) (Nat.le_of_ble_eq_true rfl) (fun K Qf hkl X hM hQ => ?_)
  subst hkl
  obtain ⟨hK, hB⟩ := hM
  have hz : (kS K).heap.size ≤ (kS K).heap.size := Nat.le_refl _
  obtain ⟨hO, hA⟩ := hB
  have hu := bu_or v
  have hc4 := @cl_a v i hv
  refine vv_sub (lv' := [(0, .ref b), (1, .int (nI i))]) [0, 1] rfl ?_
  refine vv_iload_n X dJ21_clear_2_0 rfl 1 rfl ?_
  refine vn_if_ge (tgt := 31) X (by omega) dJ21_clear_2_1 (by decide) ?_
  refine vv_iload_n X dJ21_clear_2_31 rfl 1 rfl ?_
  refine vv_callSp X (mJ21_wordIndex (kL K) D i (by omega)) q756 q757 q164 q758 nJ21_wordIndex ⟨(Nat.le_of_ble_eq_true rfl), (Nat.le_of_ble_eq_true rfl)⟩ dJ21_clear_2_32 rfl (Nat.le_of_ble_eq_true rfl) trivial ⟨(Nat.le_of_ble_eq_true rfl), (Nat.le_of_ble_eq_true rfl)⟩ ?_
  refine vv_istore_n (lv' := [(2, .int (nI 0)), (0, .ref b), (1, .int (nI i))]) X dJ21_clear_2_35 rfl (by decide) rfl ?_
  refine vv_iload_n X dJ21_clear_2_36 rfl 0 rfl ?_
  refine vv_aload_n X dJ21_clear_2_37 rfl 1 rfl ?_
  refine vv_getf (C := RJ21) (T := TJ21) (N := 3) (ref := "java/util/BitSet") X hO in_J21 CL_J21 1 (by decide) q760 rfl rfl dJ21_clear_2_38 ?_
  refine vn_lt (tgt := 45) X (by omega) (by omega) dJ21_clear_2_41 (by decide) (fun c_41 => ?_) (fun c_41 => ?_)
  · refine vv_aload_n X dJ21_clear_2_45 rfl 1 rfl ?_
    refine vv_getf (C := RJ21) (T := TJ21) (N := 3) (ref := "java/util/BitSet") X hO in_J21 CL_J21 0 (by decide) q759 rfl rfl dJ21_clear_2_46 ?_
    refine vv_iload_n X dJ21_clear_2_49 rfl 0 rfl ?_
    refine vv_dup2_11 X dJ21_clear_2_50 rfl rfl ?_
    refine vv_lald X hA (0) (by omega) (by omega) rfl dJ21_clear_2_51 ?_
    refine vv_lconst (v := 1) X dJ21_clear_2_52 (by decide) ?_
    refine vv_iload_n X dJ21_clear_2_53 rfl 2 rfl ?_
    refine vv_lshl (v := lN (2 ^ i)) X dJ21_clear_2_54 (b_one i hi) ?_
    refine vv_ldc2 (v := -1) X q1676 dJ21_clear_2_55 ?_
    refine vv_lxor X dJ21_clear_2_58 ?_
    refine vv_eql ((congrArg (fun z => z ^^^ (-1)) (b_one i hi)).symm.trans (b_not i hi)) ?_
    refine vv_land X dJ21_clear_2_59 ?_
    refine vv_eql (lN_and _ _) ?_
    refine vv_last X hA (0) (by omega) (by omega) rfl (Or.inl (Or.inr rfl)) dJ21_clear_2_60 (fun H hc ho => ?_)
    have k_0 := hO.kept (hc.2 _ (X.oa hO hA CL_J21 rfl))
    replace hK := hK.ch hc (X.ka hK hA rfl (by decide +kernel) (by decide +kernel) (by decide +kernel))
    clear hO
    have hO := k_0
    clear k_0
    replace hz := Nat.le_trans hz (Nat.le_of_eq hc.1.symm)
    clear hA
    have hA : lA D H w 1 (va_up (fun _ => lN v) 0 (lN (clr v i))) := ho
    clear hc ho
    have hA2 := lA_cg hA up_1
    clear hA
    have hA := hA2
    clear hA2
    refine vv_aload_n X dJ21_clear_2_61 rfl 1 rfl ?_
    refine vv_callV X (mJ21_recalculateWordsInUse (kL K) D b w (bu v) (clr v i) (by exact Or.inr (by omega)) (by omega)) q1682 q1684 qs30 q164 q1685 nJ21_recalculateWordsInUse ⟨(Nat.le_of_ble_eq_true rfl), (Nat.le_of_ble_eq_true rfl)⟩ dJ21_clear_2_62 rfl (Nat.le_of_ble_eq_true rfl) (recv X hO CL_J21) ⟨hK, hO, hA⟩ (fun q z => by rcases z with rfl; exact (Or.inl (Or.inl rfl))) ⟨(Nat.le_of_ble_eq_true rfl), (Nat.le_of_ble_eq_true rfl)⟩ (fun v_ H hq hz_ hk => ?_)
    obtain ⟨rfl, hOz⟩ := hq
    replace hA := hA.kept (hk _ hA.lt (X.ao hA hO CL_J21 rfl))
    replace hK := hK.to hk (fun q z => by rcases z with rfl; exact (X.ko hK hO CL_J21 (by decide) (by decide)))
    replace hz := Nat.le_trans hz hz_
    clear hO
    have hO := hOz
    clear hOz
    clear hk hz_
    refine vv_aload_n X dJ21_clear_2_65 rfl 1 rfl ?_
    refine vv_callVv X (mJ21_checkInvariants (kL K) D b) q1466 q1468 qs23 q164 q1469 nJ21_checkInvariants ⟨(Nat.le_of_ble_eq_true rfl), (Nat.le_of_ble_eq_true rfl)⟩ dJ21_clear_2_66 rfl (Nat.le_of_ble_eq_true rfl) (recv X hO CL_J21) hK ⟨(Nat.le_of_ble_eq_true rfl), (Nat.le_of_ble_eq_true rfl)⟩ ?_
    exact vv_vret X hQ dJ21_clear_2_69 (Nat.le_of_ble_eq_true rfl) (Nat.le_of_ble_eq_true rfl) (⟨rfl, hO, hA⟩)
  · exact vv_vret X hQ dJ21_clear_2_44 (Nat.le_of_ble_eq_true rfl) (Nat.le_of_ble_eq_true rfl) (⟨rfl, by have e : v = 0 := (by omega); subst e; rw [cl_0]; exact ⟨hO, hA⟩⟩)
theorem nJ21_set_3 : notMH yJ21_set_3 2 := by decide +kernel
set_option maxHeartbeats 800000 in
theorem mJ21_set_3 (l : Launch) (D : DD) (b w v i : Nat) (o : Prop) [Decidable o] (hv : v < 4096) (hi : i < 12) : Ct l yJ21_set_3 cJ21_set_3 3 none { frames := 4, cells := 0, slots := 0, locals := 78 } D [.ref b, .int (nI i), .int (b2 o)] (fun H => KH D H ∧ BS D H b w v) (fun q => q = b ∨ q = w) (fun r H H1 => r = none ∧ BS D H1 b w (if o then v ||| 2 ^ i else clr v i)) := by
  refine Ct.of (by decide +kernel) (Nat.le_of_ble_eq_true rfl) (fun K Qf hkl X hM hQ => ?_)
  subst hkl
  obtain ⟨hK, hB⟩ := hM
  have hz : (kS K).heap.size ≤ (kS K).heap.size := Nat.le_refl _
  refine vv_sub (lv' := [(0, .ref b), (1, .int (nI i)), (2, .int (b2 o))]) [0, 1, 2] rfl ?_
  refine vv_iload_n X dJ21_set_3_0 rfl 2 rfl ?_
  refine vb_eq (tgt := 12) X dJ21_set_3_1 (by decide) (fun c_1 => ?_) (fun c_1 => ?_)
  · refine vv_aload_n X dJ21_set_3_12 rfl 0 rfl ?_
    refine vv_iload_n X dJ21_set_3_13 rfl 1 rfl ?_
    refine vv_callV X (mJ21_clear_2 (kL K) D b w v i (by assumption) (by omega)) q2811 q2756 q2757 q164 q2758 nJ21_clear_2 ⟨(Nat.le_of_ble_eq_true rfl), (Nat.le_of_ble_eq_true rfl)⟩ dJ21_set_3_14 rfl (Nat.le_of_ble_eq_true rfl) (recv X hB.1 CL_J21) ⟨hK, hB⟩ (fun q z => by rcases z with rfl | rfl; exact (Or.inl (Or.inl rfl)); exact (Or.inl (Or.inr rfl))) ⟨(Nat.le_of_ble_eq_true rfl), (Nat.le_of_ble_eq_true rfl)⟩ (fun v_ H hq hz_ hk => ?_)
    obtain ⟨rfl, hB'⟩ := hq
    replace hK := hK.to hk (fun q z => by rcases z with rfl | rfl; exact (X.ko hK hB.1 CL_J21 (by decide) (by decide)); exact (X.ka hK hB.2 rfl (by decide +kernel) (by decide +kernel) (by decide +kernel)))
    replace hz := Nat.le_trans hz hz_
    clear hB
    have hB := hB'
    clear hB'
    clear hk hz_
    exact vv_vret X hQ dJ21_set_3_17 (Nat.le_of_ble_eq_true rfl) (Nat.le_of_ble_eq_true rfl) (⟨rfl, by rw [if_neg c_1]; exact hB⟩)
  · refine vv_aload_n X dJ21_set_3_4 rfl 0 rfl ?_
    refine vv_iload_n X dJ21_set_3_5 rfl 1 rfl ?_
    refine vv_callV X (mJ21_set (kL K) D b w v i (by omega)) q2810 q1473 q1474 q164 q1475 nJ21_set ⟨(Nat.le_of_ble_eq_true rfl), (Nat.le_of_ble_eq_true rfl)⟩ dJ21_set_3_6 rfl (Nat.le_of_ble_eq_true rfl) (recv X hB.1 CL_J21) ⟨hK, hB⟩ (fun q z => by rcases z with rfl | rfl; exact (Or.inl (Or.inl rfl)); exact (Or.inl (Or.inr rfl))) ⟨(Nat.le_of_ble_eq_true rfl), (Nat.le_of_ble_eq_true rfl)⟩ (fun v_ H hq hz_ hk => ?_)
    obtain ⟨rfl, hB'⟩ := hq
    replace hK := hK.to hk (fun q z => by rcases z with rfl | rfl; exact (X.ko hK hB.1 CL_J21 (by decide) (by decide)); exact (X.ka hK hB.2 rfl (by decide +kernel) (by decide +kernel) (by decide +kernel)))
    replace hz := Nat.le_trans hz hz_
    clear hB
    have hB := hB'
    clear hB'
    clear hk hz_
    refine vv_goto (tgt := 17) X dJ21_set_3_9 (by decide) ?_
    exact vv_vret X hQ dJ21_set_3_17 (Nat.le_of_ble_eq_true rfl) (Nat.le_of_ble_eq_true rfl) (⟨rfl, by rw [if_pos c_1]; exact hB⟩)
theorem nJ21_clear : notMH yJ21_clear 0 := by decide +kernel
set_option maxHeartbeats 800000 in
theorem mJ21_clear (l : Launch) (D : DD) (b w v : Nat)  : Ct l yJ21_clear cJ21_clear 1 none { frames := 1, cells := 0, slots := 0, locals := 12 } D [.ref b] (fun H => KH D H ∧ BS D H b w v) (fun q => q = b ∨ q = w) (fun r H H1 => r = none ∧ BS D H1 b w 0) := by
  refine Ct.of (by decide +kernel) (Nat.le_of_ble_eq_true rfl) (fun K Qf hkl X hM hQ => ?_)
  subst hkl
  obtain ⟨hK, hB⟩ := hM
  have hz : (kS K).heap.size ≤ (kS K).heap.size := Nat.le_refl _
  obtain ⟨hO, hA⟩ := hB
  have hu := bu_or v
  refine vv_sub (lv' := [(0, .ref b)]) [0] rfl ?_
  refine vv_aload_n X dJ21_clear_0 rfl 0 rfl ?_
  refine vv_getf (C := RJ21) (T := TJ21) (N := 3) (ref := "java/util/BitSet") X hO in_J21 CL_J21 1 (by decide) q760 rfl rfl dJ21_clear_1 ?_
  refine vn_if_le (tgt := 27) X (by omega) dJ21_clear_4 (by decide) (fun c_4 => ?_) (fun c_4 => ?_)
  · exact vv_vret X hQ dJ21_clear_27 (Nat.le_of_ble_eq_true rfl) (Nat.le_of_ble_eq_true rfl) (⟨rfl, by have e : v = 0 := (by omega); subst e; exact ⟨hO, hA⟩⟩)
  · refine vv_aload_n X dJ21_clear_7 rfl 0 rfl ?_
    refine vv_getf (C := RJ21) (T := TJ21) (N := 3) (ref := "java/util/BitSet") X hO in_J21 CL_J21 0 (by decide) q759 rfl rfl dJ21_clear_8 ?_
    refine vv_aload_n X dJ21_clear_11 rfl 0 rfl ?_
    refine vv_dup X dJ21_clear_12 rfl ?_
    refine vv_getf (C := RJ21) (T := TJ21) (N := 3) (ref := "java/util/BitSet") X hO in_J21 CL_J21 1 (by decide) q760 rfl rfl dJ21_clear_13 ?_
    refine vv_iconst (v := nI 1) X dJ21_clear_16 (by decide) ?_
    refine vv_isub X dJ21_clear_17 ?_
    refine vv_eqi (show _ = nI 0 from by rw [show bu v = 1 by omega]; decide) ?_
    refine vv_dup_x1 X dJ21_clear_18 rfl rfl ?_
    refine vv_putf (C := RJ21) (T := TJ21) (N := 3) (ref := "java/util/BitSet") X hO in_J21 CL_J21 tyJ21 tyJ21_ok nmJ21 1 (by decide) q760 rfl rfl rfl rfl (Nat.le_of_ble_eq_true rfl) (Or.inl (Or.inl rfl)) dJ21_clear_19 (fun H hc ho => ?_)
    have k_0 := hA.kept (hc.2 _ (X.ao hA hO CL_J21 rfl))
    replace hK := hK.ch hc (X.ko hK hO CL_J21 (by decide) (by decide))
    clear hA
    have hA := k_0
    clear k_0
    replace hz := Nat.le_trans hz (Nat.le_of_eq hc.1.symm)
    clear hO
    have hO : oB D H b 19 [.ref w, .int (nI 0), .int (nI 1)] := ho
    clear hc ho
    refine vv_lconst (v := 0) X dJ21_clear_22 (by decide) ?_
    refine vv_last X hA (0) (by omega) (by omega) rfl (Or.inl (Or.inr rfl)) dJ21_clear_23 (fun H hc ho => ?_)
    have k_0 := hO.kept (hc.2 _ (X.oa hO hA CL_J21 rfl))
    replace hK := hK.ch hc (X.ka hK hA rfl (by decide +kernel) (by decide +kernel) (by decide +kernel))
    clear hO
    have hO := k_0
    clear k_0
    replace hz := Nat.le_trans hz (Nat.le_of_eq hc.1.symm)
    clear hA
    have hA : lA D H w 1 (va_up (fun _ => lN v) 0 0) := ho
    clear hc ho
    refine vv_goto (tgt := 0) X dJ21_clear_24 (by decide) ?_
    refine vv_aload_n X dJ21_clear_0 rfl 0 rfl ?_
    refine vv_getf (C := RJ21) (T := TJ21) (N := 3) (ref := "java/util/BitSet") X hO in_J21 CL_J21 1 (by decide) q760 rfl rfl dJ21_clear_1 ?_
    refine vn_if_le (tgt := 27) X (by omega) dJ21_clear_4 (by decide) (fun e_4 => ?_) (fun e_4 => ?_)
    · exact vv_vret X hQ dJ21_clear_27 (Nat.le_of_ble_eq_true rfl) (Nat.le_of_ble_eq_true rfl) (⟨rfl, hO, lA_cg hA up_1⟩)
    · exact absurd e_4 (by omega)
theorem nJ21_initWords : notMH yJ21_initWords 1 := by decide +kernel
set_option maxHeartbeats 800000 in
theorem mJ21_initWords (l : Launch) (D : DD) (b n : Nat) (hn : 0 < n) (hn2 : n ≤ 12) : Ct l yJ21_initWords cJ21_initWords 2 none { frames := 2, cells := 1, slots := 1, locals := 32 } D [.ref b, .int (nI n)] (fun H => KH D H ∧ oB D H b 19 [.null, .int (nI 0), .int (nI 0)]) (fun q => q = b) (fun r H H1 => r = none ∧ ∃ w, H.size ≤ w ∧ oB D H1 b 19 [.ref w, .int (nI 0), .int (nI 0)] ∧ lA D H1 w 1 (fun _ => lN 0)) := by
  refine Ct.of (by decide +kernel) (Nat.le_of_ble_eq_true rfl) (fun K Qf hkl X hM hQ => ?_)
  subst hkl
  obtain ⟨hK, hO⟩ := hM
  have hz : (kS K).heap.size ≤ (kS K).heap.size := Nat.le_refl _
  refine vv_sub (lv' := [(0, .ref b), (1, .int (nI n))]) [0, 1] rfl ?_
  refine vv_aload_n X dJ21_initWords_0 rfl 0 rfl ?_
  refine vv_iload_n X dJ21_initWords_1 rfl 1 rfl ?_
  refine vv_iconst (v := nI 1) X dJ21_initWords_2 (by decide) ?_
  refine vn_sub X (by omega) dJ21_initWords_3 ?_
  refine vv_callSp X (mJ21_wordIndex (kL K) D (n - 1) (by omega)) q756 q757 q164 q758 nJ21_wordIndex ⟨(Nat.le_of_ble_eq_true rfl), (Nat.le_of_ble_eq_true rfl)⟩ dJ21_initWords_4 rfl (Nat.le_of_ble_eq_true rfl) trivial ⟨(Nat.le_of_ble_eq_true rfl), (Nat.le_of_ble_eq_true rfl)⟩ ?_
  refine vv_iconst (v := nI 1) X dJ21_initWords_7 (by decide) ?_
  refine vn_add X dJ21_initWords_8 ?_
  refine vv_eqi (show nI (0 + 1) = nI 1 from rfl) ?_
  refine vv_newlA (M := 1) X (by omega) (by decide) (Nat.le_of_ble_eq_true rfl) (Nat.le_of_ble_eq_true rfl) rfl dJ21_initWords_9 (fun a_1 H eq_2 hx ho => ?_)
  have ne_3 : b ≠ a_1 := Nat.ne_of_lt (eq_2.symm ▸ hO.lt)
  have ge_4 : (kS K).heap.size ≤ a_1 := by rw [eq_2]; exact hz
  have kn_5 : KN D a_1 := KN.new hK (Nat.le_of_eq eq_2.symm)
  replace hO := hO.kept (hx.2 _ hO.lt)
  replace hK := hK.ex hx
  replace hz : (kS K).heap.size ≤ H.size := by have := hx.1; omega
  have hR_6 : lA D H a_1 1 (fun _ => 0) := ho
  clear ho hx
  refine vv_putf (C := RJ21) (T := TJ21) (N := 3) (ref := "java/util/BitSet") X hO in_J21 CL_J21 tyJ21 tyJ21_ok nmJ21 0 (by decide) q759 rfl rfl rfl rfl (Nat.le_of_ble_eq_true rfl) (Or.inl rfl) dJ21_initWords_11 (fun H hc ho => ?_)
  have k_0 := hR_6.kept (hc.2 _ (Ne.symm ne_3))
  replace hK := hK.ch hc (X.ko hK hO CL_J21 (by decide) (by decide))
  clear hR_6
  have hR_6 := k_0
  clear k_0
  replace hz := Nat.le_trans hz (Nat.le_of_eq hc.1.symm)
  clear hO
  have hO : oB D H b 19 [.ref a_1, .int (nI 0), .int (nI 0)] := ho
  clear hc ho
  exact vv_vret X hQ dJ21_initWords_14 (Nat.le_of_ble_eq_true rfl) (Nat.le_of_ble_eq_true rfl) (⟨rfl, a_1, by omega, hO, hR_6⟩)
theorem nJ21_init : notMH yJ21_init 1 := by decide +kernel
set_option maxHeartbeats 800000 in
theorem mJ21_init (l : Launch) (D : DD) (b n : Nat) (hn : 0 < n) (hn2 : n ≤ 12) : Ct l yJ21_init cJ21_init 2 none { frames := 3, cells := 1, slots := 1, locals := 53 } D [.ref b, .int (nI n)] (fun H => KH D H ∧ oB D H b 19 [.null, .int (nI 0), .int (nI 0)]) (fun q => q = b) (fun r H H1 => r = none ∧ ∃ w, H.size ≤ w ∧ BS D H1 b w 0) := by
  refine Ct.of (by decide +kernel) (Nat.le_of_ble_eq_true rfl) (fun K Qf hkl X hM hQ => ?_)
  subst hkl
  obtain ⟨hK, hO⟩ := hM
  have hz : (kS K).heap.size ≤ (kS K).heap.size := Nat.le_refl _
  refine vv_sub (lv' := [(0, .ref b), (1, .int (nI n))]) [0, 1] rfl ?_
  refine vv_aload_n X dJ21_init_0 rfl 0 rfl ?_
  refine vv_obj X q751 q197 q198 (Nat.le_of_ble_eq_true rfl) (Nat.le_of_ble_eq_true rfl) dJ21_init_1 ?_
  refine vv_aload_n X dJ21_init_4 rfl 0 rfl ?_
  refine vv_iconst (v := nI 0) X dJ21_init_5 (by decide) ?_
  refine vv_putf (C := RJ21) (T := TJ21) (N := 3) (ref := "java/util/BitSet") X hO in_J21 CL_J21 tyJ21 tyJ21_ok nmJ21 1 (by decide) q760 rfl rfl rfl rfl (Nat.le_of_ble_eq_true rfl) (Or.inl rfl) dJ21_init_6 (fun H hc ho => ?_)
  replace hK := hK.ch hc (X.ko hK hO CL_J21 (by decide) (by decide))
  replace hz := Nat.le_trans hz (Nat.le_of_eq hc.1.symm)
  clear hO
  have hO : oB D H b 19 [.null, .int (nI 0), .int (nI 0)] := ho
  clear hc ho
  refine vv_aload_n X dJ21_init_9 rfl 0 rfl ?_
  refine vv_iconst (v := nI 0) X dJ21_init_10 (by decide) ?_
  refine vv_putf (C := RJ21) (T := TJ21) (N := 3) (ref := "java/util/BitSet") X hO in_J21 CL_J21 tyJ21 tyJ21_ok nmJ21 2 (by decide) q761 rfl rfl rfl rfl (Nat.le_of_ble_eq_true rfl) (Or.inl rfl) dJ21_init_11 (fun H hc ho => ?_)
  replace hK := hK.ch hc (X.ko hK hO CL_J21 (by decide) (by decide))
  replace hz := Nat.le_trans hz (Nat.le_of_eq hc.1.symm)
  clear hO
  have hO : oB D H b 19 [.null, .int (nI 0), .int (nI 0)] := ho
  clear hc ho
  refine vv_iload_n X dJ21_init_14 rfl 1 rfl ?_
  refine vn_if_ge (tgt := 45) X (by omega) dJ21_init_15 (by decide) ?_
  refine vv_aload_n X dJ21_init_45 rfl 0 rfl ?_
  refine vv_iload_n X dJ21_init_46 rfl 1 rfl ?_
  refine vv_callV X (mJ21_initWords (kL K) D b n (by omega) (by omega)) q752 q754 qs1 q164 q755 nJ21_initWords ⟨(Nat.le_of_ble_eq_true rfl), (Nat.le_of_ble_eq_true rfl)⟩ dJ21_init_47 rfl (Nat.le_of_ble_eq_true rfl) (recv X hO CL_J21) ⟨hK, hO⟩ (fun q z => by rcases z with rfl; exact (Or.inl rfl)) ⟨(Nat.le_of_ble_eq_true rfl), (Nat.le_of_ble_eq_true rfl)⟩ (fun v_ H hq hz_ hk => ?_)
  obtain ⟨rfl, a_1, hge, hO2, hA2⟩ := hq
  have ge_a_1 : (kS K).heap.size ≤ a_1 := Nat.le_trans hz hge
  replace hK := hK.to hk (fun q z => by rcases z with rfl; exact (X.ko hK hO CL_J21 (by decide) (by decide)))
  replace hz := Nat.le_trans hz hz_
  clear hO hk hz_ hge
  refine vv_aload_n X dJ21_init_50 rfl 0 rfl ?_
  refine vv_iconst (v := nI 1) X dJ21_init_51 (by decide) ?_
  refine vv_putf (C := RJ21) (T := TJ21) (N := 3) (ref := "java/util/BitSet") X hO2 in_J21 CL_J21 tyJ21 tyJ21_ok nmJ21 2 (by decide) q761 rfl rfl rfl rfl (Nat.le_of_ble_eq_true rfl) (Or.inl rfl) dJ21_init_52 (fun H hc ho => ?_)
  have k_0 := hA2.kept (hc.2 _ (X.ao hA2 hO2 CL_J21 rfl))
  replace hK := hK.ch hc (X.ko hK hO2 CL_J21 (by decide) (by decide))
  clear hA2
  have hA2 := k_0
  clear k_0
  replace hz := Nat.le_trans hz (Nat.le_of_eq hc.1.symm)
  clear hO2
  have hO2 : oB D H b 19 [.ref a_1, .int (nI 0), .int (nI 1)] := ho
  clear hc ho
  exact vv_vret X hQ dJ21_init_55 (Nat.le_of_ble_eq_true rfl) (Nat.le_of_ble_eq_true rfl) (⟨rfl, a_1, by omega, bs_end hO2 hA2 rfl rfl⟩)
theorem cp_1 {f g : Nat → Int64} {x : Int64} (h : f 0 = x) : ∀ j, j < 1 → va_cpy f g 0 0 1 j = (fun _ => x) j := fun j hj => by
  rw [show j = 0 by omega]
  unfold va_cpy
  rw [if_pos ⟨Nat.le_refl _, by decide⟩]
  exact h
theorem or_bu {v z : Nat} (h : 0 < v ∨ 0 < z) : 0 < v ||| z := by
  rcases Nat.eq_zero_or_pos (v ||| z) with e | e
  · obtain ⟨rfl, rfl⟩ := Nat.or_eq_zero_iff.mp e
    omega
  · exact e
theorem nJ21_or : notMH yJ21_or 1 := by decide +kernel
set_option maxHeartbeats 800000 in
theorem mJ21_or (l : Launch) (D : DD) (b w v c x z : Nat) (hbc : b ≠ c) (hwx : w ≠ x) : Ct l yJ21_or cJ21_or 4 none { frames := 2, cells := 0, slots := 0, locals := 60 } D [.ref b, .ref c] (fun H => KH D H ∧ BS D H b w v ∧ BS D H c x z) (fun q => q = b ∨ q = w) (fun r H H1 => r = none ∧ BS D H1 b w (v ||| z)) := by
  refine Ct.of (by decide +kernel) (Nat.le_of_ble_eq_true rfl) (fun K Qf hkl X hM hQ => ?_)
  subst hkl
  obtain ⟨hK, hB, hB2⟩ := hM
  have hz : (kS K).heap.size ≤ (kS K).heap.size := Nat.le_refl _
  obtain ⟨hO, hA⟩ := hB
  have hu := bu_or v
  obtain ⟨hO2, hA2⟩ := hB2
  have hw := bu_or z
  have hs : (v = 0 ∧ z = 0) ∨ (v = 0 ∧ 0 < z) ∨ (0 < v ∧ z = 0) ∨ (0 < v ∧ 0 < z) := by omega
  refine vv_sub (lv' := [(0, .ref b), (1, .ref c)]) [0, 1] rfl ?_
  refine vv_aload_n X dJ21_or_0 rfl 0 rfl ?_
  refine vv_aload_n X dJ21_or_1 rfl 1 rfl ?_
  refine vv_acmp_ne (tgt := 6) (rx := some b) (ry := some c) X dJ21_or_2 (by decide) (fun c_2 => ?_) (fun c_2 => ?_)
  · refine vv_aload_n X dJ21_or_6 rfl 0 rfl ?_
    refine vv_getf (C := RJ21) (T := TJ21) (N := 3) (ref := "java/util/BitSet") X hO in_J21 CL_J21 1 (by decide) q760 rfl rfl dJ21_or_7 ?_
    refine vv_aload_n X dJ21_or_10 rfl 1 rfl ?_
    refine vv_getf (C := RJ21) (T := TJ21) (N := 3) (ref := "java/util/BitSet") X hO2 in_J21 CL_J21 1 (by decide) q760 rfl rfl dJ21_or_11 ?_
    refine vn_min X q1681 (Nat.le_of_ble_eq_true rfl) (Nat.le_of_ble_eq_true rfl) ((Nat.le_of_ble_eq_true rfl)) ((Nat.le_of_ble_eq_true rfl)) (by omega) (by omega) dJ21_or_14 ?_
    rcases hs with ⟨s1, s2⟩ | ⟨s1, s2⟩ | ⟨s1, s2⟩ | ⟨s1, s2⟩
    · refine vv_eqi (show _ = nI 0 from congrArg nI (by omega)) ?_
      refine vv_istore_n (lv' := [(2, .int (nI 0)), (0, .ref b), (1, .ref c)]) X dJ21_or_17 rfl (by decide) rfl ?_
      refine vv_aload_n X dJ21_or_18 rfl 1 rfl ?_
      refine vv_getf (C := RJ21) (T := TJ21) (N := 3) (ref := "java/util/BitSet") X hO in_J21 CL_J21 1 (by decide) q760 rfl rfl dJ21_or_19 ?_
      refine vv_aload_n X dJ21_or_22 rfl 2 rfl ?_
      refine vv_getf (C := RJ21) (T := TJ21) (N := 3) (ref := "java/util/BitSet") X hO2 in_J21 CL_J21 1 (by decide) q760 rfl rfl dJ21_or_23 ?_
      refine vn_ge (tgt := 45) X (by omega) (by omega) dJ21_or_26 (by decide) (fun c_26 => ?_) (fun c_26 => ?_)
      · refine vv_iconst (v := nI 0) X dJ21_or_45 (by decide) ?_
        refine vv_istore_n (lv' := [(3, .int (nI 0)), (2, .int (nI 0)), (0, .ref b), (1, .ref c)]) X dJ21_or_46 rfl (by decide) rfl ?_
        refine vv_iload_n X dJ21_or_47 rfl 0 rfl ?_
        refine vv_iload_n X dJ21_or_48 rfl 1 rfl ?_
        refine vn_ge (tgt := 73) X (by omega) (by omega) dJ21_or_49 (by decide) (fun c_49 => ?_) (fun c_49 => ?_)
        · refine vv_iload_n X dJ21_or_73 rfl 1 rfl ?_
          refine vv_aload_n X dJ21_or_74 rfl 3 rfl ?_
          refine vv_getf (C := RJ21) (T := TJ21) (N := 3) (ref := "java/util/BitSet") X hO2 in_J21 CL_J21 1 (by decide) q760 rfl rfl dJ21_or_75 ?_
          refine vn_ge (tgt := 100) X (by omega) (by omega) dJ21_or_78 (by decide) (fun c_78 => ?_) (fun c_78 => ?_)
          · refine vv_aload_n X dJ21_or_100 rfl 2 rfl ?_
            refine vv_callVv X (mJ21_checkInvariants (kL K) D b) q1466 q1468 qs23 q164 q1469 nJ21_checkInvariants ⟨(Nat.le_of_ble_eq_true rfl), (Nat.le_of_ble_eq_true rfl)⟩ dJ21_or_101 rfl (Nat.le_of_ble_eq_true rfl) (recv X hO CL_J21) hK ⟨(Nat.le_of_ble_eq_true rfl), (Nat.le_of_ble_eq_true rfl)⟩ ?_
            exact vv_vret X hQ dJ21_or_104 (Nat.le_of_ble_eq_true rfl) (Nat.le_of_ble_eq_true rfl) (⟨rfl, bs_end hO hA (by rw [s1, s2]; rfl) (by rw [s1, s2]; rfl)⟩)
          · exact absurd c_78 (by omega)
        · exact absurd c_49 (by omega)
      · exact absurd c_26 (by omega)
    · refine vv_eqi (show _ = nI 0 from congrArg nI (by omega)) ?_
      refine vv_istore_n (lv' := [(2, .int (nI 0)), (0, .ref b), (1, .ref c)]) X dJ21_or_17 rfl (by decide) rfl ?_
      refine vv_aload_n X dJ21_or_18 rfl 1 rfl ?_
      refine vv_getf (C := RJ21) (T := TJ21) (N := 3) (ref := "java/util/BitSet") X hO in_J21 CL_J21 1 (by decide) q760 rfl rfl dJ21_or_19 ?_
      refine vv_aload_n X dJ21_or_22 rfl 2 rfl ?_
      refine vv_getf (C := RJ21) (T := TJ21) (N := 3) (ref := "java/util/BitSet") X hO2 in_J21 CL_J21 1 (by decide) q760 rfl rfl dJ21_or_23 ?_
      refine vn_ge (tgt := 45) X (by omega) (by omega) dJ21_or_26 (by decide) (fun c_26 => ?_) (fun c_26 => ?_)
      · exact absurd c_26 (by omega)
      · refine vv_aload_n X dJ21_or_29 rfl 1 rfl ?_
        refine vv_aload_n X dJ21_or_30 rfl 2 rfl ?_
        refine vv_getf (C := RJ21) (T := TJ21) (N := 3) (ref := "java/util/BitSet") X hO2 in_J21 CL_J21 1 (by decide) q760 rfl rfl dJ21_or_31 ?_
        refine vv_eqi (show _ = nI 1 from congrArg nI (by omega)) ?_
        refine vv_callVv X (mJ21_ensureCapacity (kL K) D b w _ _) q1480 q1482 qs25 q164 q1483 nJ21_ensureCapacity ⟨(Nat.le_of_ble_eq_true rfl), (Nat.le_of_ble_eq_true rfl)⟩ dJ21_or_34 rfl (Nat.le_of_ble_eq_true rfl) (recv X hO CL_J21) ⟨hK, hO, hA⟩ ⟨(Nat.le_of_ble_eq_true rfl), (Nat.le_of_ble_eq_true rfl)⟩ ?_
        refine vv_aload_n X dJ21_or_37 rfl 1 rfl ?_
        refine vv_aload_n X dJ21_or_38 rfl 2 rfl ?_
        refine vv_getf (C := RJ21) (T := TJ21) (N := 3) (ref := "java/util/BitSet") X hO2 in_J21 CL_J21 1 (by decide) q760 rfl rfl dJ21_or_39 ?_
        refine vv_putf (C := RJ21) (T := TJ21) (N := 3) (ref := "java/util/BitSet") X hO in_J21 CL_J21 tyJ21 tyJ21_ok nmJ21 1 (by decide) q760 rfl rfl rfl rfl (Nat.le_of_ble_eq_true rfl) (Or.inl (Or.inl rfl)) dJ21_or_42 (fun H hc ho => ?_)
        have k_0 := hA.kept (hc.2 _ (X.ao hA hO CL_J21 rfl))
        have k_1 := hO2.kept (hc.2 _ (Ne.symm hbc))
        have k_2 := hA2.kept (hc.2 _ (X.ao hA2 hO CL_J21 rfl))
        replace hK := hK.ch hc (X.ko hK hO CL_J21 (by decide) (by decide))
        clear hA
        have hA := k_0
        clear k_0
        clear hO2
        have hO2 := k_1
        clear k_1
        clear hA2
        have hA2 := k_2
        clear k_2
        replace hz := Nat.le_trans hz (Nat.le_of_eq hc.1.symm)
        clear hO
        have hO : oB D H b 19 [.ref w, .int (nI (bu z)), .int (nI 1)] := ho
        clear hc ho
        refine vv_iconst (v := nI 0) X dJ21_or_45 (by decide) ?_
        refine vv_istore_n (lv' := [(3, .int (nI 0)), (2, .int (nI 0)), (0, .ref b), (1, .ref c)]) X dJ21_or_46 rfl (by decide) rfl ?_
        refine vv_iload_n X dJ21_or_47 rfl 0 rfl ?_
        refine vv_iload_n X dJ21_or_48 rfl 1 rfl ?_
        refine vn_ge (tgt := 73) X (by omega) (by omega) dJ21_or_49 (by decide) (fun c_49 => ?_) (fun c_49 => ?_)
        · refine vv_iload_n X dJ21_or_73 rfl 1 rfl ?_
          refine vv_aload_n X dJ21_or_74 rfl 3 rfl ?_
          refine vv_getf (C := RJ21) (T := TJ21) (N := 3) (ref := "java/util/BitSet") X hO2 in_J21 CL_J21 1 (by decide) q760 rfl rfl dJ21_or_75 ?_
          refine vn_ge (tgt := 100) X (by omega) (by omega) dJ21_or_78 (by decide) (fun c_78 => ?_) (fun c_78 => ?_)
          · exact absurd c_78 (by omega)
          · refine vv_aload_n X dJ21_or_81 rfl 3 rfl ?_
            refine vv_getf (C := RJ21) (T := TJ21) (N := 3) (ref := "java/util/BitSet") X hO2 in_J21 CL_J21 0 (by decide) q759 rfl rfl dJ21_or_82 ?_
            refine vv_iload_n X dJ21_or_85 rfl 1 rfl ?_
            refine vv_aload_n X dJ21_or_86 rfl 2 rfl ?_
            refine vv_getf (C := RJ21) (T := TJ21) (N := 3) (ref := "java/util/BitSet") X hO in_J21 CL_J21 0 (by decide) q759 rfl rfl dJ21_or_87 ?_
            refine vv_iload_n X dJ21_or_90 rfl 1 rfl ?_
            refine vv_aload_n X dJ21_or_91 rfl 2 rfl ?_
            refine vv_getf (C := RJ21) (T := TJ21) (N := 3) (ref := "java/util/BitSet") X hO in_J21 CL_J21 1 (by decide) q760 rfl rfl dJ21_or_92 ?_
            refine vv_iload_n X dJ21_or_95 rfl 1 rfl ?_
            refine vv_isub X dJ21_or_96 ?_
            refine vv_copyl (n := 1) (sp := 0) (dp := 0) X hA2 hA rfl rfl q2716 q556 q555 q159 (by omega) (by omega) (by omega) (by omega) (fun _ _ => rfl) (Nat.le_of_ble_eq_true rfl) (Nat.le_of_ble_eq_true rfl) (Or.inl (Or.inr rfl)) (by rw [show bu z = 1 by omega]; decide) (rfl) (rfl) dJ21_or_97 (fun H hc ho => ?_)
            have k_0 := hO.kept (hc.2 _ (X.oa hO hA CL_J21 rfl))
            have k_1 := hO2.kept (hc.2 _ (X.oa hO2 hA CL_J21 rfl))
            have k_2 := hA2.kept (hc.2 _ (Ne.symm hwx))
            replace hK := hK.ch hc (X.ka hK hA rfl (by decide +kernel) (by decide +kernel) (by decide +kernel))
            clear hO
            have hO := k_0
            clear k_0
            clear hO2
            have hO2 := k_1
            clear k_1
            clear hA2
            have hA2 := k_2
            clear k_2
            replace hz := Nat.le_trans hz (Nat.le_of_eq hc.1.symm)
            clear hA
            have hA := lA_cg ho (cp_1 rfl)
            clear hc ho
            refine vv_aload_n X dJ21_or_100 rfl 2 rfl ?_
            refine vv_callVv X (mJ21_checkInvariants (kL K) D b) q1466 q1468 qs23 q164 q1469 nJ21_checkInvariants ⟨(Nat.le_of_ble_eq_true rfl), (Nat.le_of_ble_eq_true rfl)⟩ dJ21_or_101 rfl (Nat.le_of_ble_eq_true rfl) (recv X hO CL_J21) hK ⟨(Nat.le_of_ble_eq_true rfl), (Nat.le_of_ble_eq_true rfl)⟩ ?_
            exact vv_vret X hQ dJ21_or_104 (Nat.le_of_ble_eq_true rfl) (Nat.le_of_ble_eq_true rfl) (⟨rfl, bs_end hO hA (by rw [s1, Nat.zero_or]) (by rw [s1, Nat.zero_or])⟩)
        · exact absurd c_49 (by omega)
    · refine vv_eqi (show _ = nI 0 from congrArg nI (by omega)) ?_
      refine vv_istore_n (lv' := [(2, .int (nI 0)), (0, .ref b), (1, .ref c)]) X dJ21_or_17 rfl (by decide) rfl ?_
      refine vv_aload_n X dJ21_or_18 rfl 1 rfl ?_
      refine vv_getf (C := RJ21) (T := TJ21) (N := 3) (ref := "java/util/BitSet") X hO in_J21 CL_J21 1 (by decide) q760 rfl rfl dJ21_or_19 ?_
      refine vv_aload_n X dJ21_or_22 rfl 2 rfl ?_
      refine vv_getf (C := RJ21) (T := TJ21) (N := 3) (ref := "java/util/BitSet") X hO2 in_J21 CL_J21 1 (by decide) q760 rfl rfl dJ21_or_23 ?_
      refine vn_ge (tgt := 45) X (by omega) (by omega) dJ21_or_26 (by decide) (fun c_26 => ?_) (fun c_26 => ?_)
      · refine vv_iconst (v := nI 0) X dJ21_or_45 (by decide) ?_
        refine vv_istore_n (lv' := [(3, .int (nI 0)), (2, .int (nI 0)), (0, .ref b), (1, .ref c)]) X dJ21_or_46 rfl (by decide) rfl ?_
        refine vv_iload_n X dJ21_or_47 rfl 0 rfl ?_
        refine vv_iload_n X dJ21_or_48 rfl 1 rfl ?_
        refine vn_ge (tgt := 73) X (by omega) (by omega) dJ21_or_49 (by decide) (fun c_49 => ?_) (fun c_49 => ?_)
        · refine vv_iload_n X dJ21_or_73 rfl 1 rfl ?_
          refine vv_aload_n X dJ21_or_74 rfl 3 rfl ?_
          refine vv_getf (C := RJ21) (T := TJ21) (N := 3) (ref := "java/util/BitSet") X hO2 in_J21 CL_J21 1 (by decide) q760 rfl rfl dJ21_or_75 ?_
          refine vn_ge (tgt := 100) X (by omega) (by omega) dJ21_or_78 (by decide) (fun c_78 => ?_) (fun c_78 => ?_)
          · refine vv_aload_n X dJ21_or_100 rfl 2 rfl ?_
            refine vv_callVv X (mJ21_checkInvariants (kL K) D b) q1466 q1468 qs23 q164 q1469 nJ21_checkInvariants ⟨(Nat.le_of_ble_eq_true rfl), (Nat.le_of_ble_eq_true rfl)⟩ dJ21_or_101 rfl (Nat.le_of_ble_eq_true rfl) (recv X hO CL_J21) hK ⟨(Nat.le_of_ble_eq_true rfl), (Nat.le_of_ble_eq_true rfl)⟩ ?_
            exact vv_vret X hQ dJ21_or_104 (Nat.le_of_ble_eq_true rfl) (Nat.le_of_ble_eq_true rfl) (⟨rfl, bs_end hO hA (by rw [s2, Nat.or_zero]) (by rw [s2, Nat.or_zero])⟩)
          · exact absurd c_78 (by omega)
        · exact absurd c_49 (by omega)
      · exact absurd c_26 (by omega)
    · refine vv_eqi (show _ = nI 1 from congrArg nI (by omega)) ?_
      refine vv_istore_n (lv' := [(2, .int (nI 1)), (0, .ref b), (1, .ref c)]) X dJ21_or_17 rfl (by decide) rfl ?_
      refine vv_aload_n X dJ21_or_18 rfl 1 rfl ?_
      refine vv_getf (C := RJ21) (T := TJ21) (N := 3) (ref := "java/util/BitSet") X hO in_J21 CL_J21 1 (by decide) q760 rfl rfl dJ21_or_19 ?_
      refine vv_aload_n X dJ21_or_22 rfl 2 rfl ?_
      refine vv_getf (C := RJ21) (T := TJ21) (N := 3) (ref := "java/util/BitSet") X hO2 in_J21 CL_J21 1 (by decide) q760 rfl rfl dJ21_or_23 ?_
      refine vn_ge (tgt := 45) X (by omega) (by omega) dJ21_or_26 (by decide) (fun c_26 => ?_) (fun c_26 => ?_)
      · refine vv_iconst (v := nI 0) X dJ21_or_45 (by decide) ?_
        refine vv_istore_n (lv' := [(3, .int (nI 0)), (2, .int (nI 1)), (0, .ref b), (1, .ref c)]) X dJ21_or_46 rfl (by decide) rfl ?_
        refine vv_iload_n X dJ21_or_47 rfl 0 rfl ?_
        refine vv_iload_n X dJ21_or_48 rfl 1 rfl ?_
        refine vn_ge (tgt := 73) X (by omega) (by omega) dJ21_or_49 (by decide) (fun c_49 => ?_) (fun c_49 => ?_)
        · exact absurd c_49 (by omega)
        · refine vv_aload_n X dJ21_or_52 rfl 2 rfl ?_
          refine vv_getf (C := RJ21) (T := TJ21) (N := 3) (ref := "java/util/BitSet") X hO in_J21 CL_J21 0 (by decide) q759 rfl rfl dJ21_or_53 ?_
          refine vv_iload_n X dJ21_or_56 rfl 0 rfl ?_
          refine vv_dup2_11 X dJ21_or_57 rfl rfl ?_
          refine vv_lald X hA (0) (by omega) (by omega) rfl dJ21_or_58 ?_
          refine vv_aload_n X dJ21_or_59 rfl 3 rfl ?_
          refine vv_getf (C := RJ21) (T := TJ21) (N := 3) (ref := "java/util/BitSet") X hO2 in_J21 CL_J21 0 (by decide) q759 rfl rfl dJ21_or_60 ?_
          refine vv_iload_n X dJ21_or_63 rfl 0 rfl ?_
          refine vv_lald X hA2 (0) (by omega) (by omega) rfl dJ21_or_64 ?_
          refine vv_lor X dJ21_or_65 ?_
          refine vv_eql (lN_or _ _) ?_
          refine vv_last X hA (0) (by omega) (by omega) rfl (Or.inl (Or.inr rfl)) dJ21_or_66 (fun H hc ho => ?_)
          have k_0 := hO.kept (hc.2 _ (X.oa hO hA CL_J21 rfl))
          have k_1 := hO2.kept (hc.2 _ (X.oa hO2 hA CL_J21 rfl))
          have k_2 := hA2.kept (hc.2 _ (Ne.symm hwx))
          replace hK := hK.ch hc (X.ka hK hA rfl (by decide +kernel) (by decide +kernel) (by decide +kernel))
          clear hO
          have hO := k_0
          clear k_0
          clear hO2
          have hO2 := k_1
          clear k_1
          clear hA2
          have hA2 := k_2
          clear k_2
          replace hz := Nat.le_trans hz (Nat.le_of_eq hc.1.symm)
          clear hA
          have hA : lA D H w 1 (va_up (fun _ => lN v) 0 (lN (v ||| z))) := ho
          clear hc ho
          refine vv_iinc (v := nI (0 + 1)) (lv' := [(3, .int (nI (0 + 1))), (2, .int (nI 1)), (0, .ref b), (1, .ref c)]) X dJ21_or_67 (k := 0) rfl (nI_add _ 1) (by decide) rfl ?_
          refine vv_goto (tgt := 47) X dJ21_or_70 (by decide) ?_
          refine vv_iload_n X dJ21_or_47 rfl 0 rfl ?_
          refine vv_iload_n X dJ21_or_48 rfl 1 rfl ?_
          refine vn_ge (tgt := 73) X (by omega) (by omega) dJ21_or_49 (by decide) (fun e_49 => ?_) (fun e_49 => ?_)
          · refine vv_iload_n X dJ21_or_73 rfl 1 rfl ?_
            refine vv_aload_n X dJ21_or_74 rfl 3 rfl ?_
            refine vv_getf (C := RJ21) (T := TJ21) (N := 3) (ref := "java/util/BitSet") X hO2 in_J21 CL_J21 1 (by decide) q760 rfl rfl dJ21_or_75 ?_
            refine vn_ge (tgt := 100) X (by omega) (by omega) dJ21_or_78 (by decide) (fun e_78 => ?_) (fun e_78 => ?_)
            · refine vv_aload_n X dJ21_or_100 rfl 2 rfl ?_
              refine vv_callVv X (mJ21_checkInvariants (kL K) D b) q1466 q1468 qs23 q164 q1469 nJ21_checkInvariants ⟨(Nat.le_of_ble_eq_true rfl), (Nat.le_of_ble_eq_true rfl)⟩ dJ21_or_101 rfl (Nat.le_of_ble_eq_true rfl) (recv X hO CL_J21) hK ⟨(Nat.le_of_ble_eq_true rfl), (Nat.le_of_ble_eq_true rfl)⟩ ?_
              exact vv_vret X hQ dJ21_or_104 (Nat.le_of_ble_eq_true rfl) (Nat.le_of_ble_eq_true rfl) (⟨rfl, bs_end hO hA (by rw [bu_1 s1, bu_1 (or_bu (Or.inl s1))]) (va_up_self _ _ _)⟩)
            · exact absurd e_78 (by omega)
          · exact absurd e_49 (by omega)
      · exact absurd c_26 (by omega)
  · exact absurd (Option.some.inj c_2) hbc
def anN (v z : Nat) : Nat := v &&& (2 ^ 64 - 1 - z)
theorem an_0 {v : Nat} (h : v < 4096) : anN v 0 = v := by
  unfold anN
  rw [Nat.sub_zero, Nat.and_two_pow_sub_one_eq_mod, Nat.mod_eq_of_lt (by omega)]
theorem an_z (z : Nat) : anN 0 z = 0 := Nat.zero_and _
theorem an_le (v z : Nat) : anN v z ≤ v := Nat.and_le_left
theorem nJ21_andNot : notMH yJ21_andNot 1 := by decide +kernel
set_option maxHeartbeats 800000 in
theorem mJ21_andNot (l : Launch) (D : DD) (b w v c x z : Nat) (hbc : b ≠ c) (hwx : w ≠ x) (hv : v < 4096) (hz4 : z < 4096) : Ct l yJ21_andNot cJ21_andNot 3 none { frames := 2, cells := 0, slots := 0, locals := 33 } D [.ref b, .ref c] (fun H => KH D H ∧ BS D H b w v ∧ BS D H c x z) (fun q => q = b ∨ q = w) (fun r H H1 => r = none ∧ BS D H1 b w (anN v z)) := by
  refine Ct.of (by decide +kernel) (Nat.le_of_ble_eq_true rfl) (fun K Qf hkl X hM hQ => ?_)
  subst hkl
  obtain ⟨hK, hB, hB2⟩ := hM
  have hz : (kS K).heap.size ≤ (kS K).heap.size := Nat.le_refl _
  obtain ⟨hO, hA⟩ := hB
  have hu := bu_or v
  obtain ⟨hO2, hA2⟩ := hB2
  have hw := bu_or z
  have hle := an_le v z
  have hs : (v = 0 ∧ z = 0) ∨ (v = 0 ∧ 0 < z) ∨ (0 < v ∧ z = 0) ∨ (0 < v ∧ 0 < z) := by omega
  refine vv_sub (lv' := [(0, .ref b), (1, .ref c)]) [0, 1] rfl ?_
  refine vv_aload_n X dJ21_andNot_0 rfl 0 rfl ?_
  refine vv_getf (C := RJ21) (T := TJ21) (N := 3) (ref := "java/util/BitSet") X hO in_J21 CL_J21 1 (by decide) q760 rfl rfl dJ21_andNot_1 ?_
  refine vv_aload_n X dJ21_andNot_4 rfl 1 rfl ?_
  refine vv_getf (C := RJ21) (T := TJ21) (N := 3) (ref := "java/util/BitSet") X hO2 in_J21 CL_J21 1 (by decide) q760 rfl rfl dJ21_andNot_5 ?_
  refine vn_min X q1681 (Nat.le_of_ble_eq_true rfl) (Nat.le_of_ble_eq_true rfl) ((Nat.le_of_ble_eq_true rfl)) ((Nat.le_of_ble_eq_true rfl)) (by omega) (by omega) dJ21_andNot_8 ?_
  refine vv_iconst (v := nI 1) X dJ21_andNot_11 (by decide) ?_
  rcases hs with ⟨s1, s2⟩ | ⟨s1, s2⟩ | ⟨s1, s2⟩ | ⟨s1, s2⟩
  · refine vv_isub X dJ21_andNot_12 ?_
    refine vv_eqi (show _ = (-1 : Int32) from by rw [show min (bu v) (bu z) = 0 by omega]; decide) ?_
    refine vv_istore_n (lv' := [(2, .int ((-1))), (0, .ref b), (1, .ref c)]) X dJ21_andNot_13 rfl (by decide) rfl ?_
    refine vv_iload_n X dJ21_andNot_14 rfl 0 rfl ?_
    refine vv_if_lt (tgt := 43) X dJ21_andNot_15 (by decide) (fun c_15 => ?_) (fun c_15 => ?_)
    · refine vv_aload_n X dJ21_andNot_43 rfl 1 rfl ?_
      refine vv_callV X (mJ21_recalculateWordsInUse (kL K) D b w (bu v) v (by omega) (by omega)) q1682 q1684 qs30 q164 q1685 nJ21_recalculateWordsInUse ⟨(Nat.le_of_ble_eq_true rfl), (Nat.le_of_ble_eq_true rfl)⟩ dJ21_andNot_44 rfl (Nat.le_of_ble_eq_true rfl) (recv X hO CL_J21) ⟨hK, hO, hA⟩ (fun q z => by rcases z with rfl; exact (Or.inl (Or.inl rfl))) ⟨(Nat.le_of_ble_eq_true rfl), (Nat.le_of_ble_eq_true rfl)⟩ (fun v_ H hq hz_ hk => ?_)
      obtain ⟨rfl, hOz⟩ := hq
      replace hA := hA.kept (hk _ hA.lt (X.ao hA hO CL_J21 rfl))
      replace hO2 := hO2.kept (hk _ hO2.lt (Ne.symm hbc))
      replace hA2 := hA2.kept (hk _ hA2.lt (X.ao hA2 hO CL_J21 rfl))
      replace hK := hK.to hk (fun q z => by rcases z with rfl; exact (X.ko hK hO CL_J21 (by decide) (by decide)))
      replace hz := Nat.le_trans hz hz_
      clear hO
      have hO := hOz
      clear hOz
      clear hk hz_
      refine vv_aload_n X dJ21_andNot_47 rfl 1 rfl ?_
      refine vv_callVv X (mJ21_checkInvariants (kL K) D b) q1466 q1468 qs23 q164 q1469 nJ21_checkInvariants ⟨(Nat.le_of_ble_eq_true rfl), (Nat.le_of_ble_eq_true rfl)⟩ dJ21_andNot_48 rfl (Nat.le_of_ble_eq_true rfl) (recv X hO CL_J21) hK ⟨(Nat.le_of_ble_eq_true rfl), (Nat.le_of_ble_eq_true rfl)⟩ ?_
      exact vv_vret X hQ dJ21_andNot_51 (Nat.le_of_ble_eq_true rfl) (Nat.le_of_ble_eq_true rfl) (⟨rfl, bs_end hO hA (by rw [s1, s2]; rfl) (by rw [s1, s2]; rfl)⟩)
    · exact absurd (by decide) c_15
  · refine vv_isub X dJ21_andNot_12 ?_
    refine vv_eqi (show _ = (-1 : Int32) from by rw [show min (bu v) (bu z) = 0 by omega]; decide) ?_
    refine vv_istore_n (lv' := [(2, .int ((-1))), (0, .ref b), (1, .ref c)]) X dJ21_andNot_13 rfl (by decide) rfl ?_
    refine vv_iload_n X dJ21_andNot_14 rfl 0 rfl ?_
    refine vv_if_lt (tgt := 43) X dJ21_andNot_15 (by decide) (fun c_15 => ?_) (fun c_15 => ?_)
    · refine vv_aload_n X dJ21_andNot_43 rfl 1 rfl ?_
      refine vv_callV X (mJ21_recalculateWordsInUse (kL K) D b w (bu v) v (by omega) (by omega)) q1682 q1684 qs30 q164 q1685 nJ21_recalculateWordsInUse ⟨(Nat.le_of_ble_eq_true rfl), (Nat.le_of_ble_eq_true rfl)⟩ dJ21_andNot_44 rfl (Nat.le_of_ble_eq_true rfl) (recv X hO CL_J21) ⟨hK, hO, hA⟩ (fun q z => by rcases z with rfl; exact (Or.inl (Or.inl rfl))) ⟨(Nat.le_of_ble_eq_true rfl), (Nat.le_of_ble_eq_true rfl)⟩ (fun v_ H hq hz_ hk => ?_)
      obtain ⟨rfl, hOz⟩ := hq
      replace hA := hA.kept (hk _ hA.lt (X.ao hA hO CL_J21 rfl))
      replace hO2 := hO2.kept (hk _ hO2.lt (Ne.symm hbc))
      replace hA2 := hA2.kept (hk _ hA2.lt (X.ao hA2 hO CL_J21 rfl))
      replace hK := hK.to hk (fun q z => by rcases z with rfl; exact (X.ko hK hO CL_J21 (by decide) (by decide)))
      replace hz := Nat.le_trans hz hz_
      clear hO
      have hO := hOz
      clear hOz
      clear hk hz_
      refine vv_aload_n X dJ21_andNot_47 rfl 1 rfl ?_
      refine vv_callVv X (mJ21_checkInvariants (kL K) D b) q1466 q1468 qs23 q164 q1469 nJ21_checkInvariants ⟨(Nat.le_of_ble_eq_true rfl), (Nat.le_of_ble_eq_true rfl)⟩ dJ21_andNot_48 rfl (Nat.le_of_ble_eq_true rfl) (recv X hO CL_J21) hK ⟨(Nat.le_of_ble_eq_true rfl), (Nat.le_of_ble_eq_true rfl)⟩ ?_
      exact vv_vret X hQ dJ21_andNot_51 (Nat.le_of_ble_eq_true rfl) (Nat.le_of_ble_eq_true rfl) (⟨rfl, bs_end hO hA (by rw [s1, an_z]) (by rw [s1, an_z])⟩)
    · exact absurd (by decide) c_15
  · refine vv_isub X dJ21_andNot_12 ?_
    refine vv_eqi (show _ = (-1 : Int32) from by rw [show min (bu v) (bu z) = 0 by omega]; decide) ?_
    refine vv_istore_n (lv' := [(2, .int ((-1))), (0, .ref b), (1, .ref c)]) X dJ21_andNot_13 rfl (by decide) rfl ?_
    refine vv_iload_n X dJ21_andNot_14 rfl 0 rfl ?_
    refine vv_if_lt (tgt := 43) X dJ21_andNot_15 (by decide) (fun c_15 => ?_) (fun c_15 => ?_)
    · refine vv_aload_n X dJ21_andNot_43 rfl 1 rfl ?_
      refine vv_callV X (mJ21_recalculateWordsInUse (kL K) D b w (bu v) v (by omega) (by omega)) q1682 q1684 qs30 q164 q1685 nJ21_recalculateWordsInUse ⟨(Nat.le_of_ble_eq_true rfl), (Nat.le_of_ble_eq_true rfl)⟩ dJ21_andNot_44 rfl (Nat.le_of_ble_eq_true rfl) (recv X hO CL_J21) ⟨hK, hO, hA⟩ (fun q z => by rcases z with rfl; exact (Or.inl (Or.inl rfl))) ⟨(Nat.le_of_ble_eq_true rfl), (Nat.le_of_ble_eq_true rfl)⟩ (fun v_ H hq hz_ hk => ?_)
      obtain ⟨rfl, hOz⟩ := hq
      replace hA := hA.kept (hk _ hA.lt (X.ao hA hO CL_J21 rfl))
      replace hO2 := hO2.kept (hk _ hO2.lt (Ne.symm hbc))
      replace hA2 := hA2.kept (hk _ hA2.lt (X.ao hA2 hO CL_J21 rfl))
      replace hK := hK.to hk (fun q z => by rcases z with rfl; exact (X.ko hK hO CL_J21 (by decide) (by decide)))
      replace hz := Nat.le_trans hz hz_
      clear hO
      have hO := hOz
      clear hOz
      clear hk hz_
      refine vv_aload_n X dJ21_andNot_47 rfl 1 rfl ?_
      refine vv_callVv X (mJ21_checkInvariants (kL K) D b) q1466 q1468 qs23 q164 q1469 nJ21_checkInvariants ⟨(Nat.le_of_ble_eq_true rfl), (Nat.le_of_ble_eq_true rfl)⟩ dJ21_andNot_48 rfl (Nat.le_of_ble_eq_true rfl) (recv X hO CL_J21) hK ⟨(Nat.le_of_ble_eq_true rfl), (Nat.le_of_ble_eq_true rfl)⟩ ?_
      exact vv_vret X hQ dJ21_andNot_51 (Nat.le_of_ble_eq_true rfl) (Nat.le_of_ble_eq_true rfl) (⟨rfl, bs_end hO hA (by rw [s2, an_0 hv]) (by rw [s2, an_0 hv])⟩)
    · exact absurd (by decide) c_15
  · refine vv_isub X dJ21_andNot_12 ?_
    refine vv_eqi (show _ = nI 0 from by rw [show min (bu v) (bu z) = 1 by omega]; decide) ?_
    refine vv_istore_n (lv' := [(2, .int (nI 0)), (0, .ref b), (1, .ref c)]) X dJ21_andNot_13 rfl (by decide) rfl ?_
    refine vv_iload_n X dJ21_andNot_14 rfl 0 rfl ?_
    refine vn_if_lt (tgt := 43) X (by omega) dJ21_andNot_15 (by decide) ?_
    refine vv_aload_n X dJ21_andNot_18 rfl 1 rfl ?_
    refine vv_getf (C := RJ21) (T := TJ21) (N := 3) (ref := "java/util/BitSet") X hO in_J21 CL_J21 0 (by decide) q759 rfl rfl dJ21_andNot_19 ?_
    refine vv_iload_n X dJ21_andNot_22 rfl 0 rfl ?_
    refine vv_dup2_11 X dJ21_andNot_23 rfl rfl ?_
    refine vv_lald X hA (0) (by omega) (by omega) rfl dJ21_andNot_24 ?_
    refine vv_aload_n X dJ21_andNot_25 rfl 2 rfl ?_
    refine vv_getf (C := RJ21) (T := TJ21) (N := 3) (ref := "java/util/BitSet") X hO2 in_J21 CL_J21 0 (by decide) q759 rfl rfl dJ21_andNot_26 ?_
    refine vv_iload_n X dJ21_andNot_29 rfl 0 rfl ?_
    refine vv_lald X hA2 (0) (by omega) (by omega) rfl dJ21_andNot_30 ?_
    refine vv_ldc2 (v := -1) X q1676 dJ21_andNot_31 ?_
    refine vv_lxor X dJ21_andNot_34 ?_
    refine vv_eql (lN_not (by omega)) ?_
    refine vv_land X dJ21_andNot_35 ?_
    refine vv_eql (lN_and _ _) ?_
    refine vv_last X hA (0) (by omega) (by omega) rfl (Or.inl (Or.inr rfl)) dJ21_andNot_36 (fun H hc ho => ?_)
    have k_0 := hO.kept (hc.2 _ (X.oa hO hA CL_J21 rfl))
    have k_1 := hO2.kept (hc.2 _ (X.oa hO2 hA CL_J21 rfl))
    have k_2 := hA2.kept (hc.2 _ (Ne.symm hwx))
    replace hK := hK.ch hc (X.ka hK hA rfl (by decide +kernel) (by decide +kernel) (by decide +kernel))
    clear hO
    have hO := k_0
    clear k_0
    clear hO2
    have hO2 := k_1
    clear k_1
    clear hA2
    have hA2 := k_2
    clear k_2
    replace hz := Nat.le_trans hz (Nat.le_of_eq hc.1.symm)
    clear hA
    have hA : lA D H w 1 (va_up (fun _ => lN v) 0 (lN (anN v z))) := ho
    clear hc ho
    refine vv_iinc (v := (-1)) (lv' := [(2, .int ((-1))), (0, .ref b), (1, .ref c)]) X dJ21_andNot_37 (k := 0) rfl (by decide) (by decide) rfl ?_
    refine vv_goto (tgt := 14) X dJ21_andNot_40 (by decide) ?_
    refine vv_iload_n X dJ21_andNot_14 rfl 0 rfl ?_
    refine vv_if_lt (tgt := 43) X dJ21_andNot_15 (by decide) (fun c_15 => ?_) (fun c_15 => ?_)
    · have hA2 := lA_cg hA up_1
      clear hA
      have hA := hA2
      clear hA2
      refine vv_aload_n X dJ21_andNot_43 rfl 1 rfl ?_
      refine vv_callV X (mJ21_recalculateWordsInUse (kL K) D b w (bu v) (anN v z) (by exact Or.inr (by omega)) (by omega)) q1682 q1684 qs30 q164 q1685 nJ21_recalculateWordsInUse ⟨(Nat.le_of_ble_eq_true rfl), (Nat.le_of_ble_eq_true rfl)⟩ dJ21_andNot_44 rfl (Nat.le_of_ble_eq_true rfl) (recv X hO CL_J21) ⟨hK, hO, hA⟩ (fun q z => by rcases z with rfl; exact (Or.inl (Or.inl rfl))) ⟨(Nat.le_of_ble_eq_true rfl), (Nat.le_of_ble_eq_true rfl)⟩ (fun v_ H hq hz_ hk => ?_)
      obtain ⟨rfl, hOz⟩ := hq
      replace hA := hA.kept (hk _ hA.lt (X.ao hA hO CL_J21 rfl))
      replace hO2 := hO2.kept (hk _ hO2.lt (Ne.symm hbc))
      replace hA2 := hA2.kept (hk _ hA2.lt (X.ao hA2 hO CL_J21 rfl))
      replace hK := hK.to hk (fun q z => by rcases z with rfl; exact (X.ko hK hO CL_J21 (by decide) (by decide)))
      replace hz := Nat.le_trans hz hz_
      clear hO
      have hO := hOz
      clear hOz
      clear hk hz_
      refine vv_aload_n X dJ21_andNot_47 rfl 1 rfl ?_
      refine vv_callVv X (mJ21_checkInvariants (kL K) D b) q1466 q1468 qs23 q164 q1469 nJ21_checkInvariants ⟨(Nat.le_of_ble_eq_true rfl), (Nat.le_of_ble_eq_true rfl)⟩ dJ21_andNot_48 rfl (Nat.le_of_ble_eq_true rfl) (recv X hO CL_J21) hK ⟨(Nat.le_of_ble_eq_true rfl), (Nat.le_of_ble_eq_true rfl)⟩ ?_
      exact vv_vret X hQ dJ21_andNot_51 (Nat.le_of_ble_eq_true rfl) (Nat.le_of_ble_eq_true rfl) (⟨rfl, bs_end hO hA rfl rfl⟩)
    · exact absurd (by decide) c_15
theorem b_lm : ∀ n, n < 12 → 0 < n → ((-1 : Int64).toUInt64 >>> ((-nI n).toInt64.toUInt64 &&& Int64.toUInt64 63)).toInt64 = lN (2 ^ n - 1) := by decide +kernel
theorem b_m0 (a : Int64) : (-1 : Int64) &&& a = a := by apply Int64.toBitVec_inj.mp; rw [Int64.toBitVec_and]; exact BitVec.allOnes_and
theorem nJ21_checkRange : notMH yJ21_checkRange 2 := by decide +kernel
set_option maxHeartbeats 800000 in
theorem mJ21_checkRange (l : Launch) (D : DD) (n : Nat) (hn : n < 12) : Cv l yJ21_checkRange cJ21_checkRange 2 { frames := 1, cells := 0, slots := 0, locals := 12 } D [.int (nI 0), .int (nI n)] (fun H => True) := by
  refine Ct.of (by decide +kernel) (Nat.le_of_ble_eq_true rfl) (fun K Qf hkl X hM hQ => ?_)
  subst hkl
  refine vv_sub (lv' := [(0, .int (nI 0)), (1, .int (nI n))]) [0, 1] rfl ?_
  refine vv_iload_n X dJ21_checkRange_0 rfl 0 rfl ?_
  refine vn_if_ge (tgt := 31) X (by omega) dJ21_checkRange_1 (by decide) ?_
  refine vv_iload_n X dJ21_checkRange_31 rfl 1 rfl ?_
  refine vn_if_ge (tgt := 62) X (by omega) dJ21_checkRange_32 (by decide) ?_
  refine vv_iload_n X dJ21_checkRange_62 rfl 0 rfl ?_
  refine vv_iload_n X dJ21_checkRange_63 rfl 1 rfl ?_
  refine vn_le (tgt := 103) X (by omega) (by omega) dJ21_checkRange_64 (by decide) (fun c_64 => ?_) (fun c_64 => ?_)
  · exact vv_vret X hQ dJ21_checkRange_103 (Nat.le_of_ble_eq_true rfl) (Nat.le_of_ble_eq_true rfl) (⟨rfl, rfl⟩)
  · exact absurd c_64 (by omega)
theorem nJ21_set_2 : notMH yJ21_set_2 2 := by decide +kernel
set_option maxHeartbeats 800000 in
theorem mJ21_set_2 (l : Launch) (D : DD) (b w v n : Nat) (hn : n < 12) : Ct l yJ21_set_2 cJ21_set_2 10 none { frames := 3, cells := 0, slots := 0, locals := 56 } D [.ref b, .int (nI 0), .int (nI n)] (fun H => KH D H ∧ BS D H b w v) (fun q => q = b ∨ q = w) (fun r H H1 => r = none ∧ BS D H1 b w (v ||| (2 ^ n - 1))) := by
  refine Ct.of (by decide +kernel) (Nat.le_of_ble_eq_true rfl) (fun K Qf hkl X hM hQ => ?_)
  subst hkl
  obtain ⟨hK, hB⟩ := hM
  have hz : (kS K).heap.size ≤ (kS K).heap.size := Nat.le_refl _
  obtain ⟨hO, hA⟩ := hB
  have hu := bu_or v
  refine vv_sub (lv' := [(0, .ref b), (1, .int (nI 0)), (2, .int (nI n))]) [0, 1, 2] rfl ?_
  refine vv_iload_n X dJ21_set_2_0 rfl 1 rfl ?_
  refine vv_iload_n X dJ21_set_2_1 rfl 2 rfl ?_
  refine vv_callSv X (mJ21_checkRange (kL K) D n (by omega)) q1669 q1670 q164 q1671 nJ21_checkRange ⟨(Nat.le_of_ble_eq_true rfl), (Nat.le_of_ble_eq_true rfl)⟩ dJ21_set_2_2 rfl (Nat.le_of_ble_eq_true rfl) trivial ⟨(Nat.le_of_ble_eq_true rfl), (Nat.le_of_ble_eq_true rfl)⟩ ?_
  refine vv_iload_n X dJ21_set_2_5 rfl 1 rfl ?_
  refine vv_iload_n X dJ21_set_2_6 rfl 2 rfl ?_
  refine vn_ne (tgt := 11) X (by omega) (by omega) dJ21_set_2_7 (by decide) (fun c_7 => ?_) (fun c_7 => ?_)
  · refine vv_iload_n X dJ21_set_2_11 rfl 1 rfl ?_
    refine vv_callSp X (mJ21_wordIndex (kL K) D 0 (by omega)) q756 q757 q164 q758 nJ21_wordIndex ⟨(Nat.le_of_ble_eq_true rfl), (Nat.le_of_ble_eq_true rfl)⟩ dJ21_set_2_12 rfl (Nat.le_of_ble_eq_true rfl) trivial ⟨(Nat.le_of_ble_eq_true rfl), (Nat.le_of_ble_eq_true rfl)⟩ ?_
    refine vv_istore_n (lv' := [(3, .int (nI 0)), (0, .ref b), (1, .int (nI 0)), (2, .int (nI n))]) X dJ21_set_2_15 rfl (by decide) rfl ?_
    refine vv_iload_n X dJ21_set_2_16 rfl 3 rfl ?_
    refine vv_iconst (v := nI 1) X dJ21_set_2_17 (by decide) ?_
    refine vn_sub X (by omega) dJ21_set_2_18 ?_
    refine vv_callSp X (mJ21_wordIndex (kL K) D (n - 1) (by omega)) q756 q757 q164 q758 nJ21_wordIndex ⟨(Nat.le_of_ble_eq_true rfl), (Nat.le_of_ble_eq_true rfl)⟩ dJ21_set_2_19 rfl (Nat.le_of_ble_eq_true rfl) trivial ⟨(Nat.le_of_ble_eq_true rfl), (Nat.le_of_ble_eq_true rfl)⟩ ?_
    refine vv_istore (lv' := [(4, .int (nI 0)), (3, .int (nI 0)), (0, .ref b), (1, .int (nI 0)), (2, .int (nI n))]) X dJ21_set_2_22 (by decide) rfl ?_
    refine vv_aload_n X dJ21_set_2_24 rfl 2 rfl ?_
    refine vv_iload X dJ21_set_2_25 0 rfl ?_
    refine vv_callV X (mJ21_expandTo (kL K) D b w _ _ (by omega)) q1476 q1478 qs24 q164 q1479 nJ21_expandTo ⟨(Nat.le_of_ble_eq_true rfl), (Nat.le_of_ble_eq_true rfl)⟩ dJ21_set_2_27 rfl (Nat.le_of_ble_eq_true rfl) (recv X hO CL_J21) ⟨hK, hO, hA⟩ (fun q z => by rcases z with rfl; exact (Or.inl (Or.inl rfl))) ⟨(Nat.le_of_ble_eq_true rfl), (Nat.le_of_ble_eq_true rfl)⟩ (fun v_ H hq hz_ hk => ?_)
    obtain ⟨rfl, hOz⟩ := hq
    replace hA := hA.kept (hk _ hA.lt (X.ao hA hO CL_J21 rfl))
    replace hK := hK.to hk (fun q z => by rcases z with rfl; exact (X.ko hK hO CL_J21 (by decide) (by decide)))
    replace hz := Nat.le_trans hz hz_
    clear hO
    have hO := hOz
    clear hOz
    clear hk hz_
    refine vv_ldc2 (v := -1) X q1676 dJ21_set_2_30 ?_
    refine vv_iload_n X dJ21_set_2_33 rfl 3 rfl ?_
    refine vv_lshl (v := (-1)) X dJ21_set_2_34 (by decide) ?_
    refine vv_lstore (lv' := [(5, .long ((-1))), (4, .int (nI 0)), (3, .int (nI 0)), (0, .ref b), (1, .int (nI 0)), (2, .int (nI n))]) X dJ21_set_2_35 (by decide) rfl ?_
    refine vv_ldc2 (v := -1) X q1676 dJ21_set_2_37 ?_
    refine vv_iload_n X dJ21_set_2_40 rfl 5 rfl ?_
    refine vv_ineg X dJ21_set_2_41 ?_
    refine vv_lushr (v := lN (2 ^ n - 1)) X dJ21_set_2_42 (b_lm n hn (by omega)) ?_
    refine vv_lstore (lv' := [(7, .long (lN (2 ^ n - 1))), (5, .long ((-1))), (4, .int (nI 0)), (3, .int (nI 0)), (0, .ref b), (1, .int (nI 0)), (2, .int (nI n))]) X dJ21_set_2_43 (by decide) rfl ?_
    refine vv_iload_n X dJ21_set_2_45 rfl 3 rfl ?_
    refine vv_iload X dJ21_set_2_46 2 rfl ?_
    refine vn_ne (tgt := 68) X (by omega) (by omega) dJ21_set_2_48 (by decide) (fun c_48 => ?_) (fun c_48 => ?_)
    · exact absurd rfl c_48
    · refine vv_aload_n X dJ21_set_2_51 rfl 4 rfl ?_
      refine vv_getf (C := RJ21) (T := TJ21) (N := 3) (ref := "java/util/BitSet") X hO in_J21 CL_J21 0 (by decide) q759 rfl rfl dJ21_set_2_52 ?_
      refine vv_iload_n X dJ21_set_2_55 rfl 3 rfl ?_
      refine vv_dup2_11 X dJ21_set_2_56 rfl rfl ?_
      refine vv_lald X hA (0) (by omega) (by omega) rfl dJ21_set_2_57 ?_
      refine vv_lload X dJ21_set_2_58 1 rfl ?_
      refine vv_lload X dJ21_set_2_60 0 rfl ?_
      refine vv_land X dJ21_set_2_62 ?_
      refine vv_eql (b_m0 _) ?_
      refine vv_lor X dJ21_set_2_63 ?_
      refine vv_eql (lN_or _ _) ?_
      refine vv_last X hA (0) (by omega) (by omega) rfl (Or.inl (Or.inr rfl)) dJ21_set_2_64 (fun H hc ho => ?_)
      have k_0 := hO.kept (hc.2 _ (X.oa hO hA CL_J21 rfl))
      replace hK := hK.ch hc (X.ka hK hA rfl (by decide +kernel) (by decide +kernel) (by decide +kernel))
      clear hO
      have hO := k_0
      clear k_0
      replace hz := Nat.le_trans hz (Nat.le_of_eq hc.1.symm)
      clear hA
      have hA : lA D H w 1 (va_up (fun _ => lN v) 0 (lN (v ||| (2 ^ n - 1)))) := ho
      clear hc ho
      refine vv_goto (tgt := 119) X dJ21_set_2_65 (by decide) ?_
      refine vv_aload_n X dJ21_set_2_119 rfl 4 rfl ?_
      refine vv_callVv X (mJ21_checkInvariants (kL K) D b) q1466 q1468 qs23 q164 q1469 nJ21_checkInvariants ⟨(Nat.le_of_ble_eq_true rfl), (Nat.le_of_ble_eq_true rfl)⟩ dJ21_set_2_120 rfl (Nat.le_of_ble_eq_true rfl) (recv X hO CL_J21) hK ⟨(Nat.le_of_ble_eq_true rfl), (Nat.le_of_ble_eq_true rfl)⟩ ?_
      exact vv_vret X hQ dJ21_set_2_123 (Nat.le_of_ble_eq_true rfl) (Nat.le_of_ble_eq_true rfl) (⟨rfl, bs_end hO hA (bu_1 (or_bu (Or.inr (by have := Nat.one_lt_two_pow (n := n) (by omega); omega)))).symm (va_up_self _ _ _)⟩)
  · exact vv_vret X hQ dJ21_set_2_10 (Nat.le_of_ble_eq_true rfl) (Nat.le_of_ble_eq_true rfl) (⟨rfl, by have e : n = 0 := (by omega); subst e; rw [show v ||| (2 ^ 0 - 1) = v from Nat.or_zero v]; exact ⟨hO, hA⟩⟩)
