/-! AcousticCamera: append, parseError, ..: printed by gen/s42.py -/
set_option maxRecDepth 100000
theorem by8 (x : Int32) : (x.toInt8.toInt32.toInt8.toInt32) &&& (255 : Int32) = x &&& (255 : Int32) := by
  apply Int32.toBitVec_inj.mp
  simp only [Int32.toBitVec_and, Int8.toBitVec_toInt32, Int32.toBitVec_toInt8]
  apply BitVec.eq_of_getLsbD_eq
  intro i hi
  rw [BitVec.getLsbD_and, BitVec.getLsbD_and]
  by_cases h : i < 8
  · congr 1
    simp only [BitVec.getLsbD_signExtend]
    simp [h, hi]
  · have e : (255 : Int32).toBitVec.getLsbD i = false := by
      have hh : (255 : Int32).toBitVec = BitVec.ofNat 32 255 := rfl
      rw [hh, BitVec.getLsbD_ofNat]
      have : Nat.testBit 255 i = false := Nat.testBit_lt_two_pow (Nat.lt_of_lt_of_le (by decide : 255 < 2 ^ 8) (Nat.pow_le_pow_right (by decide) (by omega)))
      simp [this]
    rw [e, Bool.and_false, Bool.and_false]
theorem ap_b (x : Int32) : vp_nar .byte (x.toInt8.toInt32) &&& nI 255 = x &&& nI 255 := by8 x
/-- the five words of an append -/
def wd (x0 x1 x2 x3 x4 : Int32) : Nat → Int32 := va_up (va_up (va_up (va_up (va_up (fun _ => 0) 0 x0) 1 x1) 2 x2) 3 x3) 4 x4
theorem shN4 : ∀ k, k < 4 → ¬ (nI 24 - nI (8 * k) < 0) := by decide +kernel
theorem shC4 : ∀ k, k < 4 → nI 24 - nI (8 * k) + (-8) = nI 24 - nI (8 * (k + 1)) := by decide +kernel
/-- bytes as the component holds them against those of the model -/
def bwd (x0 x1 x2 x3 x4 : Int32) (j : Nat) : Int32 := by4 (wd x0 x1 x2 x3 x4 (j / 4)) (24 - 8 * (j % 4))
theorem fit_b0 (y : Int8) : ((-128 : Int32) ≤ y.toInt32 && y.toInt32 ≤ (127 : Int32)) = true := by
  rw [Bool.and_eq_true, decide_eq_true_eq, decide_eq_true_eq, Int32.le_iff_toInt_le, Int32.le_iff_toInt_le, Int8.toInt_toInt32]
  have h1 := Int8.le_toInt y
  have h2 := Int8.toInt_lt y
  rw [show (-128 : Int32).toInt = -128 from by decide, show (127 : Int32).toInt = 127 from by decide]
  omega
theorem fit_b (x : Int32) : fits .byte (.int (vp_nar .byte x)) = true := fit_b0 x.toInt8
theorem nX1_append : notMH yX1_append 5 := by decide +kernel
set_option maxHeartbeats 800000 in
theorem mX1_append (l : Launch) (D : DD) (c bf n : Nat) (F0 : Nat → Int32) (v2 v3 v4 v5 v6 v7 : Value) (x0 x1 x2 x3 x4 : Int32) (hn : n + 20 ≤ 1000) (hkb : KN D bf) (hf0 : ∀ j, j < 1000 → fits .byte (.int (F0 j)) = true) : Ct l yX1_append cX1_append 11 (some .int) { frames := 1, cells := 1, slots := 5, locals := 12 } D [.ref c, .int (x0), .int (x1), .int (x2), .int (x3), .int (x4)] (fun H => KH D H ∧ oB D H c 0 [.ref bf, .int (nI n), v2, v3, v4, v5, v6, v7] ∧ bA D H bf 1000 F0) (fun q => q = c ∨ q = bf) (fun r H H1 => r = some (.int (nI (n + 20))) ∧ oB D H1 c 0 [.ref bf, .int (nI (n + 20)), v2, v3, v4, v5, v6, v7] ∧ ∃ F, bA D H1 bf 1000 F ∧ (∀ j, j < n → F j = F0 j) ∧ (∀ j, j < 20 → F (n + j) &&& nI 255 = bwd x0 x1 x2 x3 x4 j) ∧ (∀ j, j < 1000 → fits .byte (.int (F j)) = true)) := by
  refine Ct.of (by decide +kernel) (Nat.le_of_ble_eq_true rfl) (fun K Qf hkl X hM hQ => ?_)
  subst hkl
  obtain ⟨hK, hcm, hbf⟩ := hM
  have hz : (kS K).heap.size ≤ (kS K).heap.size := Nat.le_refl _
  refine vv_sub (lv' := [(0, .ref c), (1, .int (x0)), (2, .int (x1)), (3, .int (x2)), (4, .int (x3)), (5, .int (x4))]) [0, 1, 2, 3, 4, 5] rfl ?_
  have hff := hf0
  refine vv_aload_n X dX1_append_0 rfl 0 rfl ?_
  refine vv_getf (C := RX1) (T := TX1) (N := 8) (ref := "AcousticCamera") X hcm in_X1 CL_X1 1 (by decide) q256 rfl rfl dX1_append_1 ?_
  refine vv_bipush (v := nI 20) X dX1_append_4 (by decide) ?_
  refine vn_add X dX1_append_6 ?_
  refine vv_sipush (v := nI 1000) X dX1_append_7 (by decide) ?_
  refine vn_le (tgt := 15) X (by omega) (by omega) dX1_append_10 (by decide) (fun c_10 => ?_) (fun c_10 => ?_)
  · refine vv_iconst (v := nI 5) X dX1_append_15 (by decide) ?_
    refine vv_newiA (M := 5) X (by omega) (by decide) (Nat.le_of_ble_eq_true rfl) (Nat.le_of_ble_eq_true rfl) rfl dX1_append_16 (fun a_1 H eq_2 hx ho => ?_)
    have ne_3 : c ≠ a_1 := Nat.ne_of_lt (eq_2.symm ▸ hcm.lt)
    have ne_4 : bf ≠ a_1 := Nat.ne_of_lt (eq_2.symm ▸ hbf.lt)
    have ge_5 : (kS K).heap.size ≤ a_1 := by rw [eq_2]; exact hz
    have kn_6 : KN D a_1 := KN.new hK (Nat.le_of_eq eq_2.symm)
    replace hcm := hcm.kept (hx.2 _ hcm.lt)
    replace hbf := hbf.kept (hx.2 _ hbf.lt)
    replace hK := hK.ex hx
    replace hz : (kS K).heap.size ≤ H.size := by have := hx.1; omega
    have hR_7 : iA D H a_1 5 (fun _ => 0) := ho
    clear ho hx
    refine vv_dup X dX1_append_18 rfl ?_
    refine vv_iconst (v := nI 0) X dX1_append_19 (by decide) ?_
    refine vv_iload_n X dX1_append_20 rfl 1 rfl ?_
    refine vv_iast X hR_7 (0) (by omega) (by omega) rfl (Or.inr ge_5) dX1_append_21 (fun H hc ho => ?_)
    have k_0 := hcm.kept (hc.2 _ ne_3)
    have k_1 := hbf.kept (hc.2 _ ne_4)
    replace hK := hK.ch hc kn_6
    clear hcm
    have hcm := k_0
    clear k_0
    clear hbf
    have hbf := k_1
    clear k_1
    replace hz := Nat.le_trans hz (Nat.le_of_eq hc.1.symm)
    clear hR_7
    have hR_7 : iA D H a_1 5 (va_up (fun _ => 0) 0 x0) := ho
    clear hc ho
    refine vv_dup X dX1_append_22 rfl ?_
    refine vv_iconst (v := nI 1) X dX1_append_23 (by decide) ?_
    refine vv_iload_n X dX1_append_24 rfl 2 rfl ?_
    refine vv_iast X hR_7 (1) (by omega) (by omega) rfl (Or.inr ge_5) dX1_append_25 (fun H hc ho => ?_)
    have k_0 := hcm.kept (hc.2 _ ne_3)
    have k_1 := hbf.kept (hc.2 _ ne_4)
    replace hK := hK.ch hc kn_6
    clear hcm
    have hcm := k_0
    clear k_0
    clear hbf
    have hbf := k_1
    clear k_1
    replace hz := Nat.le_trans hz (Nat.le_of_eq hc.1.symm)
    clear hR_7
    have hR_7 : iA D H a_1 5 (va_up (va_up (fun _ => 0) 0 x0) 1 x1) := ho
    clear hc ho
    refine vv_dup X dX1_append_26 rfl ?_
    refine vv_iconst (v := nI 2) X dX1_append_27 (by decide) ?_
    refine vv_iload_n X dX1_append_28 rfl 3 rfl ?_
    refine vv_iast X hR_7 (2) (by omega) (by omega) rfl (Or.inr ge_5) dX1_append_29 (fun H hc ho => ?_)
    have k_0 := hcm.kept (hc.2 _ ne_3)
    have k_1 := hbf.kept (hc.2 _ ne_4)
    replace hK := hK.ch hc kn_6
    clear hcm
    have hcm := k_0
    clear k_0
    clear hbf
    have hbf := k_1
    clear k_1
    replace hz := Nat.le_trans hz (Nat.le_of_eq hc.1.symm)
    clear hR_7
    have hR_7 : iA D H a_1 5 (va_up (va_up (va_up (fun _ => 0) 0 x0) 1 x1) 2 x2) := ho
    clear hc ho
    refine vv_dup X dX1_append_30 rfl ?_
    refine vv_iconst (v := nI 3) X dX1_append_31 (by decide) ?_
    refine vv_iload X dX1_append_32 4 rfl ?_
    refine vv_iast X hR_7 (3) (by omega) (by omega) rfl (Or.inr ge_5) dX1_append_34 (fun H hc ho => ?_)
    have k_0 := hcm.kept (hc.2 _ ne_3)
    have k_1 := hbf.kept (hc.2 _ ne_4)
    replace hK := hK.ch hc kn_6
    clear hcm
    have hcm := k_0
    clear k_0
    clear hbf
    have hbf := k_1
    clear k_1
    replace hz := Nat.le_trans hz (Nat.le_of_eq hc.1.symm)
    clear hR_7
    have hR_7 : iA D H a_1 5 (va_up (va_up (va_up (va_up (fun _ => 0) 0 x0) 1 x1) 2 x2) 3 x3) := ho
    clear hc ho
    refine vv_dup X dX1_append_35 rfl ?_
    refine vv_iconst (v := nI 4) X dX1_append_36 (by decide) ?_
    refine vv_iload X dX1_append_37 5 rfl ?_
    refine vv_iast X hR_7 (4) (by omega) (by omega) rfl (Or.inr ge_5) dX1_append_39 (fun H hc ho => ?_)
    have k_0 := hcm.kept (hc.2 _ ne_3)
    have k_1 := hbf.kept (hc.2 _ ne_4)
    replace hK := hK.ch hc kn_6
    clear hcm
    have hcm := k_0
    clear k_0
    clear hbf
    have hbf := k_1
    clear k_1
    replace hz := Nat.le_trans hz (Nat.le_of_eq hc.1.symm)
    clear hR_7
    have hR_7 : iA D H a_1 5 (va_up (va_up (va_up (va_up (va_up (fun _ => 0) 0 x0) 1 x1) 2 x2) 3 x3) 4 x4) := ho
    clear hc ho
    refine vv_astore (lv' := [(6, .ref a_1), (0, .ref c), (1, .int (x0)), (2, .int (x1)), (3, .int (x2)), (4, .int (x3)), (5, .int (x4))]) X dX1_append_40 (by decide) rfl ?_
    have hw9 : iA D H a_1 5 (wd x0 x1 x2 x3 x4) := hR_7
    clear hR_7
    refine vv_aload X dX1_append_42 0 rfl ?_
    refine vv_alen (ty := 0) X hw9 rfl dX1_append_44 ?_
    refine vv_istore (lv' := [(7, .int (nI 5)), (6, .ref a_1), (0, .ref c), (1, .int (x0)), (2, .int (x1)), (3, .int (x2)), (4, .int (x3)), (5, .int (x4))]) X dX1_append_45 (by decide) rfl ?_
    refine vv_iconst (v := nI 0) X dX1_append_47 (by decide) ?_
    refine vv_istore (lv' := [(8, .int (nI 0)), (7, .int (nI 5)), (6, .ref a_1), (0, .ref c), (1, .int (x0)), (2, .int (x1)), (3, .int (x2)), (4, .int (x3)), (5, .int (x4))]) X dX1_append_48 (by decide) rfl ?_
    have hcm9 : oB D H c 0 [.ref bf, .int (nI (n + 4 * 0)), v2, v3, v4, v5, v6, v7] := hcm
    have hx_8 : ∀ (H : Heap) (F : Nat → Int32) (hK : KH D H) (hz : (kS K).heap.size ≤ H.size) (hw9 : iA D H a_1 5 (wd x0 x1 x2 x3 x4)) (hbf : bA D H bf 1000 F) (hcm : oB D H c 0 [.ref bf, .int (nI (n + 4 * 5)), v2, v3, v4, v5, v6, v7]) (hF1 : ∀ j, j < n → F j = F0 j) (hF2 : ∀ j, j < 4 * 5 → F (n + j) &&& nI 255 = bwd x0 x1 x2 x3 x4 j) (hff : ∀ j, j < 1000 → fits .byte (.int (F j)) = true), V K 11 (fun q => q = c ∨ q = bf) H 1 5 Qf 110 [(0, .ref c), (1, .int (x0)), (2, .int (x1)), (3, .int (x2)), (4, .int (x3)), (5, .int (x4)), (6, .ref a_1), (7, .int (nI 5)), (8, .int (nI 5))] [] := by
      intro H F hK hz hw9 hbf hcm hF1 hF2 hff
      refine vv_aload_n X dX1_append_110 rfl 0 rfl ?_
      refine vv_getf (C := RX1) (T := TX1) (N := 8) (ref := "AcousticCamera") X hcm in_X1 CL_X1 1 (by decide) q256 rfl rfl dX1_append_111 ?_
      exact vv_iret X hQ dX1_append_114 (Nat.le_of_ble_eq_true rfl) (Nat.le_of_ble_eq_true rfl) (⟨rfl, hcm, F, hbf, hF1, hF2, hff⟩)
    have hl_9 : ∀ (n_i i : Nat) (H : Heap) (F : Nat → Int32), i + n_i = 5 → (KH D H) → ((kS K).heap.size ≤ H.size) → (iA D H a_1 5 (wd x0 x1 x2 x3 x4)) → (bA D H bf 1000 F) → (oB D H c 0 [.ref bf, .int (nI (n + 4 * i)), v2, v3, v4, v5, v6, v7]) → (∀ j, j < n → F j = F0 j) → (∀ j, j < 4 * i → F (n + j) &&& nI 255 = bwd x0 x1 x2 x3 x4 j) → (∀ j, j < 1000 → fits .byte (.int (F j)) = true) → V K 11 (fun q => q = c ∨ q = bf) H 1 5 Qf 50 [(0, .ref c), (1, .int (x0)), (2, .int (x1)), (3, .int (x2)), (4, .int (x3)), (5, .int (x4)), (6, .ref a_1), (7, .int (nI 5)), (8, .int (nI i))] [] := by
      intro n_i
      induction n_i with
      | zero =>
        intro i H F hi hK hz hw9 hbf hcm hF1 hF2 hff
        obtain rfl : i = 5 := by omega
        refine vv_iload X dX1_append_50 8 rfl ?_
        refine vv_iload X dX1_append_52 7 rfl ?_
        refine vn_ge (tgt := 110) X (by omega) (by omega) dX1_append_54 (by decide) (fun c_54 => ?_) (fun c_54 => ?_)
        · exact hx_8 H F hK hz hw9 hbf hcm hF1 hF2 hff
        · exact absurd c_54 (by omega)
      | succ n_i ihi =>
        intro i H F hi hK hz hw9 hbf hcm hF1 hF2 hff
        refine vv_iload X dX1_append_50 8 rfl ?_
        refine vv_iload X dX1_append_52 7 rfl ?_
        refine vn_ge (tgt := 110) X (by omega) (by omega) dX1_append_54 (by decide) (fun c_54 => ?_) (fun c_54 => ?_)
        · exact absurd hi (by omega)
        · refine vv_aload X dX1_append_57 6 rfl ?_
          refine vv_iload X dX1_append_59 8 rfl ?_
          refine vv_iald X hw9 (i) (by omega) (by omega) rfl dX1_append_61 ?_
          refine vv_istore (lv' := [(9, .int (wd x0 x1 x2 x3 x4 i)), (0, .ref c), (1, .int (x0)), (2, .int (x1)), (3, .int (x2)), (4, .int (x3)), (5, .int (x4)), (6, .ref a_1), (7, .int (nI 5)), (8, .int (nI i))]) X dX1_append_62 (by decide) rfl ?_
          refine vv_bipush (v := nI 24) X dX1_append_64 (by decide) ?_
          refine vv_eqi (show nI 24 = nI 24 - nI (8 * 0) from by decide) ?_
          refine vv_istore (lv' := [(10, .int (nI 24 - nI (8 * 0))), (9, .int (wd x0 x1 x2 x3 x4 i)), (0, .ref c), (1, .int (x0)), (2, .int (x1)), (3, .int (x2)), (4, .int (x3)), (5, .int (x4)), (6, .ref a_1), (7, .int (nI 5)), (8, .int (nI i))]) X dX1_append_66 (by decide) rfl ?_
          have hx_10 : ∀ (H : Heap) (F : Nat → Int32) (hK : KH D H) (hz : (kS K).heap.size ≤ H.size) (hw9 : iA D H a_1 5 (wd x0 x1 x2 x3 x4)) (hbf : bA D H bf 1000 F) (hcm : oB D H c 0 [.ref bf, .int (nI (n + 4 * i + 4)), v2, v3, v4, v5, v6, v7]) (hF1 : ∀ j, j < n → F j = F0 j) (hF2 : ∀ j, j < 4 * i + 4 → F (n + j) &&& nI 255 = bwd x0 x1 x2 x3 x4 j) (hff : ∀ j, j < 1000 → fits .byte (.int (F j)) = true), V K 11 (fun q => q = c ∨ q = bf) H 1 5 Qf 104 [(0, .ref c), (1, .int (x0)), (2, .int (x1)), (3, .int (x2)), (4, .int (x3)), (5, .int (x4)), (6, .ref a_1), (7, .int (nI 5)), (8, .int (nI i)), (9, .int (wd x0 x1 x2 x3 x4 i)), (10, .int (nI 24 - nI (8 * 4)))] [] := by
            intro H F hK hz hw9 hbf hcm hF1 hF2 hff
            refine vv_iinc (v := nI (i + 1)) (lv' := [(8, .int (nI (i + 1))), (0, .ref c), (1, .int (x0)), (2, .int (x1)), (3, .int (x2)), (4, .int (x3)), (5, .int (x4)), (6, .ref a_1), (7, .int (nI 5)), (9, .int (wd x0 x1 x2 x3 x4 i)), (10, .int (nI 24 - nI (8 * 4)))]) X dX1_append_104 (k := 8) rfl (nI_add _ 1) (by decide) rfl ?_
            refine vv_goto (tgt := 50) X dX1_append_107 (by decide) ?_
            refine vv_sub [1, 2, 3, 4, 5, 6, 7, 8, 0] rfl ?_
            exact ihi (i + 1) H F (by omega) (hK) (hz) (hw9) (hbf) (by have h9 := hcm; rw [show n + 4 * i + 4 = n + 4 * (i + 1) by omega] at h9; exact h9) (hF1) (fun j hj => hF2 j (by omega)) (hff)
          have hl_11 : ∀ (n_k k : Nat) (H : Heap) (F : Nat → Int32), k + n_k = 4 → (KH D H) → ((kS K).heap.size ≤ H.size) → (iA D H a_1 5 (wd x0 x1 x2 x3 x4)) → (bA D H bf 1000 F) → (oB D H c 0 [.ref bf, .int (nI (n + 4 * i + k)), v2, v3, v4, v5, v6, v7]) → (∀ j, j < n → F j = F0 j) → (∀ j, j < 4 * i + k → F (n + j) &&& nI 255 = bwd x0 x1 x2 x3 x4 j) → (∀ j, j < 1000 → fits .byte (.int (F j)) = true) → V K 11 (fun q => q = c ∨ q = bf) H 1 5 Qf 68 [(0, .ref c), (1, .int (x0)), (2, .int (x1)), (3, .int (x2)), (4, .int (x3)), (5, .int (x4)), (6, .ref a_1), (7, .int (nI 5)), (8, .int (nI i)), (9, .int (wd x0 x1 x2 x3 x4 i)), (10, .int (nI 24 - nI (8 * k)))] [] := by
            intro n_k
            induction n_k with
            | zero =>
              intro k H F hk hK hz hw9 hbf hcm hF1 hF2 hff
              obtain rfl : k = 4 := by omega
              refine vv_iload X dX1_append_68 10 rfl ?_
              refine vv_if_lt (tgt := 104) X dX1_append_70 (by decide) (fun c_70 => ?_) (fun c_70 => ?_)
              · exact hx_10 H F hK hz hw9 hbf hcm hF1 hF2 hff
              · exact absurd (by decide) c_70
            | succ n_k ihk =>
              intro k H F hk hK hz hw9 hbf hcm hF1 hF2 hff
              refine vv_iload X dX1_append_68 10 rfl ?_
              refine vv_if_lt (tgt := 104) X dX1_append_70 (by decide) (fun c_70 => ?_) (fun c_70 => ?_)
              · exact absurd c_70 (shN4 k (by omega))
              · refine vv_aload_n X dX1_append_73 rfl 0 rfl ?_
                refine vv_getf (C := RX1) (T := TX1) (N := 8) (ref := "AcousticCamera") X hcm in_X1 CL_X1 0 (by decide) q255 rfl rfl dX1_append_74 ?_
                refine vv_aload_n X dX1_append_77 rfl 0 rfl ?_
                refine vv_getf (C := RX1) (T := TX1) (N := 8) (ref := "AcousticCamera") X hcm in_X1 CL_X1 1 (by decide) q256 rfl rfl dX1_append_78 ?_
                refine vv_iload X dX1_append_81 9 rfl ?_
                refine vv_iload X dX1_append_83 10 rfl ?_
                refine vv_ishr X dX1_append_85 ?_
                refine vv_i2b (v := (wd x0 x1 x2 x3 x4 i >>> ((nI 24 - nI (8 * k)) &&& 31)).toInt8.toInt32) X dX1_append_86 (rfl) ?_
                refine vv_bast X hbf (n + 4 * i + k) (by omega) (by omega) rfl (Or.inl (Or.inr rfl)) dX1_append_87 (fun H hc ho => ?_)
                have k_0 := hcm.kept (hc.2 _ (X.oa hcm hbf CL_X1 rfl))
                have k_1 := hw9.kept (hc.2 _ (Ne.symm ne_4))
                replace hK := hK.ch hc hkb
                clear hcm
                have hcm := k_0
                clear k_0
                clear hw9
                have hw9 := k_1
                clear k_1
                replace hz := Nat.le_trans hz (Nat.le_of_eq hc.1.symm)
                clear hbf
                have hbf : bA D H bf 1000 (va_up F (n + 4 * i + k) (vp_nar .byte ((wd x0 x1 x2 x3 x4 i >>> ((nI 24 - nI (8 * k)) &&& 31)).toInt8.toInt32))) := ho
                clear hc ho
                refine vv_aload_n X dX1_append_88 rfl 0 rfl ?_
                refine vv_dup X dX1_append_89 rfl ?_
                refine vv_getf (C := RX1) (T := TX1) (N := 8) (ref := "AcousticCamera") X hcm in_X1 CL_X1 1 (by decide) q256 rfl rfl dX1_append_90 ?_
                refine vv_iconst (v := nI 1) X dX1_append_93 (by decide) ?_
                refine vn_add X dX1_append_94 ?_
                refine vv_putf (C := RX1) (T := TX1) (N := 8) (ref := "AcousticCamera") X hcm in_X1 CL_X1 tyX1 tyX1_ok nmX1 1 (by decide) q256 rfl rfl rfl rfl (Nat.le_of_ble_eq_true rfl) (Or.inl (Or.inl rfl)) dX1_append_95 (fun H hc ho => ?_)
                have k_0 := hbf.kept (hc.2 _ (X.ao hbf hcm CL_X1 rfl))
                have k_1 := hw9.kept (hc.2 _ (Ne.symm ne_3))
                replace hK := hK.ch hc (X.ko hK hcm CL_X1 (by decide) (by decide))
                clear hbf
                have hbf := k_0
                clear k_0
                clear hw9
                have hw9 := k_1
                clear k_1
                replace hz := Nat.le_trans hz (Nat.le_of_eq hc.1.symm)
                clear hcm
                have hcm : oB D H c 0 [.ref bf, .int (nI ((n + 4 * i + k) + 1)), v2, v3, v4, v5, v6, v7] := ho
                clear hc ho
                refine vv_iinc (v := nI 24 - nI (8 * k) + (-8)) (lv' := [(10, .int (nI 24 - nI (8 * k) + (-8))), (0, .ref c), (1, .int (x0)), (2, .int (x1)), (3, .int (x2)), (4, .int (x3)), (5, .int (x4)), (6, .ref a_1), (7, .int (nI 5)), (8, .int (nI i)), (9, .int (wd x0 x1 x2 x3 x4 i))]) X dX1_append_98 (k := 10) rfl rfl (by decide) rfl ?_
                rw [shC4 k (by omega)]
                refine vv_goto (tgt := 68) X dX1_append_101 (by decide) ?_
                refine vv_sub [1, 2, 3, 4, 5, 6, 7, 8, 9, 10, 0] rfl ?_
                exact ihk (k + 1) H (va_up F (n + 4 * i + k) (vp_nar .byte ((wd x0 x1 x2 x3 x4 i >>> ((nI 24 - nI (8 * k)) &&& 31)).toInt8.toInt32))) (by omega) (hK) (hz) (hw9) (hbf) (hcm) (fun j hj => by rw [va_up_ne _ _ (by omega)]; exact hF1 j hj) (fun j hj => by
                            by_cases e : j = 4 * i + k
                            · subst e
                              rw [show n + (4 * i + k) = n + 4 * i + k by omega, va_up_self, ap_b, pk_sub (by omega)]
                              unfold bwd by4
                              rw [show (4 * i + k) / 4 = i by omega, show (4 * i + k) % 4 = k by omega]
                            · rw [va_up_ne _ _ (by omega)]; exact hF2 j (by omega)) (fun j hj => by
                            unfold va_up
                            split
                            · exact fit_b _
                            · exact hff j hj)
          refine vv_sub [2, 3, 4, 5, 6, 7, 8, 9, 10, 1, 0] rfl ?_
          exact hl_11 (4) 0 H F (by first | omega | assumption) (hK) (hz) (hw9) (hbf) (hcm) (hF1) (fun j hj => hF2 j (by omega)) (hff)
    refine vv_sub [3, 4, 5, 6, 7, 8, 2, 1, 0] rfl ?_
    exact hl_9 (5) 0 H F0 (by first | omega | assumption) (hK) (hz) (hw9) (hbf) (hcm9) (fun _ _ => rfl) (fun j hj => absurd hj (Nat.not_lt_zero _)) (hff)
  · exact absurd c_10 (by omega)
set_option maxHeartbeats 800000 in
theorem mX1_append2 (l : Launch) (D : DD) (c bf n : Nat) (F0 : Nat → Int32) (v2 v3 v4 v5 v6 v7 : Value) (x0 x1 x2 x3 x4 : Int32) (hn : n ≤ 1000) (hn2 : ¬ n + 20 ≤ 1000) : Cp l yX1_append cX1_append 11 (some .int) { frames := 1, cells := 0, slots := 0, locals := 12 } D [.ref c, .int (x0), .int (x1), .int (x2), .int (x3), .int (x4)] (fun H => KH D H ∧ oB D H c 0 [.ref bf, .int (nI n), v2, v3, v4, v5, v6, v7]) (.int ((-1))) := by
  refine Ct.of (by decide +kernel) (Nat.le_of_ble_eq_true rfl) (fun K Qf hkl X hM hQ => ?_)
  subst hkl
  obtain ⟨hK, hcm⟩ := hM
  refine vv_sub (lv' := [(0, .ref c), (1, .int (x0)), (2, .int (x1)), (3, .int (x2)), (4, .int (x3)), (5, .int (x4))]) [0, 1, 2, 3, 4, 5] rfl ?_
  refine vv_aload_n X dX1_append_0 rfl 0 rfl ?_
  refine vv_getf (C := RX1) (T := TX1) (N := 8) (ref := "AcousticCamera") X hcm in_X1 CL_X1 1 (by decide) q256 rfl rfl dX1_append_1 ?_
  refine vv_bipush (v := nI 20) X dX1_append_4 (by decide) ?_
  refine vn_add X dX1_append_6 ?_
  refine vv_sipush (v := nI 1000) X dX1_append_7 (by decide) ?_
  refine vn_le (tgt := 15) X (by omega) (by omega) dX1_append_10 (by decide) (fun c_10 => ?_) (fun c_10 => ?_)
  · exact absurd c_10 (by omega)
  · refine vv_iconst (v := -1) X dX1_append_13 (by decide) ?_
    exact vv_iret X hQ dX1_append_14 (Nat.le_of_ble_eq_true rfl) (Nat.le_of_ble_eq_true rfl) (pq (rfl))
theorem nX1_parseError : notMH yX1_parseError 0 := by decide +kernel
set_option maxHeartbeats 800000 in
theorem mX1_parseError (l : Launch) (D : DD) (c : Nat) (q : Int32) (v0 v1 v3 v4 v5 v6 v7 : Value)  : Cp l yX1_parseError cX1_parseError 1 (some .int) { frames := 1, cells := 0, slots := 0, locals := 12 } D [.ref c] (fun H => oB D H c 0 [v0, v1, .int (q), v3, v4, v5, v6, v7]) (.int (q)) := by
  refine Ct.of (by decide +kernel) (Nat.le_of_ble_eq_true rfl) (fun K Qf hkl X hM hQ => ?_)
  subst hkl
  have hcm := hM
  refine vv_sub (lv' := [(0, .ref c)]) [0] rfl ?_
  refine vv_aload_n X dX1_parseError_0 rfl 0 rfl ?_
  refine vv_getf (C := RX1) (T := TX1) (N := 8) (ref := "AcousticCamera") X hcm in_X1 CL_X1 2 (by decide) q257 rfl rfl dX1_parseError_1 ?_
  exact vv_iret X hQ dX1_parseError_4 (Nat.le_of_ble_eq_true rfl) (Nat.le_of_ble_eq_true rfl) (pq (rfl))
theorem nX1_errorPosition : notMH yX1_errorPosition 0 := by decide +kernel
set_option maxHeartbeats 800000 in
theorem mX1_errorPosition (l : Launch) (D : DD) (c : Nat) (q : Int32) (v0 v1 v2 v4 v5 v6 v7 : Value)  : Cp l yX1_errorPosition cX1_errorPosition 1 (some .int) { frames := 1, cells := 0, slots := 0, locals := 12 } D [.ref c] (fun H => oB D H c 0 [v0, v1, v2, .int (q), v4, v5, v6, v7]) (.int (q)) := by
  refine Ct.of (by decide +kernel) (Nat.le_of_ble_eq_true rfl) (fun K Qf hkl X hM hQ => ?_)
  subst hkl
  have hcm := hM
  refine vv_sub (lv' := [(0, .ref c)]) [0] rfl ?_
  refine vv_aload_n X dX1_errorPosition_0 rfl 0 rfl ?_
  refine vv_getf (C := RX1) (T := TX1) (N := 8) (ref := "AcousticCamera") X hcm in_X1 CL_X1 3 (by decide) q258 rfl rfl dX1_errorPosition_1 ?_
  exact vv_iret X hQ dX1_errorPosition_4 (Nat.le_of_ble_eq_true rfl) (Nat.le_of_ble_eq_true rfl) (pq (rfl))
theorem nX1_buffered : notMH yX1_buffered 0 := by decide +kernel
set_option maxHeartbeats 800000 in
theorem mX1_buffered (l : Launch) (D : DD) (c : Nat) (q : Int32) (v0 v2 v3 v4 v5 v6 v7 : Value)  : Cp l yX1_buffered cX1_buffered 1 (some .int) { frames := 1, cells := 0, slots := 0, locals := 12 } D [.ref c] (fun H => oB D H c 0 [v0, .int (q), v2, v3, v4, v5, v6, v7]) (.int (q)) := by
  refine Ct.of (by decide +kernel) (Nat.le_of_ble_eq_true rfl) (fun K Qf hkl X hM hQ => ?_)
  subst hkl
  have hcm := hM
  refine vv_sub (lv' := [(0, .ref c)]) [0] rfl ?_
  refine vv_aload_n X dX1_buffered_0 rfl 0 rfl ?_
  refine vv_getf (C := RX1) (T := TX1) (N := 8) (ref := "AcousticCamera") X hcm in_X1 CL_X1 1 (by decide) q256 rfl rfl dX1_buffered_1 ?_
  exact vv_iret X hQ dX1_buffered_4 (Nat.le_of_ble_eq_true rfl) (Nat.le_of_ble_eq_true rfl) (pq (rfl))
