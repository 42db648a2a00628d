/-! State.isPeak, blockBest: printed by gen/s8.py -/
set_option maxRecDepth 100000
theorem mk_i {a b : Nat} (h : a < b) : a - 1 + (min (b - 1) (a + 1) + 1 - (a - 1)) = min (b - 1) (a + 1) + 1 := by omega
theorem ix_lt {a b k i : Nat} (hk : k < b) (hi : i < a) : a * k + i < a * b := by
  have h : a * (k + 1) ≤ a * b := Nat.mul_le_mul_left a hk
  rw [Nat.mul_add] at h
  omega
theorem nX3_isPeak : notMH yX3_isPeak 1 := by decide +kernel
set_option maxHeartbeats 800000 in
theorem mX3_isPeak (l : Launch) (D : DD) (u : Nat → Nat) (P T : Nat → Int32) (o : Nat) (g : Nat → Nat) (S : Nat → Int32) (pw : Option Nat) (c : Nat) (hC : VC P) (hV : VS S) (hA : AP g u P) (hc : c < nC P) : Ct l yX3_isPeak cX3_isPeak 8 (some .boolean) { frames := 8, cells := 1, slots := 144, locals := 171 } D [.ref (g 0), .int (nI c)] (fun H => KH D H ∧ UR D u P T o H ∧ SR D g u P S pw H ∧ PK D P S pw H) (fun q => q = g 0) (fun r H H1 => r = some (.int (b2 (top P (pwc P S) c))) ∧ ∃ p, SR D g u P S (some p) H1 ∧ PK D P S (some p) H1 ∧ (∀ q, pw = some q → p = q) ∧ (pw = some p ∨ H.size ≤ p)) := by
  refine Ct.of (by decide +kernel) (Nat.le_of_ble_eq_true rfl) (fun K Qf hkl X hM hQ => ?_)
  subst hkl
  obtain ⟨hK, hU, hR, hPK⟩ := hM
  have hz : (kS K).heap.size ≤ (kS K).heap.size := Nat.le_refl _
  have hP := hC.v
  have l0 := hP.l0
  have l1 := hP.l1
  have l2 := hP.l2
  have l4 := hP.l4
  have l5 := hP.l5
  have l8 := hP.l8
  have l9 := hP.l9
  have l10 := hP.l10
  have l71 := hP.l71
  have l76 := hP.l76
  have l77 := hP.l77
  have hx1 := hC.x1
  have hy1 := hC.y1
  have ht1 := hC.t1
  have he1 := hC.e1
  have hm1 := hC.m1
  have hcc : nC P ≤ 144 := Nat.mul_le_mul l9 l10
  have hrow : c / nX P < nY P := Nat.div_lt_of_lt_mul hc
  have hcol : c % nX P < nX P := Nat.mod_lt c hx1
  have hcl : c / nX P ≤ c := Nat.div_le_self _ _
  have hmk := mk_i hrow
  have hmi := mk_i hcol
  refine vv_sub (lv' := [(0, .ref (g 0)), (1, .int (nI c))]) [0, 1] rfl ?_
  refine vv_aload_n X dX3_isPeak_0 rfl 0 rfl ?_
  refine vv_callV X (mX3_powers (kL K) D u P T o g S pw hC hV hA) q1997 q1957 q1958 q150 q1959 nX3_powers ⟨(Nat.le_of_ble_eq_true rfl), (Nat.le_of_ble_eq_true rfl)⟩ dX3_isPeak_1 rfl (Nat.le_of_ble_eq_true rfl) (recv X hR.ob CL_X3) ⟨hK, hU, hR, hPK⟩ (fun q z => by rcases z with rfl; exact (Or.inl rfl)) ⟨(Nat.le_of_ble_eq_true rfl), (Nat.le_of_ble_eq_true rfl)⟩ (fun v_ H hq hz_ hk => ?_)
  obtain ⟨a_1, rfl, hR2, hPK2, hold, hnew⟩ := hq
  replace hK := hK.to hk (fun q z => by rcases z with rfl; exact hR.kn X hK 0 (Or.inl (by decide)))
  replace hU := hU.own hA l4 (Q := (· = 0)) (fun k hk => by subst hk; exact Or.inl (by decide)) (fun q hl hq => hk q hl (hq 0 rfl))
  replace hz := Nat.le_trans hz hz_
  have hp_2 : lA D H a_1 (nC P) (pwc P S) := hPK2 a_1 rfl
  clear hk hz_ hR
  have hR := hR2
  clear hR2 hPK2
  refine vv_astore_n (lv' := [(2, .ref a_1), (0, .ref (g 0)), (1, .int (nI c))]) X dX3_isPeak_4 rfl (by decide) rfl ?_
  refine vv_iload_n X dX3_isPeak_5 rfl 2 rfl ?_
  refine vv_aload_n X dX3_isPeak_6 rfl 1 rfl ?_
  refine vv_getf (C := RX3) (T := TX3) (N := 8) (ref := "AcousticCamera$State") X hR.ob in_X3 CL_X3 0 (by decide) q1687 rfl rfl dX3_isPeak_7 ?_
  refine vv_getfN (C := RX5) (T := TX5) (N := 19) (ref := "AcousticCamera$Setup") X hU.ob in_X5 CL_X5 16 (by decide) q817 rfl rfl dX3_isPeak_10 ?_
  refine vn_rem X (by omega) (by omega) (by omega) dX3_isPeak_13 ?_
  refine vv_istore_n (lv' := [(3, .int (nI (c % (nX P)))), (2, .ref a_1), (0, .ref (g 0)), (1, .int (nI c))]) X dX3_isPeak_14 rfl (by decide) rfl ?_
  refine vv_iload_n X dX3_isPeak_15 rfl 3 rfl ?_
  refine vv_aload_n X dX3_isPeak_16 rfl 2 rfl ?_
  refine vv_getf (C := RX3) (T := TX3) (N := 8) (ref := "AcousticCamera$State") X hR.ob in_X3 CL_X3 0 (by decide) q1687 rfl rfl dX3_isPeak_17 ?_
  refine vv_getfN (C := RX5) (T := TX5) (N := 19) (ref := "AcousticCamera$Setup") X hU.ob in_X5 CL_X5 16 (by decide) q817 rfl rfl dX3_isPeak_20 ?_
  refine vn_div X (by omega) (by omega) (by omega) dX3_isPeak_23 ?_
  refine vv_istore (lv' := [(4, .int (nI (c / (nX P)))), (3, .int (nI (c % (nX P)))), (2, .ref a_1), (0, .ref (g 0)), (1, .int (nI c))]) X dX3_isPeak_24 (by decide) rfl ?_
  refine vv_iconst (v := nI 0) X dX3_isPeak_26 (by decide) ?_
  refine vv_iload X dX3_isPeak_27 0 rfl ?_
  refine vv_iconst (v := nI 1) X dX3_isPeak_29 (by decide) ?_
  refine vv_isub X dX3_isPeak_30 ?_
  refine vn_max0 X q1771 (Nat.le_of_ble_eq_true rfl) (Nat.le_of_ble_eq_true rfl) ((Nat.le_of_ble_eq_true rfl)) ((Nat.le_of_ble_eq_true rfl)) (by omega) (by omega) dX3_isPeak_31 ?_
  refine vv_istore (lv' := [(5, .int (nI ((c / (nX P)) - 1))), (4, .int (nI (c / (nX P)))), (3, .int (nI (c % (nX P)))), (2, .ref a_1), (0, .ref (g 0)), (1, .int (nI c))]) X dX3_isPeak_34 (by decide) rfl ?_
  have hx_3 : ∀ (hk_ : ∀ j, j < (min (nY P - 1) (c / nX P + 1) + 1) → j < nY P → ∀ i, i < nX P → (j ≤ c / nX P + 1 ∧ c / nX P ≤ j + 1 ∧ i ≤ c % nX P + 1 ∧ c % nX P ≤ i + 1 ∧ nX P * j + i ≠ c) → pwc P S (nX P * j + i) < pwc P S c) (hkl : c / nX P ≤ (min (nY P - 1) (c / nX P + 1) + 1) + 1), V K 8 (fun q => q = g 0) H 1 144 Qf 132 [(0, .ref (g 0)), (1, .int (nI c)), (2, .ref a_1), (3, .int (nI (c % nX P))), (4, .int (nI (c / nX P))), (5, .int (nI (min (nY P - 1) (c / nX P + 1) + 1)))] [] := by
    intro hk_ hkl
    refine vv_iconst (v := nI 1) X dX3_isPeak_132 (by decide) ?_
    exact vv_zret X (rfl) hQ dX3_isPeak_133 (Nat.le_of_ble_eq_true rfl) (Nat.le_of_ble_eq_true rfl) (⟨congrArg (fun z => some (Value.int z)) (b2_1 (fun j h1 i h2 z => hk_ j (by omega) h1 i h2 z)), _, hR, (fun q e => by cases e; exact hp_2), hold, hnew⟩)
  have hl_4 : ∀ (n_k k : Nat), k + n_k = min (nY P - 1) (c / nX P + 1) + 1 → (∀ j, j < k → j < nY P → ∀ i, i < nX P → (j ≤ c / nX P + 1 ∧ c / nX P ≤ j + 1 ∧ i ≤ c % nX P + 1 ∧ c % nX P ≤ i + 1 ∧ nX P * j + i ≠ c) → pwc P S (nX P * j + i) < pwc P S c) → (c / nX P ≤ k + 1) → V K 8 (fun q => q = g 0) H 1 144 Qf 36 [(0, .ref (g 0)), (1, .int (nI c)), (2, .ref a_1), (3, .int (nI (c % nX P))), (4, .int (nI (c / nX P))), (5, .int (nI k))] [] := by
    intro n_k
    induction n_k with
    | zero =>
      intro k hk hk_ hkl
      obtain rfl : k = min (nY P - 1) (c / nX P + 1) + 1 := by omega
      refine vv_iload X dX3_isPeak_36 5 rfl ?_
      refine vv_aload_n X dX3_isPeak_38 rfl 0 rfl ?_
      refine vv_getf (C := RX3) (T := TX3) (N := 8) (ref := "AcousticCamera$State") X hR.ob in_X3 CL_X3 0 (by decide) q1687 rfl rfl dX3_isPeak_39 ?_
      refine vv_getfN (C := RX5) (T := TX5) (N := 19) (ref := "AcousticCamera$Setup") X hU.ob in_X5 CL_X5 17 (by decide) q821 rfl rfl dX3_isPeak_42 ?_
      refine vv_iconst (v := nI 1) X dX3_isPeak_45 (by decide) ?_
      refine vn_sub X (by omega) dX3_isPeak_46 ?_
      refine vv_iload X dX3_isPeak_47 4 rfl ?_
      refine vv_iconst (v := nI 1) X dX3_isPeak_49 (by decide) ?_
      refine vn_add X dX3_isPeak_50 ?_
      refine vn_min X q1770 (Nat.le_of_ble_eq_true rfl) (Nat.le_of_ble_eq_true rfl) ((Nat.le_of_ble_eq_true rfl)) ((Nat.le_of_ble_eq_true rfl)) (by omega) (by omega) dX3_isPeak_51 ?_
      refine vn_gt (tgt := 132) X (by omega) (by omega) dX3_isPeak_54 (by decide) (fun c_54 => ?_) (fun c_54 => ?_)
      · exact hx_3 hk_ hkl
      · exact absurd c_54 (by omega)
    | succ n_k ihk =>
      intro k hk hk_ hkl
      refine vv_iload X dX3_isPeak_36 5 rfl ?_
      refine vv_aload_n X dX3_isPeak_38 rfl 0 rfl ?_
      refine vv_getf (C := RX3) (T := TX3) (N := 8) (ref := "AcousticCamera$State") X hR.ob in_X3 CL_X3 0 (by decide) q1687 rfl rfl dX3_isPeak_39 ?_
      refine vv_getfN (C := RX5) (T := TX5) (N := 19) (ref := "AcousticCamera$Setup") X hU.ob in_X5 CL_X5 17 (by decide) q821 rfl rfl dX3_isPeak_42 ?_
      refine vv_iconst (v := nI 1) X dX3_isPeak_45 (by decide) ?_
      refine vn_sub X (by omega) dX3_isPeak_46 ?_
      refine vv_iload X dX3_isPeak_47 4 rfl ?_
      refine vv_iconst (v := nI 1) X dX3_isPeak_49 (by decide) ?_
      refine vn_add X dX3_isPeak_50 ?_
      refine vn_min X q1770 (Nat.le_of_ble_eq_true rfl) (Nat.le_of_ble_eq_true rfl) ((Nat.le_of_ble_eq_true rfl)) ((Nat.le_of_ble_eq_true rfl)) (by omega) (by omega) dX3_isPeak_51 ?_
      refine vn_gt (tgt := 132) X (by omega) (by omega) dX3_isPeak_54 (by decide) (fun c_54 => ?_) (fun c_54 => ?_)
      · exact absurd hk (by omega)
      · refine vv_iconst (v := nI 0) X dX3_isPeak_57 (by decide) ?_
        refine vv_iload_n X dX3_isPeak_58 rfl 3 rfl ?_
        refine vv_iconst (v := nI 1) X dX3_isPeak_59 (by decide) ?_
        refine vv_isub X dX3_isPeak_60 ?_
        refine vn_max0 X q1771 (Nat.le_of_ble_eq_true rfl) (Nat.le_of_ble_eq_true rfl) ((Nat.le_of_ble_eq_true rfl)) ((Nat.le_of_ble_eq_true rfl)) (by omega) (by omega) dX3_isPeak_61 ?_
        refine vv_istore (lv' := [(6, .int (nI ((c % nX P) - 1))), (0, .ref (g 0)), (1, .int (nI c)), (2, .ref a_1), (3, .int (nI (c % nX P))), (4, .int (nI (c / nX P))), (5, .int (nI k))]) X dX3_isPeak_64 (by decide) rfl ?_
        have hx_5 : ∀ (hi_ : ∀ i', i' < (min (nX P - 1) (c % nX P + 1) + 1) → i' < nX P → (k ≤ c / nX P + 1 ∧ c / nX P ≤ k + 1 ∧ i' ≤ c % nX P + 1 ∧ c % nX P ≤ i' + 1 ∧ nX P * k + i' ≠ c) → pwc P S (nX P * k + i') < pwc P S c) (hil : c % nX P ≤ (min (nX P - 1) (c % nX P + 1) + 1) + 1), V K 8 (fun q => q = g 0) H 1 144 Qf 126 [(0, .ref (g 0)), (1, .int (nI c)), (2, .ref a_1), (3, .int (nI (c % nX P))), (4, .int (nI (c / nX P))), (5, .int (nI k)), (6, .int (nI (min (nX P - 1) (c % nX P + 1) + 1)))] [] := by
          intro hi_ hil
          refine vv_iinc (v := nI (k + 1)) (lv' := [(5, .int (nI (k + 1))), (0, .ref (g 0)), (1, .int (nI c)), (2, .ref a_1), (3, .int (nI (c % nX P))), (4, .int (nI (c / nX P))), (6, .int (nI (min (nX P - 1) (c % nX P + 1) + 1)))]) X dX3_isPeak_126 (k := 5) rfl (nI_add _ 1) (by decide) rfl ?_
          refine vv_goto (tgt := 36) X dX3_isPeak_129 (by decide) ?_
          refine vv_sub [1, 2, 3, 4, 5, 0] rfl ?_
          exact ihk (k + 1) (by omega) (fun j h1 h2 i h3 z => (Nat.lt_or_ge j k).elim (fun y => hk_ j y h2 i h3 z) (fun y => by have e9 : j = k := (by omega); subst e9; exact hi_ i (by omega) h3 z)) (by omega)
        have hl_6 : ∀ (n_i i : Nat), i + n_i = min (nX P - 1) (c % nX P + 1) + 1 → (∀ i', i' < i → i' < nX P → (k ≤ c / nX P + 1 ∧ c / nX P ≤ k + 1 ∧ i' ≤ c % nX P + 1 ∧ c % nX P ≤ i' + 1 ∧ nX P * k + i' ≠ c) → pwc P S (nX P * k + i') < pwc P S c) → (c % nX P ≤ i + 1) → V K 8 (fun q => q = g 0) H 1 144 Qf 66 [(0, .ref (g 0)), (1, .int (nI c)), (2, .ref a_1), (3, .int (nI (c % nX P))), (4, .int (nI (c / nX P))), (5, .int (nI k)), (6, .int (nI i))] [] := by
          intro n_i
          induction n_i with
          | zero =>
            intro i hi hi_ hil
            obtain rfl : i = min (nX P - 1) (c % nX P + 1) + 1 := by omega
            refine vv_iload X dX3_isPeak_66 6 rfl ?_
            refine vv_aload_n X dX3_isPeak_68 rfl 0 rfl ?_
            refine vv_getf (C := RX3) (T := TX3) (N := 8) (ref := "AcousticCamera$State") X hR.ob in_X3 CL_X3 0 (by decide) q1687 rfl rfl dX3_isPeak_69 ?_
            refine vv_getfN (C := RX5) (T := TX5) (N := 19) (ref := "AcousticCamera$Setup") X hU.ob in_X5 CL_X5 16 (by decide) q817 rfl rfl dX3_isPeak_72 ?_
            refine vv_iconst (v := nI 1) X dX3_isPeak_75 (by decide) ?_
            refine vn_sub X (by omega) dX3_isPeak_76 ?_
            refine vv_iload_n X dX3_isPeak_77 rfl 3 rfl ?_
            refine vv_iconst (v := nI 1) X dX3_isPeak_78 (by decide) ?_
            refine vn_add X dX3_isPeak_79 ?_
            refine vn_min X q1770 (Nat.le_of_ble_eq_true rfl) (Nat.le_of_ble_eq_true rfl) ((Nat.le_of_ble_eq_true rfl)) ((Nat.le_of_ble_eq_true rfl)) (by omega) (by omega) dX3_isPeak_80 ?_
            refine vn_gt (tgt := 126) X (by omega) (by omega) dX3_isPeak_83 (by decide) (fun c_83 => ?_) (fun c_83 => ?_)
            · exact hx_5 hi_ hil
            · exact absurd c_83 (by omega)
          | succ n_i ihi =>
            intro i hi hi_ hil
            refine vv_iload X dX3_isPeak_66 6 rfl ?_
            refine vv_aload_n X dX3_isPeak_68 rfl 0 rfl ?_
            refine vv_getf (C := RX3) (T := TX3) (N := 8) (ref := "AcousticCamera$State") X hR.ob in_X3 CL_X3 0 (by decide) q1687 rfl rfl dX3_isPeak_69 ?_
            refine vv_getfN (C := RX5) (T := TX5) (N := 19) (ref := "AcousticCamera$Setup") X hU.ob in_X5 CL_X5 16 (by decide) q817 rfl rfl dX3_isPeak_72 ?_
            refine vv_iconst (v := nI 1) X dX3_isPeak_75 (by decide) ?_
            refine vn_sub X (by omega) dX3_isPeak_76 ?_
            refine vv_iload_n X dX3_isPeak_77 rfl 3 rfl ?_
            refine vv_iconst (v := nI 1) X dX3_isPeak_78 (by decide) ?_
            refine vn_add X dX3_isPeak_79 ?_
            refine vn_min X q1770 (Nat.le_of_ble_eq_true rfl) (Nat.le_of_ble_eq_true rfl) ((Nat.le_of_ble_eq_true rfl)) ((Nat.le_of_ble_eq_true rfl)) (by omega) (by omega) dX3_isPeak_80 ?_
            refine vn_gt (tgt := 126) X (by omega) (by omega) dX3_isPeak_83 (by decide) (fun c_83 => ?_) (fun c_83 => ?_)
            · exact absurd hi (by omega)
            · refine vv_iload X dX3_isPeak_86 5 rfl ?_
              refine vv_aload_n X dX3_isPeak_88 rfl 0 rfl ?_
              refine vv_getf (C := RX3) (T := TX3) (N := 8) (ref := "AcousticCamera$State") X hR.ob in_X3 CL_X3 0 (by decide) q1687 rfl rfl dX3_isPeak_89 ?_
              refine vv_getfN (C := RX5) (T := TX5) (N := 19) (ref := "AcousticCamera$Setup") X hU.ob in_X5 CL_X5 16 (by decide) q817 rfl rfl dX3_isPeak_92 ?_
              refine vn_mul X dX3_isPeak_95 ?_
              refine vv_iload X dX3_isPeak_96 6 rfl ?_
              refine vn_add X dX3_isPeak_98 ?_
              refine vv_eqi (show nI (k * nX P + i) = nI (nX P * k + i) by rw [Nat.mul_comm]) ?_
              have hx9 := ix_lt (a := nX P) (b := nY P) (k := k) (i := i) (by omega) (by omega)
              have hx8 : nX P * nY P = nC P := rfl
              refine vv_istore (lv' := [(7, .int (nI (nX P * k + i))), (0, .ref (g 0)), (1, .int (nI c)), (2, .ref a_1), (3, .int (nI (c % nX P))), (4, .int (nI (c / nX P))), (5, .int (nI k)), (6, .int (nI i))]) X dX3_isPeak_99 (by decide) rfl ?_
              refine vv_iload X dX3_isPeak_101 0 rfl ?_
              refine vv_iload_n X dX3_isPeak_103 rfl 2 rfl ?_
              refine vn_eq (tgt := 120) X (by omega) (by omega) dX3_isPeak_104 (by decide) (fun c_104 => ?_) (fun c_104 => ?_)
              · refine vv_iinc (v := nI (i + 1)) (lv' := [(6, .int (nI (i + 1))), (7, .int (nI (nX P * k + i))), (0, .ref (g 0)), (1, .int (nI c)), (2, .ref a_1), (3, .int (nI (c % nX P))), (4, .int (nI (c / nX P))), (5, .int (nI k))]) X dX3_isPeak_120 (k := 7) rfl (nI_add _ 1) (by decide) rfl ?_
                refine vv_goto (tgt := 66) X dX3_isPeak_123 (by decide) ?_
                refine vv_sub [2, 3, 4, 5, 6, 7, 0] rfl ?_
                exact ihi (i + 1) (by omega) (fun i' h1 h2 z => (Nat.lt_or_ge i' i).elim (fun y => hi_ i' y h2 z) (fun y => by have e9 : i' = i := (by omega); subst e9; exact absurd c_104 z.2.2.2.2)) (by omega)
              · refine vv_aload_n X dX3_isPeak_107 rfl 3 rfl ?_
                refine vv_iload X dX3_isPeak_108 0 rfl ?_
                refine vv_lald X hp_2 (nX P * k + i) (by omega) (by omega) rfl dX3_isPeak_110 ?_
                refine vv_aload_n X dX3_isPeak_111 rfl 3 rfl ?_
                refine vv_iload_n X dX3_isPeak_112 rfl 2 rfl ?_
                refine vv_lald X hp_2 (c) (by omega) (by omega) rfl dX3_isPeak_113 ?_
                refine vv_lcmp X dX3_isPeak_114 ?_
                refine vz_lt (tgt := 120) X dX3_isPeak_115 (by decide) (fun c_115 => ?_) (fun c_115 => ?_)
                · refine vv_iinc (v := nI (i + 1)) (lv' := [(6, .int (nI (i + 1))), (7, .int (nI (nX P * k + i))), (0, .ref (g 0)), (1, .int (nI c)), (2, .ref a_1), (3, .int (nI (c % nX P))), (4, .int (nI (c / nX P))), (5, .int (nI k))]) X dX3_isPeak_120 (k := 7) rfl (nI_add _ 1) (by decide) rfl ?_
                  refine vv_goto (tgt := 66) X dX3_isPeak_123 (by decide) ?_
                  refine vv_sub [2, 3, 4, 5, 6, 7, 0] rfl ?_
                  exact ihi (i + 1) (by omega) (fun i' h1 h2 z => (Nat.lt_or_ge i' i).elim (fun y => hi_ i' y h2 z) (fun y => by have e9 : i' = i := (by omega); subst e9; exact c_115)) (by omega)
                · refine vv_iconst (v := nI 0) X dX3_isPeak_118 (by decide) ?_
                  exact vv_zret X (rfl) hQ dX3_isPeak_119 (Nat.le_of_ble_eq_true rfl) (Nat.le_of_ble_eq_true rfl) (⟨congrArg (fun z => some (Value.int z)) (b2_0 (fun z => absurd (z k (by omega) i (by omega) ⟨by omega, by omega, by omega, by omega, c_104⟩) (Int64.not_lt.mpr c_115))), _, hR, (fun q e => by cases e; exact hp_2), hold, hnew⟩)
        refine vv_sub [1, 2, 3, 4, 5, 6, 0] rfl ?_
        exact hl_6 (min (nX P - 1) (c % nX P + 1) + 1 - (c % nX P - 1)) (c % nX P - 1) (by first | omega | assumption) (fun i' h1 h2 z => absurd z.2.2.2.1 (by omega)) (by omega)
  refine vv_sub [4, 5, 3, 2, 1, 0] rfl ?_
  exact hl_4 (min (nY P - 1) (c / nX P + 1) + 1 - (c / nX P - 1)) (c / nX P - 1) (by first | omega | assumption) (fun j h1 h2 i h3 z => absurd z.2.1 (by omega)) (by omega)
theorem nX3_lambda_blockBest_1 : notMH yX3_lambda_blockBest_1 3 := by decide +kernel
set_option maxHeartbeats 800000 in
theorem mX3_lambda_blockBest_1 (l : Launch) (D : DD) (u : Nat → Nat) (P T : Nat → Int32) (o : Nat) (g : Nat → Nat) (S : Nat → Int32) (pw : Option Nat) (a n c : Nat) (hC : VC P) (hV : VS S) (hc : c < nC P) (ha : a < 1000) (hn : 1 ≤ n ∧ n < 1000) : Cp l yX3_lambda_blockBest_1 cX3_lambda_blockBest_1 4 (some .long) { frames := 7, cells := 0, slots := 0, locals := 150 } D [.ref (g 0), .int (nI a), .int (nI n), .int (nI c)] (fun H => KH D H ∧ UR D u P T o H ∧ SR D g u P S pw H) (.long (blk P S c a n)) := by
  refine Ct.of (by decide +kernel) (Nat.le_of_ble_eq_true rfl) (fun K Qf hkl X hM hQ => ?_)
  subst hkl
  obtain ⟨hK, hU, hR⟩ := hM
  have hP := hC.v
  have l0 := hP.l0
  have l1 := hP.l1
  have l2 := hP.l2
  have l4 := hP.l4
  have l5 := hP.l5
  have l8 := hP.l8
  have l9 := hP.l9
  have l10 := hP.l10
  have l71 := hP.l71
  have l76 := hP.l76
  have l77 := hP.l77
  have hx1 := hC.x1
  have hy1 := hC.y1
  have ht1 := hC.t1
  have he1 := hC.e1
  have hm1 := hC.m1
  have hcc : nC P ≤ 144 := Nat.mul_le_mul l9 l10
  refine vv_sub (lv' := [(0, .ref (g 0)), (1, .int (nI a)), (2, .int (nI n)), (3, .int (nI c))]) [0, 1, 2, 3] rfl ?_
  refine vv_aload_n X dX3_lambda_blockBest_1_0 rfl 0 rfl ?_
  refine vv_iload_n X dX3_lambda_blockBest_1_1 rfl 3 rfl ?_
  refine vv_iload_n X dX3_lambda_blockBest_1_2 rfl 1 rfl ?_
  refine vv_iload_n X dX3_lambda_blockBest_1_3 rfl 2 rfl ?_
  refine vv_callVp X (mX3_blockPower (kL K) D u P T o g S pw c a n hC hV (by omega) (by omega) (by omega)) q2471 q2454 q2455 q150 q2456 nX3_blockPower ⟨(Nat.le_of_ble_eq_true rfl), (Nat.le_of_ble_eq_true rfl)⟩ dX3_lambda_blockBest_1_4 rfl (Nat.le_of_ble_eq_true rfl) (recv X hR.ob CL_X3) ⟨hK, hU, hR⟩ ⟨(Nat.le_of_ble_eq_true rfl), (Nat.le_of_ble_eq_true rfl)⟩ ?_
  exact vv_lret X hQ dX3_lambda_blockBest_1_7 (Nat.le_of_ble_eq_true rfl) (Nat.le_of_ble_eq_true rfl) (pql (rfl))
theorem sco11 {l : Launch} {D : DD} {b a n N : Nat} {u : Nat → Nat} {P T : Nat → Int32} {o : Nat} {g : Nat → Nat} {S : Nat → Int32} {pw : Option Nat} {Inv : Heap → Prop} (hC : VC P) (hV : VS S) (ha : a < 1000) (hn : 1 ≤ n ∧ n < 1000) (hI : ∀ H, Inv H → LO D H b 11 [.ref (g 0), .int (nI a), .int (nI n)] ∧ KH D H ∧ UR D u P T o H ∧ SR D g u P S pw H) (hN : N ≤ nC P) : SCO l D b { frames := 7, cells := 0, slots := 0, locals := 150 } Inv (fun _ => False) N (fun c => blk P S c a n) := by
  intro K y cc nL ret rm A H cells slots Q pc lv st idx cnt k hk X hl q1 hR d hw hi hA hc kk
  subst hl
  refine vv_lam11 X (mX3_lambda_blockBest_1 (kL K) D u P T o g S pw a n k hC hV (by omega) ha hn) (hI H hi).1 (recv X (hI H hi).2.2.2.ob CL_X3) q1 ⟨hR.1, by have := hR.2; omega⟩ d rfl hw (hI H hi).2 hA hc (fun v H H1 h => ⟨_, h.1⟩) (fun v_ H1 hq hz_ hk_ => ?_)
  obtain ⟨rfl, rfl⟩ := hq
  exact kk H1 hi hz_ hk_
theorem nX3_blockBest : notMH yX3_blockBest 2 := by decide +kernel
set_option maxHeartbeats 800000 in
theorem mX3_blockBest (l : Launch) (D : DD) (u : Nat → Nat) (P T : Nat → Int32) (o : Nat) (g : Nat → Nat) (S : Nat → Int32) (pw : Option Nat) (a n : Nat) (hC : VC P) (hV : VS S) (hA : AP g u P) (ha : a < 1000) (hn : 1 ≤ n ∧ n < 1000) : Ct l yX3_blockBest cX3_blockBest 3 (some .int) { frames := 10, cells := 1, slots := 3, locals := 3100 } D [.ref (g 0), .int (nI a), .int (nI n)] (fun H => KH D H ∧ UR D u P T o H ∧ SR D g u P S pw H) (fun _ => False) (fun r H H1 => r = some (.int (nI (bsN (fun c => blk P S c a n) (nC P))))) := by
  refine Ct.of (by decide +kernel) (Nat.le_of_ble_eq_true rfl) (fun K Qf hkl X hM hQ => ?_)
  subst hkl
  obtain ⟨hK, hU, hR⟩ := hM
  have hz : (kS K).heap.size ≤ (kS K).heap.size := Nat.le_refl _
  have hP := hC.v
  have l0 := hP.l0
  have l1 := hP.l1
  have l2 := hP.l2
  have l4 := hP.l4
  have l5 := hP.l5
  have l8 := hP.l8
  have l9 := hP.l9
  have l10 := hP.l10
  have l71 := hP.l71
  have l76 := hP.l76
  have l77 := hP.l77
  have hx1 := hC.x1
  have hy1 := hC.y1
  have ht1 := hC.t1
  have he1 := hC.e1
  have hm1 := hC.m1
  have hcc : nC P ≤ 144 := Nat.mul_le_mul l9 l10
  have hnc : 0 < nC P := Nat.mul_pos hx1 hy1
  refine vv_sub (lv' := [(0, .ref (g 0)), (1, .int (nI a)), (2, .int (nI n))]) [0, 1, 2] rfl ?_
  refine vv_aload_n X dX3_blockBest_0 rfl 0 rfl ?_
  refine vv_getf (C := RX3) (T := TX3) (N := 8) (ref := "AcousticCamera$State") X hR.ob in_X3 CL_X3 0 (by decide) q1687 rfl rfl dX3_blockBest_1 ?_
  refine vv_callVp X (mX5_cells (kL K) D u P T o  ) q1960 q1216 q1217 q152 q1218 nX5_cells ⟨(Nat.le_of_ble_eq_true rfl), (Nat.le_of_ble_eq_true rfl)⟩ dX3_blockBest_4 rfl (Nat.le_of_ble_eq_true rfl) (recv X hU.ob CL_X5) hU ⟨(Nat.le_of_ble_eq_true rfl), (Nat.le_of_ble_eq_true rfl)⟩ ?_
  refine vv_aload_n X dX3_blockBest_7 rfl 0 rfl ?_
  refine vv_iload_n X dX3_blockBest_8 rfl 1 rfl ?_
  refine vv_iload_n X dX3_blockBest_9 rfl 2 rfl ?_
  refine vv_indyA11 X rfl dX3_blockBest_10 rfl (Nat.le_of_ble_eq_true rfl) (Nat.le_of_ble_eq_true rfl) (Nat.le_of_ble_eq_true rfl) (fun a_1 H eq_2 hx hl => ?_)
  have ng_3 : ∀ k, UK (nM P) k → a_1 ≠ g k := fun k hk e => by have h9 := hR.ltA k hk; rw [eq_2] at e; omega
  have ns_4 : ∀ j, SJ P j → a_1 ≠ g j := fun k hk e => by have h9 := hR.ltS k hk; rw [eq_2] at e; omega
  have nu_5 : ∀ j, VK P j → a_1 ≠ u j := fun k hk e => by have h9 := hU.ltB k hk; rw [eq_2] at e; omega
  have ge_6 : (kS K).heap.size ≤ a_1 := by rw [eq_2]; exact hz
  have kn_7 : KN D a_1 := KN.new hK (Nat.le_of_eq eq_2.symm)
  replace hU := hU.ex hx
  replace hR := hR.ex hx
  replace hK := hK.ex hx
  replace hz : (kS K).heap.size ≤ H.size := by have := hx.1; omega
  have hL_8 : LO D H a_1 11 [.ref (g 0), .int (nI a), .int (nI n)] := hl
  clear hl hx
  refine vv_callSN X (mX1_best_2 (kL K) D a_1 (nC P) { frames := 7, cells := 0, slots := 0, locals := 150 } (fun H => LO D H a_1 11 [.ref (g 0), .int (nI a), .int (nI n)] ∧ KH D H ∧ UR D u P T o H ∧ SR D g u P S pw H) (fun _ => False) (fun c => blk P S c a n) (by omega) (by omega) (sco11 hC hV ha hn (fun H h => h) (Nat.le_refl _))) q2000 q2001 q137 q2002 nX1_best_2 ⟨(Nat.le_of_ble_eq_true rfl), (Nat.le_of_ble_eq_true rfl)⟩ dX3_blockBest_15 rfl (Nat.le_of_ble_eq_true rfl) ⟨hL_8, hK, hU, hR⟩ (fun _ z => z.elim) ⟨(Nat.le_of_ble_eq_true rfl), (Nat.le_of_ble_eq_true rfl)⟩ (fun v_ H hq hz_ hk => ?_)
  obtain ⟨rfl, -⟩ := hq
  replace hL_8 := hL_8.kept (hk _ hL_8.lt (fun z => z))
  replace hK := hK.to hk (fun _ z => z.elim)
  replace hU := hU.kept (fun q hl _ => hk q hl (fun z => z))
  replace hR := hR.kept (fun q hl _ => hk q hl (fun z => z)) (fun q hl _ => hk q hl (fun z => z))
  replace hz := Nat.le_trans hz hz_
  clear hk hz_
  exact vv_iret X hQ dX3_blockBest_18 (Nat.le_of_ble_eq_true rfl) (Nat.le_of_ble_eq_true rfl) (rfl)
