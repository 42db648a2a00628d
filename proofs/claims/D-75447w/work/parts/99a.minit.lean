/-! the model's constructor: printed by gen/s43.py -/
set_option maxRecDepth 100000
def x00 : Nat → Int32 := fun k => if k = 6 ∨ k = 21 then -1 else nI 0
def gi (k : Nat) : Nat := if k = 0 then 0 else if k = 1 then 1 else if k < 19 then k - 8 else if k < 28 then k - 12 else 16
def gL (l : List Nat) : Nat → Nat := fun k => l.getD (gi k) 0
def inc : List Nat → Prop
  | [] => True
  | [_] => True
  | a :: b :: l => a < b ∧ inc (b :: l)
theorem inc_1 : ∀ (l : List Nat), inc l → ∀ i, i + 1 < l.length → l.getD i 0 < l.getD (i + 1) 0
  | [], _, i, hi => absurd hi (Nat.not_lt_zero _)
  | [_], _, i, hi => absurd hi (by simp)
  | a :: b :: l, h, 0, _ => h.1
  | a :: b :: l, h, i + 1, hi => inc_1 (b :: l) h.2 i (by simpa using hi)
theorem inc_lt {l : List Nat} (h : inc l) : ∀ i j, i < j → j < l.length → l.getD i 0 < l.getD j 0 := by
  intro i j hij
  obtain ⟨d, rfl⟩ : ∃ d, j = i + 1 + d := ⟨j - i - 1, by omega⟩
  clear hij
  induction d with
  | zero => intro hj; exact inc_1 l h i hj
  | succ d ih => intro hj; exact Nat.lt_trans (ih (by omega)) (inc_1 l h (i + 1 + d) hj)
theorem gL_ap {l : List Nat} (h : inc l) (hn : l.length = 17) : MG (gL l) := by
  intro i hi j hj e
  have a := (show ∀ i ∈ MKs, gi i < 17 by decide) i hi
  have b := (show ∀ i ∈ MKs, gi i < 17 by decide) j hj
  apply (show ∀ i ∈ MKs, ∀ j ∈ MKs, gi i = gi j → i = j by decide) i hi j hj
  unfold gL at e
  rcases Nat.lt_trichotomy (gi i) (gi j) with q | q | q
  · have := inc_lt h _ _ q (by omega); omega
  · exact q
  · have := inc_lt h _ _ q (by omega); omega
theorem gL_ge {l : List Nat} (h : inc l) (hn : l.length = 17) {n : Nat} (h1 : n ≤ l.getD 1 0) : ∀ k ∈ MKs, k = 0 ∨ n ≤ gL l k := by
  intro k hk
  have a := (show ∀ i ∈ MKs, gi i < 17 ∧ (gi i = 0 → i = 0) by decide) k hk
  rcases (show gi k = 0 ∨ gi k = 1 ∨ 1 < gi k by omega) with q | q | q
  · exact Or.inl (a.2 q)
  · exact Or.inr (by unfold gL; rw [q]; exact h1)
  · exact Or.inr (by unfold gL; have := inc_lt h _ _ q (by omega); omega)
theorem MI_all {C : Nat × Nat → Prop} (h1 : C (1, 1000)) (h2 : C (10, 131)) (h3 : C (11, 131)) (h4 : C (12, 2455)) (h5 : C (13, 2455)) (h6 : C (14, 2455)) (h7 : C (15, 14730)) (h8 : C (16, 4910)) (h9 : C (17, 1728)) (h10 : C (23, 200)) (h11 : C (24, 12)) (h12 : C (27, 160)) (h13 : C (29, 200)) : ∀ q ∈ MI, C q := by
  intro q hq
  unfold MI at hq
  simp only [List.mem_cons, List.not_mem_nil, or_false] at hq
  rcases hq with rfl | rfl | rfl | rfl | rfl | rfl | rfl | rfl | rfl | rfl | rfl | rfl | rfl <;> assumption
theorem nX2_init : notMH yX2_init 0 := by decide +kernel
set_option maxHeartbeats 800000 in
theorem mX2_init (l : Launch) (D : DD) (a : Nat)  : Ct l yX2_init cX2_init 1 none { frames := 1, cells := 16, slots := 37913, locals := 21 } D [.ref a] (fun H => KH D H ∧ oB D H a 1 [.int (nI 0), .null, .int (nI 0), .int (nI 0), .int (nI 0), .int (nI 0), .int (nI 0), .int (nI 0), .int (nI 0), .int (nI 0), .null, .null, .null, .null, .null, .null, .null, .null, .null, .int (nI 0), .int (nI 0), .int (nI 0), .int (nI 0), .null, .null, .null, .null, .null, .int (nI 0), .null]) (fun q => q = a) (fun r H H1 => r = none ∧ ∃ g, g 0 = a ∧ MG g ∧ MR D g x00 (fun _ _ => 0) (fun _ _ => 0) H1 ∧ ∀ k ∈ MKs, k = 0 ∨ H.size ≤ g k) := by
  refine Ct.of (by decide +kernel) (Nat.le_of_ble_eq_true rfl) (fun K Qf hkl X hM hQ => ?_)
  subst hkl
  obtain ⟨hK, hO⟩ := hM
  have hz : (kS K).heap.size ≤ (kS K).heap.size := Nat.le_refl _
  refine vv_sub (lv' := [(0, .ref a)]) [0] rfl ?_
  refine vv_aload_n X dX2_init_0 rfl 0 rfl ?_
  refine vv_obj X q2910 q197 q198 (Nat.le_of_ble_eq_true rfl) (Nat.le_of_ble_eq_true rfl) dX2_init_1 ?_
  refine vv_aload_n X dX2_init_4 rfl 0 rfl ?_
  refine vv_sipush (v := nI 1000) X dX2_init_5 (by decide) ?_
  refine vv_newiA (M := 1000) X (by omega) (by decide) (Nat.le_of_ble_eq_true rfl) (Nat.le_of_ble_eq_true rfl) rfl dX2_init_8 (fun a_1 H eq_2 hx ho => ?_)
  have lt_3 : a < a_1 := by have h9 := hO.lt; first | omega | exact Nat.lt_of_lt_of_eq h9 (Eq.symm (by assumption))
  have ne_4 : a ≠ a_1 := Nat.ne_of_lt (eq_2.symm ▸ hO.lt)
  have ge_5 : (kS K).heap.size ≤ a_1 := by rw [eq_2]; exact hz
  have kn_6 : KN D a_1 := KN.new hK (Nat.le_of_eq eq_2.symm)
  replace hO := hO.kept (hx.2 _ hO.lt)
  replace hK := hK.ex hx
  replace hz : (kS K).heap.size ≤ H.size := by have := hx.1; omega
  have hR_7 : iA D H a_1 1000 (fun _ => 0) := ho
  clear ho hx
  refine vv_putfF (C := RX2) (T := TX2) (N := 30) (ref := "AcousticCameraModel") X hO in_X2 CL_X2 tyX2 tyX2_ok nmX2 1 (by decide) q2912 rfl rfl rfl rfl rfl rfl (Nat.le_of_ble_eq_true rfl) (Or.inl rfl) dX2_init_10 (fun H hc ho => ?_)
  have k_0 := hR_7.kept (hc.2 _ (Ne.symm ne_4))
  replace hK := hK.ch hc (X.ko hK hO CL_X2 (by decide) (by decide))
  clear hR_7
  have hR_7 := k_0
  clear k_0
  replace hz := Nat.le_trans hz (Nat.le_of_eq hc.1.symm)
  clear hO
  have hO : oB D H a 1 [.int (nI 0), .ref a_1, .int (nI 0), .int (nI 0), .int (nI 0), .int (nI 0), .int (nI 0), .int (nI 0), .int (nI 0), .int (nI 0), .null, .null, .null, .null, .null, .null, .null, .null, .null, .int (nI 0), .int (nI 0), .int (nI 0), .int (nI 0), .null, .null, .null, .null, .null, .int (nI 0), .null] := ho
  clear hc ho
  refine vv_aload_n X dX2_init_13 rfl 0 rfl ?_
  refine vv_iconst (v := -1) X dX2_init_14 (by decide) ?_
  refine vv_putf (C := RX2) (T := TX2) (N := 30) (ref := "AcousticCameraModel") X hO in_X2 CL_X2 tyX2 tyX2_ok nmX2 6 (by decide) q2917 rfl rfl rfl rfl (Nat.le_of_ble_eq_true rfl) (Or.inl rfl) dX2_init_15 (fun H hc ho => ?_)
  have k_0 := hR_7.kept (hc.2 _ (Ne.symm ne_4))
  replace hK := hK.ch hc (X.ko hK hO CL_X2 (by decide) (by decide))
  clear hR_7
  have hR_7 := k_0
  clear k_0
  replace hz := Nat.le_trans hz (Nat.le_of_eq hc.1.symm)
  clear hO
  have hO : oB D H a 1 [.int (nI 0), .ref a_1, .int (nI 0), .int (nI 0), .int (nI 0), .int (nI 0), .int ((-1)), .int (nI 0), .int (nI 0), .int (nI 0), .null, .null, .null, .null, .null, .null, .null, .null, .null, .int (nI 0), .int (nI 0), .int (nI 0), .int (nI 0), .null, .null, .null, .null, .null, .int (nI 0), .null] := ho
  clear hc ho
  refine vv_aload_n X dX2_init_18 rfl 0 rfl ?_
  refine vv_sipush (v := nI 131) X dX2_init_19 (by decide) ?_
  refine vv_newiA (M := 131) X (by omega) (by decide) (Nat.le_of_ble_eq_true rfl) (Nat.le_of_ble_eq_true rfl) rfl dX2_init_22 (fun a_8 H eq_9 hx ho => ?_)
  have lt_10 : a < a_8 := by have h9 := hO.lt; first | omega | exact Nat.lt_of_lt_of_eq h9 (Eq.symm (by assumption))
  have lt_11 : a_1 < a_8 := by have h9 := hR_7.lt; first | omega | exact Nat.lt_of_lt_of_eq h9 (Eq.symm (by assumption))
  have ne_12 : a ≠ a_8 := Nat.ne_of_lt (eq_9.symm ▸ hO.lt)
  have ne_13 : a_1 ≠ a_8 := Nat.ne_of_lt (eq_9.symm ▸ hR_7.lt)
  have ge_14 : (kS K).heap.size ≤ a_8 := by rw [eq_9]; exact hz
  have kn_15 : KN D a_8 := KN.new hK (Nat.le_of_eq eq_9.symm)
  replace hO := hO.kept (hx.2 _ hO.lt)
  replace hR_7 := hR_7.kept (hx.2 _ hR_7.lt)
  replace hK := hK.ex hx
  replace hz : (kS K).heap.size ≤ H.size := by have := hx.1; omega
  have hR_16 : iA D H a_8 131 (fun _ => 0) := ho
  clear ho hx
  refine vv_putfF (C := RX2) (T := TX2) (N := 30) (ref := "AcousticCameraModel") X hO in_X2 CL_X2 tyX2 tyX2_ok nmX2 10 (by decide) q2921 rfl rfl rfl rfl rfl rfl (Nat.le_of_ble_eq_true rfl) (Or.inl rfl) dX2_init_24 (fun H hc ho => ?_)
  have k_0 := hR_7.kept (hc.2 _ (Ne.symm ne_4))
  have k_1 := hR_16.kept (hc.2 _ (Ne.symm ne_12))
  replace hK := hK.ch hc (X.ko hK hO CL_X2 (by decide) (by decide))
  clear hR_7
  have hR_7 := k_0
  clear k_0
  clear hR_16
  have hR_16 := k_1
  clear k_1
  replace hz := Nat.le_trans hz (Nat.le_of_eq hc.1.symm)
  clear hO
  have hO : oB D H a 1 [.int (nI 0), .ref a_1, .int (nI 0), .int (nI 0), .int (nI 0), .int (nI 0), .int ((-1)), .int (nI 0), .int (nI 0), .int (nI 0), .ref a_8, .null, .null, .null, .null, .null, .null, .null, .null, .int (nI 0), .int (nI 0), .int (nI 0), .int (nI 0), .null, .null, .null, .null, .null, .int (nI 0), .null] := ho
  clear hc ho
  refine vv_aload_n X dX2_init_27 rfl 0 rfl ?_
  refine vv_sipush (v := nI 131) X dX2_init_28 (by decide) ?_
  refine vv_newiA (M := 131) X (by omega) (by decide) (Nat.le_of_ble_eq_true rfl) (Nat.le_of_ble_eq_true rfl) rfl dX2_init_31 (fun a_17 H eq_18 hx ho => ?_)
  have lt_19 : a < a_17 := by have h9 := hO.lt; first | omega | exact Nat.lt_of_lt_of_eq h9 (Eq.symm (by assumption))
  have lt_20 : a_1 < a_17 := by have h9 := hR_7.lt; first | omega | exact Nat.lt_of_lt_of_eq h9 (Eq.symm (by assumption))
  have lt_21 : a_8 < a_17 := by have h9 := hR_16.lt; first | omega | exact Nat.lt_of_lt_of_eq h9 (Eq.symm (by assumption))
  have ne_22 : a ≠ a_17 := Nat.ne_of_lt (eq_18.symm ▸ hO.lt)
  have ne_23 : a_1 ≠ a_17 := Nat.ne_of_lt (eq_18.symm ▸ hR_7.lt)
  have ne_24 : a_8 ≠ a_17 := Nat.ne_of_lt (eq_18.symm ▸ hR_16.lt)
  have ge_25 : (kS K).heap.size ≤ a_17 := by rw [eq_18]; exact hz
  have kn_26 : KN D a_17 := KN.new hK (Nat.le_of_eq eq_18.symm)
  replace hO := hO.kept (hx.2 _ hO.lt)
  replace hR_7 := hR_7.kept (hx.2 _ hR_7.lt)
  replace hR_16 := hR_16.kept (hx.2 _ hR_16.lt)
  replace hK := hK.ex hx
  replace hz : (kS K).heap.size ≤ H.size := by have := hx.1; omega
  have hR_27 : iA D H a_17 131 (fun _ => 0) := ho
  clear ho hx
  refine vv_putfF (C := RX2) (T := TX2) (N := 30) (ref := "AcousticCameraModel") X hO in_X2 CL_X2 tyX2 tyX2_ok nmX2 11 (by decide) q2922 rfl rfl rfl rfl rfl rfl (Nat.le_of_ble_eq_true rfl) (Or.inl rfl) dX2_init_33 (fun H hc ho => ?_)
  have k_0 := hR_7.kept (hc.2 _ (Ne.symm ne_4))
  have k_1 := hR_16.kept (hc.2 _ (Ne.symm ne_12))
  have k_2 := hR_27.kept (hc.2 _ (Ne.symm ne_22))
  replace hK := hK.ch hc (X.ko hK hO CL_X2 (by decide) (by decide))
  clear hR_7
  have hR_7 := k_0
  clear k_0
  clear hR_16
  have hR_16 := k_1
  clear k_1
  clear hR_27
  have hR_27 := k_2
  clear k_2
  replace hz := Nat.le_trans hz (Nat.le_of_eq hc.1.symm)
  clear hO
  have hO : oB D H a 1 [.int (nI 0), .ref a_1, .int (nI 0), .int (nI 0), .int (nI 0), .int (nI 0), .int ((-1)), .int (nI 0), .int (nI 0), .int (nI 0), .ref a_8, .ref a_17, .null, .null, .null, .null, .null, .null, .null, .int (nI 0), .int (nI 0), .int (nI 0), .int (nI 0), .null, .null, .null, .null, .null, .int (nI 0), .null] := ho
  clear hc ho
  refine vv_aload_n X dX2_init_36 rfl 0 rfl ?_
  refine vv_sipush (v := nI 2455) X dX2_init_37 (by decide) ?_
  refine vv_newiA (M := 2455) X (by omega) (by decide) (Nat.le_of_ble_eq_true rfl) (Nat.le_of_ble_eq_true rfl) rfl dX2_init_40 (fun a_28 H eq_29 hx ho => ?_)
  have lt_30 : a < a_28 := by have h9 := hO.lt; first | omega | exact Nat.lt_of_lt_of_eq h9 (Eq.symm (by assumption))
  have lt_31 : a_1 < a_28 := by have h9 := hR_7.lt; first | omega | exact Nat.lt_of_lt_of_eq h9 (Eq.symm (by assumption))
  have lt_32 : a_8 < a_28 := by have h9 := hR_16.lt; first | omega | exact Nat.lt_of_lt_of_eq h9 (Eq.symm (by assumption))
  have lt_33 : a_17 < a_28 := by have h9 := hR_27.lt; first | omega | exact Nat.lt_of_lt_of_eq h9 (Eq.symm (by assumption))
  have ne_34 : a ≠ a_28 := Nat.ne_of_lt (eq_29.symm ▸ hO.lt)
  have ne_35 : a_1 ≠ a_28 := Nat.ne_of_lt (eq_29.symm ▸ hR_7.lt)
  have ne_36 : a_8 ≠ a_28 := Nat.ne_of_lt (eq_29.symm ▸ hR_16.lt)
  have ne_37 : a_17 ≠ a_28 := Nat.ne_of_lt (eq_29.symm ▸ hR_27.lt)
  have ge_38 : (kS K).heap.size ≤ a_28 := by rw [eq_29]; exact hz
  have kn_39 : KN D a_28 := KN.new hK (Nat.le_of_eq eq_29.symm)
  replace hO := hO.kept (hx.2 _ hO.lt)
  replace hR_7 := hR_7.kept (hx.2 _ hR_7.lt)
  replace hR_16 := hR_16.kept (hx.2 _ hR_16.lt)
  replace hR_27 := hR_27.kept (hx.2 _ hR_27.lt)
  replace hK := hK.ex hx
  replace hz : (kS K).heap.size ≤ H.size := by have := hx.1; omega
  have hR_40 : iA D H a_28 2455 (fun _ => 0) := ho
  clear ho hx
  refine vv_putfF (C := RX2) (T := TX2) (N := 30) (ref := "AcousticCameraModel") X hO in_X2 CL_X2 tyX2 tyX2_ok nmX2 12 (by decide) q2923 rfl rfl rfl rfl rfl rfl (Nat.le_of_ble_eq_true rfl) (Or.inl rfl) dX2_init_42 (fun H hc ho => ?_)
  have k_0 := hR_7.kept (hc.2 _ (Ne.symm ne_4))
  have k_1 := hR_16.kept (hc.2 _ (Ne.symm ne_12))
  have k_2 := hR_27.kept (hc.2 _ (Ne.symm ne_22))
  have k_3 := hR_40.kept (hc.2 _ (Ne.symm ne_34))
  replace hK := hK.ch hc (X.ko hK hO CL_X2 (by decide) (by decide))
  clear hR_7
  have hR_7 := k_0
  clear k_0
  clear hR_16
  have hR_16 := k_1
  clear k_1
  clear hR_27
  have hR_27 := k_2
  clear k_2
  clear hR_40
  have hR_40 := k_3
  clear k_3
  replace hz := Nat.le_trans hz (Nat.le_of_eq hc.1.symm)
  clear hO
  have hO : oB D H a 1 [.int (nI 0), .ref a_1, .int (nI 0), .int (nI 0), .int (nI 0), .int (nI 0), .int ((-1)), .int (nI 0), .int (nI 0), .int (nI 0), .ref a_8, .ref a_17, .ref a_28, .null, .null, .null, .null, .null, .null, .int (nI 0), .int (nI 0), .int (nI 0), .int (nI 0), .null, .null, .null, .null, .null, .int (nI 0), .null] := ho
  clear hc ho
  refine vv_aload_n X dX2_init_45 rfl 0 rfl ?_
  refine vv_sipush (v := nI 2455) X dX2_init_46 (by decide) ?_
  refine vv_newiA (M := 2455) X (by omega) (by decide) (Nat.le_of_ble_eq_true rfl) (Nat.le_of_ble_eq_true rfl) rfl dX2_init_49 (fun a_41 H eq_42 hx ho => ?_)
  have lt_43 : a < a_41 := by have h9 := hO.lt; first | omega | exact Nat.lt_of_lt_of_eq h9 (Eq.symm (by assumption))
  have lt_44 : a_1 < a_41 := by have h9 := hR_7.lt; first | omega | exact Nat.lt_of_lt_of_eq h9 (Eq.symm (by assumption))
  have lt_45 : a_8 < a_41 := by have h9 := hR_16.lt; first | omega | exact Nat.lt_of_lt_of_eq h9 (Eq.symm (by assumption))
  have lt_46 : a_17 < a_41 := by have h9 := hR_27.lt; first | omega | exact Nat.lt_of_lt_of_eq h9 (Eq.symm (by assumption))
  have lt_47 : a_28 < a_41 := by have h9 := hR_40.lt; first | omega | exact Nat.lt_of_lt_of_eq h9 (Eq.symm (by assumption))
  have ne_48 : a ≠ a_41 := Nat.ne_of_lt (eq_42.symm ▸ hO.lt)
  have ne_49 : a_1 ≠ a_41 := Nat.ne_of_lt (eq_42.symm ▸ hR_7.lt)
  have ne_50 : a_8 ≠ a_41 := Nat.ne_of_lt (eq_42.symm ▸ hR_16.lt)
  have ne_51 : a_17 ≠ a_41 := Nat.ne_of_lt (eq_42.symm ▸ hR_27.lt)
  have ne_52 : a_28 ≠ a_41 := Nat.ne_of_lt (eq_42.symm ▸ hR_40.lt)
  have ge_53 : (kS K).heap.size ≤ a_41 := by rw [eq_42]; exact hz
  have kn_54 : KN D a_41 := KN.new hK (Nat.le_of_eq eq_42.symm)
  replace hO := hO.kept (hx.2 _ hO.lt)
  replace hR_7 := hR_7.kept (hx.2 _ hR_7.lt)
  replace hR_16 := hR_16.kept (hx.2 _ hR_16.lt)
  replace hR_27 := hR_27.kept (hx.2 _ hR_27.lt)
  replace hR_40 := hR_40.kept (hx.2 _ hR_40.lt)
  replace hK := hK.ex hx
  replace hz : (kS K).heap.size ≤ H.size := by have := hx.1; omega
  have hR_55 : iA D H a_41 2455 (fun _ => 0) := ho
  clear ho hx
  refine vv_putfF (C := RX2) (T := TX2) (N := 30) (ref := "AcousticCameraModel") X hO in_X2 CL_X2 tyX2 tyX2_ok nmX2 13 (by decide) q2924 rfl rfl rfl rfl rfl rfl (Nat.le_of_ble_eq_true rfl) (Or.inl rfl) dX2_init_51 (fun H hc ho => ?_)
  have k_0 := hR_7.kept (hc.2 _ (Ne.symm ne_4))
  have k_1 := hR_16.kept (hc.2 _ (Ne.symm ne_12))
  have k_2 := hR_27.kept (hc.2 _ (Ne.symm ne_22))
  have k_3 := hR_40.kept (hc.2 _ (Ne.symm ne_34))
  have k_4 := hR_55.kept (hc.2 _ (Ne.symm ne_48))
  replace hK := hK.ch hc (X.ko hK hO CL_X2 (by decide) (by decide))
  clear hR_7
  have hR_7 := k_0
  clear k_0
  clear hR_16
  have hR_16 := k_1
  clear k_1
  clear hR_27
  have hR_27 := k_2
  clear k_2
  clear hR_40
  have hR_40 := k_3
  clear k_3
  clear hR_55
  have hR_55 := k_4
  clear k_4
  replace hz := Nat.le_trans hz (Nat.le_of_eq hc.1.symm)
  clear hO
  have hO : oB D H a 1 [.int (nI 0), .ref a_1, .int (nI 0), .int (nI 0), .int (nI 0), .int (nI 0), .int ((-1)), .int (nI 0), .int (nI 0), .int (nI 0), .ref a_8, .ref a_17, .ref a_28, .ref a_41, .null, .null, .null, .null, .null, .int (nI 0), .int (nI 0), .int (nI 0), .int (nI 0), .null, .null, .null, .null, .null, .int (nI 0), .null] := ho
  clear hc ho
  refine vv_aload_n X dX2_init_54 rfl 0 rfl ?_
  refine vv_sipush (v := nI 2455) X dX2_init_55 (by decide) ?_
  refine vv_newiA (M := 2455) X (by omega) (by decide) (Nat.le_of_ble_eq_true rfl) (Nat.le_of_ble_eq_true rfl) rfl dX2_init_58 (fun a_56 H eq_57 hx ho => ?_)
  have lt_58 : a < a_56 := by have h9 := hO.lt; first | omega | exact Nat.lt_of_lt_of_eq h9 (Eq.symm (by assumption))
  have lt_59 : a_1 < a_56 := by have h9 := hR_7.lt; first | omega | exact Nat.lt_of_lt_of_eq h9 (Eq.symm (by assumption))
  have lt_60 : a_8 < a_56 := by have h9 := hR_16.lt; first | omega | exact Nat.lt_of_lt_of_eq h9 (Eq.symm (by assumption))
  have lt_61 : a_17 < a_56 := by have h9 := hR_27.lt; first | omega | exact Nat.lt_of_lt_of_eq h9 (Eq.symm (by assumption))
  have lt_62 : a_28 < a_56 := by have h9 := hR_40.lt; first | omega | exact Nat.lt_of_lt_of_eq h9 (Eq.symm (by assumption))
  have lt_63 : a_41 < a_56 := by have h9 := hR_55.lt; first | omega | exact Nat.lt_of_lt_of_eq h9 (Eq.symm (by assumption))
  have ne_64 : a ≠ a_56 := Nat.ne_of_lt (eq_57.symm ▸ hO.lt)
  have ne_65 : a_1 ≠ a_56 := Nat.ne_of_lt (eq_57.symm ▸ hR_7.lt)
  have ne_66 : a_8 ≠ a_56 := Nat.ne_of_lt (eq_57.symm ▸ hR_16.lt)
  have ne_67 : a_17 ≠ a_56 := Nat.ne_of_lt (eq_57.symm ▸ hR_27.lt)
  have ne_68 : a_28 ≠ a_56 := Nat.ne_of_lt (eq_57.symm ▸ hR_40.lt)
  have ne_69 : a_41 ≠ a_56 := Nat.ne_of_lt (eq_57.symm ▸ hR_55.lt)
  have ge_70 : (kS K).heap.size ≤ a_56 := by rw [eq_57]; exact hz
  have kn_71 : KN D a_56 := KN.new hK (Nat.le_of_eq eq_57.symm)
  replace hO := hO.kept (hx.2 _ hO.lt)
  replace hR_7 := hR_7.kept (hx.2 _ hR_7.lt)
  replace hR_16 := hR_16.kept (hx.2 _ hR_16.lt)
  replace hR_27 := hR_27.kept (hx.2 _ hR_27.lt)
  replace hR_40 := hR_40.kept (hx.2 _ hR_40.lt)
  replace hR_55 := hR_55.kept (hx.2 _ hR_55.lt)
  replace hK := hK.ex hx
  replace hz : (kS K).heap.size ≤ H.size := by have := hx.1; omega
  have hR_72 : iA D H a_56 2455 (fun _ => 0) := ho
  clear ho hx
  refine vv_putfF (C := RX2) (T := TX2) (N := 30) (ref := "AcousticCameraModel") X hO in_X2 CL_X2 tyX2 tyX2_ok nmX2 14 (by decide) q2925 rfl rfl rfl rfl rfl rfl (Nat.le_of_ble_eq_true rfl) (Or.inl rfl) dX2_init_60 (fun H hc ho => ?_)
  have k_0 := hR_7.kept (hc.2 _ (Ne.symm ne_4))
  have k_1 := hR_16.kept (hc.2 _ (Ne.symm ne_12))
  have k_2 := hR_27.kept (hc.2 _ (Ne.symm ne_22))
  have k_3 := hR_40.kept (hc.2 _ (Ne.symm ne_34))
  have k_4 := hR_55.kept (hc.2 _ (Ne.symm ne_48))
  have k_5 := hR_72.kept (hc.2 _ (Ne.symm ne_64))
  replace hK := hK.ch hc (X.ko hK hO CL_X2 (by decide) (by decide))
  clear hR_7
  have hR_7 := k_0
  clear k_0
  clear hR_16
  have hR_16 := k_1
  clear k_1
  clear hR_27
  have hR_27 := k_2
  clear k_2
  clear hR_40
  have hR_40 := k_3
  clear k_3
  clear hR_55
  have hR_55 := k_4
  clear k_4
  clear hR_72
  have hR_72 := k_5
  clear k_5
  replace hz := Nat.le_trans hz (Nat.le_of_eq hc.1.symm)
  clear hO
  have hO : oB D H a 1 [.int (nI 0), .ref a_1, .int (nI 0), .int (nI 0), .int (nI 0), .int (nI 0), .int ((-1)), .int (nI 0), .int (nI 0), .int (nI 0), .ref a_8, .ref a_17, .ref a_28, .ref a_41, .ref a_56, .null, .null, .null, .null, .int (nI 0), .int (nI 0), .int (nI 0), .int (nI 0), .null, .null, .null, .null, .null, .int (nI 0), .null] := ho
  clear hc ho
  refine vv_aload_n X dX2_init_63 rfl 0 rfl ?_
  refine vv_sipush (v := nI 14730) X dX2_init_64 (by decide) ?_
  refine vv_newiA (M := 14730) X (by omega) (by decide) (Nat.le_of_ble_eq_true rfl) (Nat.le_of_ble_eq_true rfl) rfl dX2_init_67 (fun a_73 H eq_74 hx ho => ?_)
  have lt_75 : a < a_73 := by have h9 := hO.lt; first | omega | exact Nat.lt_of_lt_of_eq h9 (Eq.symm (by assumption))
  have lt_76 : a_1 < a_73 := by have h9 := hR_7.lt; first | omega | exact Nat.lt_of_lt_of_eq h9 (Eq.symm (by assumption))
  have lt_77 : a_8 < a_73 := by have h9 := hR_16.lt; first | omega | exact Nat.lt_of_lt_of_eq h9 (Eq.symm (by assumption))
  have lt_78 : a_17 < a_73 := by have h9 := hR_27.lt; first | omega | exact Nat.lt_of_lt_of_eq h9 (Eq.symm (by assumption))
  have lt_79 : a_28 < a_73 := by have h9 := hR_40.lt; first | omega | exact Nat.lt_of_lt_of_eq h9 (Eq.symm (by assumption))
  have lt_80 : a_41 < a_73 := by have h9 := hR_55.lt; first | omega | exact Nat.lt_of_lt_of_eq h9 (Eq.symm (by assumption))
  have lt_81 : a_56 < a_73 := by have h9 := hR_72.lt; first | omega | exact Nat.lt_of_lt_of_eq h9 (Eq.symm (by assumption))
  have ne_82 : a ≠ a_73 := Nat.ne_of_lt (eq_74.symm ▸ hO.lt)
  have ne_83 : a_1 ≠ a_73 := Nat.ne_of_lt (eq_74.symm ▸ hR_7.lt)
  have ne_84 : a_8 ≠ a_73 := Nat.ne_of_lt (eq_74.symm ▸ hR_16.lt)
  have ne_85 : a_17 ≠ a_73 := Nat.ne_of_lt (eq_74.symm ▸ hR_27.lt)
  have ne_86 : a_28 ≠ a_73 := Nat.ne_of_lt (eq_74.symm ▸ hR_40.lt)
  have ne_87 : a_41 ≠ a_73 := Nat.ne_of_lt (eq_74.symm ▸ hR_55.lt)
  have ne_88 : a_56 ≠ a_73 := Nat.ne_of_lt (eq_74.symm ▸ hR_72.lt)
  have ge_89 : (kS K).heap.size ≤ a_73 := by rw [eq_74]; exact hz
  have kn_90 : KN D a_73 := KN.new hK (Nat.le_of_eq eq_74.symm)
  replace hO := hO.kept (hx.2 _ hO.lt)
  replace hR_7 := hR_7.kept (hx.2 _ hR_7.lt)
  replace hR_16 := hR_16.kept (hx.2 _ hR_16.lt)
  replace hR_27 := hR_27.kept (hx.2 _ hR_27.lt)
  replace hR_40 := hR_40.kept (hx.2 _ hR_40.lt)
  replace hR_55 := hR_55.kept (hx.2 _ hR_55.lt)
  replace hR_72 := hR_72.kept (hx.2 _ hR_72.lt)
  replace hK := hK.ex hx
  replace hz : (kS K).heap.size ≤ H.size := by have := hx.1; omega
  have hR_91 : iA D H a_73 14730 (fun _ => 0) := ho
  clear ho hx
  refine vv_putfF (C := RX2) (T := TX2) (N := 30) (ref := "AcousticCameraModel") X hO in_X2 CL_X2 tyX2 tyX2_ok nmX2 15 (by decide) q2926 rfl rfl rfl rfl rfl rfl (Nat.le_of_ble_eq_true rfl) (Or.inl rfl) dX2_init_69 (fun H hc ho => ?_)
  have k_0 := hR_7.kept (hc.2 _ (Ne.symm ne_4))
  have k_1 := hR_16.kept (hc.2 _ (Ne.symm ne_12))
  have k_2 := hR_27.kept (hc.2 _ (Ne.symm ne_22))
  have k_3 := hR_40.kept (hc.2 _ (Ne.symm ne_34))
  have k_4 := hR_55.kept (hc.2 _ (Ne.symm ne_48))
  have k_5 := hR_72.kept (hc.2 _ (Ne.symm ne_64))
  have k_6 := hR_91.kept (hc.2 _ (Ne.symm ne_82))
  replace hK := hK.ch hc (X.ko hK hO CL_X2 (by decide) (by decide))
  clear hR_7
  have hR_7 := k_0
  clear k_0
  clear hR_16
  have hR_16 := k_1
  clear k_1
  clear hR_27
  have hR_27 := k_2
  clear k_2
  clear hR_40
  have hR_40 := k_3
  clear k_3
  clear hR_55
  have hR_55 := k_4
  clear k_4
  clear hR_72
  have hR_72 := k_5
  clear k_5
  clear hR_91
  have hR_91 := k_6
  clear k_6
  replace hz := Nat.le_trans hz (Nat.le_of_eq hc.1.symm)
  clear hO
  have hO : oB D H a 1 [.int (nI 0), .ref a_1, .int (nI 0), .int (nI 0), .int (nI 0), .int (nI 0), .int ((-1)), .int (nI 0), .int (nI 0), .int (nI 0), .ref a_8, .ref a_17, .ref a_28, .ref a_41, .ref a_56, .ref a_73, .null, .null, .null, .int (nI 0), .int (nI 0), .int (nI 0), .int (nI 0), .null, .null, .null, .null, .null, .int (nI 0), .null] := ho
  clear hc ho
  refine vv_aload_n X dX2_init_72 rfl 0 rfl ?_
  refine vv_sipush (v := nI 4910) X dX2_init_73 (by decide) ?_
  refine vv_newiA (M := 4910) X (by omega) (by decide) (Nat.le_of_ble_eq_true rfl) (Nat.le_of_ble_eq_true rfl) rfl dX2_init_76 (fun a_92 H eq_93 hx ho => ?_)
  have lt_94 : a < a_92 := by have h9 := hO.lt; first | omega | exact Nat.lt_of_lt_of_eq h9 (Eq.symm (by assumption))
  have lt_95 : a_1 < a_92 := by have h9 := hR_7.lt; first | omega | exact Nat.lt_of_lt_of_eq h9 (Eq.symm (by assumption))
  have lt_96 : a_8 < a_92 := by have h9 := hR_16.lt; first | omega | exact Nat.lt_of_lt_of_eq h9 (Eq.symm (by assumption))
  have lt_97 : a_17 < a_92 := by have h9 := hR_27.lt; first | omega | exact Nat.lt_of_lt_of_eq h9 (Eq.symm (by assumption))
  have lt_98 : a_28 < a_92 := by have h9 := hR_40.lt; first | omega | exact Nat.lt_of_lt_of_eq h9 (Eq.symm (by assumption))
  have lt_99 : a_41 < a_92 := by have h9 := hR_55.lt; first | omega | exact Nat.lt_of_lt_of_eq h9 (Eq.symm (by assumption))
  have lt_100 : a_56 < a_92 := by have h9 := hR_72.lt; first | omega | exact Nat.lt_of_lt_of_eq h9 (Eq.symm (by assumption))
  have lt_101 : a_73 < a_92 := by have h9 := hR_91.lt; first | omega | exact Nat.lt_of_lt_of_eq h9 (Eq.symm (by assumption))
  have ne_102 : a ≠ a_92 := Nat.ne_of_lt (eq_93.symm ▸ hO.lt)
  have ne_103 : a_1 ≠ a_92 := Nat.ne_of_lt (eq_93.symm ▸ hR_7.lt)
  have ne_104 : a_8 ≠ a_92 := Nat.ne_of_lt (eq_93.symm ▸ hR_16.lt)
  have ne_105 : a_17 ≠ a_92 := Nat.ne_of_lt (eq_93.symm ▸ hR_27.lt)
  have ne_106 : a_28 ≠ a_92 := Nat.ne_of_lt (eq_93.symm ▸ hR_40.lt)
  have ne_107 : a_41 ≠ a_92 := Nat.ne_of_lt (eq_93.symm ▸ hR_55.lt)
  have ne_108 : a_56 ≠ a_92 := Nat.ne_of_lt (eq_93.symm ▸ hR_72.lt)
  have ne_109 : a_73 ≠ a_92 := Nat.ne_of_lt (eq_93.symm ▸ hR_91.lt)
  have ge_110 : (kS K).heap.size ≤ a_92 := by rw [eq_93]; exact hz
  have kn_111 : KN D a_92 := KN.new hK (Nat.le_of_eq eq_93.symm)
  replace hO := hO.kept (hx.2 _ hO.lt)
  replace hR_7 := hR_7.kept (hx.2 _ hR_7.lt)
  replace hR_16 := hR_16.kept (hx.2 _ hR_16.lt)
  replace hR_27 := hR_27.kept (hx.2 _ hR_27.lt)
  replace hR_40 := hR_40.kept (hx.2 _ hR_40.lt)
  replace hR_55 := hR_55.kept (hx.2 _ hR_55.lt)
  replace hR_72 := hR_72.kept (hx.2 _ hR_72.lt)
  replace hR_91 := hR_91.kept (hx.2 _ hR_91.lt)
  replace hK := hK.ex hx
  replace hz : (kS K).heap.size ≤ H.size := by have := hx.1; omega
  have hR_112 : iA D H a_92 4910 (fun _ => 0) := ho
  clear ho hx
  refine vv_putfF (C := RX2) (T := TX2) (N := 30) (ref := "AcousticCameraModel") X hO in_X2 CL_X2 tyX2 tyX2_ok nmX2 16 (by decide) q2927 rfl rfl rfl rfl rfl rfl (Nat.le_of_ble_eq_true rfl) (Or.inl rfl) dX2_init_78 (fun H hc ho => ?_)
  have k_0 := hR_7.kept (hc.2 _ (Ne.symm ne_4))
  have k_1 := hR_16.kept (hc.2 _ (Ne.symm ne_12))
  have k_2 := hR_27.kept (hc.2 _ (Ne.symm ne_22))
  have k_3 := hR_40.kept (hc.2 _ (Ne.symm ne_34))
  have k_4 := hR_55.kept (hc.2 _ (Ne.symm ne_48))
  have k_5 := hR_72.kept (hc.2 _ (Ne.symm ne_64))
  have k_6 := hR_91.kept (hc.2 _ (Ne.symm ne_82))
  have k_7 := hR_112.kept (hc.2 _ (Ne.symm ne_102))
  replace hK := hK.ch hc (X.ko hK hO CL_X2 (by decide) (by decide))
  clear hR_7
  have hR_7 := k_0
  clear k_0
  clear hR_16
  have hR_16 := k_1
  clear k_1
  clear hR_27
  have hR_27 := k_2
  clear k_2
  clear hR_40
  have hR_40 := k_3
  clear k_3
  clear hR_55
  have hR_55 := k_4
  clear k_4
  clear hR_72
  have hR_72 := k_5
  clear k_5
  clear hR_91
  have hR_91 := k_6
  clear k_6
  clear hR_112
  have hR_112 := k_7
  clear k_7
  replace hz := Nat.le_trans hz (Nat.le_of_eq hc.1.symm)
  clear hO
  have hO : oB D H a 1 [.int (nI 0), .ref a_1, .int (nI 0), .int (nI 0), .int (nI 0), .int (nI 0), .int ((-1)), .int (nI 0), .int (nI 0), .int (nI 0), .ref a_8, .ref a_17, .ref a_28, .ref a_41, .ref a_56, .ref a_73, .ref a_92, .null, .null, .int (nI 0), .int (nI 0), .int (nI 0), .int (nI 0), .null, .null, .null, .null, .null, .int (nI 0), .null] := ho
  clear hc ho
  refine vv_aload_n X dX2_init_81 rfl 0 rfl ?_
  refine vv_sipush (v := nI 1728) X dX2_init_82 (by decide) ?_
  refine vv_newiA (M := 1728) X (by omega) (by decide) (Nat.le_of_ble_eq_true rfl) (Nat.le_of_ble_eq_true rfl) rfl dX2_init_85 (fun a_113 H eq_114 hx ho => ?_)
  have lt_115 : a < a_113 := by have h9 := hO.lt; first | omega | exact Nat.lt_of_lt_of_eq h9 (Eq.symm (by assumption))
  have lt_116 : a_1 < a_113 := by have h9 := hR_7.lt; first | omega | exact Nat.lt_of_lt_of_eq h9 (Eq.symm (by assumption))
  have lt_117 : a_8 < a_113 := by have h9 := hR_16.lt; first | omega | exact Nat.lt_of_lt_of_eq h9 (Eq.symm (by assumption))
  have lt_118 : a_17 < a_113 := by have h9 := hR_27.lt; first | omega | exact Nat.lt_of_lt_of_eq h9 (Eq.symm (by assumption))
  have lt_119 : a_28 < a_113 := by have h9 := hR_40.lt; first | omega | exact Nat.lt_of_lt_of_eq h9 (Eq.symm (by assumption))
  have lt_120 : a_41 < a_113 := by have h9 := hR_55.lt; first | omega | exact Nat.lt_of_lt_of_eq h9 (Eq.symm (by assumption))
  have lt_121 : a_56 < a_113 := by have h9 := hR_72.lt; first | omega | exact Nat.lt_of_lt_of_eq h9 (Eq.symm (by assumption))
  have lt_122 : a_73 < a_113 := by have h9 := hR_91.lt; first | omega | exact Nat.lt_of_lt_of_eq h9 (Eq.symm (by assumption))
  have lt_123 : a_92 < a_113 := by have h9 := hR_112.lt; first | omega | exact Nat.lt_of_lt_of_eq h9 (Eq.symm (by assumption))
  have ne_124 : a ≠ a_113 := Nat.ne_of_lt (eq_114.symm ▸ hO.lt)
  have ne_125 : a_1 ≠ a_113 := Nat.ne_of_lt (eq_114.symm ▸ hR_7.lt)
  have ne_126 : a_8 ≠ a_113 := Nat.ne_of_lt (eq_114.symm ▸ hR_16.lt)
  have ne_127 : a_17 ≠ a_113 := Nat.ne_of_lt (eq_114.symm ▸ hR_27.lt)
  have ne_128 : a_28 ≠ a_113 := Nat.ne_of_lt (eq_114.symm ▸ hR_40.lt)
  have ne_129 : a_41 ≠ a_113 := Nat.ne_of_lt (eq_114.symm ▸ hR_55.lt)
  have ne_130 : a_56 ≠ a_113 := Nat.ne_of_lt (eq_114.symm ▸ hR_72.lt)
  have ne_131 : a_73 ≠ a_113 := Nat.ne_of_lt (eq_114.symm ▸ hR_91.lt)
  have ne_132 : a_92 ≠ a_113 := Nat.ne_of_lt (eq_114.symm ▸ hR_112.lt)
  have ge_133 : (kS K).heap.size ≤ a_113 := by rw [eq_114]; exact hz
  have kn_134 : KN D a_113 := KN.new hK (Nat.le_of_eq eq_114.symm)
  replace hO := hO.kept (hx.2 _ hO.lt)
  replace hR_7 := hR_7.kept (hx.2 _ hR_7.lt)
  replace hR_16 := hR_16.kept (hx.2 _ hR_16.lt)
  replace hR_27 := hR_27.kept (hx.2 _ hR_27.lt)
  replace hR_40 := hR_40.kept (hx.2 _ hR_40.lt)
  replace hR_55 := hR_55.kept (hx.2 _ hR_55.lt)
  replace hR_72 := hR_72.kept (hx.2 _ hR_72.lt)
  replace hR_91 := hR_91.kept (hx.2 _ hR_91.lt)
  replace hR_112 := hR_112.kept (hx.2 _ hR_112.lt)
  replace hK := hK.ex hx
  replace hz : (kS K).heap.size ≤ H.size := by have := hx.1; omega
  have hR_135 : iA D H a_113 1728 (fun _ => 0) := ho
  clear ho hx
  refine vv_putfF (C := RX2) (T := TX2) (N := 30) (ref := "AcousticCameraModel") X hO in_X2 CL_X2 tyX2 tyX2_ok nmX2 17 (by decide) q2928 rfl rfl rfl rfl rfl rfl (Nat.le_of_ble_eq_true rfl) (Or.inl rfl) dX2_init_87 (fun H hc ho => ?_)
  have k_0 := hR_7.kept (hc.2 _ (Ne.symm ne_4))
  have k_1 := hR_16.kept (hc.2 _ (Ne.symm ne_12))
  have k_2 := hR_27.kept (hc.2 _ (Ne.symm ne_22))
  have k_3 := hR_40.kept (hc.2 _ (Ne.symm ne_34))
  have k_4 := hR_55.kept (hc.2 _ (Ne.symm ne_48))
  have k_5 := hR_72.kept (hc.2 _ (Ne.symm ne_64))
  have k_6 := hR_91.kept (hc.2 _ (Ne.symm ne_82))
  have k_7 := hR_112.kept (hc.2 _ (Ne.symm ne_102))
  have k_8 := hR_135.kept (hc.2 _ (Ne.symm ne_124))
  replace hK := hK.ch hc (X.ko hK hO CL_X2 (by decide) (by decide))
  clear hR_7
  have hR_7 := k_0
  clear k_0
  clear hR_16
  have hR_16 := k_1
  clear k_1
  clear hR_27
  have hR_27 := k_2
  clear k_2
  clear hR_40
  have hR_40 := k_3
  clear k_3
  clear hR_55
  have hR_55 := k_4
  clear k_4
  clear hR_72
  have hR_72 := k_5
  clear k_5
  clear hR_91
  have hR_91 := k_6
  clear k_6
  clear hR_112
  have hR_112 := k_7
  clear k_7
  clear hR_135
  have hR_135 := k_8
  clear k_8
  replace hz := Nat.le_trans hz (Nat.le_of_eq hc.1.symm)
  clear hO
  have hO : oB D H a 1 [.int (nI 0), .ref a_1, .int (nI 0), .int (nI 0), .int (nI 0), .int (nI 0), .int ((-1)), .int (nI 0), .int (nI 0), .int (nI 0), .ref a_8, .ref a_17, .ref a_28, .ref a_41, .ref a_56, .ref a_73, .ref a_92, .ref a_113, .null, .int (nI 0), .int (nI 0), .int (nI 0), .int (nI 0), .null, .null, .null, .null, .null, .int (nI 0), .null] := ho
  clear hc ho
  refine vv_aload_n X dX2_init_90 rfl 0 rfl ?_
  refine vv_iconst (v := nI 2) X dX2_init_91 (by decide) ?_
  refine vv_newzA (M := 2) X (by omega) (by decide) (Nat.le_of_ble_eq_true rfl) (Nat.le_of_ble_eq_true rfl) rfl dX2_init_92 (fun a_136 H eq_137 hx ho => ?_)
  have lt_138 : a < a_136 := by have h9 := hO.lt; first | omega | exact Nat.lt_of_lt_of_eq h9 (Eq.symm (by assumption))
  have lt_139 : a_1 < a_136 := by have h9 := hR_7.lt; first | omega | exact Nat.lt_of_lt_of_eq h9 (Eq.symm (by assumption))
  have lt_140 : a_8 < a_136 := by have h9 := hR_16.lt; first | omega | exact Nat.lt_of_lt_of_eq h9 (Eq.symm (by assumption))
  have lt_141 : a_17 < a_136 := by have h9 := hR_27.lt; first | omega | exact Nat.lt_of_lt_of_eq h9 (Eq.symm (by assumption))
  have lt_142 : a_28 < a_136 := by have h9 := hR_40.lt; first | omega | exact Nat.lt_of_lt_of_eq h9 (Eq.symm (by assumption))
  have lt_143 : a_41 < a_136 := by have h9 := hR_55.lt; first | omega | exact Nat.lt_of_lt_of_eq h9 (Eq.symm (by assumption))
  have lt_144 : a_56 < a_136 := by have h9 := hR_72.lt; first | omega | exact Nat.lt_of_lt_of_eq h9 (Eq.symm (by assumption))
  have lt_145 : a_73 < a_136 := by have h9 := hR_91.lt; first | omega | exact Nat.lt_of_lt_of_eq h9 (Eq.symm (by assumption))
  have lt_146 : a_92 < a_136 := by have h9 := hR_112.lt; first | omega | exact Nat.lt_of_lt_of_eq h9 (Eq.symm (by assumption))
  have lt_147 : a_113 < a_136 := by have h9 := hR_135.lt; first | omega | exact Nat.lt_of_lt_of_eq h9 (Eq.symm (by assumption))
  have ne_148 : a ≠ a_136 := Nat.ne_of_lt (eq_137.symm ▸ hO.lt)
  have ne_149 : a_1 ≠ a_136 := Nat.ne_of_lt (eq_137.symm ▸ hR_7.lt)
  have ne_150 : a_8 ≠ a_136 := Nat.ne_of_lt (eq_137.symm ▸ hR_16.lt)
  have ne_151 : a_17 ≠ a_136 := Nat.ne_of_lt (eq_137.symm ▸ hR_27.lt)
  have ne_152 : a_28 ≠ a_136 := Nat.ne_of_lt (eq_137.symm ▸ hR_40.lt)
  have ne_153 : a_41 ≠ a_136 := Nat.ne_of_lt (eq_137.symm ▸ hR_55.lt)
  have ne_154 : a_56 ≠ a_136 := Nat.ne_of_lt (eq_137.symm ▸ hR_72.lt)
  have ne_155 : a_73 ≠ a_136 := Nat.ne_of_lt (eq_137.symm ▸ hR_91.lt)
  have ne_156 : a_92 ≠ a_136 := Nat.ne_of_lt (eq_137.symm ▸ hR_112.lt)
  have ne_157 : a_113 ≠ a_136 := Nat.ne_of_lt (eq_137.symm ▸ hR_135.lt)
  have ge_158 : (kS K).heap.size ≤ a_136 := by rw [eq_137]; exact hz
  have kn_159 : KN D a_136 := KN.new hK (Nat.le_of_eq eq_137.symm)
  replace hO := hO.kept (hx.2 _ hO.lt)
  replace hR_7 := hR_7.kept (hx.2 _ hR_7.lt)
  replace hR_16 := hR_16.kept (hx.2 _ hR_16.lt)
  replace hR_27 := hR_27.kept (hx.2 _ hR_27.lt)
  replace hR_40 := hR_40.kept (hx.2 _ hR_40.lt)
  replace hR_55 := hR_55.kept (hx.2 _ hR_55.lt)
  replace hR_72 := hR_72.kept (hx.2 _ hR_72.lt)
  replace hR_91 := hR_91.kept (hx.2 _ hR_91.lt)
  replace hR_112 := hR_112.kept (hx.2 _ hR_112.lt)
  replace hR_135 := hR_135.kept (hx.2 _ hR_135.lt)
  replace hK := hK.ex hx
  replace hz : (kS K).heap.size ≤ H.size := by have := hx.1; omega
  have hR_160 : zA D H a_136 2 (fun _ => 0) := ho
  clear ho hx
  refine vv_putfF (C := RX2) (T := TX2) (N := 30) (ref := "AcousticCameraModel") X hO in_X2 CL_X2 tyX2 tyX2_ok nmX2 18 (by decide) q2929 rfl rfl rfl rfl rfl rfl (Nat.le_of_ble_eq_true rfl) (Or.inl rfl) dX2_init_94 (fun H hc ho => ?_)
  have k_0 := hR_7.kept (hc.2 _ (Ne.symm ne_4))
  have k_1 := hR_16.kept (hc.2 _ (Ne.symm ne_12))
  have k_2 := hR_27.kept (hc.2 _ (Ne.symm ne_22))
  have k_3 := hR_40.kept (hc.2 _ (Ne.symm ne_34))
  have k_4 := hR_55.kept (hc.2 _ (Ne.symm ne_48))
  have k_5 := hR_72.kept (hc.2 _ (Ne.symm ne_64))
  have k_6 := hR_91.kept (hc.2 _ (Ne.symm ne_82))
  have k_7 := hR_112.kept (hc.2 _ (Ne.symm ne_102))
  have k_8 := hR_135.kept (hc.2 _ (Ne.symm ne_124))
  have k_9 := hR_160.kept (hc.2 _ (Ne.symm ne_148))
  replace hK := hK.ch hc (X.ko hK hO CL_X2 (by decide) (by decide))
  clear hR_7
  have hR_7 := k_0
  clear k_0
  clear hR_16
  have hR_16 := k_1
  clear k_1
  clear hR_27
  have hR_27 := k_2
  clear k_2
  clear hR_40
  have hR_40 := k_3
  clear k_3
  clear hR_55
  have hR_55 := k_4
  clear k_4
  clear hR_72
  have hR_72 := k_5
  clear k_5
  clear hR_91
  have hR_91 := k_6
  clear k_6
  clear hR_112
  have hR_112 := k_7
  clear k_7
  clear hR_135
  have hR_135 := k_8
  clear k_8
  clear hR_160
  have hR_160 := k_9
  clear k_9
  replace hz := Nat.le_trans hz (Nat.le_of_eq hc.1.symm)
  clear hO
  have hO : oB D H a 1 [.int (nI 0), .ref a_1, .int (nI 0), .int (nI 0), .int (nI 0), .int (nI 0), .int ((-1)), .int (nI 0), .int (nI 0), .int (nI 0), .ref a_8, .ref a_17, .ref a_28, .ref a_41, .ref a_56, .ref a_73, .ref a_92, .ref a_113, .ref a_136, .int (nI 0), .int (nI 0), .int (nI 0), .int (nI 0), .null, .null, .null, .null, .null, .int (nI 0), .null] := ho
  clear hc ho
  refine vv_aload_n X dX2_init_97 rfl 0 rfl ?_
  refine vv_iconst (v := -1) X dX2_init_98 (by decide) ?_
  refine vv_putf (C := RX2) (T := TX2) (N := 30) (ref := "AcousticCameraModel") X hO in_X2 CL_X2 tyX2 tyX2_ok nmX2 21 (by decide) q2932 rfl rfl rfl rfl (Nat.le_of_ble_eq_true rfl) (Or.inl rfl) dX2_init_99 (fun H hc ho => ?_)
  have k_0 := hR_7.kept (hc.2 _ (Ne.symm ne_4))
  have k_1 := hR_16.kept (hc.2 _ (Ne.symm ne_12))
  have k_2 := hR_27.kept (hc.2 _ (Ne.symm ne_22))
  have k_3 := hR_40.kept (hc.2 _ (Ne.symm ne_34))
  have k_4 := hR_55.kept (hc.2 _ (Ne.symm ne_48))
  have k_5 := hR_72.kept (hc.2 _ (Ne.symm ne_64))
  have k_6 := hR_91.kept (hc.2 _ (Ne.symm ne_82))
  have k_7 := hR_112.kept (hc.2 _ (Ne.symm ne_102))
  have k_8 := hR_135.kept (hc.2 _ (Ne.symm ne_124))
  have k_9 := hR_160.kept (hc.2 _ (Ne.symm ne_148))
  replace hK := hK.ch hc (X.ko hK hO CL_X2 (by decide) (by decide))
  clear hR_7
  have hR_7 := k_0
  clear k_0
  clear hR_16
  have hR_16 := k_1
  clear k_1
  clear hR_27
  have hR_27 := k_2
  clear k_2
  clear hR_40
  have hR_40 := k_3
  clear k_3
  clear hR_55
  have hR_55 := k_4
  clear k_4
  clear hR_72
  have hR_72 := k_5
  clear k_5
  clear hR_91
  have hR_91 := k_6
  clear k_6
  clear hR_112
  have hR_112 := k_7
  clear k_7
  clear hR_135
  have hR_135 := k_8
  clear k_8
  clear hR_160
  have hR_160 := k_9
  clear k_9
  replace hz := Nat.le_trans hz (Nat.le_of_eq hc.1.symm)
  clear hO
  have hO : oB D H a 1 [.int (nI 0), .ref a_1, .int (nI 0), .int (nI 0), .int (nI 0), .int (nI 0), .int ((-1)), .int (nI 0), .int (nI 0), .int (nI 0), .ref a_8, .ref a_17, .ref a_28, .ref a_41, .ref a_56, .ref a_73, .ref a_92, .ref a_113, .ref a_136, .int (nI 0), .int (nI 0), .int ((-1)), .int (nI 0), .null, .null, .null, .null, .null, .int (nI 0), .null] := ho
  clear hc ho
  refine vv_aload_n X dX2_init_102 rfl 0 rfl ?_
  refine vv_sipush (v := nI 200) X dX2_init_103 (by decide) ?_
  refine vv_newiA (M := 200) X (by omega) (by decide) (Nat.le_of_ble_eq_true rfl) (Nat.le_of_ble_eq_true rfl) rfl dX2_init_106 (fun a_161 H eq_162 hx ho => ?_)
  have lt_163 : a < a_161 := by have h9 := hO.lt; first | omega | exact Nat.lt_of_lt_of_eq h9 (Eq.symm (by assumption))
  have lt_164 : a_1 < a_161 := by have h9 := hR_7.lt; first | omega | exact Nat.lt_of_lt_of_eq h9 (Eq.symm (by assumption))
  have lt_165 : a_8 < a_161 := by have h9 := hR_16.lt; first | omega | exact Nat.lt_of_lt_of_eq h9 (Eq.symm (by assumption))
  have lt_166 : a_17 < a_161 := by have h9 := hR_27.lt; first | omega | exact Nat.lt_of_lt_of_eq h9 (Eq.symm (by assumption))
  have lt_167 : a_28 < a_161 := by have h9 := hR_40.lt; first | omega | exact Nat.lt_of_lt_of_eq h9 (Eq.symm (by assumption))
  have lt_168 : a_41 < a_161 := by have h9 := hR_55.lt; first | omega | exact Nat.lt_of_lt_of_eq h9 (Eq.symm (by assumption))
  have lt_169 : a_56 < a_161 := by have h9 := hR_72.lt; first | omega | exact Nat.lt_of_lt_of_eq h9 (Eq.symm (by assumption))
  have lt_170 : a_73 < a_161 := by have h9 := hR_91.lt; first | omega | exact Nat.lt_of_lt_of_eq h9 (Eq.symm (by assumption))
  have lt_171 : a_92 < a_161 := by have h9 := hR_112.lt; first | omega | exact Nat.lt_of_lt_of_eq h9 (Eq.symm (by assumption))
  have lt_172 : a_113 < a_161 := by have h9 := hR_135.lt; first | omega | exact Nat.lt_of_lt_of_eq h9 (Eq.symm (by assumption))
  have lt_173 : a_136 < a_161 := by have h9 := hR_160.lt; first | omega | exact Nat.lt_of_lt_of_eq h9 (Eq.symm (by assumption))
  have ne_174 : a ≠ a_161 := Nat.ne_of_lt (eq_162.symm ▸ hO.lt)
  have ne_175 : a_1 ≠ a_161 := Nat.ne_of_lt (eq_162.symm ▸ hR_7.lt)
  have ne_176 : a_8 ≠ a_161 := Nat.ne_of_lt (eq_162.symm ▸ hR_16.lt)
  have ne_177 : a_17 ≠ a_161 := Nat.ne_of_lt (eq_162.symm ▸ hR_27.lt)
  have ne_178 : a_28 ≠ a_161 := Nat.ne_of_lt (eq_162.symm ▸ hR_40.lt)
  have ne_179 : a_41 ≠ a_161 := Nat.ne_of_lt (eq_162.symm ▸ hR_55.lt)
  have ne_180 : a_56 ≠ a_161 := Nat.ne_of_lt (eq_162.symm ▸ hR_72.lt)
  have ne_181 : a_73 ≠ a_161 := Nat.ne_of_lt (eq_162.symm ▸ hR_91.lt)
  have ne_182 : a_92 ≠ a_161 := Nat.ne_of_lt (eq_162.symm ▸ hR_112.lt)
  have ne_183 : a_113 ≠ a_161 := Nat.ne_of_lt (eq_162.symm ▸ hR_135.lt)
  have ne_184 : a_136 ≠ a_161 := Nat.ne_of_lt (eq_162.symm ▸ hR_160.lt)
  have ge_185 : (kS K).heap.size ≤ a_161 := by rw [eq_162]; exact hz
  have kn_186 : KN D a_161 := KN.new hK (Nat.le_of_eq eq_162.symm)
  replace hO := hO.kept (hx.2 _ hO.lt)
  replace hR_7 := hR_7.kept (hx.2 _ hR_7.lt)
  replace hR_16 := hR_16.kept (hx.2 _ hR_16.lt)
  replace hR_27 := hR_27.kept (hx.2 _ hR_27.lt)
  replace hR_40 := hR_40.kept (hx.2 _ hR_40.lt)
  replace hR_55 := hR_55.kept (hx.2 _ hR_55.lt)
  replace hR_72 := hR_72.kept (hx.2 _ hR_72.lt)
  replace hR_91 := hR_91.kept (hx.2 _ hR_91.lt)
  replace hR_112 := hR_112.kept (hx.2 _ hR_112.lt)
  replace hR_135 := hR_135.kept (hx.2 _ hR_135.lt)
  replace hR_160 := hR_160.kept (hx.2 _ hR_160.lt)
  replace hK := hK.ex hx
  replace hz : (kS K).heap.size ≤ H.size := by have := hx.1; omega
  have hR_187 : iA D H a_161 200 (fun _ => 0) := ho
  clear ho hx
  refine vv_putfF (C := RX2) (T := TX2) (N := 30) (ref := "AcousticCameraModel") X hO in_X2 CL_X2 tyX2 tyX2_ok nmX2 23 (by decide) q2934 rfl rfl rfl rfl rfl rfl (Nat.le_of_ble_eq_true rfl) (Or.inl rfl) dX2_init_108 (fun H hc ho => ?_)
  have k_0 := hR_7.kept (hc.2 _ (Ne.symm ne_4))
  have k_1 := hR_16.kept (hc.2 _ (Ne.symm ne_12))
  have k_2 := hR_27.kept (hc.2 _ (Ne.symm ne_22))
  have k_3 := hR_40.kept (hc.2 _ (Ne.symm ne_34))
  have k_4 := hR_55.kept (hc.2 _ (Ne.symm ne_48))
  have k_5 := hR_72.kept (hc.2 _ (Ne.symm ne_64))
  have k_6 := hR_91.kept (hc.2 _ (Ne.symm ne_82))
  have k_7 := hR_112.kept (hc.2 _ (Ne.symm ne_102))
  have k_8 := hR_135.kept (hc.2 _ (Ne.symm ne_124))
  have k_9 := hR_160.kept (hc.2 _ (Ne.symm ne_148))
  have k_10 := hR_187.kept (hc.2 _ (Ne.symm ne_174))
  replace hK := hK.ch hc (X.ko hK hO CL_X2 (by decide) (by decide))
  clear hR_7
  have hR_7 := k_0
  clear k_0
  clear hR_16
  have hR_16 := k_1
  clear k_1
  clear hR_27
  have hR_27 := k_2
  clear k_2
  clear hR_40
  have hR_40 := k_3
  clear k_3
  clear hR_55
  have hR_55 := k_4
  clear k_4
  clear hR_72
  have hR_72 := k_5
  clear k_5
  clear hR_91
  have hR_91 := k_6
  clear k_6
  clear hR_112
  have hR_112 := k_7
  clear k_7
  clear hR_135
  have hR_135 := k_8
  clear k_8
  clear hR_160
  have hR_160 := k_9
  clear k_9
  clear hR_187
  have hR_187 := k_10
  clear k_10
  replace hz := Nat.le_trans hz (Nat.le_of_eq hc.1.symm)
  clear hO
  have hO : oB D H a 1 [.int (nI 0), .ref a_1, .int (nI 0), .int (nI 0), .int (nI 0), .int (nI 0), .int ((-1)), .int (nI 0), .int (nI 0), .int (nI 0), .ref a_8, .ref a_17, .ref a_28, .ref a_41, .ref a_56, .ref a_73, .ref a_92, .ref a_113, .ref a_136, .int (nI 0), .int (nI 0), .int ((-1)), .int (nI 0), .ref a_161, .null, .null, .null, .null, .int (nI 0), .null] := ho
  clear hc ho
  refine vv_aload_n X dX2_init_111 rfl 0 rfl ?_
  refine vv_bipush (v := nI 12) X dX2_init_112 (by decide) ?_
  refine vv_newiA (M := 12) X (by omega) (by decide) (Nat.le_of_ble_eq_true rfl) (Nat.le_of_ble_eq_true rfl) rfl dX2_init_114 (fun a_188 H eq_189 hx ho => ?_)
  have lt_190 : a < a_188 := by have h9 := hO.lt; first | omega | exact Nat.lt_of_lt_of_eq h9 (Eq.symm (by assumption))
  have lt_191 : a_1 < a_188 := by have h9 := hR_7.lt; first | omega | exact Nat.lt_of_lt_of_eq h9 (Eq.symm (by assumption))
  have lt_192 : a_8 < a_188 := by have h9 := hR_16.lt; first | omega | exact Nat.lt_of_lt_of_eq h9 (Eq.symm (by assumption))
  have lt_193 : a_17 < a_188 := by have h9 := hR_27.lt; first | omega | exact Nat.lt_of_lt_of_eq h9 (Eq.symm (by assumption))
  have lt_194 : a_28 < a_188 := by have h9 := hR_40.lt; first | omega | exact Nat.lt_of_lt_of_eq h9 (Eq.symm (by assumption))
  have lt_195 : a_41 < a_188 := by have h9 := hR_55.lt; first | omega | exact Nat.lt_of_lt_of_eq h9 (Eq.symm (by assumption))
  have lt_196 : a_56 < a_188 := by have h9 := hR_72.lt; first | omega | exact Nat.lt_of_lt_of_eq h9 (Eq.symm (by assumption))
  have lt_197 : a_73 < a_188 := by have h9 := hR_91.lt; first | omega | exact Nat.lt_of_lt_of_eq h9 (Eq.symm (by assumption))
  have lt_198 : a_92 < a_188 := by have h9 := hR_112.lt; first | omega | exact Nat.lt_of_lt_of_eq h9 (Eq.symm (by assumption))
  have lt_199 : a_113 < a_188 := by have h9 := hR_135.lt; first | omega | exact Nat.lt_of_lt_of_eq h9 (Eq.symm (by assumption))
  have lt_200 : a_136 < a_188 := by have h9 := hR_160.lt; first | omega | exact Nat.lt_of_lt_of_eq h9 (Eq.symm (by assumption))
  have lt_201 : a_161 < a_188 := by have h9 := hR_187.lt; first | omega | exact Nat.lt_of_lt_of_eq h9 (Eq.symm (by assumption))
  have ne_202 : a ≠ a_188 := Nat.ne_of_lt (eq_189.symm ▸ hO.lt)
  have ne_203 : a_1 ≠ a_188 := Nat.ne_of_lt (eq_189.symm ▸ hR_7.lt)
  have ne_204 : a_8 ≠ a_188 := Nat.ne_of_lt (eq_189.symm ▸ hR_16.lt)
  have ne_205 : a_17 ≠ a_188 := Nat.ne_of_lt (eq_189.symm ▸ hR_27.lt)
  have ne_206 : a_28 ≠ a_188 := Nat.ne_of_lt (eq_189.symm ▸ hR_40.lt)
  have ne_207 : a_41 ≠ a_188 := Nat.ne_of_lt (eq_189.symm ▸ hR_55.lt)
  have ne_208 : a_56 ≠ a_188 := Nat.ne_of_lt (eq_189.symm ▸ hR_72.lt)
  have ne_209 : a_73 ≠ a_188 := Nat.ne_of_lt (eq_189.symm ▸ hR_91.lt)
  have ne_210 : a_92 ≠ a_188 := Nat.ne_of_lt (eq_189.symm ▸ hR_112.lt)
  have ne_211 : a_113 ≠ a_188 := Nat.ne_of_lt (eq_189.symm ▸ hR_135.lt)
  have ne_212 : a_136 ≠ a_188 := Nat.ne_of_lt (eq_189.symm ▸ hR_160.lt)
  have ne_213 : a_161 ≠ a_188 := Nat.ne_of_lt (eq_189.symm ▸ hR_187.lt)
  have ge_214 : (kS K).heap.size ≤ a_188 := by rw [eq_189]; exact hz
  have kn_215 : KN D a_188 := KN.new hK (Nat.le_of_eq eq_189.symm)
  replace hO := hO.kept (hx.2 _ hO.lt)
  replace hR_7 := hR_7.kept (hx.2 _ hR_7.lt)
  replace hR_16 := hR_16.kept (hx.2 _ hR_16.lt)
  replace hR_27 := hR_27.kept (hx.2 _ hR_27.lt)
  replace hR_40 := hR_40.kept (hx.2 _ hR_40.lt)
  replace hR_55 := hR_55.kept (hx.2 _ hR_55.lt)
  replace hR_72 := hR_72.kept (hx.2 _ hR_72.lt)
  replace hR_91 := hR_91.kept (hx.2 _ hR_91.lt)
  replace hR_112 := hR_112.kept (hx.2 _ hR_112.lt)
  replace hR_135 := hR_135.kept (hx.2 _ hR_135.lt)
  replace hR_160 := hR_160.kept (hx.2 _ hR_160.lt)
  replace hR_187 := hR_187.kept (hx.2 _ hR_187.lt)
  replace hK := hK.ex hx
  replace hz : (kS K).heap.size ≤ H.size := by have := hx.1; omega
  have hR_216 : iA D H a_188 12 (fun _ => 0) := ho
  clear ho hx
  refine vv_putfF (C := RX2) (T := TX2) (N := 30) (ref := "AcousticCameraModel") X hO in_X2 CL_X2 tyX2 tyX2_ok nmX2 24 (by decide) q2935 rfl rfl rfl rfl rfl rfl (Nat.le_of_ble_eq_true rfl) (Or.inl rfl) dX2_init_116 (fun H hc ho => ?_)
  have k_0 := hR_7.kept (hc.2 _ (Ne.symm ne_4))
  have k_1 := hR_16.kept (hc.2 _ (Ne.symm ne_12))
  have k_2 := hR_27.kept (hc.2 _ (Ne.symm ne_22))
  have k_3 := hR_40.kept (hc.2 _ (Ne.symm ne_34))
  have k_4 := hR_55.kept (hc.2 _ (Ne.symm ne_48))
  have k_5 := hR_72.kept (hc.2 _ (Ne.symm ne_64))
  have k_6 := hR_91.kept (hc.2 _ (Ne.symm ne_82))
  have k_7 := hR_112.kept (hc.2 _ (Ne.symm ne_102))
  have k_8 := hR_135.kept (hc.2 _ (Ne.symm ne_124))
  have k_9 := hR_160.kept (hc.2 _ (Ne.symm ne_148))
  have k_10 := hR_187.kept (hc.2 _ (Ne.symm ne_174))
  have k_11 := hR_216.kept (hc.2 _ (Ne.symm ne_202))
  replace hK := hK.ch hc (X.ko hK hO CL_X2 (by decide) (by decide))
  clear hR_7
  have hR_7 := k_0
  clear k_0
  clear hR_16
  have hR_16 := k_1
  clear k_1
  clear hR_27
  have hR_27 := k_2
  clear k_2
  clear hR_40
  have hR_40 := k_3
  clear k_3
  clear hR_55
  have hR_55 := k_4
  clear k_4
  clear hR_72
  have hR_72 := k_5
  clear k_5
  clear hR_91
  have hR_91 := k_6
  clear k_6
  clear hR_112
  have hR_112 := k_7
  clear k_7
  clear hR_135
  have hR_135 := k_8
  clear k_8
  clear hR_160
  have hR_160 := k_9
  clear k_9
  clear hR_187
  have hR_187 := k_10
  clear k_10
  clear hR_216
  have hR_216 := k_11
  clear k_11
  replace hz := Nat.le_trans hz (Nat.le_of_eq hc.1.symm)
  clear hO
  have hO : oB D H a 1 [.int (nI 0), .ref a_1, .int (nI 0), .int (nI 0), .int (nI 0), .int (nI 0), .int ((-1)), .int (nI 0), .int (nI 0), .int (nI 0), .ref a_8, .ref a_17, .ref a_28, .ref a_41, .ref a_56, .ref a_73, .ref a_92, .ref a_113, .ref a_136, .int (nI 0), .int (nI 0), .int ((-1)), .int (nI 0), .ref a_161, .ref a_188, .null, .null, .null, .int (nI 0), .null] := ho
  clear hc ho
  refine vv_aload_n X dX2_init_119 rfl 0 rfl ?_
  refine vv_sipush (v := nI 144) X dX2_init_120 (by decide) ?_
  refine vv_newlA (M := 144) X (by omega) (by decide) (Nat.le_of_ble_eq_true rfl) (Nat.le_of_ble_eq_true rfl) rfl dX2_init_123 (fun a_217 H eq_218 hx ho => ?_)
  have lt_219 : a < a_217 := by have h9 := hO.lt; first | omega | exact Nat.lt_of_lt_of_eq h9 (Eq.symm (by assumption))
  have lt_220 : a_1 < a_217 := by have h9 := hR_7.lt; first | omega | exact Nat.lt_of_lt_of_eq h9 (Eq.symm (by assumption))
  have lt_221 : a_8 < a_217 := by have h9 := hR_16.lt; first | omega | exact Nat.lt_of_lt_of_eq h9 (Eq.symm (by assumption))
  have lt_222 : a_17 < a_217 := by have h9 := hR_27.lt; first | omega | exact Nat.lt_of_lt_of_eq h9 (Eq.symm (by assumption))
  have lt_223 : a_28 < a_217 := by have h9 := hR_40.lt; first | omega | exact Nat.lt_of_lt_of_eq h9 (Eq.symm (by assumption))
  have lt_224 : a_41 < a_217 := by have h9 := hR_55.lt; first | omega | exact Nat.lt_of_lt_of_eq h9 (Eq.symm (by assumption))
  have lt_225 : a_56 < a_217 := by have h9 := hR_72.lt; first | omega | exact Nat.lt_of_lt_of_eq h9 (Eq.symm (by assumption))
  have lt_226 : a_73 < a_217 := by have h9 := hR_91.lt; first | omega | exact Nat.lt_of_lt_of_eq h9 (Eq.symm (by assumption))
  have lt_227 : a_92 < a_217 := by have h9 := hR_112.lt; first | omega | exact Nat.lt_of_lt_of_eq h9 (Eq.symm (by assumption))
  have lt_228 : a_113 < a_217 := by have h9 := hR_135.lt; first | omega | exact Nat.lt_of_lt_of_eq h9 (Eq.symm (by assumption))
  have lt_229 : a_136 < a_217 := by have h9 := hR_160.lt; first | omega | exact Nat.lt_of_lt_of_eq h9 (Eq.symm (by assumption))
  have lt_230 : a_161 < a_217 := by have h9 := hR_187.lt; first | omega | exact Nat.lt_of_lt_of_eq h9 (Eq.symm (by assumption))
  have lt_231 : a_188 < a_217 := by have h9 := hR_216.lt; first | omega | exact Nat.lt_of_lt_of_eq h9 (Eq.symm (by assumption))
  have ne_232 : a ≠ a_217 := Nat.ne_of_lt (eq_218.symm ▸ hO.lt)
  have ne_233 : a_1 ≠ a_217 := Nat.ne_of_lt (eq_218.symm ▸ hR_7.lt)
  have ne_234 : a_8 ≠ a_217 := Nat.ne_of_lt (eq_218.symm ▸ hR_16.lt)
  have ne_235 : a_17 ≠ a_217 := Nat.ne_of_lt (eq_218.symm ▸ hR_27.lt)
  have ne_236 : a_28 ≠ a_217 := Nat.ne_of_lt (eq_218.symm ▸ hR_40.lt)
  have ne_237 : a_41 ≠ a_217 := Nat.ne_of_lt (eq_218.symm ▸ hR_55.lt)
  have ne_238 : a_56 ≠ a_217 := Nat.ne_of_lt (eq_218.symm ▸ hR_72.lt)
  have ne_239 : a_73 ≠ a_217 := Nat.ne_of_lt (eq_218.symm ▸ hR_91.lt)
  have ne_240 : a_92 ≠ a_217 := Nat.ne_of_lt (eq_218.symm ▸ hR_112.lt)
  have ne_241 : a_113 ≠ a_217 := Nat.ne_of_lt (eq_218.symm ▸ hR_135.lt)
  have ne_242 : a_136 ≠ a_217 := Nat.ne_of_lt (eq_218.symm ▸ hR_160.lt)
  have ne_243 : a_161 ≠ a_217 := Nat.ne_of_lt (eq_218.symm ▸ hR_187.lt)
  have ne_244 : a_188 ≠ a_217 := Nat.ne_of_lt (eq_218.symm ▸ hR_216.lt)
  have ge_245 : (kS K).heap.size ≤ a_217 := by rw [eq_218]; exact hz
  have kn_246 : KN D a_217 := KN.new hK (Nat.le_of_eq eq_218.symm)
  replace hO := hO.kept (hx.2 _ hO.lt)
  replace hR_7 := hR_7.kept (hx.2 _ hR_7.lt)
  replace hR_16 := hR_16.kept (hx.2 _ hR_16.lt)
  replace hR_27 := hR_27.kept (hx.2 _ hR_27.lt)
  replace hR_40 := hR_40.kept (hx.2 _ hR_40.lt)
  replace hR_55 := hR_55.kept (hx.2 _ hR_55.lt)
  replace hR_72 := hR_72.kept (hx.2 _ hR_72.lt)
  replace hR_91 := hR_91.kept (hx.2 _ hR_91.lt)
  replace hR_112 := hR_112.kept (hx.2 _ hR_112.lt)
  replace hR_135 := hR_135.kept (hx.2 _ hR_135.lt)
  replace hR_160 := hR_160.kept (hx.2 _ hR_160.lt)
  replace hR_187 := hR_187.kept (hx.2 _ hR_187.lt)
  replace hR_216 := hR_216.kept (hx.2 _ hR_216.lt)
  replace hK := hK.ex hx
  replace hz : (kS K).heap.size ≤ H.size := by have := hx.1; omega
  have hR_247 : lA D H a_217 144 (fun _ => 0) := ho
  clear ho hx
  refine vv_putfF (C := RX2) (T := TX2) (N := 30) (ref := "AcousticCameraModel") X hO in_X2 CL_X2 tyX2 tyX2_ok nmX2 25 (by decide) q2936 rfl rfl rfl rfl rfl rfl (Nat.le_of_ble_eq_true rfl) (Or.inl rfl) dX2_init_125 (fun H hc ho => ?_)
  have k_0 := hR_7.kept (hc.2 _ (Ne.symm ne_4))
  have k_1 := hR_16.kept (hc.2 _ (Ne.symm ne_12))
  have k_2 := hR_27.kept (hc.2 _ (Ne.symm ne_22))
  have k_3 := hR_40.kept (hc.2 _ (Ne.symm ne_34))
  have k_4 := hR_55.kept (hc.2 _ (Ne.symm ne_48))
  have k_5 := hR_72.kept (hc.2 _ (Ne.symm ne_64))
  have k_6 := hR_91.kept (hc.2 _ (Ne.symm ne_82))
  have k_7 := hR_112.kept (hc.2 _ (Ne.symm ne_102))
  have k_8 := hR_135.kept (hc.2 _ (Ne.symm ne_124))
  have k_9 := hR_160.kept (hc.2 _ (Ne.symm ne_148))
  have k_10 := hR_187.kept (hc.2 _ (Ne.symm ne_174))
  have k_11 := hR_216.kept (hc.2 _ (Ne.symm ne_202))
  have k_12 := hR_247.kept (hc.2 _ (Ne.symm ne_232))
  replace hK := hK.ch hc (X.ko hK hO CL_X2 (by decide) (by decide))
  clear hR_7
  have hR_7 := k_0
  clear k_0
  clear hR_16
  have hR_16 := k_1
  clear k_1
  clear hR_27
  have hR_27 := k_2
  clear k_2
  clear hR_40
  have hR_40 := k_3
  clear k_3
  clear hR_55
  have hR_55 := k_4
  clear k_4
  clear hR_72
  have hR_72 := k_5
  clear k_5
  clear hR_91
  have hR_91 := k_6
  clear k_6
  clear hR_112
  have hR_112 := k_7
  clear k_7
  clear hR_135
  have hR_135 := k_8
  clear k_8
  clear hR_160
  have hR_160 := k_9
  clear k_9
  clear hR_187
  have hR_187 := k_10
  clear k_10
  clear hR_216
  have hR_216 := k_11
  clear k_11
  clear hR_247
  have hR_247 := k_12
  clear k_12
  replace hz := Nat.le_trans hz (Nat.le_of_eq hc.1.symm)
  clear hO
  have hO : oB D H a 1 [.int (nI 0), .ref a_1, .int (nI 0), .int (nI 0), .int (nI 0), .int (nI 0), .int ((-1)), .int (nI 0), .int (nI 0), .int (nI 0), .ref a_8, .ref a_17, .ref a_28, .ref a_41, .ref a_56, .ref a_73, .ref a_92, .ref a_113, .ref a_136, .int (nI 0), .int (nI 0), .int ((-1)), .int (nI 0), .ref a_161, .ref a_188, .ref a_217, .null, .null, .int (nI 0), .null] := ho
  clear hc ho
  refine vv_aload_n X dX2_init_128 rfl 0 rfl ?_
  refine vv_sipush (v := nI 7200) X dX2_init_129 (by decide) ?_
  refine vv_newlA (M := 7200) X (by omega) (by decide) (Nat.le_of_ble_eq_true rfl) (Nat.le_of_ble_eq_true rfl) rfl dX2_init_132 (fun a_248 H eq_249 hx ho => ?_)
  have lt_250 : a < a_248 := by have h9 := hO.lt; first | omega | exact Nat.lt_of_lt_of_eq h9 (Eq.symm (by assumption))
  have lt_251 : a_1 < a_248 := by have h9 := hR_7.lt; first | omega | exact Nat.lt_of_lt_of_eq h9 (Eq.symm (by assumption))
  have lt_252 : a_8 < a_248 := by have h9 := hR_16.lt; first | omega | exact Nat.lt_of_lt_of_eq h9 (Eq.symm (by assumption))
  have lt_253 : a_17 < a_248 := by have h9 := hR_27.lt; first | omega | exact Nat.lt_of_lt_of_eq h9 (Eq.symm (by assumption))
  have lt_254 : a_28 < a_248 := by have h9 := hR_40.lt; first | omega | exact Nat.lt_of_lt_of_eq h9 (Eq.symm (by assumption))
  have lt_255 : a_41 < a_248 := by have h9 := hR_55.lt; first | omega | exact Nat.lt_of_lt_of_eq h9 (Eq.symm (by assumption))
  have lt_256 : a_56 < a_248 := by have h9 := hR_72.lt; first | omega | exact Nat.lt_of_lt_of_eq h9 (Eq.symm (by assumption))
  have lt_257 : a_73 < a_248 := by have h9 := hR_91.lt; first | omega | exact Nat.lt_of_lt_of_eq h9 (Eq.symm (by assumption))
  have lt_258 : a_92 < a_248 := by have h9 := hR_112.lt; first | omega | exact Nat.lt_of_lt_of_eq h9 (Eq.symm (by assumption))
  have lt_259 : a_113 < a_248 := by have h9 := hR_135.lt; first | omega | exact Nat.lt_of_lt_of_eq h9 (Eq.symm (by assumption))
  have lt_260 : a_136 < a_248 := by have h9 := hR_160.lt; first | omega | exact Nat.lt_of_lt_of_eq h9 (Eq.symm (by assumption))
  have lt_261 : a_161 < a_248 := by have h9 := hR_187.lt; first | omega | exact Nat.lt_of_lt_of_eq h9 (Eq.symm (by assumption))
  have lt_262 : a_188 < a_248 := by have h9 := hR_216.lt; first | omega | exact Nat.lt_of_lt_of_eq h9 (Eq.symm (by assumption))
  have lt_263 : a_217 < a_248 := by have h9 := hR_247.lt; first | omega | exact Nat.lt_of_lt_of_eq h9 (Eq.symm (by assumption))
  have ne_264 : a ≠ a_248 := Nat.ne_of_lt (eq_249.symm ▸ hO.lt)
  have ne_265 : a_1 ≠ a_248 := Nat.ne_of_lt (eq_249.symm ▸ hR_7.lt)
  have ne_266 : a_8 ≠ a_248 := Nat.ne_of_lt (eq_249.symm ▸ hR_16.lt)
  have ne_267 : a_17 ≠ a_248 := Nat.ne_of_lt (eq_249.symm ▸ hR_27.lt)
  have ne_268 : a_28 ≠ a_248 := Nat.ne_of_lt (eq_249.symm ▸ hR_40.lt)
  have ne_269 : a_41 ≠ a_248 := Nat.ne_of_lt (eq_249.symm ▸ hR_55.lt)
  have ne_270 : a_56 ≠ a_248 := Nat.ne_of_lt (eq_249.symm ▸ hR_72.lt)
  have ne_271 : a_73 ≠ a_248 := Nat.ne_of_lt (eq_249.symm ▸ hR_91.lt)
  have ne_272 : a_92 ≠ a_248 := Nat.ne_of_lt (eq_249.symm ▸ hR_112.lt)
  have ne_273 : a_113 ≠ a_248 := Nat.ne_of_lt (eq_249.symm ▸ hR_135.lt)
  have ne_274 : a_136 ≠ a_248 := Nat.ne_of_lt (eq_249.symm ▸ hR_160.lt)
  have ne_275 : a_161 ≠ a_248 := Nat.ne_of_lt (eq_249.symm ▸ hR_187.lt)
  have ne_276 : a_188 ≠ a_248 := Nat.ne_of_lt (eq_249.symm ▸ hR_216.lt)
  have ne_277 : a_217 ≠ a_248 := Nat.ne_of_lt (eq_249.symm ▸ hR_247.lt)
  have ge_278 : (kS K).heap.size ≤ a_248 := by rw [eq_249]; exact hz
  have kn_279 : KN D a_248 := KN.new hK (Nat.le_of_eq eq_249.symm)
  replace hO := hO.kept (hx.2 _ hO.lt)
  replace hR_7 := hR_7.kept (hx.2 _ hR_7.lt)
  replace hR_16 := hR_16.kept (hx.2 _ hR_16.lt)
  replace hR_27 := hR_27.kept (hx.2 _ hR_27.lt)
  replace hR_40 := hR_40.kept (hx.2 _ hR_40.lt)
  replace hR_55 := hR_55.kept (hx.2 _ hR_55.lt)
  replace hR_72 := hR_72.kept (hx.2 _ hR_72.lt)
  replace hR_91 := hR_91.kept (hx.2 _ hR_91.lt)
  replace hR_112 := hR_112.kept (hx.2 _ hR_112.lt)
  replace hR_135 := hR_135.kept (hx.2 _ hR_135.lt)
  replace hR_160 := hR_160.kept (hx.2 _ hR_160.lt)
  replace hR_187 := hR_187.kept (hx.2 _ hR_187.lt)
  replace hR_216 := hR_216.kept (hx.2 _ hR_216.lt)
  replace hR_247 := hR_247.kept (hx.2 _ hR_247.lt)
  replace hK := hK.ex hx
  replace hz : (kS K).heap.size ≤ H.size := by have := hx.1; omega
  have hR_280 : lA D H a_248 7200 (fun _ => 0) := ho
  clear ho hx
  refine vv_putfF (C := RX2) (T := TX2) (N := 30) (ref := "AcousticCameraModel") X hO in_X2 CL_X2 tyX2 tyX2_ok nmX2 26 (by decide) q2937 rfl rfl rfl rfl rfl rfl (Nat.le_of_ble_eq_true rfl) (Or.inl rfl) dX2_init_134 (fun H hc ho => ?_)
  have k_0 := hR_7.kept (hc.2 _ (Ne.symm ne_4))
  have k_1 := hR_16.kept (hc.2 _ (Ne.symm ne_12))
  have k_2 := hR_27.kept (hc.2 _ (Ne.symm ne_22))
  have k_3 := hR_40.kept (hc.2 _ (Ne.symm ne_34))
  have k_4 := hR_55.kept (hc.2 _ (Ne.symm ne_48))
  have k_5 := hR_72.kept (hc.2 _ (Ne.symm ne_64))
  have k_6 := hR_91.kept (hc.2 _ (Ne.symm ne_82))
  have k_7 := hR_112.kept (hc.2 _ (Ne.symm ne_102))
  have k_8 := hR_135.kept (hc.2 _ (Ne.symm ne_124))
  have k_9 := hR_160.kept (hc.2 _ (Ne.symm ne_148))
  have k_10 := hR_187.kept (hc.2 _ (Ne.symm ne_174))
  have k_11 := hR_216.kept (hc.2 _ (Ne.symm ne_202))
  have k_12 := hR_247.kept (hc.2 _ (Ne.symm ne_232))
  have k_13 := hR_280.kept (hc.2 _ (Ne.symm ne_264))
  replace hK := hK.ch hc (X.ko hK hO CL_X2 (by decide) (by decide))
  clear hR_7
  have hR_7 := k_0
  clear k_0
  clear hR_16
  have hR_16 := k_1
  clear k_1
  clear hR_27
  have hR_27 := k_2
  clear k_2
  clear hR_40
  have hR_40 := k_3
  clear k_3
  clear hR_55
  have hR_55 := k_4
  clear k_4
  clear hR_72
  have hR_72 := k_5
  clear k_5
  clear hR_91
  have hR_91 := k_6
  clear k_6
  clear hR_112
  have hR_112 := k_7
  clear k_7
  clear hR_135
  have hR_135 := k_8
  clear k_8
  clear hR_160
  have hR_160 := k_9
  clear k_9
  clear hR_187
  have hR_187 := k_10
  clear k_10
  clear hR_216
  have hR_216 := k_11
  clear k_11
  clear hR_247
  have hR_247 := k_12
  clear k_12
  clear hR_280
  have hR_280 := k_13
  clear k_13
  replace hz := Nat.le_trans hz (Nat.le_of_eq hc.1.symm)
  clear hO
  have hO : oB D H a 1 [.int (nI 0), .ref a_1, .int (nI 0), .int (nI 0), .int (nI 0), .int (nI 0), .int ((-1)), .int (nI 0), .int (nI 0), .int (nI 0), .ref a_8, .ref a_17, .ref a_28, .ref a_41, .ref a_56, .ref a_73, .ref a_92, .ref a_113, .ref a_136, .int (nI 0), .int (nI 0), .int ((-1)), .int (nI 0), .ref a_161, .ref a_188, .ref a_217, .ref a_248, .null, .int (nI 0), .null] := ho
  clear hc ho
  refine vv_aload_n X dX2_init_137 rfl 0 rfl ?_
  refine vv_sipush (v := nI 160) X dX2_init_138 (by decide) ?_
  refine vv_newiA (M := 160) X (by omega) (by decide) (Nat.le_of_ble_eq_true rfl) (Nat.le_of_ble_eq_true rfl) rfl dX2_init_141 (fun a_281 H eq_282 hx ho => ?_)
  have lt_283 : a < a_281 := by have h9 := hO.lt; first | omega | exact Nat.lt_of_lt_of_eq h9 (Eq.symm (by assumption))
  have lt_284 : a_1 < a_281 := by have h9 := hR_7.lt; first | omega | exact Nat.lt_of_lt_of_eq h9 (Eq.symm (by assumption))
  have lt_285 : a_8 < a_281 := by have h9 := hR_16.lt; first | omega | exact Nat.lt_of_lt_of_eq h9 (Eq.symm (by assumption))
  have lt_286 : a_17 < a_281 := by have h9 := hR_27.lt; first | omega | exact Nat.lt_of_lt_of_eq h9 (Eq.symm (by assumption))
  have lt_287 : a_28 < a_281 := by have h9 := hR_40.lt; first | omega | exact Nat.lt_of_lt_of_eq h9 (Eq.symm (by assumption))
  have lt_288 : a_41 < a_281 := by have h9 := hR_55.lt; first | omega | exact Nat.lt_of_lt_of_eq h9 (Eq.symm (by assumption))
  have lt_289 : a_56 < a_281 := by have h9 := hR_72.lt; first | omega | exact Nat.lt_of_lt_of_eq h9 (Eq.symm (by assumption))
  have lt_290 : a_73 < a_281 := by have h9 := hR_91.lt; first | omega | exact Nat.lt_of_lt_of_eq h9 (Eq.symm (by assumption))
  have lt_291 : a_92 < a_281 := by have h9 := hR_112.lt; first | omega | exact Nat.lt_of_lt_of_eq h9 (Eq.symm (by assumption))
  have lt_292 : a_113 < a_281 := by have h9 := hR_135.lt; first | omega | exact Nat.lt_of_lt_of_eq h9 (Eq.symm (by assumption))
  have lt_293 : a_136 < a_281 := by have h9 := hR_160.lt; first | omega | exact Nat.lt_of_lt_of_eq h9 (Eq.symm (by assumption))
  have lt_294 : a_161 < a_281 := by have h9 := hR_187.lt; first | omega | exact Nat.lt_of_lt_of_eq h9 (Eq.symm (by assumption))
  have lt_295 : a_188 < a_281 := by have h9 := hR_216.lt; first | omega | exact Nat.lt_of_lt_of_eq h9 (Eq.symm (by assumption))
  have lt_296 : a_217 < a_281 := by have h9 := hR_247.lt; first | omega | exact Nat.lt_of_lt_of_eq h9 (Eq.symm (by assumption))
  have lt_297 : a_248 < a_281 := by have h9 := hR_280.lt; first | omega | exact Nat.lt_of_lt_of_eq h9 (Eq.symm (by assumption))
  have ne_298 : a ≠ a_281 := Nat.ne_of_lt (eq_282.symm ▸ hO.lt)
  have ne_299 : a_1 ≠ a_281 := Nat.ne_of_lt (eq_282.symm ▸ hR_7.lt)
  have ne_300 : a_8 ≠ a_281 := Nat.ne_of_lt (eq_282.symm ▸ hR_16.lt)
  have ne_301 : a_17 ≠ a_281 := Nat.ne_of_lt (eq_282.symm ▸ hR_27.lt)
  have ne_302 : a_28 ≠ a_281 := Nat.ne_of_lt (eq_282.symm ▸ hR_40.lt)
  have ne_303 : a_41 ≠ a_281 := Nat.ne_of_lt (eq_282.symm ▸ hR_55.lt)
  have ne_304 : a_56 ≠ a_281 := Nat.ne_of_lt (eq_282.symm ▸ hR_72.lt)
  have ne_305 : a_73 ≠ a_281 := Nat.ne_of_lt (eq_282.symm ▸ hR_91.lt)
  have ne_306 : a_92 ≠ a_281 := Nat.ne_of_lt (eq_282.symm ▸ hR_112.lt)
  have ne_307 : a_113 ≠ a_281 := Nat.ne_of_lt (eq_282.symm ▸ hR_135.lt)
  have ne_308 : a_136 ≠ a_281 := Nat.ne_of_lt (eq_282.symm ▸ hR_160.lt)
  have ne_309 : a_161 ≠ a_281 := Nat.ne_of_lt (eq_282.symm ▸ hR_187.lt)
  have ne_310 : a_188 ≠ a_281 := Nat.ne_of_lt (eq_282.symm ▸ hR_216.lt)
  have ne_311 : a_217 ≠ a_281 := Nat.ne_of_lt (eq_282.symm ▸ hR_247.lt)
  have ne_312 : a_248 ≠ a_281 := Nat.ne_of_lt (eq_282.symm ▸ hR_280.lt)
  have ge_313 : (kS K).heap.size ≤ a_281 := by rw [eq_282]; exact hz
  have kn_314 : KN D a_281 := KN.new hK (Nat.le_of_eq eq_282.symm)
  replace hO := hO.kept (hx.2 _ hO.lt)
  replace hR_7 := hR_7.kept (hx.2 _ hR_7.lt)
  replace hR_16 := hR_16.kept (hx.2 _ hR_16.lt)
  replace hR_27 := hR_27.kept (hx.2 _ hR_27.lt)
  replace hR_40 := hR_40.kept (hx.2 _ hR_40.lt)
  replace hR_55 := hR_55.kept (hx.2 _ hR_55.lt)
  replace hR_72 := hR_72.kept (hx.2 _ hR_72.lt)
  replace hR_91 := hR_91.kept (hx.2 _ hR_91.lt)
  replace hR_112 := hR_112.kept (hx.2 _ hR_112.lt)
  replace hR_135 := hR_135.kept (hx.2 _ hR_135.lt)
  replace hR_160 := hR_160.kept (hx.2 _ hR_160.lt)
  replace hR_187 := hR_187.kept (hx.2 _ hR_187.lt)
  replace hR_216 := hR_216.kept (hx.2 _ hR_216.lt)
  replace hR_247 := hR_247.kept (hx.2 _ hR_247.lt)
  replace hR_280 := hR_280.kept (hx.2 _ hR_280.lt)
  replace hK := hK.ex hx
  replace hz : (kS K).heap.size ≤ H.size := by have := hx.1; omega
  have hR_315 : iA D H a_281 160 (fun _ => 0) := ho
  clear ho hx
  refine vv_putfF (C := RX2) (T := TX2) (N := 30) (ref := "AcousticCameraModel") X hO in_X2 CL_X2 tyX2 tyX2_ok nmX2 27 (by decide) q2938 rfl rfl rfl rfl rfl rfl (Nat.le_of_ble_eq_true rfl) (Or.inl rfl) dX2_init_143 (fun H hc ho => ?_)
  have k_0 := hR_7.kept (hc.2 _ (Ne.symm ne_4))
  have k_1 := hR_16.kept (hc.2 _ (Ne.symm ne_12))
  have k_2 := hR_27.kept (hc.2 _ (Ne.symm ne_22))
  have k_3 := hR_40.kept (hc.2 _ (Ne.symm ne_34))
  have k_4 := hR_55.kept (hc.2 _ (Ne.symm ne_48))
  have k_5 := hR_72.kept (hc.2 _ (Ne.symm ne_64))
  have k_6 := hR_91.kept (hc.2 _ (Ne.symm ne_82))
  have k_7 := hR_112.kept (hc.2 _ (Ne.symm ne_102))
  have k_8 := hR_135.kept (hc.2 _ (Ne.symm ne_124))
  have k_9 := hR_160.kept (hc.2 _ (Ne.symm ne_148))
  have k_10 := hR_187.kept (hc.2 _ (Ne.symm ne_174))
  have k_11 := hR_216.kept (hc.2 _ (Ne.symm ne_202))
  have k_12 := hR_247.kept (hc.2 _ (Ne.symm ne_232))
  have k_13 := hR_280.kept (hc.2 _ (Ne.symm ne_264))
  have k_14 := hR_315.kept (hc.2 _ (Ne.symm ne_298))
  replace hK := hK.ch hc (X.ko hK hO CL_X2 (by decide) (by decide))
  clear hR_7
  have hR_7 := k_0
  clear k_0
  clear hR_16
  have hR_16 := k_1
  clear k_1
  clear hR_27
  have hR_27 := k_2
  clear k_2
  clear hR_40
  have hR_40 := k_3
  clear k_3
  clear hR_55
  have hR_55 := k_4
  clear k_4
  clear hR_72
  have hR_72 := k_5
  clear k_5
  clear hR_91
  have hR_91 := k_6
  clear k_6
  clear hR_112
  have hR_112 := k_7
  clear k_7
  clear hR_135
  have hR_135 := k_8
  clear k_8
  clear hR_160
  have hR_160 := k_9
  clear k_9
  clear hR_187
  have hR_187 := k_10
  clear k_10
  clear hR_216
  have hR_216 := k_11
  clear k_11
  clear hR_247
  have hR_247 := k_12
  clear k_12
  clear hR_280
  have hR_280 := k_13
  clear k_13
  clear hR_315
  have hR_315 := k_14
  clear k_14
  replace hz := Nat.le_trans hz (Nat.le_of_eq hc.1.symm)
  clear hO
  have hO : oB D H a 1 [.int (nI 0), .ref a_1, .int (nI 0), .int (nI 0), .int (nI 0), .int (nI 0), .int ((-1)), .int (nI 0), .int (nI 0), .int (nI 0), .ref a_8, .ref a_17, .ref a_28, .ref a_41, .ref a_56, .ref a_73, .ref a_92, .ref a_113, .ref a_136, .int (nI 0), .int (nI 0), .int ((-1)), .int (nI 0), .ref a_161, .ref a_188, .ref a_217, .ref a_248, .ref a_281, .int (nI 0), .null] := ho
  clear hc ho
  refine vv_aload_n X dX2_init_146 rfl 0 rfl ?_
  refine vv_sipush (v := nI 200) X dX2_init_147 (by decide) ?_
  refine vv_newiA (M := 200) X (by omega) (by decide) (Nat.le_of_ble_eq_true rfl) (Nat.le_of_ble_eq_true rfl) rfl dX2_init_150 (fun a_316 H eq_317 hx ho => ?_)
  have lt_318 : a < a_316 := by have h9 := hO.lt; first | omega | exact Nat.lt_of_lt_of_eq h9 (Eq.symm (by assumption))
  have lt_319 : a_1 < a_316 := by have h9 := hR_7.lt; first | omega | exact Nat.lt_of_lt_of_eq h9 (Eq.symm (by assumption))
  have lt_320 : a_8 < a_316 := by have h9 := hR_16.lt; first | omega | exact Nat.lt_of_lt_of_eq h9 (Eq.symm (by assumption))
  have lt_321 : a_17 < a_316 := by have h9 := hR_27.lt; first | omega | exact Nat.lt_of_lt_of_eq h9 (Eq.symm (by assumption))
  have lt_322 : a_28 < a_316 := by have h9 := hR_40.lt; first | omega | exact Nat.lt_of_lt_of_eq h9 (Eq.symm (by assumption))
  have lt_323 : a_41 < a_316 := by have h9 := hR_55.lt; first | omega | exact Nat.lt_of_lt_of_eq h9 (Eq.symm (by assumption))
  have lt_324 : a_56 < a_316 := by have h9 := hR_72.lt; first | omega | exact Nat.lt_of_lt_of_eq h9 (Eq.symm (by assumption))
  have lt_325 : a_73 < a_316 := by have h9 := hR_91.lt; first | omega | exact Nat.lt_of_lt_of_eq h9 (Eq.symm (by assumption))
  have lt_326 : a_92 < a_316 := by have h9 := hR_112.lt; first | omega | exact Nat.lt_of_lt_of_eq h9 (Eq.symm (by assumption))
  have lt_327 : a_113 < a_316 := by have h9 := hR_135.lt; first | omega | exact Nat.lt_of_lt_of_eq h9 (Eq.symm (by assumption))
  have lt_328 : a_136 < a_316 := by have h9 := hR_160.lt; first | omega | exact Nat.lt_of_lt_of_eq h9 (Eq.symm (by assumption))
  have lt_329 : a_161 < a_316 := by have h9 := hR_187.lt; first | omega | exact Nat.lt_of_lt_of_eq h9 (Eq.symm (by assumption))
  have lt_330 : a_188 < a_316 := by have h9 := hR_216.lt; first | omega | exact Nat.lt_of_lt_of_eq h9 (Eq.symm (by assumption))
  have lt_331 : a_217 < a_316 := by have h9 := hR_247.lt; first | omega | exact Nat.lt_of_lt_of_eq h9 (Eq.symm (by assumption))
  have lt_332 : a_248 < a_316 := by have h9 := hR_280.lt; first | omega | exact Nat.lt_of_lt_of_eq h9 (Eq.symm (by assumption))
  have lt_333 : a_281 < a_316 := by have h9 := hR_315.lt; first | omega | exact Nat.lt_of_lt_of_eq h9 (Eq.symm (by assumption))
  have ne_334 : a ≠ a_316 := Nat.ne_of_lt (eq_317.symm ▸ hO.lt)
  have ne_335 : a_1 ≠ a_316 := Nat.ne_of_lt (eq_317.symm ▸ hR_7.lt)
  have ne_336 : a_8 ≠ a_316 := Nat.ne_of_lt (eq_317.symm ▸ hR_16.lt)
  have ne_337 : a_17 ≠ a_316 := Nat.ne_of_lt (eq_317.symm ▸ hR_27.lt)
  have ne_338 : a_28 ≠ a_316 := Nat.ne_of_lt (eq_317.symm ▸ hR_40.lt)
  have ne_339 : a_41 ≠ a_316 := Nat.ne_of_lt (eq_317.symm ▸ hR_55.lt)
  have ne_340 : a_56 ≠ a_316 := Nat.ne_of_lt (eq_317.symm ▸ hR_72.lt)
  have ne_341 : a_73 ≠ a_316 := Nat.ne_of_lt (eq_317.symm ▸ hR_91.lt)
  have ne_342 : a_92 ≠ a_316 := Nat.ne_of_lt (eq_317.symm ▸ hR_112.lt)
  have ne_343 : a_113 ≠ a_316 := Nat.ne_of_lt (eq_317.symm ▸ hR_135.lt)
  have ne_344 : a_136 ≠ a_316 := Nat.ne_of_lt (eq_317.symm ▸ hR_160.lt)
  have ne_345 : a_161 ≠ a_316 := Nat.ne_of_lt (eq_317.symm ▸ hR_187.lt)
  have ne_346 : a_188 ≠ a_316 := Nat.ne_of_lt (eq_317.symm ▸ hR_216.lt)
  have ne_347 : a_217 ≠ a_316 := Nat.ne_of_lt (eq_317.symm ▸ hR_247.lt)
  have ne_348 : a_248 ≠ a_316 := Nat.ne_of_lt (eq_317.symm ▸ hR_280.lt)
  have ne_349 : a_281 ≠ a_316 := Nat.ne_of_lt (eq_317.symm ▸ hR_315.lt)
  have ge_350 : (kS K).heap.size ≤ a_316 := by rw [eq_317]; exact hz
  have kn_351 : KN D a_316 := KN.new hK (Nat.le_of_eq eq_317.symm)
  replace hO := hO.kept (hx.2 _ hO.lt)
  replace hR_7 := hR_7.kept (hx.2 _ hR_7.lt)
  replace hR_16 := hR_16.kept (hx.2 _ hR_16.lt)
  replace hR_27 := hR_27.kept (hx.2 _ hR_27.lt)
  replace hR_40 := hR_40.kept (hx.2 _ hR_40.lt)
  replace hR_55 := hR_55.kept (hx.2 _ hR_55.lt)
  replace hR_72 := hR_72.kept (hx.2 _ hR_72.lt)
  replace hR_91 := hR_91.kept (hx.2 _ hR_91.lt)
  replace hR_112 := hR_112.kept (hx.2 _ hR_112.lt)
  replace hR_135 := hR_135.kept (hx.2 _ hR_135.lt)
  replace hR_160 := hR_160.kept (hx.2 _ hR_160.lt)
  replace hR_187 := hR_187.kept (hx.2 _ hR_187.lt)
  replace hR_216 := hR_216.kept (hx.2 _ hR_216.lt)
  replace hR_247 := hR_247.kept (hx.2 _ hR_247.lt)
  replace hR_280 := hR_280.kept (hx.2 _ hR_280.lt)
  replace hR_315 := hR_315.kept (hx.2 _ hR_315.lt)
  replace hK := hK.ex hx
  replace hz : (kS K).heap.size ≤ H.size := by have := hx.1; omega
  have hR_352 : iA D H a_316 200 (fun _ => 0) := ho
  clear ho hx
  refine vv_putfF (C := RX2) (T := TX2) (N := 30) (ref := "AcousticCameraModel") X hO in_X2 CL_X2 tyX2 tyX2_ok nmX2 29 (by decide) q2940 rfl rfl rfl rfl rfl rfl (Nat.le_of_ble_eq_true rfl) (Or.inl rfl) dX2_init_152 (fun H hc ho => ?_)
  have k_0 := hR_7.kept (hc.2 _ (Ne.symm ne_4))
  have k_1 := hR_16.kept (hc.2 _ (Ne.symm ne_12))
  have k_2 := hR_27.kept (hc.2 _ (Ne.symm ne_22))
  have k_3 := hR_40.kept (hc.2 _ (Ne.symm ne_34))
  have k_4 := hR_55.kept (hc.2 _ (Ne.symm ne_48))
  have k_5 := hR_72.kept (hc.2 _ (Ne.symm ne_64))
  have k_6 := hR_91.kept (hc.2 _ (Ne.symm ne_82))
  have k_7 := hR_112.kept (hc.2 _ (Ne.symm ne_102))
  have k_8 := hR_135.kept (hc.2 _ (Ne.symm ne_124))
  have k_9 := hR_160.kept (hc.2 _ (Ne.symm ne_148))
  have k_10 := hR_187.kept (hc.2 _ (Ne.symm ne_174))
  have k_11 := hR_216.kept (hc.2 _ (Ne.symm ne_202))
  have k_12 := hR_247.kept (hc.2 _ (Ne.symm ne_232))
  have k_13 := hR_280.kept (hc.2 _ (Ne.symm ne_264))
  have k_14 := hR_315.kept (hc.2 _ (Ne.symm ne_298))
  have k_15 := hR_352.kept (hc.2 _ (Ne.symm ne_334))
  replace hK := hK.ch hc (X.ko hK hO CL_X2 (by decide) (by decide))
  clear hR_7
  have hR_7 := k_0
  clear k_0
  clear hR_16
  have hR_16 := k_1
  clear k_1
  clear hR_27
  have hR_27 := k_2
  clear k_2
  clear hR_40
  have hR_40 := k_3
  clear k_3
  clear hR_55
  have hR_55 := k_4
  clear k_4
  clear hR_72
  have hR_72 := k_5
  clear k_5
  clear hR_91
  have hR_91 := k_6
  clear k_6
  clear hR_112
  have hR_112 := k_7
  clear k_7
  clear hR_135
  have hR_135 := k_8
  clear k_8
  clear hR_160
  have hR_160 := k_9
  clear k_9
  clear hR_187
  have hR_187 := k_10
  clear k_10
  clear hR_216
  have hR_216 := k_11
  clear k_11
  clear hR_247
  have hR_247 := k_12
  clear k_12
  clear hR_280
  have hR_280 := k_13
  clear k_13
  clear hR_315
  have hR_315 := k_14
  clear k_14
  clear hR_352
  have hR_352 := k_15
  clear k_15
  replace hz := Nat.le_trans hz (Nat.le_of_eq hc.1.symm)
  clear hO
  have hO : oB D H a 1 [.int (nI 0), .ref a_1, .int (nI 0), .int (nI 0), .int (nI 0), .int (nI 0), .int ((-1)), .int (nI 0), .int (nI 0), .int (nI 0), .ref a_8, .ref a_17, .ref a_28, .ref a_41, .ref a_56, .ref a_73, .ref a_92, .ref a_113, .ref a_136, .int (nI 0), .int (nI 0), .int ((-1)), .int (nI 0), .ref a_161, .ref a_188, .ref a_217, .ref a_248, .ref a_281, .int (nI 0), .ref a_316] := ho
  clear hc ho
  have hinc : inc [a, a_1, a_8, a_17, a_28, a_41, a_56, a_73, a_92, a_113, a_136, a_161, a_188, a_217, a_248, a_281, a_316] := ⟨lt_3, lt_11, lt_21, lt_33, lt_47, lt_63, lt_81, lt_101, lt_123, lt_147, lt_173, lt_201, lt_231, lt_263, lt_297, lt_333, trivial⟩
  have hobj : oB D H a 1 (MF (gL [a, a_1, a_8, a_17, a_28, a_41, a_56, a_73, a_92, a_113, a_136, a_161, a_188, a_217, a_248, a_281, a_316]) x00) := hO
  exact vv_vret X hQ dX2_init_155 (Nat.le_of_ble_eq_true rfl) (Nat.le_of_ble_eq_true rfl) (⟨rfl, gL [a, a_1, a_8, a_17, a_28, a_41, a_56, a_73, a_92, a_113, a_136, a_161, a_188, a_217, a_248, a_281, a_316], rfl, gL_ap hinc rfl, ⟨hobj, MI_all hR_7 hR_16 hR_27 hR_40 hR_55 hR_72 hR_91 hR_112 hR_135 hR_187 hR_216 hR_315 hR_352, hR_160, hR_247, hR_280⟩, gL_ge hinc rfl ge_5⟩)
