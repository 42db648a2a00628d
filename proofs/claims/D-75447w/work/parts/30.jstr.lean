/-! the JDK's strings: printed by gen/j1.py -/
set_option maxRecDepth 100000
/-- a contract of a method that only reads and answers nothing -/
abbrev Cv (l : Launch) (y : MethodName) (bytes : ByteArray) (nL : Nat) (rm : Room) (D : DD) (av : List Value) (P : Heap → Prop) : Prop := Ct l y bytes nL none rm D av P (fun _ => False) (fun v H H1 => v = none ∧ H1 = H)
theorem vv_callSv {K : C_} {y : MethodName} {cc : ByteArray} {nL : Nat} {ret : Option FieldType} {rm : Room} {D : DD} {A : Nat → Prop} {H : Heap} {cells slots : Nat} {Q : State → Prop} {pc : Nat} {lv : List (Nat × Value)} {y2 : MethodName} {b2 : ByteArray} {nL2 idx : Nat} {rm2 : Room} {As st stk : List Value} {P : Heap → Prop} (X : Fx K y cc nL ret rm D) (hM : Cv (kL K) y2 b2 nL2 rm2 D As P) (q1 : Cond.methodLink y.cls idx y2 ∈ lw_all) (q2 : Cond.static y2 ∈ lw_all) (q4 : Cond.initialized y2.cls ∈ lw_all) (q5 : Cond.code y2 b2 nL2 none ∈ lw_all) (hd : notMH y2 As.length) (hR : rm2.frames + 1 ≤ rm.frames ∧ 8 + (nL2 + 11) + rm2.locals ≤ rm.locals)
    (d : decode cc pc = .ok (.invokestatic idx, 3)) (hstk : stk = As.reverse ++ st) (hw : (st.map fun v => v.category).sum ≤ 8) (hP : P H) (hc : cells + rm2.cells ≤ rm.cells ∧ slots + rm2.slots ≤ rm.slots)
    (kk : V K nL A H (cells + rm2.cells) (slots + rm2.slots) Q (pc + 3) lv st) : V K nL A H cells slots Q pc lv stk :=
  vv_callS X hM q1 q2 q4 q5 hd hR d hstk hw hP (fun _ z => z.elim) hc (fun v H1 hq _ _ => by obtain ⟨rfl, rfl⟩ := hq; exact kk)
theorem nJ4_coder : notMH yJ4_coder 0 := by decide +kernel
set_option maxHeartbeats 800000 in
theorem mJ4_coder (l : Launch) (D : DD) (a v n : Nat) (f : Nat → Int32) (h z : Int32) (hn : n < 2 ^ 31) : Cp l yJ4_coder cJ4_coder 1 (some .byte) { frames := 1, cells := 0, slots := 0, locals := 12 } D [.ref a] (fun H => KH D H ∧ oB D H a 12 [.ref v, .int (nI 0), .int h, .int z] ∧ bA D H v n f) (.int (nI 0)) := by
  refine Ct.of (by decide +kernel) (Nat.le_of_ble_eq_true rfl) (fun K Qf hkl X hM hQ => ?_)
  subst hkl
  obtain ⟨hK, hO, hA⟩ := hM
  refine vv_sub (lv' := [(0, .ref a)]) [0] rfl ?_
  refine vv_gets X hK (ref := "java/lang/String") 0 (by decide) rfl q596 (fun _ z => z) dJ4_coder_0 ?_
  refine vv_eqi (show _ = nI 1 from by decide) ?_
  refine vn_if_eq (tgt := 13) X (by omega) dJ4_coder_3 (by decide) (fun c_3 => ?_) (fun c_3 => ?_)
  · exact absurd c_3 (by decide)
  · refine vv_aload_n X dJ4_coder_6 rfl 0 rfl ?_
    refine vv_getf (C := RJ4) (T := TJ4) (N := 4) (ref := "java/lang/String") X hO in_J4 CL_J4 1 (by decide) q718 rfl rfl dJ4_coder_7 ?_
    refine vv_goto (tgt := 14) X dJ4_coder_10 (by decide) ?_
    exact vv_zret X (rfl) hQ dJ4_coder_14 (Nat.le_refl _) (Nat.le_refl _) (pq (by first | rfl | decide | (rw [show (nI 0 &&& 31 : Int32) = 0 from by decide]; exact Int32.shiftRight_zero)))
theorem nJ4_isLatin1 : notMH yJ4_isLatin1 0 := by decide +kernel
set_option maxHeartbeats 800000 in
theorem mJ4_isLatin1 (l : Launch) (D : DD) (a v n : Nat) (f : Nat → Int32) (h z : Int32) (hn : n < 2 ^ 31) : Cp l yJ4_isLatin1 cJ4_isLatin1 1 (some .boolean) { frames := 1, cells := 0, slots := 0, locals := 12 } D [.ref a] (fun H => KH D H ∧ oB D H a 12 [.ref v, .int (nI 0), .int h, .int z] ∧ bA D H v n f) (.int (nI 1)) := by
  refine Ct.of (by decide +kernel) (Nat.le_of_ble_eq_true rfl) (fun K Qf hkl X hM hQ => ?_)
  subst hkl
  obtain ⟨hK, hO, hA⟩ := hM
  refine vv_sub (lv' := [(0, .ref a)]) [0] rfl ?_
  refine vv_gets X hK (ref := "java/lang/String") 0 (by decide) rfl q596 (fun _ z => z) dJ4_isLatin1_0 ?_
  refine vv_eqi (show _ = nI 1 from by decide) ?_
  refine vn_if_eq (tgt := 17) X (by omega) dJ4_isLatin1_3 (by decide) (fun c_3 => ?_) (fun c_3 => ?_)
  · exact absurd c_3 (by decide)
  · refine vv_aload_n X dJ4_isLatin1_6 rfl 0 rfl ?_
    refine vv_getf (C := RJ4) (T := TJ4) (N := 4) (ref := "java/lang/String") X hO in_J4 CL_J4 1 (by decide) q718 rfl rfl dJ4_isLatin1_7 ?_
    refine vn_if_ne (tgt := 17) X (by omega) dJ4_isLatin1_10 (by decide) (fun c_10 => ?_) (fun c_10 => ?_)
    · exact absurd c_10 (by decide)
    · refine vv_iconst (v := nI 1) X dJ4_isLatin1_13 (by decide) ?_
      refine vv_goto (tgt := 18) X dJ4_isLatin1_14 (by decide) ?_
      exact vv_zret X (rfl) hQ dJ4_isLatin1_18 (Nat.le_refl _) (Nat.le_refl _) (pq (by first | rfl | decide | (rw [show (nI 0 &&& 31 : Int32) = 0 from by decide]; exact Int32.shiftRight_zero)))
theorem nJ4_length : notMH yJ4_length 0 := by decide +kernel
set_option maxHeartbeats 800000 in
theorem mJ4_length (l : Launch) (D : DD) (a v n : Nat) (f : Nat → Int32) (h z : Int32) (hn : n < 2 ^ 31) : Cp l yJ4_length cJ4_length 1 (some .int) { frames := 2, cells := 0, slots := 0, locals := 32 } D [.ref a] (fun H => KH D H ∧ oB D H a 12 [.ref v, .int (nI 0), .int h, .int z] ∧ bA D H v n f) (.int (nI n)) := by
  refine Ct.of (by decide +kernel) (Nat.le_of_ble_eq_true rfl) (fun K Qf hkl X hM hQ => ?_)
  subst hkl
  obtain ⟨hK, hO, hA⟩ := hM
  refine vv_sub (lv' := [(0, .ref a)]) [0] rfl ?_
  refine vv_aload_n X dJ4_length_0 rfl 0 rfl ?_
  refine vv_getf (C := RJ4) (T := TJ4) (N := 4) (ref := "java/lang/String") X hO in_J4 CL_J4 0 (by decide) q717 rfl rfl dJ4_length_1 ?_
  refine vv_alen (ty := 2) X hA rfl dJ4_length_4 ?_
  refine vv_aload_n X dJ4_length_5 rfl 0 rfl ?_
  refine vv_callVp X (mJ4_coder (kL K) D a v n f h z hn) q592 q593 q594 q142 q595 nJ4_coder ⟨(Nat.le_of_ble_eq_true rfl), (Nat.le_of_ble_eq_true rfl)⟩ dJ4_length_6 rfl (Nat.le_of_ble_eq_true rfl) (recv X hO CL_J4) ⟨hK, hO, hA⟩ ⟨(Nat.le_of_ble_eq_true rfl), (Nat.le_of_ble_eq_true rfl)⟩ ?_
  refine vv_ishr X dJ4_length_9 ?_
  exact vv_iret X hQ dJ4_length_10 (Nat.le_refl _) (Nat.le_refl _) (pq (by first | rfl | decide | (rw [show (nI 0 &&& 31 : Int32) = 0 from by decide]; exact Int32.shiftRight_zero)))
theorem ch_a : ∀ b, b < 128 → nI b &&& nI 255 = nI b := by decide +kernel
theorem ch_b : ∀ b, b < 128 → ((nI b).toUInt32 % 65536).toInt32 = nI b := by decide +kernel
theorem ch_c : ∀ b, b < 128 → narrow .char (.int (nI b)) = .int (nI b) := by decide +kernel
theorem nJ17_checkIndex : notMH yJ17_checkIndex 3 := by decide +kernel
set_option maxHeartbeats 800000 in
theorem mJ17_checkIndex (l : Launch) (D : DD) (i n p : Nat) (hi : i < n) (hn : n < 2 ^ 31) : Cp l yJ17_checkIndex cJ17_checkIndex 3 (some .int) { frames := 1, cells := 0, slots := 0, locals := 12 } D [.int (nI i), .int (nI n), .ref p] (fun H => KH D H) (.int (nI i)) := by
  refine Ct.of (by decide +kernel) (Nat.le_of_ble_eq_true rfl) (fun K Qf hkl X hM hQ => ?_)
  subst hkl
  refine vv_sub (lv' := [(0, .int (nI i)), (1, .int (nI n)), (2, .ref p)]) [0, 1, 2] rfl ?_
  refine vv_iload_n X dJ17_checkIndex_0 rfl 0 rfl ?_
  refine vn_if_lt (tgt := 9) X (by omega) dJ17_checkIndex_1 (by decide) ?_
  refine vv_iload_n X dJ17_checkIndex_4 rfl 0 rfl ?_
  refine vv_iload_n X dJ17_checkIndex_5 rfl 1 rfl ?_
  refine vn_lt (tgt := 16) X (by omega) (by omega) dJ17_checkIndex_6 (by decide) (fun c_6 => ?_) (fun c_6 => ?_)
  · refine vv_iload_n X dJ17_checkIndex_16 rfl 0 rfl ?_
    exact vv_iret X hQ dJ17_checkIndex_17 (Nat.le_refl _) (Nat.le_refl _) (pq (rfl))
  · exact absurd hi (by omega)
theorem nJ4_checkIndex : notMH yJ4_checkIndex 2 := by decide +kernel
set_option maxHeartbeats 800000 in
theorem mJ4_checkIndex (l : Launch) (D : DD) (i n : Nat) (hi : i < n) (hn : n < 2 ^ 31) : Cv l yJ4_checkIndex cJ4_checkIndex 2 { frames := 2, cells := 0, slots := 0, locals := 34 } D [.int (nI i), .int (nI n)] (fun H => KH D H) := by
  refine Ct.of (by decide +kernel) (Nat.le_of_ble_eq_true rfl) (fun K Qf hkl X hM hQ => ?_)
  subst hkl
  have hK := hM
  refine vv_sub (lv' := [(0, .int (nI i)), (1, .int (nI n))]) [0, 1] rfl ?_
  refine vv_iload_n X dJ4_checkIndex_0 rfl 0 rfl ?_
  refine vv_iload_n X dJ4_checkIndex_1 rfl 1 rfl ?_
  refine vv_gets X hK (ref := "jdk/internal/util/Preconditions") 9 (by decide) rfl q574 (fun _ z => z) dJ4_checkIndex_2 ?_
  refine vv_callSp X (mJ17_checkIndex (kL K) D i n (D.2.2 (400 + 9)) (by omega) (by omega)) q923 q924 q160 q925 nJ17_checkIndex ⟨(Nat.le_of_ble_eq_true rfl), (Nat.le_of_ble_eq_true rfl)⟩ dJ4_checkIndex_5 rfl (Nat.le_of_ble_eq_true rfl) hK ⟨(Nat.le_of_ble_eq_true rfl), (Nat.le_of_ble_eq_true rfl)⟩ ?_
  refine vv_pop X dJ4_checkIndex_8 rfl ?_
  exact vv_vret X hQ dJ4_checkIndex_9 (Nat.le_refl _) (Nat.le_refl _) ⟨rfl, rfl⟩
theorem nJ18_charAt : notMH yJ18_charAt 2 := by decide +kernel
set_option maxHeartbeats 800000 in
theorem mJ18_charAt (l : Launch) (D : DD) (v n i : Nat) (f : Nat → Int32) (c : Nat → Nat) (hn : n < 2 ^ 31) (hc : ∀ k, k < n → f k = nI (c k) ∧ c k < 128) (hi : i < n) : Cp l yJ18_charAt cJ18_charAt 2 (some .char) { frames := 3, cells := 0, slots := 0, locals := 55 } D [.ref v, .int (nI i)] (fun H => KH D H ∧ bA D H v n f) (.int (nI (c i))) := by
  refine Ct.of (by decide +kernel) (Nat.le_of_ble_eq_true rfl) (fun K Qf hkl X hM hQ => ?_)
  subst hkl
  obtain ⟨hK, hA⟩ := hM
  refine vv_sub (lv' := [(0, .ref v), (1, .int (nI i))]) [0, 1] rfl ?_
  refine vv_iload_n X dJ18_charAt_0 rfl 1 rfl ?_
  refine vv_aload_n X dJ18_charAt_1 rfl 0 rfl ?_
  refine vv_alen (ty := 2) X hA rfl dJ18_charAt_2 ?_
  refine vv_callSv X (mJ4_checkIndex (kL K) D i n (by omega) (by omega)) q3078 q921 q142 q922 nJ4_checkIndex ⟨(Nat.le_of_ble_eq_true rfl), (Nat.le_of_ble_eq_true rfl)⟩ dJ18_charAt_3 rfl (Nat.le_of_ble_eq_true rfl) hK ⟨(Nat.le_of_ble_eq_true rfl), (Nat.le_of_ble_eq_true rfl)⟩ ?_
  refine vv_aload_n X dJ18_charAt_6 rfl 0 rfl ?_
  refine vv_iload_n X dJ18_charAt_7 rfl 1 rfl ?_
  refine vv_bald X hA (i) (by omega) (by omega) rfl dJ18_charAt_8 ?_
  refine vv_eqi (hc i hi).1 ?_
  refine vv_sipush (v := nI 255) X dJ18_charAt_9 (by decide) ?_
  refine vv_iand X dJ18_charAt_12 ?_
  refine vv_eqi (ch_a _ (hc i hi).2) ?_
  refine vv_i2c (v := nI (c i)) X dJ18_charAt_13 (ch_b _ (hc i hi).2) ?_
  exact vv_zret X (ch_c _ (hc i hi).2) hQ dJ18_charAt_14 (Nat.le_refl _) (Nat.le_refl _) (pq (rfl))
theorem nJ4_charAt : notMH yJ4_charAt 1 := by decide +kernel
set_option maxHeartbeats 800000 in
theorem mJ4_charAt (l : Launch) (D : DD) (a v n i : Nat) (f : Nat → Int32) (h z : Int32) (c : Nat → Nat) (hn : n < 2 ^ 31) (hc : ∀ k, k < n → f k = nI (c k) ∧ c k < 128) (hi : i < n) : Cp l yJ4_charAt cJ4_charAt 2 (some .char) { frames := 4, cells := 0, slots := 0, locals := 76 } D [.ref a, .int (nI i)] (fun H => KH D H ∧ oB D H a 12 [.ref v, .int (nI 0), .int h, .int z] ∧ bA D H v n f) (.int (nI (c i))) := by
  refine Ct.of (by decide +kernel) (Nat.le_of_ble_eq_true rfl) (fun K Qf hkl X hM hQ => ?_)
  subst hkl
  obtain ⟨hK, hO, hA⟩ := hM
  refine vv_sub (lv' := [(0, .ref a), (1, .int (nI i))]) [0, 1] rfl ?_
  refine vv_aload_n X dJ4_charAt_0 rfl 0 rfl ?_
  refine vv_callVp X (mJ4_isLatin1 (kL K) D a v n f h z hn) q1012 q1013 q1014 q142 q1015 nJ4_isLatin1 ⟨(Nat.le_of_ble_eq_true rfl), (Nat.le_of_ble_eq_true rfl)⟩ dJ4_charAt_1 rfl (Nat.le_of_ble_eq_true rfl) (recv X hO CL_J4) ⟨hK, hO, hA⟩ ⟨(Nat.le_of_ble_eq_true rfl), (Nat.le_of_ble_eq_true rfl)⟩ ?_
  refine vn_if_eq (tgt := 16) X (by omega) dJ4_charAt_4 (by decide) (fun c_4 => ?_) (fun c_4 => ?_)
  · exact absurd c_4 (by decide)
  · refine vv_aload_n X dJ4_charAt_7 rfl 0 rfl ?_
    refine vv_getf (C := RJ4) (T := TJ4) (N := 4) (ref := "java/lang/String") X hO in_J4 CL_J4 0 (by decide) q717 rfl rfl dJ4_charAt_8 ?_
    refine vv_iload_n X dJ4_charAt_11 rfl 1 rfl ?_
    refine vv_callSp X (mJ18_charAt (kL K) D v n i f c hn hc hi) q3075 q3076 q161 q3077 nJ18_charAt ⟨(Nat.le_of_ble_eq_true rfl), (Nat.le_of_ble_eq_true rfl)⟩ dJ4_charAt_12 rfl (Nat.le_of_ble_eq_true rfl) ⟨hK, hA⟩ ⟨(Nat.le_of_ble_eq_true rfl), (Nat.le_of_ble_eq_true rfl)⟩ ?_
    exact vv_zret X (ch_c _ (hc i hi).2) hQ dJ4_charAt_15 (Nat.le_refl _) (Nat.le_refl _) (pq (rfl))
