/-! java.lang.StringBuilder: printed by gen/s40.py -/
set_option maxRecDepth 100000
theorem sel_priv {args : Array Value} {s : State} {C : String} {y y0 : MethodName} (h0 : (Cond.selects C y0 y0).before args s = true) (hc : y0.cls = y.cls) (hp : s.PrivateAt y) (hi : (Cond.instanceMethod y).before args s = true) (hy : y.cls ≠ "java/lang/invoke/MethodHandle" ∧ y.cls ≠ "java/lang/invoke/VarHandle") : (Cond.selects C y y).before args s = true := by
  obtain ⟨c2, r2, m2, q1, q2, q3, q4, kP, hkP, hkPi⟩ := Cond.selects_spec h0
  obtain ⟨mk, methM, hnamed, hmethM, -, -⟩ := Cond.instanceMethod_spec hi
  have hfound : s.methodFound? y.cls y.name y.desc = some mk := State.methodFound?_of_named hnamed hy
  have hcl : m2.cls = mk.cls := Option.some.inj ((findClass_of_methodNamed q3).symm.trans ((congrArg s.vm.findClass hc).trans (findClass_of_methodNamed hnamed)))
  have hsel : selectMethod {} s.vm c2 mk = .method mk := selectMethod_private hmethM (hp mk methM hnamed hmethM)
  rw [hcl] at hkP
  simp only [Cond.before, Cond.holds, Cond.value, q1, hfound, hnamed, hsel, hkP]
  simp; exact hkPi
theorem va_cwP {args : Array Value} {s : State} {R : Room} {own C : String} {index maxL mc ms : Nat} {y : MethodName} {bytes : ByteArray} {ret : Option FieldType} {Ts ws ws' : List Cond} {rm : Room} (n : Nat) (ht : ∀ w ∈ Ts, w.before args s = true) (h1 : Cond.methodLink own index y ∈ Ts) (h0 : Cond.sameMethod y.cls y.cls y.name y.desc ∈ Ts) (h3 : Cond.instanceMethod y ∈ Ts) (h4 : Cond.initialized y.cls ∈ Ts) (hG : GoodIn Ts ws) (hw : ws = Cond.code y bytes maxL ret :: ws') (hrc : rm.cells = mc) (hrs : rm.slots = ms) (hsel : (Cond.selects C y y).before args s = true) (hd : y.cls ≠ "java/lang/invoke/MethodHandle" ∧ y.cls ≠ "java/lang/invoke/VarHandle" ∧ (parseMethodDescriptor y.desc).map (fun d => d.parameters.length) = some n) (hR : rm.frames + 1 ≤ R.frames ∧ 8 + (maxL + 11) + rm.locals ≤ R.locals) : va_CU R s args own C y.cls index y y bytes maxL ret ws rm mc ms n := by
  have hc : Cond.code y bytes maxL ret ∈ ws := by rw [hw]; exact List.mem_cons_self
  refine ⟨⟨hrc, hrs, hR.1, hR.2, pay_in ht hG, hc⟩, ht _ (hG _ hc).1, ht _ h4, ⟨hd.1, hd.2.1⟩, fun sig h => ?_, ht _ h1, ht _ h0, va_Decl.of (ht _ h3) (ht _ (hG _ hc).1), hsel, ht _ h3⟩
  have h2 := hd.2.2
  rw [h] at h2
  exact (Option.some.inj h2).symm
section CALLPU
variable {K : C_} {y : MethodName} {cc : ByteArray} {nL : Nat} {ret : Option FieldType} {rm : Room} {D : DD} {A : Nat → Prop} {H : Heap} {cells slots : Nat} {Q : State → Prop} {pc : Nat} {lv : List (Nat × Value)}
variable {x y2 : MethodName} {b2 : ByteArray} {nL2 idx b count : Nat} {ret2 : Option FieldType} {rm2 : Room} {As st stk : List Value} {P : Heap → Prop} {A2 : Nat → Prop} {Q2 : Option Value → Heap → Heap → Prop} {C owner host : String} {T : u_T} {N ci : Nat} {fs : List Value}
/-- a private method of a class above the receiver's -/
theorem vv_callPU (X : Fx K y cc nL ret rm D) (hM : Ct (kL K) y2 b2 nL2 ret2 rm2 D (.ref b :: As) P A2 Q2) (q1 : Cond.methodLink y.cls idx y2 ∈ lw_all) (q0 : Cond.sameMethod y2.cls y2.cls y2.name y2.desc ∈ lw_all) (qp : Cond.privateMethod y2 ∈ lw_tbl) (q3 : Cond.selects C x x ∈ lw_all) (hcx : x.cls = y2.cls) (q2 : Cond.instanceMethod y2 ∈ lw_all) (q4 : Cond.initialized y2.cls ∈ lw_all) (q5 : Cond.code y2 b2 nL2 ret2 ∈ lw_all) (hd : y2.cls ≠ "java/lang/invoke/MethodHandle" ∧ y2.cls ≠ "java/lang/invoke/VarHandle" ∧ (parseMethodDescriptor y2.desc).map (fun d => d.parameters.length) = some As.length) (hR : rm2.frames + 1 ≤ rm.frames ∧ 8 + (nL2 + 11) + rm2.locals ≤ rm.locals)
    (d : decode cc pc = .ok (.invokevirtual idx, 3)) (hstk : stk = As.reverse ++ .ref b :: st) (hw : (st.map fun v => v.category).sum ≤ 8) (ho : oB D H b ci fs) (hcl : CL[ci]? = some (C, T, N)) (hP : P H) (hA : ∀ q, A2 q → kF K A q) (hc : cells + rm2.cells ≤ rm.cells ∧ slots + rm2.slots ≤ rm.slots)
    (kk : ∀ (v : Option Value) (H1 : Heap), Q2 v H H1 → H.size ≤ H1.size → (∀ q : Nat, q < H.size → ¬ A2 q → H1[q]? = H[q]?) → V K nL A H1 (cells + rm2.cells) (slots + rm2.slots) Q (pc + 3) lv (v.toList ++ st)) : V K nL A H cells slots Q pc lv stk := by
  subst hstk
  exact vv_after (fun L ls h0 => va_runU (As := As) (rest := st) ⟨X.exec, X.code, X.maxL, X.own, X.words⟩ (hM H.size) (va_cwP As.length X.words q1 q0 q2 q4 (lw_meth q5) rfl rfl rfl (sel_priv (X.words _ q3) hcx (Cond.privateMethod_at (X.nest qp rfl)) (X.words _ q2) ⟨hd.1, hd.2.1⟩) hd (by rw [X.room]; exact hR)) ⟨PcT_blind, recv X ho hcl, fun U hU hW => ⟨rfl, by rw [hU], by rw [hU]; exact hP, X.gk.warm hW⟩⟩ rfl rfl h0.1 rfl (lv_room hw) d (by rw [X.room]; exact hc)) hA kk
theorem vv_callPUp {r : Value} (X : Fx K y cc nL ret rm D) (hM : Cp (kL K) y2 b2 nL2 ret2 rm2 D (.ref b :: As) P r) (q1 : Cond.methodLink y.cls idx y2 ∈ lw_all) (q0 : Cond.sameMethod y2.cls y2.cls y2.name y2.desc ∈ lw_all) (qp : Cond.privateMethod y2 ∈ lw_tbl) (q3 : Cond.selects C x x ∈ lw_all) (hcx : x.cls = y2.cls) (q2 : Cond.instanceMethod y2 ∈ lw_all) (q4 : Cond.initialized y2.cls ∈ lw_all) (q5 : Cond.code y2 b2 nL2 ret2 ∈ lw_all) (hd : y2.cls ≠ "java/lang/invoke/MethodHandle" ∧ y2.cls ≠ "java/lang/invoke/VarHandle" ∧ (parseMethodDescriptor y2.desc).map (fun d => d.parameters.length) = some As.length) (hR : rm2.frames + 1 ≤ rm.frames ∧ 8 + (nL2 + 11) + rm2.locals ≤ rm.locals)
    (d : decode cc pc = .ok (.invokevirtual idx, 3)) (hstk : stk = As.reverse ++ .ref b :: st) (hw : (st.map fun v => v.category).sum ≤ 8) (ho : oB D H b ci fs) (hcl : CL[ci]? = some (C, T, N)) (hP : P H) (hc : cells + rm2.cells ≤ rm.cells ∧ slots + rm2.slots ≤ rm.slots)
    (kk : V K nL A H (cells + rm2.cells) (slots + rm2.slots) Q (pc + 3) lv (r :: st)) : V K nL A H cells slots Q pc lv stk :=
  vv_callPU X hM q1 q0 qp q3 hcx q2 q4 q5 hd hR d hstk hw ho hcl hP (fun _ z => z.elim) hc (fun v H1 h _ _ => by obtain ⟨rfl, rfl⟩ := h; exact kk)
end CALLPU
theorem sh0 (q : Nat) : nI q >>> (nI 0 &&& 31) = nI q := by rw [show (nI 0 &&& 31 : Int32) = 0 from by decide]; exact Int32.shiftRight_zero
theorem sl0 (q : Nat) : nI q <<< (nI 0 &&& 31) = nI q := by rw [show (nI 0 &&& 31 : Int32) = 0 from by decide]; exact Int32.shiftLeft_zero
theorem sz_a : ∀ d, d < 10 → ¬ (-lN d ≤ -10) := by decide +kernel
theorem sz_b : ∀ d, d < 10 → ¬ (-lN d ≤ -2147483648) := by decide +kernel
theorem sz_c : ∀ d, d < 10 → (-lN d).toInt32 = -nI d := by decide +kernel
theorem sz_d : ∀ d, d < 10 → ¬ (-nI d ≤ -100) := by decide +kernel
theorem sz_e : ∀ d, d < 10 → - -nI d = nI d := by decide +kernel
theorem i2b9 : ∀ k, k < 128 → (nI k).toInt8.toInt32 = nI k := by decide +kernel
theorem sz_f : ∀ d, d < 10 → -9 ≤ -nI d := by decide +kernel
theorem nJ2_isLatin1 : notMH yJ2_isLatin1 0 := by decide +kernel
set_option maxHeartbeats 800000 in
theorem mJ2_isLatin1 (l : Launch) (D : DD) (b v n : Nat) (z : Int32)  : Cp l yJ2_isLatin1 cJ2_isLatin1 1 (some .boolean) { frames := 1, cells := 0, slots := 0, locals := 12 } D [.ref b] (fun H => KH D H ∧ oB D H b 11 [.ref v, .int (nI 0), .int (z), .int (nI n)]) (.int (nI 1)) := by
  refine Ct.of (by decide +kernel) (Nat.le_of_ble_eq_true rfl) (fun K Qf hkl X hM hQ => ?_)
  subst hkl
  obtain ⟨hK, hs⟩ := hM
  refine vv_sub (lv' := [(0, .ref b)]) [0] rfl ?_
  refine vv_gets X hK (C := "java/lang/String") (n := "COMPACT_STRINGS") (t := "Z") (ref := "java/lang/String") 0 (by decide) rfl q232 (fun x hx => hx) dJ2_isLatin1_0 ?_
  refine vv_eqi (show _ = nI 1 from by decide) ?_
  refine vn_if_eq (tgt := 17) X (by omega) dJ2_isLatin1_3 (by decide) (fun c_3 => ?_) (fun c_3 => ?_)
  · exact absurd c_3 (by decide)
  · refine vv_aload_n X dJ2_isLatin1_6 rfl 0 rfl ?_
    refine vv_getf (C := RJ3) (T := TJ3) (N := 4) (ref := "java/lang/AbstractStringBuilder") X hs in_J3 CL_J3 1 (by decide) q242 rfl rfl dJ2_isLatin1_7 ?_
    refine vn_if_ne (tgt := 17) X (by omega) dJ2_isLatin1_10 (by decide) (fun c_10 => ?_) (fun c_10 => ?_)
    · exact absurd c_10 (by decide)
    · refine vv_iconst (v := nI 1) X dJ2_isLatin1_13 (by decide) ?_
      refine vv_goto (tgt := 18) X dJ2_isLatin1_14 (by decide) ?_
      exact vv_zret X (rfl) hQ dJ2_isLatin1_18 (Nat.le_of_ble_eq_true rfl) (Nat.le_of_ble_eq_true rfl) (pq (rfl))
theorem nJ18_canEncode : notMH yJ18_canEncode 1 := by decide +kernel
set_option maxHeartbeats 800000 in
theorem mJ18_canEncode (l : Launch) (D : DD) (k : Nat) (hk9 : k < 128) : Cp l yJ18_canEncode cJ18_canEncode 1 (some .boolean) { frames := 1, cells := 0, slots := 0, locals := 12 } D [.int (nI k)] (fun H => True) (.int (nI 1)) := by
  refine Ct.of (by decide +kernel) (Nat.le_of_ble_eq_true rfl) (fun K Qf hkl X hM hQ => ?_)
  subst hkl
  refine vv_sub (lv' := [(0, .int (nI k))]) [0] rfl ?_
  refine vv_iload_n X dJ18_canEncode_0 rfl 0 rfl ?_
  refine vv_sipush (v := nI 255) X dJ18_canEncode_1 (by decide) ?_
  refine vn_gt (tgt := 11) X (by omega) (by omega) dJ18_canEncode_4 (by decide) (fun c_4 => ?_) (fun c_4 => ?_)
  · exact absurd c_4 (by omega)
  · refine vv_iconst (v := nI 1) X dJ18_canEncode_7 (by decide) ?_
    refine vv_goto (tgt := 12) X dJ18_canEncode_8 (by decide) ?_
    exact vv_zret X (rfl) hQ dJ18_canEncode_12 (Nat.le_of_ble_eq_true rfl) (Nat.le_of_ble_eq_true rfl) (pq (rfl))
theorem nJ14_newLength : notMH yJ14_newLength 3 := by decide +kernel
set_option maxHeartbeats 800000 in
theorem mJ14_newLength (l : Launch) (D : DD) (q m p : Nat) (hq : q ≤ 1000) (hm : m ≤ 1000) (hp : p ≤ 2000) (h0 : 0 < q + max m p) : Cp l yJ14_newLength cJ14_newLength 4 (some .int) { frames := 1, cells := 0, slots := 0, locals := 20 } D [.int (nI q), .int (nI m), .int (nI p)] (fun H => True) (.int (nI (q + max m p))) := by
  refine Ct.of (by decide +kernel) (Nat.le_of_ble_eq_true rfl) (fun K Qf hkl X hM hQ => ?_)
  subst hkl
  refine vv_sub (lv' := [(0, .int (nI q)), (1, .int (nI m)), (2, .int (nI p))]) [0, 1, 2] rfl ?_
  refine vv_iload_n X dJ14_newLength_0 rfl 0 rfl ?_
  refine vv_iload_n X dJ14_newLength_1 rfl 1 rfl ?_
  refine vv_iload_n X dJ14_newLength_2 rfl 2 rfl ?_
  refine vn_max X q533 (Nat.le_of_ble_eq_true rfl) (Nat.le_of_ble_eq_true rfl) ((Nat.le_of_ble_eq_true rfl)) ((Nat.le_of_ble_eq_true rfl)) (by omega) (by omega) dJ14_newLength_3 ?_
  refine vn_add X dJ14_newLength_6 ?_
  refine vv_istore_n (lv' := [(3, .int (nI (q + (max m p)))), (0, .int (nI q)), (1, .int (nI m)), (2, .int (nI p))]) X dJ14_newLength_7 rfl (by decide) rfl ?_
  refine vv_iconst (v := nI 0) X dJ14_newLength_8 (by decide) ?_
  refine vv_iload_n X dJ14_newLength_9 rfl 0 rfl ?_
  refine vn_ge (tgt := 21) X (by omega) (by omega) dJ14_newLength_10 (by decide) (fun c_10 => ?_) (fun c_10 => ?_)
  · exact absurd c_10 (by omega)
  · refine vv_iload_n X dJ14_newLength_13 rfl 0 rfl ?_
    refine vv_ldc (v := nI 2147483639) X q536 dJ14_newLength_14 ?_
    refine vn_gt (tgt := 21) X (by omega) (by omega) dJ14_newLength_16 (by decide) (fun c_16 => ?_) (fun c_16 => ?_)
    · exact absurd c_16 (by omega)
    · refine vv_iload_n X dJ14_newLength_19 rfl 0 rfl ?_
      exact vv_iret X hQ dJ14_newLength_20 (Nat.le_of_ble_eq_true rfl) (Nat.le_of_ble_eq_true rfl) (pq (by first | rfl | rw [Nat.add_comm]))
theorem nJ2_newCapacity : notMH yJ2_newCapacity 1 := by decide +kernel
set_option maxHeartbeats 800000 in
theorem mJ2_newCapacity (l : Launch) (D : DD) (b v n q m : Nat) (z : Int32) (f : Nat → Int32) (hq : q ≤ 500) (hm : m ≤ 500) (hqm : q < m) : Cp l yJ2_newCapacity cJ2_newCapacity 6 (some .int) { frames := 2, cells := 0, slots := 0, locals := 43 } D [.ref b, .int (nI m)] (fun H => oB D H b 11 [.ref v, .int (nI 0), .int (z), .int (nI n)] ∧ bA D H v q f) (.int (nI (q + max (m - q) (q + 2)))) := by
  refine Ct.of (by decide +kernel) (Nat.le_of_ble_eq_true rfl) (fun K Qf hkl X hM hQ => ?_)
  subst hkl
  obtain ⟨hs, hv⟩ := hM
  refine vv_sub (lv' := [(0, .ref b), (1, .int (nI m))]) [0, 1] rfl ?_
  refine vv_aload_n X dJ2_newCapacity_0 rfl 0 rfl ?_
  refine vv_getf (C := RJ3) (T := TJ3) (N := 4) (ref := "java/lang/AbstractStringBuilder") X hs in_J3 CL_J3 0 (by decide) q241 rfl rfl dJ2_newCapacity_1 ?_
  refine vv_alen (ty := 2) X hv rfl dJ2_newCapacity_4 ?_
  refine vv_istore_n (lv' := [(2, .int (nI q)), (0, .ref b), (1, .int (nI m))]) X dJ2_newCapacity_5 rfl (by decide) rfl ?_
  refine vv_iload_n X dJ2_newCapacity_6 rfl 2 rfl ?_
  refine vv_aload_n X dJ2_newCapacity_7 rfl 1 rfl ?_
  refine vv_getf (C := RJ3) (T := TJ3) (N := 4) (ref := "java/lang/AbstractStringBuilder") X hs in_J3 CL_J3 1 (by decide) q242 rfl rfl dJ2_newCapacity_8 ?_
  refine vv_ishl X dJ2_newCapacity_11 ?_
  refine vv_eqi (sl0 m) ?_
  refine vv_istore_n (lv' := [(3, .int (nI m)), (2, .int (nI q)), (0, .ref b), (1, .int (nI m))]) X dJ2_newCapacity_12 rfl (by decide) rfl ?_
  refine vv_iload_n X dJ2_newCapacity_13 rfl 0 rfl ?_
  refine vv_iload_n X dJ2_newCapacity_14 rfl 1 rfl ?_
  refine vn_sub X (by omega) dJ2_newCapacity_15 ?_
  refine vv_istore (lv' := [(4, .int (nI (m - q))), (3, .int (nI m)), (2, .int (nI q)), (0, .ref b), (1, .int (nI m))]) X dJ2_newCapacity_16 (by decide) rfl ?_
  refine vv_iload_n X dJ2_newCapacity_18 rfl 2 rfl ?_
  refine vv_iload X dJ2_newCapacity_19 0 rfl ?_
  refine vv_iload_n X dJ2_newCapacity_21 rfl 2 rfl ?_
  refine vv_iconst (v := nI 2) X dJ2_newCapacity_22 (by decide) ?_
  refine vv_aload_n X dJ2_newCapacity_23 rfl 3 rfl ?_
  refine vv_getf (C := RJ3) (T := TJ3) (N := 4) (ref := "java/lang/AbstractStringBuilder") X hs in_J3 CL_J3 1 (by decide) q242 rfl rfl dJ2_newCapacity_24 ?_
  refine vv_ishl X dJ2_newCapacity_27 ?_
  refine vv_eqi (sl0 2) ?_
  refine vn_add X dJ2_newCapacity_28 ?_
  refine vv_callSp X (mJ14_newLength (kL K) D q (m - q) (q + 2) (by omega) (by omega) (by omega) (by omega)) q530 q531 q156 q532 nJ14_newLength ⟨(Nat.le_of_ble_eq_true rfl), (Nat.le_of_ble_eq_true rfl)⟩ dJ2_newCapacity_29 rfl (Nat.le_of_ble_eq_true rfl) trivial ⟨(Nat.le_of_ble_eq_true rfl), (Nat.le_of_ble_eq_true rfl)⟩ ?_
  refine vv_istore (lv' := [(5, .int (nI (q + max (m - q) (q + 2)))), (4, .int (nI (m - q))), (3, .int (nI m)), (2, .int (nI q)), (0, .ref b), (1, .int (nI m))]) X dJ2_newCapacity_32 (by decide) rfl ?_
  refine vv_iload X dJ2_newCapacity_34 0 rfl ?_
  refine vv_ldc (v := nI 2147483647) X q540 dJ2_newCapacity_36 ?_
  refine vn_ne (tgt := 51) X (by omega) (by omega) dJ2_newCapacity_38 (by decide) (fun c_38 => ?_) (fun c_38 => ?_)
  · refine vv_iload X dJ2_newCapacity_51 0 rfl ?_
    refine vv_aload_n X dJ2_newCapacity_53 rfl 4 rfl ?_
    refine vv_getf (C := RJ3) (T := TJ3) (N := 4) (ref := "java/lang/AbstractStringBuilder") X hs in_J3 CL_J3 1 (by decide) q242 rfl rfl dJ2_newCapacity_54 ?_
    refine vv_ishr X dJ2_newCapacity_57 ?_
    refine vv_eqi (sh0 (q + max (m - q) (q + 2))) ?_
    exact vv_iret X hQ dJ2_newCapacity_58 (Nat.le_of_ble_eq_true rfl) (Nat.le_of_ble_eq_true rfl) (pq (rfl))
  · exact absurd c_38 (by omega)
theorem nJ16_copyOf : notMH yJ16_copyOf 2 := by decide +kernel
set_option maxHeartbeats 800000 in
theorem mJ16_copyOf (l : Launch) (D : DD) (v q m : Nat) (f : Nat → Int32) (hq : q ≤ 500) (hm : m ≤ 402) (hqm : q < m) (hff : ∀ j, j < q → fits .byte (.int (f j)) = true) : Ct l yJ16_copyOf cJ16_copyOf 3 (some (.array .byte)) { frames := 1, cells := 1, slots := 402, locals := 60 } D [.ref v, .int (nI m)] (fun H => KH D H ∧ bA D H v q f) (fun _ => False) (fun r H H1 => ∃ a, r = some (.ref a) ∧ H.size ≤ a ∧ ∃ f2, bA D H1 a m f2 ∧ (∀ j, j < q → f2 j = f j) ∧ (∀ j, j < m → fits .byte (.int (f2 j)) = true)) := by
  refine Ct.of (by decide +kernel) (Nat.le_of_ble_eq_true rfl) (fun K Qf hkl X hM hQ => ?_)
  subst hkl
  obtain ⟨hK, hv⟩ := hM
  have hz : (kS K).heap.size ≤ (kS K).heap.size := Nat.le_refl _
  refine vv_sub (lv' := [(0, .ref v), (1, .int (nI m))]) [0, 1] rfl ?_
  refine vv_iload_n X dJ16_copyOf_0 rfl 1 rfl ?_
  refine vv_aload_n X dJ16_copyOf_1 rfl 0 rfl ?_
  refine vv_alen (ty := 2) X hv rfl dJ16_copyOf_2 ?_
  refine vn_ne (tgt := 14) X (by omega) (by omega) dJ16_copyOf_3 (by decide) (fun c_3 => ?_) (fun c_3 => ?_)
  · refine vv_iload_n X dJ16_copyOf_14 rfl 1 rfl ?_
    refine vv_newbA (M := 402) X (by omega) (by decide) (Nat.le_of_ble_eq_true rfl) (Nat.le_of_ble_eq_true rfl) rfl dJ16_copyOf_15 (fun a_1 H eq_2 hx ho => ?_)
    have ne_3 : v ≠ a_1 := Nat.ne_of_lt (eq_2.symm ▸ hv.lt)
    have ge_4 : (kS K).heap.size ≤ a_1 := by rw [eq_2]; exact hz
    have kn_5 : KN D a_1 := KN.new hK (Nat.le_of_eq eq_2.symm)
    replace hv := hv.kept (hx.2 _ hv.lt)
    replace hK := hK.ex hx
    replace hz : (kS K).heap.size ≤ H.size := by have := hx.1; omega
    have hR_6 : bA D H a_1 m (fun _ => 0) := ho
    clear ho hx
    refine vv_astore_n (lv' := [(2, .ref a_1), (0, .ref v), (1, .int (nI m))]) X dJ16_copyOf_17 rfl (by decide) rfl ?_
    refine vv_aload_n X dJ16_copyOf_18 rfl 1 rfl ?_
    refine vv_iconst (v := nI 0) X dJ16_copyOf_19 (by decide) ?_
    refine vv_aload_n X dJ16_copyOf_20 rfl 0 rfl ?_
    refine vv_iconst (v := nI 0) X dJ16_copyOf_21 (by decide) ?_
    refine vv_aload_n X dJ16_copyOf_22 rfl 1 rfl ?_
    refine vv_alen (ty := 2) X hv rfl dJ16_copyOf_23 ?_
    refine vv_iload_n X dJ16_copyOf_24 rfl 2 rfl ?_
    refine vn_min X q551 (Nat.le_of_ble_eq_true rfl) (Nat.le_of_ble_eq_true rfl) ((Nat.le_of_ble_eq_true rfl)) ((Nat.le_of_ble_eq_true rfl)) (by omega) (by omega) dJ16_copyOf_25 ?_
    refine vv_eqi (show nI (min q m) = nI q by rw [Nat.min_eq_left (by omega)]) ?_
    refine vv_copyi (n := q) (sp := 0) (dp := 0) (ty := 2) X hv hR_6 rfl rfl q554 q556 q555 q159 (by omega) (by omega) (by omega) (by omega) (fun i hi => by rw [Nat.zero_add]; exact hff i hi) (Nat.le_of_ble_eq_true rfl) (Nat.le_of_ble_eq_true rfl) (Or.inr ge_4) rfl rfl rfl dJ16_copyOf_28 (fun H hc ho => ?_)
    have k_0 := hv.kept (hc.2 _ ne_3)
    replace hK := hK.ch hc kn_5
    clear hv
    have hv := k_0
    clear k_0
    replace hz := Nat.le_trans hz (Nat.le_of_eq hc.1.symm)
    clear hR_6
    have hR_6 := ho
    clear hc ho
    refine vv_aload_n X dJ16_copyOf_31 rfl 0 rfl ?_
    exact vv_aret X (Or.inr ⟨_, rfl⟩) (Or.inr ⟨_, rfl⟩) hQ dJ16_copyOf_32 (Nat.le_of_ble_eq_true rfl) (Nat.le_of_ble_eq_true rfl) (⟨_, rfl, ge_4, _, hR_6, fun j hj => by unfold va_cpy; rw [if_pos ⟨Nat.zero_le _, by omega⟩, Nat.zero_add, Nat.sub_zero], fun j hj => by
        unfold va_cpy
        split
        · rename_i e; rw [Nat.zero_add, Nat.sub_zero]; exact hff j (by omega)
        · rfl⟩)
  · exact absurd c_3 (by omega)
theorem nJ2_ensureCapacityInternal : notMH yJ2_ensureCapacityInternal 1 := by decide +kernel
set_option maxHeartbeats 800000 in
theorem mJ2_ensureCapacityInternal (l : Launch) (D : DD) (b v n q m : Nat) (z : Int32) (f : Nat → Int32) (hn : n ≤ q) (hq : q ≤ 500) (hm : m ≤ 200) (hff : ∀ j, j < q → fits .byte (.int (f j)) = true) : Ct l yJ2_ensureCapacityInternal cJ2_ensureCapacityInternal 3 none { frames := 3, cells := 1, slots := 402, locals := 82 } D [.ref b, .int (nI m)] (fun H => KH D H ∧ oB D H b 11 [.ref v, .int (nI 0), .int (z), .int (nI n)] ∧ bA D H v q f) (fun q => q = b) (fun r H H1 => r = none ∧ ∃ v2 q2 f2, oB D H1 b 11 [.ref v2, .int (nI 0), .int z, .int (nI n)] ∧ bA D H1 v2 q2 f2 ∧ m ≤ q2 ∧ q ≤ q2 ∧ q2 ≤ 500 ∧ (∀ j, j < q → f2 j = f j) ∧ (∀ j, j < q2 → fits .byte (.int (f2 j)) = true) ∧ (v2 = v ∨ H.size ≤ v2)) := by
  refine Ct.of (by decide +kernel) (Nat.le_of_ble_eq_true rfl) (fun K Qf hkl X hM hQ => ?_)
  subst hkl
  obtain ⟨hK, hs, hv⟩ := hM
  have hz : (kS K).heap.size ≤ (kS K).heap.size := Nat.le_refl _
  refine vv_sub (lv' := [(0, .ref b), (1, .int (nI m))]) [0, 1] rfl ?_
  refine vv_aload_n X dJ2_ensureCapacityInternal_0 rfl 0 rfl ?_
  refine vv_getf (C := RJ3) (T := TJ3) (N := 4) (ref := "java/lang/AbstractStringBuilder") X hs in_J3 CL_J3 0 (by decide) q241 rfl rfl dJ2_ensureCapacityInternal_1 ?_
  refine vv_alen (ty := 2) X hv rfl dJ2_ensureCapacityInternal_4 ?_
  refine vv_aload_n X dJ2_ensureCapacityInternal_5 rfl 0 rfl ?_
  refine vv_getf (C := RJ3) (T := TJ3) (N := 4) (ref := "java/lang/AbstractStringBuilder") X hs in_J3 CL_J3 1 (by decide) q242 rfl rfl dJ2_ensureCapacityInternal_6 ?_
  refine vv_ishr X dJ2_ensureCapacityInternal_9 ?_
  refine vv_eqi (sh0 q) ?_
  refine vv_istore_n (lv' := [(2, .int (nI q)), (0, .ref b), (1, .int (nI m))]) X dJ2_ensureCapacityInternal_10 rfl (by decide) rfl ?_
  refine vv_iload_n X dJ2_ensureCapacityInternal_11 rfl 2 rfl ?_
  refine vv_iload_n X dJ2_ensureCapacityInternal_12 rfl 0 rfl ?_
  rcases Nat.lt_or_ge q m with e9 | e9
  · refine vn_sub X (by omega) dJ2_ensureCapacityInternal_13 ?_
    refine vn_if_le (tgt := 38) X (by omega) dJ2_ensureCapacityInternal_14 (by decide) (fun c_14 => ?_) (fun c_14 => ?_)
    · exact absurd c_14 (by omega)
    · refine vv_aload_n X dJ2_ensureCapacityInternal_17 rfl 1 rfl ?_
      refine vv_aload_n X dJ2_ensureCapacityInternal_18 rfl 1 rfl ?_
      refine vv_getf (C := RJ3) (T := TJ3) (N := 4) (ref := "java/lang/AbstractStringBuilder") X hs in_J3 CL_J3 0 (by decide) q241 rfl rfl dJ2_ensureCapacityInternal_19 ?_
      refine vv_aload_n X dJ2_ensureCapacityInternal_22 rfl 1 rfl ?_
      refine vv_iload_n X dJ2_ensureCapacityInternal_23 rfl 2 rfl ?_
      refine vv_callPUp X (mJ2_newCapacity (kL K) D b v _ q m z f (by omega) (by omega) (by omega)) q526 q3646 q527 q560 rfl q528 q140 q529 nJ2_newCapacity ⟨(Nat.le_of_ble_eq_true rfl), (Nat.le_of_ble_eq_true rfl)⟩ dJ2_ensureCapacityInternal_24 rfl (Nat.le_of_ble_eq_true rfl) hs CL_J3 ⟨hs, hv⟩ ⟨(Nat.le_of_ble_eq_true rfl), (Nat.le_of_ble_eq_true rfl)⟩ ?_
      refine vv_aload_n X dJ2_ensureCapacityInternal_27 rfl 1 rfl ?_
      refine vv_getf (C := RJ3) (T := TJ3) (N := 4) (ref := "java/lang/AbstractStringBuilder") X hs in_J3 CL_J3 1 (by decide) q242 rfl rfl dJ2_ensureCapacityInternal_28 ?_
      refine vv_ishl X dJ2_ensureCapacityInternal_31 ?_
      refine vv_eqi (sl0 (q + max (m - q) (q + 2))) ?_
      refine vv_callS X (mJ16_copyOf (kL K) D v q (q + max (m - q) (q + 2)) f (by omega) (by omega) (by omega) hff) q541 q542 q158 q543 nJ16_copyOf ⟨(Nat.le_of_ble_eq_true rfl), (Nat.le_of_ble_eq_true rfl)⟩ dJ2_ensureCapacityInternal_32 rfl (Nat.le_of_ble_eq_true rfl) ⟨hK, hv⟩ (fun _ z => z.elim) ⟨(Nat.le_of_ble_eq_true rfl), (Nat.le_of_ble_eq_true rfl)⟩ (fun v_ H hq hz_ hk => ?_)
      obtain ⟨v2, rfl, hv2z, f2, hv2, hf2, hff2⟩ := hq
      replace hs := hs.kept (hk _ hs.lt (fun z => z))
      replace hv := hv.kept (hk _ hv.lt (fun z => z))
      have hnb9 : b ≠ v2 := fun e => by have h9 := (X.oa hs hv2 CL_J3 rfl); exact h9 e
      replace hK := hK.to hk (fun _ z => z.elim)
      replace hv2z := Nat.le_trans hz hv2z
      replace hz := Nat.le_trans hz hz_
      clear hk hz_ hv
      refine vv_putf (C := RJ3) (T := TJ3) (N := 4) (ref := "java/lang/AbstractStringBuilder") X hs in_J3 CL_J3 tyJ3 tyJ3_ok nmJ3 0 (by decide) q241 rfl rfl rfl rfl (Nat.le_of_ble_eq_true rfl) (Or.inl rfl) dJ2_ensureCapacityInternal_35 (fun H hc ho => ?_)
      have k_0 := hv2.kept (hc.2 _ (Ne.symm hnb9))
      replace hK := hK.ch hc (X.ko hK hs CL_J3 (by decide) (by decide))
      clear hv2
      have hv2 := k_0
      clear k_0
      replace hz := Nat.le_trans hz (Nat.le_of_eq hc.1.symm)
      clear hs
      have hs : oB D H b 11 [.ref v2, .int (nI 0), .int (z), .int (nI n)] := ho
      clear hc ho
      exact vv_vret X hQ dJ2_ensureCapacityInternal_38 (Nat.le_of_ble_eq_true rfl) (Nat.le_of_ble_eq_true rfl) (⟨rfl, _, _, _, hs, hv2, by omega, by omega, by omega, hf2, hff2, Or.inr hv2z⟩)
  · refine vv_isub X dJ2_ensureCapacityInternal_13 ?_
    refine vv_if_le (tgt := 38) X dJ2_ensureCapacityInternal_14 (by decide) (fun c_14 => ?_) (fun c_14 => ?_)
    · exact vv_vret X hQ dJ2_ensureCapacityInternal_38 (Nat.le_of_ble_eq_true rfl) (Nat.le_of_ble_eq_true rfl) (⟨rfl, _, _, _, hs, hv, e9, Nat.le_refl _, hq, fun _ _ => rfl, hff, Or.inl rfl⟩)
    · exact absurd (by rw [Int32.le_iff_toInt_le, pk_sub_toInt (by omega) (by omega)]; show _ ≤ (0 : Int); omega) c_14
/-- a builder of n characters (codes f, below 128) at b, its bytes at v -/
def SB (D : DD) (H : Heap) (b v n : Nat) (f : Nat → Nat) : Prop := ∃ q F z, oB D H b 11 [.ref v, .int (nI 0), .int z, .int (nI n)] ∧ bA D H v q F ∧ n ≤ q ∧ q ≤ 500 ∧ (∀ j, j < q → fits .byte (.int (F j)) = true) ∧ (∀ j, j < n → F j = nI (f j)) ∧ ∀ j, j < n → f j < 128
theorem by_fit : ∀ k, k < 128 → fits .byte (.int (vp_nar .byte (nI k))) = true ∧ vp_nar .byte (nI k) = nI k := by decide +kernel
theorem up_fit {q k c : Nat} {f : Nat → Int32} (hc : c < 128) (h : ∀ j, j < q → fits .byte (.int (f j)) = true) : ∀ j, j < q → fits .byte (.int (va_up f k (vp_nar .byte (nI c)) j)) = true := fun j hj => by
  unfold va_up
  split
  · exact (by_fit c hc).1
  · exact h j hj
theorem nJ2_setLength : notMH yJ2_setLength 1 := by decide +kernel
set_option maxHeartbeats 800000 in
theorem mJ2_setLength (l : Launch) (D : DD) (b v n : Nat) (g : Nat → Nat) (hn : n < 190) (hkv : KN D v) : Ct l yJ2_setLength cJ2_setLength 2 none { frames := 4, cells := 1, slots := 402, locals := 104 } D [.ref b, .int (nI 0)] (fun H => KH D H ∧ SB D H b v n g) (fun q => q = b ∨ q = v) (fun r H H1 => r = none ∧ ∃ v2, (v2 = v ∨ H.size ≤ v2) ∧ SB D H1 b v2 0 g) := by
  refine Ct.of (by decide +kernel) (Nat.le_of_ble_eq_true rfl) (fun K Qf hkl X hM hQ => ?_)
  subst hkl
  obtain ⟨hK, hB⟩ := hM
  have hz : (kS K).heap.size ≤ (kS K).heap.size := Nat.le_refl _
  refine vv_sub (lv' := [(0, .ref b), (1, .int (nI 0))]) [0, 1] rfl ?_
  obtain ⟨q, f, z, hs, hv, hnq, hq, hff, hfg, hg8⟩ := hB
  have hK0 := hK
  have hlv := hv.lt
  refine vv_iload_n X dJ2_setLength_0 rfl 1 rfl ?_
  refine vn_if_ge (tgt := 13) X (by omega) dJ2_setLength_1 (by decide) ?_
  refine vv_aload_n X dJ2_setLength_13 rfl 0 rfl ?_
  refine vv_iload_n X dJ2_setLength_14 rfl 1 rfl ?_
  refine vv_callPU X (mJ2_ensureCapacityInternal (kL K) D b v n q 0 z f (by omega) (by omega) (by omega) hff) q522 q3645 q523 q560 rfl q524 q140 q525 nJ2_ensureCapacityInternal ⟨(Nat.le_of_ble_eq_true rfl), (Nat.le_of_ble_eq_true rfl)⟩ dJ2_setLength_15 rfl (Nat.le_of_ble_eq_true rfl) hs CL_J3 ⟨hK, hs, hv⟩ (fun q z => by rcases z with rfl; exact (Or.inl (Or.inl rfl))) ⟨(Nat.le_of_ble_eq_true rfl), (Nat.le_of_ble_eq_true rfl)⟩ (fun v_ H hq hz_ hk => ?_)
  obtain ⟨rfl, v2, q2, f2, hs2, hv2, hmq, hqq, hq5, hf2, hff2, hvv⟩ := hq
  replace hK := hK.to hk (fun q z => by rcases z with rfl; exact (X.ko hK hs CL_J3 (by decide) (by decide)))
  replace hvv : v2 = v ∨ (kS K).heap.size ≤ v2 := hvv.imp id (fun z => Nat.le_trans hz z)
  replace hz := Nat.le_trans hz hz_
  clear hs hv hk hz_
  have hs := hs2
  clear hs2
  have hkv2 : KN D v2 := hvv.elim (fun z => z ▸ hkv) (fun z => KN.new hK0 z)
  refine vv_aload_n X dJ2_setLength_18 rfl 0 rfl ?_
  refine vv_getf (C := RJ3) (T := TJ3) (N := 4) (ref := "java/lang/AbstractStringBuilder") X hs in_J3 CL_J3 3 (by decide) q245 rfl rfl dJ2_setLength_19 ?_
  refine vv_iload_n X dJ2_setLength_22 rfl 1 rfl ?_
  refine vn_ge (tgt := 63) X (by omega) (by omega) dJ2_setLength_23 (by decide) (fun c_23 => ?_) (fun c_23 => ?_)
  · refine vv_aload_n X dJ2_setLength_63 rfl 0 rfl ?_
    refine vv_getf (C := RJ3) (T := TJ3) (N := 4) (ref := "java/lang/AbstractStringBuilder") X hs in_J3 CL_J3 3 (by decide) q245 rfl rfl dJ2_setLength_64 ?_
    refine vv_iload_n X dJ2_setLength_67 rfl 1 rfl ?_
    refine vn_le (tgt := 76) X (by omega) (by omega) dJ2_setLength_68 (by decide) (fun c_68 => ?_) (fun c_68 => ?_)
    · refine vv_aload_n X dJ2_setLength_76 rfl 0 rfl ?_
      refine vv_iload_n X dJ2_setLength_77 rfl 1 rfl ?_
      refine vv_putf (C := RJ3) (T := TJ3) (N := 4) (ref := "java/lang/AbstractStringBuilder") X hs in_J3 CL_J3 tyJ3 tyJ3_ok nmJ3 3 (by decide) q245 rfl rfl rfl rfl (Nat.le_of_ble_eq_true rfl) (Or.inl (Or.inl rfl)) dJ2_setLength_78 (fun H hc ho => ?_)
      have k_0 := hv2.kept (hc.2 _ (Ne.symm (X.oa hs hv2 CL_J3 rfl)))
      replace hK := hK.ch hc (X.ko hK hs CL_J3 (by decide) (by decide))
      clear hv2
      have hv2 := k_0
      clear k_0
      replace hz := Nat.le_trans hz (Nat.le_of_eq hc.1.symm)
      clear hs
      have hs : oB D H b 11 [.ref v2, .int (nI 0), .int (z), .int (nI 0)] := ho
      clear hc ho
      exact vv_vret X hQ dJ2_setLength_81 (Nat.le_of_ble_eq_true rfl) (Nat.le_of_ble_eq_true rfl) (⟨rfl, v2, hvv, q2, f2, _, hs, hv2, Nat.zero_le _, hq5, hff2, fun j hj => absurd hj (Nat.not_lt_zero _), fun j hj => absurd hj (Nat.not_lt_zero _)⟩)
    · refine vv_aload_n X dJ2_setLength_71 rfl 0 rfl ?_
      refine vv_iconst (v := nI 1) X dJ2_setLength_72 (by decide) ?_
      refine vv_putf (C := RJ3) (T := TJ3) (N := 4) (ref := "java/lang/AbstractStringBuilder") X hs in_J3 CL_J3 tyJ3 tyJ3_ok nmJ3 2 (by decide) q243 rfl rfl rfl rfl (Nat.le_of_ble_eq_true rfl) (Or.inl (Or.inl rfl)) dJ2_setLength_73 (fun H hc ho => ?_)
      have k_0 := hv2.kept (hc.2 _ (Ne.symm (X.oa hs hv2 CL_J3 rfl)))
      replace hK := hK.ch hc (X.ko hK hs CL_J3 (by decide) (by decide))
      clear hv2
      have hv2 := k_0
      clear k_0
      replace hz := Nat.le_trans hz (Nat.le_of_eq hc.1.symm)
      clear hs
      have hs : oB D H b 11 [.ref v2, .int (nI 0), .int (nI 1), .int (nI n)] := ho
      clear hc ho
      refine vv_aload_n X dJ2_setLength_76 rfl 0 rfl ?_
      refine vv_iload_n X dJ2_setLength_77 rfl 1 rfl ?_
      refine vv_putf (C := RJ3) (T := TJ3) (N := 4) (ref := "java/lang/AbstractStringBuilder") X hs in_J3 CL_J3 tyJ3 tyJ3_ok nmJ3 3 (by decide) q245 rfl rfl rfl rfl (Nat.le_of_ble_eq_true rfl) (Or.inl (Or.inl rfl)) dJ2_setLength_78 (fun H hc ho => ?_)
      have k_0 := hv2.kept (hc.2 _ (Ne.symm (X.oa hs hv2 CL_J3 rfl)))
      replace hK := hK.ch hc (X.ko hK hs CL_J3 (by decide) (by decide))
      clear hv2
      have hv2 := k_0
      clear k_0
      replace hz := Nat.le_trans hz (Nat.le_of_eq hc.1.symm)
      clear hs
      have hs : oB D H b 11 [.ref v2, .int (nI 0), .int (nI 1), .int (nI 0)] := ho
      clear hc ho
      exact vv_vret X hQ dJ2_setLength_81 (Nat.le_of_ble_eq_true rfl) (Nat.le_of_ble_eq_true rfl) (⟨rfl, v2, hvv, q2, f2, _, hs, hv2, Nat.zero_le _, hq5, hff2, fun j hj => absurd hj (Nat.not_lt_zero _), fun j hj => absurd hj (Nat.not_lt_zero _)⟩)
  · exact absurd c_23 (by omega)
theorem nJ2_append_3 : notMH yJ2_append_3 1 := by decide +kernel
set_option maxHeartbeats 800000 in
theorem mJ2_append_3 (l : Launch) (D : DD) (b v n : Nat) (g : Nat → Nat) (k : Nat) (hn : n < 190) (hkv : KN D v) (hk9 : k < 128) : Ct l yJ2_append_3 cJ2_append_3 2 (some (.object "java/lang/AbstractStringBuilder")) { frames := 4, cells := 1, slots := 402, locals := 104 } D [.ref b, .int (nI k)] (fun H => KH D H ∧ SB D H b v n g) (fun q => q = b ∨ q = v) (fun r H H1 => r = some (.ref b) ∧ ∃ v2, (v2 = v ∨ H.size ≤ v2) ∧ SB D H1 b v2 (n + 1) (va_up g n k)) := by
  refine Ct.of (by decide +kernel) (Nat.le_of_ble_eq_true rfl) (fun K Qf hkl X hM hQ => ?_)
  subst hkl
  obtain ⟨hK, hB⟩ := hM
  have hz : (kS K).heap.size ≤ (kS K).heap.size := Nat.le_refl _
  refine vv_sub (lv' := [(0, .ref b), (1, .int (nI k))]) [0, 1] rfl ?_
  obtain ⟨q, f, z, hs, hv, hnq, hq, hff, hfg, hg8⟩ := hB
  have hK0 := hK
  have hlv := hv.lt
  refine vv_aload_n X dJ2_append_3_0 rfl 0 rfl ?_
  refine vv_aload_n X dJ2_append_3_1 rfl 0 rfl ?_
  refine vv_getf (C := RJ3) (T := TJ3) (N := 4) (ref := "java/lang/AbstractStringBuilder") X hs in_J3 CL_J3 3 (by decide) q245 rfl rfl dJ2_append_3_2 ?_
  refine vv_iconst (v := nI 1) X dJ2_append_3_5 (by decide) ?_
  refine vn_add X dJ2_append_3_6 ?_
  refine vv_callPU X (mJ2_ensureCapacityInternal (kL K) D b v n q (n + 1) z f (by omega) (by omega) (by omega) hff) q522 q3645 q523 q560 rfl q524 q140 q525 nJ2_ensureCapacityInternal ⟨(Nat.le_of_ble_eq_true rfl), (Nat.le_of_ble_eq_true rfl)⟩ dJ2_append_3_7 rfl (Nat.le_of_ble_eq_true rfl) hs CL_J3 ⟨hK, hs, hv⟩ (fun q z => by rcases z with rfl; exact (Or.inl (Or.inl rfl))) ⟨(Nat.le_of_ble_eq_true rfl), (Nat.le_of_ble_eq_true rfl)⟩ (fun v_ H hq hz_ hk => ?_)
  obtain ⟨rfl, v2, q2, f2, hs2, hv2, hmq, hqq, hq5, hf2, hff2, hvv⟩ := hq
  replace hK := hK.to hk (fun q z => by rcases z with rfl; exact (X.ko hK hs CL_J3 (by decide) (by decide)))
  replace hvv : v2 = v ∨ (kS K).heap.size ≤ v2 := hvv.imp id (fun z => Nat.le_trans hz z)
  replace hz := Nat.le_trans hz hz_
  clear hs hv hk hz_
  have hs := hs2
  clear hs2
  have hkv2 : KN D v2 := hvv.elim (fun z => z ▸ hkv) (fun z => KN.new hK0 z)
  refine vv_aload_n X dJ2_append_3_10 rfl 0 rfl ?_
  refine vv_callUp X (mJ2_isLatin1 (kL K) D b v2 n _) q557 q559 q558 q560 q140 q561 rfl (show "java/lang/AbstractStringBuilder" ≠ "java/lang/invoke/MethodHandle" ∧ "java/lang/AbstractStringBuilder" ≠ "java/lang/invoke/VarHandle" ∧ (parseMethodDescriptor "()Z").map (fun d => d.parameters.length) = some 0 by decide +kernel) ⟨(Nat.le_of_ble_eq_true rfl), (Nat.le_of_ble_eq_true rfl)⟩ dJ2_append_3_11 rfl (Nat.le_of_ble_eq_true rfl) hs CL_J3 ⟨hK, hs⟩ ⟨(Nat.le_of_ble_eq_true rfl), (Nat.le_of_ble_eq_true rfl)⟩ ?_
  refine vn_if_eq (tgt := 45) X (by omega) dJ2_append_3_14 (by decide) (fun c_14 => ?_) (fun c_14 => ?_)
  · exact absurd c_14 (by decide)
  · refine vv_iload_n X dJ2_append_3_17 rfl 1 rfl ?_
    refine vv_callSp X (mJ18_canEncode (kL K) D k (by omega)) q911 q912 q161 q913 nJ18_canEncode ⟨(Nat.le_of_ble_eq_true rfl), (Nat.le_of_ble_eq_true rfl)⟩ dJ2_append_3_18 rfl (Nat.le_of_ble_eq_true rfl) trivial ⟨(Nat.le_of_ble_eq_true rfl), (Nat.le_of_ble_eq_true rfl)⟩ ?_
    refine vn_if_eq (tgt := 45) X (by omega) dJ2_append_3_21 (by decide) (fun c_21 => ?_) (fun c_21 => ?_)
    · exact absurd c_21 (by decide)
    · refine vv_aload_n X dJ2_append_3_24 rfl 0 rfl ?_
      refine vv_getf (C := RJ3) (T := TJ3) (N := 4) (ref := "java/lang/AbstractStringBuilder") X hs in_J3 CL_J3 0 (by decide) q241 rfl rfl dJ2_append_3_25 ?_
      refine vv_aload_n X dJ2_append_3_28 rfl 0 rfl ?_
      refine vv_dup X dJ2_append_3_29 rfl ?_
      refine vv_getf (C := RJ3) (T := TJ3) (N := 4) (ref := "java/lang/AbstractStringBuilder") X hs in_J3 CL_J3 3 (by decide) q245 rfl rfl dJ2_append_3_30 ?_
      refine vv_dup_x1 X dJ2_append_3_33 rfl rfl ?_
      refine vv_iconst (v := nI 1) X dJ2_append_3_34 (by decide) ?_
      refine vn_add X dJ2_append_3_35 ?_
      refine vv_putf (C := RJ3) (T := TJ3) (N := 4) (ref := "java/lang/AbstractStringBuilder") X hs in_J3 CL_J3 tyJ3 tyJ3_ok nmJ3 3 (by decide) q245 rfl rfl rfl rfl (Nat.le_of_ble_eq_true rfl) (Or.inl (Or.inl rfl)) dJ2_append_3_36 (fun H hc ho => ?_)
      have k_0 := hv2.kept (hc.2 _ (Ne.symm (X.oa hs hv2 CL_J3 rfl)))
      replace hK := hK.ch hc (X.ko hK hs CL_J3 (by decide) (by decide))
      clear hv2
      have hv2 := k_0
      clear k_0
      replace hz := Nat.le_trans hz (Nat.le_of_eq hc.1.symm)
      clear hs
      have hs : oB D H b 11 [.ref v2, .int (nI 0), .int (z), .int (nI (n + 1))] := ho
      clear hc ho
      refine vv_iload_n X dJ2_append_3_39 rfl 1 rfl ?_
      refine vv_i2b (v := nI k) X dJ2_append_3_40 ((i2b9 k hk9)) ?_
      refine vv_bast X hv2 (n) (by omega) (by omega) rfl (hvv.elim (fun z => Or.inl (Or.inr z)) (fun z => Or.inr z)) dJ2_append_3_41 (fun H hc ho => ?_)
      have k_0 := hs.kept (hc.2 _ (X.oa hs hv2 CL_J3 rfl))
      replace hK := hK.ch hc hkv2
      clear hs
      have hs := k_0
      clear k_0
      replace hz := Nat.le_trans hz (Nat.le_of_eq hc.1.symm)
      clear hv2
      have hv2 : bA D H v2 q2 (va_up f2 n (vp_nar .byte (nI k))) := ho
      clear hc ho
      refine vv_goto (tgt := 75) X dJ2_append_3_42 (by decide) ?_
      refine vv_aload_n X dJ2_append_3_75 rfl 0 rfl ?_
      exact vv_aret X (Or.inl ⟨_, rfl⟩) (Or.inr ⟨_, rfl⟩) hQ dJ2_append_3_76 (Nat.le_of_ble_eq_true rfl) (Nat.le_of_ble_eq_true rfl) (⟨rfl, v2, hvv, q2, _, _, hs, hv2, by omega, hq5, up_fit (by omega) hff2, fun j hj => by
          unfold va_up
          by_cases e : j = n
          · subst e; rw [if_pos rfl, if_pos rfl]; exact (by_fit _ (by omega)).2
          · rw [if_neg e, if_neg e]; exact (hf2 j (by omega)).trans (hfg j (by omega)), fun j hj => by
          unfold va_up
          by_cases e : j = n
          · subst e; rw [if_pos rfl]; omega
          · rw [if_neg e]; exact hg8 j (by omega)⟩)
theorem nJ30_stringSize : notMH yJ30_stringSize 1 := by decide +kernel
set_option maxHeartbeats 800000 in
theorem mJ30_stringSize (l : Launch) (D : DD) (d : Nat) (hd : d < 10) : Cp l yJ30_stringSize cJ30_stringSize 6 (some .int) { frames := 1, cells := 0, slots := 0, locals := 12 } D [.long (lN d)] (fun H => True) (.int (nI 1)) := by
  refine Ct.of (by decide +kernel) (Nat.le_of_ble_eq_true rfl) (fun K Qf hkl X hM hQ => ?_)
  subst hkl
  refine vv_sub (lv' := [(0, .long (lN d))]) [0] rfl ?_
  refine vv_iconst (v := nI 1) X dJ30_stringSize_0 (by decide) ?_
  refine vv_istore_n (lv' := [(2, .int (nI 1)), (0, .long (lN d))]) X dJ30_stringSize_1 rfl (by decide) rfl ?_
  refine vv_lload_n X dJ30_stringSize_2 rfl 1 rfl ?_
  refine vv_lconst (v := 0) X dJ30_stringSize_3 (by decide) ?_
  refine vv_eql (show (0 : Int64) = lN 0 from rfl) ?_
  refine vv_lcmp X dJ30_stringSize_4 ?_
  refine vcn_lt (tgt := 13) X (by omega) (by omega) dJ30_stringSize_5 (by decide) (fun c_5 => ?_) (fun c_5 => ?_)
  · exact absurd c_5 (Nat.not_lt_zero _)
  · refine vv_iconst (v := nI 0) X dJ30_stringSize_8 (by decide) ?_
    refine vv_istore_n (lv' := [(2, .int (nI 0)), (0, .long (lN d))]) X dJ30_stringSize_9 rfl (by decide) rfl ?_
    refine vv_lload_n X dJ30_stringSize_10 rfl 1 rfl ?_
    refine vv_lneg X dJ30_stringSize_11 ?_
    refine vv_lstore_n (lv' := [(0, .long (-(lN d))), (2, .int (nI 0))]) X dJ30_stringSize_12 rfl (by decide) rfl ?_
    refine vv_ldc2 (v := -10) X q2660 dJ30_stringSize_13 ?_
    refine vv_lstore_n (lv' := [(3, .long ((-10))), (0, .long (-(lN d))), (2, .int (nI 0))]) X dJ30_stringSize_16 rfl (by decide) rfl ?_
    refine vv_iconst (v := nI 1) X dJ30_stringSize_17 (by decide) ?_
    refine vv_istore (lv' := [(5, .int (nI 1)), (3, .long ((-10))), (0, .long (-(lN d))), (2, .int (nI 0))]) X dJ30_stringSize_18 (by decide) rfl ?_
    refine vv_iload X dJ30_stringSize_20 0 rfl ?_
    refine vv_bipush (v := nI 19) X dJ30_stringSize_22 (by decide) ?_
    refine vn_ge (tgt := 50) X (by omega) (by omega) dJ30_stringSize_24 (by decide) (fun c_24 => ?_) (fun c_24 => ?_)
    · exact absurd c_24 (by decide)
    · refine vv_lload_n X dJ30_stringSize_27 rfl 2 rfl ?_
      refine vv_lload_n X dJ30_stringSize_28 rfl 1 rfl ?_
      refine vv_lcmp X dJ30_stringSize_29 ?_
      refine vz_le (tgt := 38) X dJ30_stringSize_30 (by decide) (fun c_30 => ?_) (fun c_30 => ?_)
      · exact absurd c_30 (sz_a d hd)
      · refine vv_iload X dJ30_stringSize_33 0 rfl ?_
        refine vv_iload_n X dJ30_stringSize_35 rfl 3 rfl ?_
        refine vn_add X dJ30_stringSize_36 ?_
        exact vv_iret X hQ dJ30_stringSize_37 (Nat.le_of_ble_eq_true rfl) (Nat.le_of_ble_eq_true rfl) (pq (rfl))
theorem nJ30_getChars : notMH yJ30_getChars 3 := by decide +kernel
set_option maxHeartbeats 800000 in
theorem mJ30_getChars (l : Launch) (D : DD) (d n q v : Nat) (f : Nat → Int32) (hd : d < 10) (hn : n < q) (hq : q ≤ 500) (hkv : KN D v) : Ct l yJ30_getChars cJ30_getChars 11 (some .int) { frames := 1, cells := 0, slots := 0, locals := 12 } D [.long (lN d), .int (nI (n + 1)), .ref v] (fun H => KH D H ∧ bA D H v q f) (fun q => q = v) (fun r H H1 => r = some (.int (nI n)) ∧ bA D H1 v q (va_up f n (vp_nar .byte (nI (48 + d))))) := by
  refine Ct.of (by decide +kernel) (Nat.le_of_ble_eq_true rfl) (fun K Qf hkl X hM hQ => ?_)
  subst hkl
  obtain ⟨hK, hv⟩ := hM
  have hz : (kS K).heap.size ≤ (kS K).heap.size := Nat.le_refl _
  refine vv_sub (lv' := [(0, .long (lN d)), (2, .int (nI (n + 1))), (3, .ref v)]) [0, 1, 2] rfl ?_
  refine vv_iload_n X dJ30_getChars_0 rfl 1 rfl ?_
  refine vv_istore (lv' := [(7, .int (nI (n + 1))), (0, .long (lN d)), (2, .int (nI (n + 1))), (3, .ref v)]) X dJ30_getChars_1 (by decide) rfl ?_
  refine vv_lload_n X dJ30_getChars_3 rfl 1 rfl ?_
  refine vv_lconst (v := 0) X dJ30_getChars_4 (by decide) ?_
  refine vv_eql (show (0 : Int64) = lN 0 from rfl) ?_
  refine vv_lcmp X dJ30_getChars_5 ?_
  refine vcn_ge (tgt := 13) X (by omega) (by omega) dJ30_getChars_6 (by decide) (fun c_6 => ?_) (fun c_6 => ?_)
  · refine vv_iconst (v := nI 0) X dJ30_getChars_13 (by decide) ?_
    refine vv_istore (lv' := [(8, .int (nI 0)), (7, .int (nI (n + 1))), (0, .long (lN d)), (2, .int (nI (n + 1))), (3, .ref v)]) X dJ30_getChars_14 (by decide) rfl ?_
    refine vv_iload X dJ30_getChars_16 0 rfl ?_
    refine vn_if_ne (tgt := 24) X (by omega) dJ30_getChars_18 (by decide) (fun c_18 => ?_) (fun c_18 => ?_)
    · exact absurd c_18 (by decide)
    · refine vv_lload_n X dJ30_getChars_21 rfl 2 rfl ?_
      refine vv_lneg X dJ30_getChars_22 ?_
      refine vv_lstore_n (lv' := [(0, .long (-(lN d))), (8, .int (nI 0)), (7, .int (nI (n + 1))), (2, .int (nI (n + 1))), (3, .ref v)]) X dJ30_getChars_23 rfl (by decide) rfl ?_
      refine vv_lload_n X dJ30_getChars_24 rfl 0 rfl ?_
      refine vv_ldc2 (v := -2147483648) X q2665 dJ30_getChars_25 ?_
      refine vv_lcmp X dJ30_getChars_28 ?_
      refine vz_gt (tgt := 82) X dJ30_getChars_29 (by decide) (fun c_29 => ?_) (fun c_29 => ?_)
      · refine vv_lload_n X dJ30_getChars_82 rfl 0 rfl ?_
        refine vv_l2i X dJ30_getChars_83 rfl ?_
        refine vv_eqi (sz_c d hd) ?_
        refine vv_istore (lv' := [(10, .int (-nI d)), (0, .long (-(lN d))), (8, .int (nI 0)), (7, .int (nI (n + 1))), (2, .int (nI (n + 1))), (3, .ref v)]) X dJ30_getChars_84 (by decide) rfl ?_
        refine vv_iload X dJ30_getChars_86 0 rfl ?_
        refine vv_bipush (v := -100) X dJ30_getChars_88 (by decide) ?_
        refine vv_icmp_gt (tgt := 143) X dJ30_getChars_90 (by decide) (fun c_90 => ?_) (fun c_90 => ?_)
        · refine vv_aload_n X dJ30_getChars_143 rfl 5 rfl ?_
          refine vv_iinc (v := nI n) (lv' := [(7, .int (nI n)), (10, .int (-nI d)), (0, .long (-(lN d))), (8, .int (nI 0)), (2, .int (nI (n + 1))), (3, .ref v)]) X dJ30_getChars_144 (k := 3) rfl (pk_m1 _) (by decide) rfl ?_
          refine vv_iload X dJ30_getChars_147 0 rfl ?_
          refine vv_gets X hK (C := "java/lang/Integer") (n := "DigitOnes") (t := "[B") (ref := "java/lang/Integer") 5 (by decide) rfl q2667 (fun x hx => hx) dJ30_getChars_149 ?_
          obtain ⟨ft, ht9, hft⟩ := hK.2.2.2.2.1
          refine vv_iload X dJ30_getChars_152 1 rfl ?_
          refine vv_ineg X dJ30_getChars_154 ?_
          refine vv_eqi (sz_e d hd) ?_
          refine vv_bald X ht9 d (by omega) (by decide) rfl dJ30_getChars_155 ?_
          refine vv_eqi (show ft d = nI (48 + d) by rw [hft d (by omega), Nat.mod_eq_of_lt hd]) ?_
          clear ht9 hft
          refine vv_bast X hv (n) (by omega) (by omega) rfl (Or.inl rfl) dJ30_getChars_156 (fun H hc ho => ?_)
          replace hK := hK.ch hc hkv
          replace hz := Nat.le_trans hz (Nat.le_of_eq hc.1.symm)
          clear hv
          have hv : bA D H v q (va_up f n (vp_nar .byte (nI (48 + d)))) := ho
          clear hc ho
          refine vv_iload X dJ30_getChars_157 1 rfl ?_
          refine vv_bipush (v := -9) X dJ30_getChars_159 (by decide) ?_
          refine vv_icmp_ge (tgt := 178) X dJ30_getChars_161 (by decide) (fun c_161 => ?_) (fun c_161 => ?_)
          · refine vv_iload X dJ30_getChars_178 3 rfl ?_
            refine vn_if_eq (tgt := 192) X (by omega) dJ30_getChars_180 (by decide) (fun c_180 => ?_) (fun c_180 => ?_)
            · refine vv_iload X dJ30_getChars_192 0 rfl ?_
              exact vv_iret X hQ dJ30_getChars_194 (Nat.le_of_ble_eq_true rfl) (Nat.le_of_ble_eq_true rfl) (⟨rfl, hv⟩)
            · exact absurd c_180 (by decide)
          · exact absurd (sz_f d hd) c_161
        · exact absurd (Int32.not_lt.mp c_90) (sz_d d hd)
      · exact absurd c_29 (sz_b d hd)
  · exact absurd c_6 (by omega)
theorem nJ2_append_4 : notMH yJ2_append_4 1 := by decide +kernel
set_option maxHeartbeats 800000 in
theorem mJ2_append_4 (l : Launch) (D : DD) (b v n : Nat) (g : Nat → Nat) (d : Nat) (hn : n < 190) (hkv : KN D v) (hd : d < 10) : Ct l yJ2_append_4 cJ2_append_4 5 (some (.object "java/lang/AbstractStringBuilder")) { frames := 4, cells := 1, slots := 402, locals := 104 } D [.ref b, .long (lN d)] (fun H => KH D H ∧ SB D H b v n g) (fun q => q = b ∨ q = v) (fun r H H1 => r = some (.ref b) ∧ ∃ v2, (v2 = v ∨ H.size ≤ v2) ∧ SB D H1 b v2 (n + 1) (va_up g n (48 + d))) := by
  refine Ct.of (by decide +kernel) (Nat.le_of_ble_eq_true rfl) (fun K Qf hkl X hM hQ => ?_)
  subst hkl
  obtain ⟨hK, hB⟩ := hM
  have hz : (kS K).heap.size ≤ (kS K).heap.size := Nat.le_refl _
  refine vv_sub (lv' := [(0, .ref b), (1, .long (lN d))]) [0, 1] rfl ?_
  obtain ⟨q, f, z, hs, hv, hnq, hq, hff, hfg, hg8⟩ := hB
  have hK0 := hK
  have hlv := hv.lt
  refine vv_aload_n X dJ2_append_4_0 rfl 0 rfl ?_
  refine vv_getf (C := RJ3) (T := TJ3) (N := 4) (ref := "java/lang/AbstractStringBuilder") X hs in_J3 CL_J3 3 (by decide) q245 rfl rfl dJ2_append_4_1 ?_
  refine vv_istore_n (lv' := [(3, .int (nI n)), (0, .ref b), (1, .long (lN d))]) X dJ2_append_4_4 rfl (by decide) rfl ?_
  refine vv_iload_n X dJ2_append_4_5 rfl 0 rfl ?_
  refine vv_lload_n X dJ2_append_4_6 rfl 2 rfl ?_
  refine vv_callSp X (mJ30_stringSize (kL K) D d hd) q2657 q2658 q179 q2659 nJ30_stringSize ⟨(Nat.le_of_ble_eq_true rfl), (Nat.le_of_ble_eq_true rfl)⟩ dJ2_append_4_7 rfl (Nat.le_of_ble_eq_true rfl) trivial ⟨(Nat.le_of_ble_eq_true rfl), (Nat.le_of_ble_eq_true rfl)⟩ ?_
  refine vn_add X dJ2_append_4_10 ?_
  refine vv_istore (lv' := [(4, .int (nI (n + 1))), (3, .int (nI n)), (0, .ref b), (1, .long (lN d))]) X dJ2_append_4_11 (by decide) rfl ?_
  refine vv_aload_n X dJ2_append_4_13 rfl 2 rfl ?_
  refine vv_iload X dJ2_append_4_14 0 rfl ?_
  refine vv_callPU X (mJ2_ensureCapacityInternal (kL K) D b v n q (n + 1) z f (by omega) (by omega) (by omega) hff) q522 q3645 q523 q560 rfl q524 q140 q525 nJ2_ensureCapacityInternal ⟨(Nat.le_of_ble_eq_true rfl), (Nat.le_of_ble_eq_true rfl)⟩ dJ2_append_4_16 rfl (Nat.le_of_ble_eq_true rfl) hs CL_J3 ⟨hK, hs, hv⟩ (fun q z => by rcases z with rfl; exact (Or.inl (Or.inl rfl))) ⟨(Nat.le_of_ble_eq_true rfl), (Nat.le_of_ble_eq_true rfl)⟩ (fun v_ H hq hz_ hk => ?_)
  obtain ⟨rfl, v2, q2, f2, hs2, hv2, hmq, hqq, hq5, hf2, hff2, hvv⟩ := hq
  replace hK := hK.to hk (fun q z => by rcases z with rfl; exact (X.ko hK hs CL_J3 (by decide) (by decide)))
  replace hvv : v2 = v ∨ (kS K).heap.size ≤ v2 := hvv.imp id (fun z => Nat.le_trans hz z)
  replace hz := Nat.le_trans hz hz_
  clear hs hv hk hz_
  have hs := hs2
  clear hs2
  have hkv2 : KN D v2 := hvv.elim (fun z => z ▸ hkv) (fun z => KN.new hK0 z)
  refine vv_aload_n X dJ2_append_4_19 rfl 2 rfl ?_
  refine vv_callUp X (mJ2_isLatin1 (kL K) D b v2 n _) q557 q559 q558 q560 q140 q561 rfl (show "java/lang/AbstractStringBuilder" ≠ "java/lang/invoke/MethodHandle" ∧ "java/lang/AbstractStringBuilder" ≠ "java/lang/invoke/VarHandle" ∧ (parseMethodDescriptor "()Z").map (fun d => d.parameters.length) = some 0 by decide +kernel) ⟨(Nat.le_of_ble_eq_true rfl), (Nat.le_of_ble_eq_true rfl)⟩ dJ2_append_4_20 rfl (Nat.le_of_ble_eq_true rfl) hs CL_J3 ⟨hK, hs⟩ ⟨(Nat.le_of_ble_eq_true rfl), (Nat.le_of_ble_eq_true rfl)⟩ ?_
  refine vn_if_eq (tgt := 40) X (by omega) dJ2_append_4_23 (by decide) (fun c_23 => ?_) (fun c_23 => ?_)
  · exact absurd c_23 (by decide)
  · refine vv_lload_n X dJ2_append_4_26 rfl 3 rfl ?_
    refine vv_iload X dJ2_append_4_27 0 rfl ?_
    refine vv_aload_n X dJ2_append_4_29 rfl 2 rfl ?_
    refine vv_getf (C := RJ3) (T := TJ3) (N := 4) (ref := "java/lang/AbstractStringBuilder") X hs in_J3 CL_J3 0 (by decide) q241 rfl rfl dJ2_append_4_30 ?_
    refine vv_callS X (mJ30_getChars (kL K) D d n q2 v2 f2 hd (by omega) (by omega) hkv2) q2662 q2663 q179 q2664 nJ30_getChars ⟨(Nat.le_of_ble_eq_true rfl), (Nat.le_of_ble_eq_true rfl)⟩ dJ2_append_4_33 rfl (Nat.le_of_ble_eq_true rfl) ⟨hK, hv2⟩ (fun q z => by rcases z with rfl; exact (hvv.elim (fun z => Or.inl (Or.inr z)) (fun z => Or.inr z))) ⟨(Nat.le_of_ble_eq_true rfl), (Nat.le_of_ble_eq_true rfl)⟩ (fun v_ H hq hz_ hk => ?_)
    obtain ⟨rfl, hv3⟩ := hq
    replace hs := hs.kept (hk _ hs.lt (X.oa hs hv2 CL_J3 rfl))
    replace hK := hK.to hk (fun q z => by rcases z with rfl; exact hkv2)
    replace hz := Nat.le_trans hz hz_
    clear hk hz_ hv2
    have hv2 := hv3
    clear hv3
    refine vv_pop X dJ2_append_4_36 rfl ?_
    refine vv_goto (tgt := 52) X dJ2_append_4_37 (by decide) ?_
    refine vv_aload_n X dJ2_append_4_52 rfl 2 rfl ?_
    refine vv_iload X dJ2_append_4_53 0 rfl ?_
    refine vv_putf (C := RJ3) (T := TJ3) (N := 4) (ref := "java/lang/AbstractStringBuilder") X hs in_J3 CL_J3 tyJ3 tyJ3_ok nmJ3 3 (by decide) q245 rfl rfl rfl rfl (Nat.le_of_ble_eq_true rfl) (Or.inl (Or.inl rfl)) dJ2_append_4_55 (fun H hc ho => ?_)
    have k_0 := hv2.kept (hc.2 _ (Ne.symm (X.oa hs hv2 CL_J3 rfl)))
    replace hK := hK.ch hc (X.ko hK hs CL_J3 (by decide) (by decide))
    clear hv2
    have hv2 := k_0
    clear k_0
    replace hz := Nat.le_trans hz (Nat.le_of_eq hc.1.symm)
    clear hs
    have hs : oB D H b 11 [.ref v2, .int (nI 0), .int (z), .int (nI (n + 1))] := ho
    clear hc ho
    refine vv_aload_n X dJ2_append_4_58 rfl 2 rfl ?_
    exact vv_aret X (Or.inl ⟨_, rfl⟩) (Or.inr ⟨_, rfl⟩) hQ dJ2_append_4_59 (Nat.le_of_ble_eq_true rfl) (Nat.le_of_ble_eq_true rfl) (⟨rfl, v2, hvv, q2, _, _, hs, hv2, by omega, hq5, up_fit (by omega) hff2, fun j hj => by
        unfold va_up
        by_cases e : j = n
        · subst e; rw [if_pos rfl, if_pos rfl]; exact (by_fit _ (by omega)).2
        · rw [if_neg e, if_neg e]; exact (hf2 j (by omega)).trans (hfg j (by omega)), fun j hj => by
        unfold va_up
        by_cases e : j = n
        · subst e; rw [if_pos rfl]; omega
        · rw [if_neg e]; exact hg8 j (by omega)⟩)
theorem nJ3_setLength : notMH yJ3_setLength 1 := by decide +kernel
set_option maxHeartbeats 800000 in
theorem mJ3_setLength (l : Launch) (D : DD) (b v n : Nat) (g : Nat → Nat) (hn : n < 190) (hkv : KN D v) : Ct l yJ3_setLength cJ3_setLength 2 none { frames := 5, cells := 1, slots := 402, locals := 125 } D [.ref b, .int (nI 0)] (fun H => KH D H ∧ SB D H b v n g) (fun q => q = b ∨ q = v) (fun r H H1 => r = none ∧ ∃ v2, (v2 = v ∨ H.size ≤ v2) ∧ SB D H1 b v2 0 g) := by
  refine Ct.of (by decide +kernel) (Nat.le_of_ble_eq_true rfl) (fun K Qf hkl X hM hQ => ?_)
  subst hkl
  obtain ⟨hK, hB⟩ := hM
  have hz : (kS K).heap.size ≤ (kS K).heap.size := Nat.le_refl _
  refine vv_sub (lv' := [(0, .ref b), (1, .int (nI 0))]) [0, 1] rfl ?_
  obtain ⟨q, f, z, hs, hv, hnq, hq, hff, hfg, hg8⟩ := id hB
  refine vv_aload_n X dJ3_setLength_0 rfl 0 rfl ?_
  refine vv_iload_n X dJ3_setLength_1 rfl 1 rfl ?_
  refine vv_callSU X (mJ2_setLength (kL K) D b v n g hn hkv) q2600 q3655 q254 q2601 q140 q2602 (show "setLength" ≠ "<init>" ∧ (parseMethodDescriptor "(I)V").map (fun d => d.parameters.length) = some 1 by decide +kernel) ⟨(Nat.le_of_ble_eq_true rfl), (Nat.le_of_ble_eq_true rfl)⟩ dJ3_setLength_2 rfl (Nat.le_of_ble_eq_true rfl) hs CL_J3 ⟨hK, hB⟩ (fun q z => by rcases z with rfl | rfl; exact (Or.inl (Or.inl rfl)); exact (Or.inl (Or.inr rfl))) ⟨(Nat.le_of_ble_eq_true rfl), (Nat.le_of_ble_eq_true rfl)⟩ (fun v_ H hq hz_ hk => ?_)
  obtain ⟨rfl, v2, hvv, hB2⟩ := hq
  replace hvv : v2 = v ∨ (kS K).heap.size ≤ v2 := hvv.imp id (fun z => Nat.le_trans hz z)
  replace hK := hK.to hk (fun q z => by rcases z with rfl | rfl; exact X.ko hK hs CL_J3 (by decide) (by decide); exact hkv)
  replace hz := Nat.le_trans hz hz_
  clear hs hv hk hz_
  exact vv_vret X hQ dJ3_setLength_5 (Nat.le_of_ble_eq_true rfl) (Nat.le_of_ble_eq_true rfl) (⟨rfl, v2, hvv, hB2⟩)
theorem nJ3_append_3 : notMH yJ3_append_3 1 := by decide +kernel
set_option maxHeartbeats 800000 in
theorem mJ3_append_3 (l : Launch) (D : DD) (b v n : Nat) (g : Nat → Nat) (k : Nat) (hn : n < 190) (hkv : KN D v) (hk9 : k < 128) : Ct l yJ3_append_3 cJ3_append_3 2 (some (.object "java/lang/StringBuilder")) { frames := 5, cells := 1, slots := 402, locals := 125 } D [.ref b, .int (nI k)] (fun H => KH D H ∧ SB D H b v n g) (fun q => q = b ∨ q = v) (fun r H H1 => r = some (.ref b) ∧ ∃ v2, (v2 = v ∨ H.size ≤ v2) ∧ SB D H1 b v2 (n + 1) (va_up g n k)) := by
  refine Ct.of (by decide +kernel) (Nat.le_of_ble_eq_true rfl) (fun K Qf hkl X hM hQ => ?_)
  subst hkl
  obtain ⟨hK, hB⟩ := hM
  have hz : (kS K).heap.size ≤ (kS K).heap.size := Nat.le_refl _
  refine vv_sub (lv' := [(0, .ref b), (1, .int (nI k))]) [0, 1] rfl ?_
  obtain ⟨q, f, z, hs, hv, hnq, hq, hff, hfg, hg8⟩ := id hB
  refine vv_aload_n X dJ3_append_3_0 rfl 0 rfl ?_
  refine vv_iload_n X dJ3_append_3_1 rfl 1 rfl ?_
  refine vv_callSU X (mJ2_append_3 (kL K) D b v n g k hn hkv hk9) q908 q3651 q254 q909 q140 q910 (show "append" ≠ "<init>" ∧ (parseMethodDescriptor "(C)Ljava/lang/AbstractStringBuilder;").map (fun d => d.parameters.length) = some 1 by decide +kernel) ⟨(Nat.le_of_ble_eq_true rfl), (Nat.le_of_ble_eq_true rfl)⟩ dJ3_append_3_2 rfl (Nat.le_of_ble_eq_true rfl) hs CL_J3 ⟨hK, hB⟩ (fun q z => by rcases z with rfl | rfl; exact (Or.inl (Or.inl rfl)); exact (Or.inl (Or.inr rfl))) ⟨(Nat.le_of_ble_eq_true rfl), (Nat.le_of_ble_eq_true rfl)⟩ (fun v_ H hq hz_ hk => ?_)
  obtain ⟨rfl, v2, hvv, hB2⟩ := hq
  replace hvv : v2 = v ∨ (kS K).heap.size ≤ v2 := hvv.imp id (fun z => Nat.le_trans hz z)
  replace hK := hK.to hk (fun q z => by rcases z with rfl | rfl; exact X.ko hK hs CL_J3 (by decide) (by decide); exact hkv)
  replace hz := Nat.le_trans hz hz_
  clear hs hv hk hz_
  refine vv_pop X dJ3_append_3_5 rfl ?_
  refine vv_aload_n X dJ3_append_3_6 rfl 0 rfl ?_
  exact vv_aret X (Or.inl ⟨_, rfl⟩) (Or.inr ⟨_, rfl⟩) hQ dJ3_append_3_7 (Nat.le_of_ble_eq_true rfl) (Nat.le_of_ble_eq_true rfl) (⟨rfl, v2, hvv, hB2⟩)
theorem nJ3_append_4 : notMH yJ3_append_4 1 := by decide +kernel
set_option maxHeartbeats 800000 in
theorem mJ3_append_4 (l : Launch) (D : DD) (b v n : Nat) (g : Nat → Nat) (d : Nat) (hn : n < 190) (hkv : KN D v) (hd : d < 10) : Ct l yJ3_append_4 cJ3_append_4 3 (some (.object "java/lang/StringBuilder")) { frames := 5, cells := 1, slots := 402, locals := 128 } D [.ref b, .long (lN d)] (fun H => KH D H ∧ SB D H b v n g) (fun q => q = b ∨ q = v) (fun r H H1 => r = some (.ref b) ∧ ∃ v2, (v2 = v ∨ H.size ≤ v2) ∧ SB D H1 b v2 (n + 1) (va_up g n (48 + d))) := by
  refine Ct.of (by decide +kernel) (Nat.le_of_ble_eq_true rfl) (fun K Qf hkl X hM hQ => ?_)
  subst hkl
  obtain ⟨hK, hB⟩ := hM
  have hz : (kS K).heap.size ≤ (kS K).heap.size := Nat.le_refl _
  refine vv_sub (lv' := [(0, .ref b), (1, .long (lN d))]) [0, 1] rfl ?_
  obtain ⟨q, f, z, hs, hv, hnq, hq, hff, hfg, hg8⟩ := id hB
  refine vv_aload_n X dJ3_append_4_0 rfl 0 rfl ?_
  refine vv_lload_n X dJ3_append_4_1 rfl 1 rfl ?_
  refine vv_callSU X (mJ2_append_4 (kL K) D b v n g d hn hkv hd) q2654 q3656 q254 q2655 q140 q2656 (show "append" ≠ "<init>" ∧ (parseMethodDescriptor "(J)Ljava/lang/AbstractStringBuilder;").map (fun d => d.parameters.length) = some 1 by decide +kernel) ⟨(Nat.le_of_ble_eq_true rfl), (Nat.le_of_ble_eq_true rfl)⟩ dJ3_append_4_2 rfl (Nat.le_of_ble_eq_true rfl) hs CL_J3 ⟨hK, hB⟩ (fun q z => by rcases z with rfl | rfl; exact (Or.inl (Or.inl rfl)); exact (Or.inl (Or.inr rfl))) ⟨(Nat.le_of_ble_eq_true rfl), (Nat.le_of_ble_eq_true rfl)⟩ (fun v_ H hq hz_ hk => ?_)
  obtain ⟨rfl, v2, hvv, hB2⟩ := hq
  replace hvv : v2 = v ∨ (kS K).heap.size ≤ v2 := hvv.imp id (fun z => Nat.le_trans hz z)
  replace hK := hK.to hk (fun q z => by rcases z with rfl | rfl; exact X.ko hK hs CL_J3 (by decide) (by decide); exact hkv)
  replace hz := Nat.le_trans hz hz_
  clear hs hv hk hz_
  refine vv_pop X dJ3_append_4_5 rfl ?_
  refine vv_aload_n X dJ3_append_4_6 rfl 0 rfl ?_
  exact vv_aret X (Or.inl ⟨_, rfl⟩) (Or.inr ⟨_, rfl⟩) hQ dJ3_append_4_7 (Nat.le_of_ble_eq_true rfl) (Nat.le_of_ble_eq_true rfl) (⟨rfl, v2, hvv, hB2⟩)
