/-! strings: printed by gen/s44.py -/
set_option maxRecDepth 100000
theorem va_cwW {args : Array Value} {s : State} {R : Room} {own C owner : String} {index maxL mc ms : Nat} {x y : MethodName} {bytes bx : ByteArray} {ret rx : Option FieldType} {Lx : Nat} {Ts ws ws' : List Cond} {rm : Room} (n : Nat) (ht : ∀ w ∈ Ts, w.before args s = true) (hT : GoodIn Ts (va_wsU own index C owner x y ws)) (hi : Cond.instanceMethod ⟨owner, x.name, x.desc⟩ ∈ Ts) (hx : Cond.code ⟨owner, x.name, x.desc⟩ bx Lx rx ∈ Ts) (hw : ws = Cond.code y bytes maxL ret :: ws') (hrc : rm.cells = mc) (hrs : rm.slots = ms)
    (hd : owner ≠ "java/lang/invoke/MethodHandle" ∧ owner ≠ "java/lang/invoke/VarHandle" ∧ (parseMethodDescriptor x.desc).map (fun d => d.parameters.length) = some n) (hR : rm.frames + 1 ≤ R.frames ∧ 8 + (maxL + 11) + rm.locals ≤ R.locals) : va_CU R s args own C owner index x y bytes maxL ret ws rm mc ms n := by
  have ok : ∀ w ∈ va_wsU own index C owner x y ws, w.before args s = true := fun w h => ht w (hT w h).1
  have hG : GoodIn Ts ws := fun w h => hT w (by unfold va_wsU; exact List.mem_append_right _ h)
  have hc : Cond.code y bytes maxL ret ∈ ws := by rw [hw]; exact List.mem_cons_self
  refine ⟨⟨hrc, hrs, hR.1, hR.2, pay_in ht hG, hc⟩, ht _ (hG _ hc).1, ok _ (by simp [va_wsU]), ⟨hd.1, hd.2.1⟩, fun sig h => ?_, ok _ (by simp [va_wsU]), ok _ (by simp [va_wsU]), va_Decl.of (ht _ hi) (ht _ hx), ok _ (by simp [va_wsU]), ok _ (by simp [va_wsU])⟩
  have h2 := hd.2.2
  rw [h] at h2
  exact (Option.some.inj h2).symm
section CALLW
variable {K : C_} {y : MethodName} {cc : ByteArray} {nL : Nat} {ret : Option FieldType} {rm : Room} {D : DD} {A : Nat → Prop} {H : Heap} {cells slots : Nat} {Q : State → Prop} {pc : Nat} {lv : List (Nat × Value)}
variable {x y2 : MethodName} {b2 : ByteArray} {nL2 idx b count : Nat} {ret2 : Option FieldType} {rm2 : Room} {As st stk : List Value} {P : Heap → Prop} {A2 : Nat → Prop} {Q2 : Option Value → Heap → Heap → Prop} {C owner host : String} {T : u_T} {N ci : Nat} {fs : List Value}
/-- a method that overrides the one named, which has code itself -/
theorem vv_callWp {r : Value} {bx : ByteArray} {Lx : Nat} {rx : Option FieldType} (X : Fx K y cc nL ret rm D) (hM : Cp (kL K) y2 b2 nL2 ret2 rm2 D (.ref b :: As) P r) (q1 : Cond.methodLink y.cls idx x ∈ lw_all) (q0 : Cond.sameMethod x.cls owner x.name x.desc ∈ lw_all) (qd : Cond.instanceMethod ⟨owner, x.name, x.desc⟩ ∈ lw_all) (qe : Cond.code ⟨owner, x.name, x.desc⟩ bx Lx rx ∈ lw_all) (q2 : Cond.instanceMethod y2 ∈ lw_all) (q3 : Cond.selects C x y2 ∈ lw_all) (q4 : Cond.initialized y2.cls ∈ lw_all) (q5 : Cond.code y2 b2 nL2 ret2 ∈ lw_all) (hd : owner ≠ "java/lang/invoke/MethodHandle" ∧ owner ≠ "java/lang/invoke/VarHandle" ∧ (parseMethodDescriptor x.desc).map (fun d => d.parameters.length) = some As.length) (hR : rm2.frames + 1 ≤ rm.frames ∧ 8 + (nL2 + 11) + rm2.locals ≤ rm.locals)
    (d : decode cc pc = .ok (.invokevirtual idx, 3)) (hstk : stk = As.reverse ++ .ref b :: st) (hw : (st.map fun v => v.category).sum ≤ 8) (ho : oB D H b ci fs) (hcl : CL[ci]? = some (C, T, N)) (hP : P H) (hc : cells + rm2.cells ≤ rm.cells ∧ slots + rm2.slots ≤ rm.slots)
    (kk : V K nL A H (cells + rm2.cells) (slots + rm2.slots) Q (pc + 3) lv (r :: st)) : V K nL A H cells slots Q pc lv stk := by
  subst hstk
  refine vv_after (A2 := fun _ => False) (Q2 := fun v H0 H1 => v = some r ∧ H1 = H0) (fun L ls h0 => va_runU (As := As) (rest := st) ⟨X.exec, X.code, X.maxL, X.own, X.words⟩ (hM H.size) (va_cwW As.length X.words (lw_U q1 q0 q3 q2 q4 q5) qd qe rfl rfl rfl hd (by rw [X.room]; exact hR)) ⟨PcT_blind, recv X ho hcl, fun U hU hW => ⟨rfl, by rw [hU], by rw [hU]; exact hP, X.gk.warm hW⟩⟩ rfl rfl h0.1 rfl (lv_room hw) d (by rw [X.room]; exact hc)) (fun _ z => z.elim) (fun v H1 h _ _ => by obtain ⟨rfl, rfl⟩ := h; exact kk)
theorem vv_callPUv (X : Fx K y cc nL ret rm D) (hM : Cv (kL K) y2 b2 nL2 rm2 D (.ref b :: As) P) (q1 : Cond.methodLink y.cls idx y2 ∈ lw_all) (q0 : Cond.sameMethod y2.cls y2.cls y2.name y2.desc ∈ lw_all) (qp : Cond.privateMethod y2 ∈ lw_tbl) (q3 : Cond.selects C x x ∈ lw_all) (hcx : x.cls = y2.cls) (q2 : Cond.instanceMethod y2 ∈ lw_all) (q4 : Cond.initialized y2.cls ∈ lw_all) (q5 : Cond.code y2 b2 nL2 none ∈ lw_all) (hd : y2.cls ≠ "java/lang/invoke/MethodHandle" ∧ y2.cls ≠ "java/lang/invoke/VarHandle" ∧ (parseMethodDescriptor y2.desc).map (fun d => d.parameters.length) = some As.length) (hR : rm2.frames + 1 ≤ rm.frames ∧ 8 + (nL2 + 11) + rm2.locals ≤ rm.locals)
    (d : decode cc pc = .ok (.invokevirtual idx, 3)) (hstk : stk = As.reverse ++ .ref b :: st) (hw : (st.map fun v => v.category).sum ≤ 8) (ho : oB D H b ci fs) (hcl : CL[ci]? = some (C, T, N)) (hP : P H) (hc : cells + rm2.cells ≤ rm.cells ∧ slots + rm2.slots ≤ rm.slots)
    (kk : V K nL A H (cells + rm2.cells) (slots + rm2.slots) Q (pc + 3) lv st) : V K nL A H cells slots Q pc lv stk :=
  vv_callPU X hM q1 q0 qp q3 hcx q2 q4 q5 hd hR d hstk hw ho hcl hP (fun _ z => z.elim) hc (fun v H1 h _ _ => by obtain ⟨rfl, rfl⟩ := h; exact kk)
end CALLW
theorem nJ2_init : notMH yJ2_init 1 := by decide +kernel
set_option maxHeartbeats 800000 in
theorem mJ2_init (l : Launch) (D : DD) (b : Nat)  : Ct l yJ2_init cJ2_init 2 none { frames := 1, cells := 1, slots := 16, locals := 21 } D [.ref b, .int (nI 16)] (fun H => KH D H ∧ oB D H b 11 [.null, .int (nI 0), .int (nI 0), .int (nI 0)]) (fun q => q = b) (fun r H H1 => ∃ v, r = none ∧ H.size ≤ v ∧ oB D H1 b 11 [.ref v, .int (nI 0), .int (nI 0), .int (nI 0)] ∧ bA D H1 v 16 (fun _ => 0)) := by
  refine Ct.of (by decide +kernel) (Nat.le_of_ble_eq_true rfl) (fun K Qf hkl X hM hQ => ?_)
  subst hkl
  obtain ⟨hK, hs⟩ := hM
  have hz : (kS K).heap.size ≤ (kS K).heap.size := Nat.le_refl _
  refine vv_sub (lv' := [(0, .ref b), (1, .int (nI 16))]) [0, 1] rfl ?_
  refine vv_aload_n X dJ2_init_0 rfl 0 rfl ?_
  refine vv_obj X q231 q197 q198 (Nat.le_of_ble_eq_true rfl) (Nat.le_of_ble_eq_true rfl) dJ2_init_1 ?_
  refine vv_gets X hK (C := "java/lang/String") (n := "COMPACT_STRINGS") (t := "Z") (ref := "java/lang/String") 0 (by decide) rfl q232 (fun x hx => hx) dJ2_init_4 ?_
  refine vv_eqi (show _ = nI 1 from by decide) ?_
  refine vn_if_eq (tgt := 25) X (by omega) dJ2_init_7 (by decide) (fun c_7 => ?_) (fun c_7 => ?_)
  · exact absurd c_7 (by decide)
  · refine vv_aload_n X dJ2_init_10 rfl 0 rfl ?_
    refine vv_iload_n X dJ2_init_11 rfl 1 rfl ?_
    refine vv_newbA (M := 16) X (by omega) (by decide) (Nat.le_of_ble_eq_true rfl) (Nat.le_of_ble_eq_true rfl) rfl dJ2_init_12 (fun a_1 H eq_2 hx ho => ?_)
    have ne_3 : b ≠ a_1 := Nat.ne_of_lt (eq_2.symm ▸ hs.lt)
    have ge_4 : (kS K).heap.size ≤ a_1 := by rw [eq_2]; exact hz
    have kn_5 : KN D a_1 := KN.new hK (Nat.le_of_eq eq_2.symm)
    replace hs := hs.kept (hx.2 _ hs.lt)
    replace hK := hK.ex hx
    replace hz : (kS K).heap.size ≤ H.size := by have := hx.1; omega
    have hR_6 : bA D H a_1 16 (fun _ => 0) := ho
    clear ho hx
    refine vv_putf (C := RJ3) (T := TJ3) (N := 4) (ref := "java/lang/AbstractStringBuilder") X hs in_J3 CL_J3 tyJ3 tyJ3_ok nmJ3 0 (by decide) q241 rfl rfl rfl rfl (Nat.le_of_ble_eq_true rfl) (Or.inl rfl) dJ2_init_14 (fun H hc ho => ?_)
    have k_0 := hR_6.kept (hc.2 _ (Ne.symm ne_3))
    replace hK := hK.ch hc (X.ko hK hs CL_J3 (by decide) (by decide))
    clear hR_6
    have hR_6 := k_0
    clear k_0
    replace hz := Nat.le_trans hz (Nat.le_of_eq hc.1.symm)
    clear hs
    have hs : oB D H b 11 [.ref a_1, .int (nI 0), .int (nI 0), .int (nI 0)] := ho
    clear hc ho
    refine vv_aload_n X dJ2_init_17 rfl 0 rfl ?_
    refine vv_iconst (v := nI 0) X dJ2_init_18 (by decide) ?_
    refine vv_putf (C := RJ3) (T := TJ3) (N := 4) (ref := "java/lang/AbstractStringBuilder") X hs in_J3 CL_J3 tyJ3 tyJ3_ok nmJ3 1 (by decide) q242 rfl rfl rfl rfl (Nat.le_of_ble_eq_true rfl) (Or.inl rfl) dJ2_init_19 (fun H hc ho => ?_)
    have k_0 := hR_6.kept (hc.2 _ (Ne.symm ne_3))
    replace hK := hK.ch hc (X.ko hK hs CL_J3 (by decide) (by decide))
    clear hR_6
    have hR_6 := k_0
    clear k_0
    replace hz := Nat.le_trans hz (Nat.le_of_eq hc.1.symm)
    clear hs
    have hs : oB D H b 11 [.ref a_1, .int (nI 0), .int (nI 0), .int (nI 0)] := ho
    clear hc ho
    refine vv_goto (tgt := 38) X dJ2_init_22 (by decide) ?_
    exact vv_vret X hQ dJ2_init_38 (Nat.le_of_ble_eq_true rfl) (Nat.le_of_ble_eq_true rfl) (⟨_, rfl, ge_4, hs, hR_6⟩)
theorem nJ3_init : notMH yJ3_init 0 := by decide +kernel
set_option maxHeartbeats 800000 in
theorem mJ3_init (l : Launch) (D : DD) (b : Nat)  : Ct l yJ3_init cJ3_init 1 none { frames := 2, cells := 1, slots := 16, locals := 42 } D [.ref b] (fun H => KH D H ∧ oB D H b 11 [.null, .int (nI 0), .int (nI 0), .int (nI 0)]) (fun q => q = b) (fun r H H1 => ∃ v, r = none ∧ H.size ≤ v ∧ oB D H1 b 11 [.ref v, .int (nI 0), .int (nI 0), .int (nI 0)] ∧ bA D H1 v 16 (fun _ => 0)) := by
  refine Ct.of (by decide +kernel) (Nat.le_of_ble_eq_true rfl) (fun K Qf hkl X hM hQ => ?_)
  subst hkl
  obtain ⟨hK, hs⟩ := hM
  have hz : (kS K).heap.size ≤ (kS K).heap.size := Nat.le_refl _
  refine vv_sub (lv' := [(0, .ref b)]) [0] rfl ?_
  refine vv_aload_n X dJ3_init_0 rfl 0 rfl ?_
  refine vv_bipush (v := nI 16) X dJ3_init_1 (by decide) ?_
  refine vv_callI X (mJ2_init (kL K) D b) q228 q229 q140 q230 rfl nJ2_init ⟨(Nat.le_of_ble_eq_true rfl), (Nat.le_of_ble_eq_true rfl)⟩ dJ3_init_3 rfl (Nat.le_of_ble_eq_true rfl) ⟨hK, hs⟩ (fun q z => by rcases z with rfl; exact (Or.inl rfl)) ⟨(Nat.le_of_ble_eq_true rfl), (Nat.le_of_ble_eq_true rfl)⟩ (fun v_ H hq hz_ hk => ?_)
  obtain ⟨v, rfl, hvz, hs2, hv⟩ := hq
  replace hK := hK.to hk (fun q z => by rcases z with rfl; exact (X.ko hK hs CL_J3 (by decide) (by decide)))
  replace hvz := Nat.le_trans hz hvz
  replace hz := Nat.le_trans hz hz_
  clear hs hk hz_
  have hs := hs2
  clear hs2
  exact vv_vret X hQ dJ3_init_6 (Nat.le_of_ble_eq_true rfl) (Nat.le_of_ble_eq_true rfl) (⟨_, rfl, hvz, hs, hv⟩)
set_option maxHeartbeats 800000 in
theorem mJ2_ecf (l : Launch) (D : DD) (b v n q m : Nat) (z : Int32) (f : Nat → Int32) (hm : m ≤ q) (hq : q ≤ 500) : Cv l yJ2_ensureCapacityInternal cJ2_ensureCapacityInternal 3 { frames := 1, cells := 0, slots := 0, locals := 12 } D [.ref b, .int (nI m)] (fun H => KH D H ∧ oB D H b 11 [.ref v, .int (nI 0), .int (z), .int (nI n)] ∧ bA D H v q f) := by
  refine Ct.of (by decide +kernel) (Nat.le_of_ble_eq_true rfl) (fun K Qf hkl X hM hQ => ?_)
  subst hkl
  obtain ⟨hK, hs, hv⟩ := hM
  refine vv_sub (lv' := [(0, .ref b), (1, .int (nI m))]) [0, 1] rfl ?_
  refine vv_aload_n X dJ2_ensureCapacityInternal_0 rfl 0 rfl ?_
  refine vv_getf (C := RJ3) (T := TJ3) (N := 4) (ref := "java/lang/AbstractStringBuilder") X hs in_J3 CL_J3 0 (by decide) q241 rfl rfl dJ2_ensureCapacityInternal_1 ?_
  refine vv_alen (ty := 2) X hv rfl dJ2_ensureCapacityInternal_4 ?_
  refine vv_aload_n X dJ2_ensureCapacityInternal_5 rfl 0 rfl ?_
  refine vv_getf (C := RJ3) (T := TJ3) (N := 4) (ref := "java/lang/AbstractStringBuilder") X hs in_J3 CL_J3 1 (by decide) q242 rfl rfl dJ2_ensureCapacityInternal_6 ?_
  refine vv_ishr X dJ2_ensureCapacityInternal_9 ?_
  refine vv_eqi (sh0 q) ?_
  refine vv_istore_n (lv' := [(2, .int (nI q)), (0, .ref b), (1, .int (nI m))]) X dJ2_ensureCapacityInternal_10 rfl (by decide) rfl ?_
  refine vv_iload_n X dJ2_ensureCapacityInternal_11 rfl 2 rfl ?_
  refine vv_iload_n X dJ2_ensureCapacityInternal_12 rfl 0 rfl ?_
  refine vv_isub X dJ2_ensureCapacityInternal_13 ?_
  refine vv_if_le (tgt := 38) X dJ2_ensureCapacityInternal_14 (by decide) (fun c_14 => ?_) (fun c_14 => ?_)
  · exact vv_vret X hQ dJ2_ensureCapacityInternal_38 (Nat.le_of_ble_eq_true rfl) (Nat.le_of_ble_eq_true rfl) (⟨rfl, rfl⟩)
  · exact absurd (by rw [Int32.le_iff_toInt_le, pk_sub_toInt (by omega) (by omega)]; show _ ≤ (0 : Int); omega) c_14
set_option maxHeartbeats 800000 in
theorem mJ2_apf (l : Launch) (D : DD) (b v n q k : Nat) (z : Int32) (f : Nat → Int32) (hn : n < q) (hq : q ≤ 500) (hkv : KN D v) (hk9 : k < 128) : Ct l yJ2_append_3 cJ2_append_3 2 (some (.object "java/lang/AbstractStringBuilder")) { frames := 2, cells := 0, slots := 0, locals := 34 } D [.ref b, .int (nI k)] (fun H => KH D H ∧ oB D H b 11 [.ref v, .int (nI 0), .int (z), .int (nI n)] ∧ bA D H v q f) (fun q => q = b ∨ q = v) (fun r H H1 => r = some (.ref b) ∧ oB D H1 b 11 [.ref v, .int (nI 0), .int z, .int (nI (n + 1))] ∧ bA D H1 v q (va_up f n (vp_nar .byte (nI k)))) := by
  refine Ct.of (by decide +kernel) (Nat.le_of_ble_eq_true rfl) (fun K Qf hkl X hM hQ => ?_)
  subst hkl
  obtain ⟨hK, hs, hv⟩ := hM
  have hz : (kS K).heap.size ≤ (kS K).heap.size := Nat.le_refl _
  refine vv_sub (lv' := [(0, .ref b), (1, .int (nI k))]) [0, 1] rfl ?_
  refine vv_aload_n X dJ2_append_3_0 rfl 0 rfl ?_
  refine vv_aload_n X dJ2_append_3_1 rfl 0 rfl ?_
  refine vv_getf (C := RJ3) (T := TJ3) (N := 4) (ref := "java/lang/AbstractStringBuilder") X hs in_J3 CL_J3 3 (by decide) q245 rfl rfl dJ2_append_3_2 ?_
  refine vv_iconst (v := nI 1) X dJ2_append_3_5 (by decide) ?_
  refine vn_add X dJ2_append_3_6 ?_
  refine vv_callPUv X (mJ2_ecf (kL K) D b v n q (n + 1) z f (by omega) (by omega)) q522 q3645 q523 q560 rfl q524 q140 q525 nJ2_ensureCapacityInternal ⟨(Nat.le_of_ble_eq_true rfl), (Nat.le_of_ble_eq_true rfl)⟩ dJ2_append_3_7 rfl (Nat.le_of_ble_eq_true rfl) hs CL_J3 ⟨hK, hs, hv⟩ ⟨(Nat.le_of_ble_eq_true rfl), (Nat.le_of_ble_eq_true rfl)⟩ ?_
  refine vv_aload_n X dJ2_append_3_10 rfl 0 rfl ?_
  refine vv_callUp X (mJ2_isLatin1 (kL K) D b v n z) q557 q559 q558 q560 q140 q561 rfl (show "java/lang/AbstractStringBuilder" ≠ "java/lang/invoke/MethodHandle" ∧ "java/lang/AbstractStringBuilder" ≠ "java/lang/invoke/VarHandle" ∧ (parseMethodDescriptor "()Z").map (fun d => d.parameters.length) = some 0 by decide +kernel) ⟨(Nat.le_of_ble_eq_true rfl), (Nat.le_of_ble_eq_true rfl)⟩ dJ2_append_3_11 rfl (Nat.le_of_ble_eq_true rfl) hs CL_J3 ⟨hK, hs⟩ ⟨(Nat.le_of_ble_eq_true rfl), (Nat.le_of_ble_eq_true rfl)⟩ ?_
  refine vn_if_eq (tgt := 45) X (by omega) dJ2_append_3_14 (by decide) (fun c_14 => ?_) (fun c_14 => ?_)
  · exact absurd c_14 (by decide)
  · refine vv_iload_n X dJ2_append_3_17 rfl 1 rfl ?_
    refine vv_callSp X (mJ18_canEncode (kL K) D k (by omega)) q911 q912 q161 q913 nJ18_canEncode ⟨(Nat.le_of_ble_eq_true rfl), (Nat.le_of_ble_eq_true rfl)⟩ dJ2_append_3_18 rfl (Nat.le_of_ble_eq_true rfl) trivial ⟨(Nat.le_of_ble_eq_true rfl), (Nat.le_of_ble_eq_true rfl)⟩ ?_
    refine vn_if_eq (tgt := 45) X (by omega) dJ2_append_3_21 (by decide) (fun c_21 => ?_) (fun c_21 => ?_)
    · exact absurd c_21 (by decide)
    · refine vv_aload_n X dJ2_append_3_24 rfl 0 rfl ?_
      refine vv_getf (C := RJ3) (T := TJ3) (N := 4) (ref := "java/lang/AbstractStringBuilder") X hs in_J3 CL_J3 0 (by decide) q241 rfl rfl dJ2_append_3_25 ?_
      refine vv_aload_n X dJ2_append_3_28 rfl 0 rfl ?_
      refine vv_dup X dJ2_append_3_29 rfl ?_
      refine vv_getf (C := RJ3) (T := TJ3) (N := 4) (ref := "java/lang/AbstractStringBuilder") X hs in_J3 CL_J3 3 (by decide) q245 rfl rfl dJ2_append_3_30 ?_
      refine vv_dup_x1 X dJ2_append_3_33 rfl rfl ?_
      refine vv_iconst (v := nI 1) X dJ2_append_3_34 (by decide) ?_
      refine vn_add X dJ2_append_3_35 ?_
      refine vv_putf (C := RJ3) (T := TJ3) (N := 4) (ref := "java/lang/AbstractStringBuilder") X hs in_J3 CL_J3 tyJ3 tyJ3_ok nmJ3 3 (by decide) q245 rfl rfl rfl rfl (Nat.le_of_ble_eq_true rfl) (Or.inl (Or.inl rfl)) dJ2_append_3_36 (fun H hc ho => ?_)
      have k_0 := hv.kept (hc.2 _ (X.ao hv hs CL_J3 rfl))
      replace hK := hK.ch hc (X.ko hK hs CL_J3 (by decide) (by decide))
      clear hv
      have hv := k_0
      clear k_0
      replace hz := Nat.le_trans hz (Nat.le_of_eq hc.1.symm)
      clear hs
      have hs : oB D H b 11 [.ref v, .int (nI 0), .int (z), .int (nI (n + 1))] := ho
      clear hc ho
      refine vv_iload_n X dJ2_append_3_39 rfl 1 rfl ?_
      refine vv_i2b (v := nI k) X dJ2_append_3_40 ((i2b9 k hk9)) ?_
      refine vv_bast X hv (n) (by omega) (by omega) rfl (Or.inl (Or.inr rfl)) dJ2_append_3_41 (fun H hc ho => ?_)
      have k_0 := hs.kept (hc.2 _ (X.oa hs hv CL_J3 rfl))
      replace hK := hK.ch hc hkv
      clear hs
      have hs := k_0
      clear k_0
      replace hz := Nat.le_trans hz (Nat.le_of_eq hc.1.symm)
      clear hv
      have hv : bA D H v q (va_up f n (vp_nar .byte (nI k))) := ho
      clear hc ho
      refine vv_goto (tgt := 75) X dJ2_append_3_42 (by decide) ?_
      refine vv_aload_n X dJ2_append_3_75 rfl 0 rfl ?_
      exact vv_aret X (Or.inl ⟨_, rfl⟩) (Or.inr ⟨_, rfl⟩) hQ dJ2_append_3_76 (Nat.le_of_ble_eq_true rfl) (Nat.le_of_ble_eq_true rfl) (⟨rfl, hs, hv⟩)
set_option maxHeartbeats 800000 in
theorem mJ3_apf (l : Launch) (D : DD) (b v n q k : Nat) (z : Int32) (f : Nat → Int32) (hn : n < q) (hq : q ≤ 500) (hkv : KN D v) (hk9 : k < 128) : Ct l yJ3_append_3 cJ3_append_3 2 (some (.object "java/lang/StringBuilder")) { frames := 3, cells := 0, slots := 0, locals := 55 } D [.ref b, .int (nI k)] (fun H => KH D H ∧ oB D H b 11 [.ref v, .int (nI 0), .int (z), .int (nI n)] ∧ bA D H v q f) (fun q => q = b ∨ q = v) (fun r H H1 => r = some (.ref b) ∧ oB D H1 b 11 [.ref v, .int (nI 0), .int z, .int (nI (n + 1))] ∧ bA D H1 v q (va_up f n (vp_nar .byte (nI k)))) := by
  refine Ct.of (by decide +kernel) (Nat.le_of_ble_eq_true rfl) (fun K Qf hkl X hM hQ => ?_)
  subst hkl
  obtain ⟨hK, hs, hv⟩ := hM
  have hz : (kS K).heap.size ≤ (kS K).heap.size := Nat.le_refl _
  refine vv_sub (lv' := [(0, .ref b), (1, .int (nI k))]) [0, 1] rfl ?_
  refine vv_aload_n X dJ3_append_3_0 rfl 0 rfl ?_
  refine vv_iload_n X dJ3_append_3_1 rfl 1 rfl ?_
  refine vv_callSU X (mJ2_apf (kL K) D b v n q k z f hn hq hkv hk9) q908 q3651 q254 q909 q140 q910 (show "append" ≠ "<init>" ∧ (parseMethodDescriptor "(C)Ljava/lang/AbstractStringBuilder;").map (fun d => d.parameters.length) = some 1 by decide +kernel) ⟨(Nat.le_of_ble_eq_true rfl), (Nat.le_of_ble_eq_true rfl)⟩ dJ3_append_3_2 rfl (Nat.le_of_ble_eq_true rfl) hs CL_J3 ⟨hK, hs, hv⟩ (fun q z => by rcases z with rfl | rfl; exact (Or.inl (Or.inl rfl)); exact (Or.inl (Or.inr rfl))) ⟨(Nat.le_of_ble_eq_true rfl), (Nat.le_of_ble_eq_true rfl)⟩ (fun v_ H hq hz_ hk => ?_)
  obtain ⟨rfl, hs2, hv2⟩ := hq
  replace hK := hK.to hk (fun q z => by rcases z with rfl | rfl; exact (X.ko hK hs CL_J3 (by decide) (by decide)); exact hkv)
  replace hz := Nat.le_trans hz hz_
  clear hs hv hk hz_
  have hs := hs2
  have hv := hv2
  clear hs2 hv2
  refine vv_pop X dJ3_append_3_5 rfl ?_
  refine vv_aload_n X dJ3_append_3_6 rfl 0 rfl ?_
  exact vv_aret X (Or.inl ⟨_, rfl⟩) (Or.inr ⟨_, rfl⟩) hQ dJ3_append_3_7 (Nat.le_of_ble_eq_true rfl) (Nat.le_of_ble_eq_true rfl) (⟨rfl, hs, hv⟩)
theorem nJ16_checkLength : notMH yJ16_checkLength 2 := by decide +kernel
set_option maxHeartbeats 800000 in
theorem mJ16_checkLength (l : Launch) (D : DD) (n : Nat) (hn : n ≤ 500) : Cv l yJ16_checkLength cJ16_checkLength 2 { frames := 1, cells := 0, slots := 0, locals := 12 } D [.int (nI 0), .int (nI n)] (fun H => True) := by
  refine Ct.of (by decide +kernel) (Nat.le_of_ble_eq_true rfl) (fun K Qf hkl X hM hQ => ?_)
  subst hkl
  refine vv_sub (lv' := [(0, .int (nI 0)), (1, .int (nI n))]) [0, 1] rfl ?_
  refine vv_iload_n X dJ16_checkLength_0 rfl 1 rfl ?_
  refine vv_iload_n X dJ16_checkLength_1 rfl 0 rfl ?_
  refine vn_ge (tgt := 37) X (by omega) (by omega) dJ16_checkLength_2 (by decide) (fun c_2 => ?_) (fun c_2 => ?_)
  · exact vv_vret X hQ dJ16_checkLength_37 (Nat.le_of_ble_eq_true rfl) (Nat.le_of_ble_eq_true rfl) (⟨rfl, rfl⟩)
  · exact absurd c_2 (by omega)
theorem nJ16_copyOfRangeByte : notMH yJ16_copyOfRangeByte 3 := by decide +kernel
set_option maxHeartbeats 800000 in
theorem mJ16_copyOfRangeByte (l : Launch) (D : DD) (v q n : Nat) (f : Nat → Int32) (hq : q ≤ 500) (hn : n ≤ q) (hn9 : n ≤ 16) (hff : ∀ j, j < n → fits .byte (.int (f j)) = true) : Ct l yJ16_copyOfRangeByte cJ16_copyOfRangeByte 5 (some (.array .byte)) { frames := 2, cells := 1, slots := 16, locals := 60 } D [.ref v, .int (nI 0), .int (nI n)] (fun H => KH D H ∧ bA D H v q f) (fun _ => False) (fun r H H1 => ∃ a, r = some (.ref a) ∧ H.size ≤ a ∧ ∃ f2, bA D H1 a n f2 ∧ ∀ j, j < n → f2 j = f j) := by
  refine Ct.of (by decide +kernel) (Nat.le_of_ble_eq_true rfl) (fun K Qf hkl X hM hQ => ?_)
  subst hkl
  obtain ⟨hK, hv⟩ := hM
  have hz : (kS K).heap.size ≤ (kS K).heap.size := Nat.le_refl _
  refine vv_sub (lv' := [(0, .ref v), (1, .int (nI 0)), (2, .int (nI n))]) [0, 1, 2] rfl ?_
  refine vv_iload_n X dJ16_copyOfRangeByte_0 rfl 1 rfl ?_
  refine vv_iload_n X dJ16_copyOfRangeByte_1 rfl 2 rfl ?_
  refine vv_callSv X (mJ16_checkLength (kL K) D n (by omega)) q688 q689 q158 q690 nJ16_checkLength ⟨(Nat.le_of_ble_eq_true rfl), (Nat.le_of_ble_eq_true rfl)⟩ dJ16_copyOfRangeByte_2 rfl (Nat.le_of_ble_eq_true rfl) trivial ⟨(Nat.le_of_ble_eq_true rfl), (Nat.le_of_ble_eq_true rfl)⟩ ?_
  refine vv_iload_n X dJ16_copyOfRangeByte_5 rfl 2 rfl ?_
  refine vv_iload_n X dJ16_copyOfRangeByte_6 rfl 1 rfl ?_
  refine vn_sub X (by omega) dJ16_copyOfRangeByte_7 ?_
  refine vv_istore_n (lv' := [(3, .int (nI (n - 0))), (0, .ref v), (1, .int (nI 0)), (2, .int (nI n))]) X dJ16_copyOfRangeByte_8 rfl (by decide) rfl ?_
  refine vv_iload_n X dJ16_copyOfRangeByte_9 rfl 0 rfl ?_
  refine vv_newbA (M := 16) X (by omega) (by decide) (Nat.le_of_ble_eq_true rfl) (Nat.le_of_ble_eq_true rfl) rfl dJ16_copyOfRangeByte_10 (fun a_1 H eq_2 hx ho => ?_)
  have ne_3 : v ≠ a_1 := Nat.ne_of_lt (eq_2.symm ▸ hv.lt)
  have ge_4 : (kS K).heap.size ≤ a_1 := by rw [eq_2]; exact hz
  have kn_5 : KN D a_1 := KN.new hK (Nat.le_of_eq eq_2.symm)
  replace hv := hv.kept (hx.2 _ hv.lt)
  replace hK := hK.ex hx
  replace hz : (kS K).heap.size ≤ H.size := by have := hx.1; omega
  have hR_6 : bA D H a_1 (n - 0) (fun _ => 0) := ho
  clear ho hx
  refine vv_astore (lv' := [(4, .ref a_1), (3, .int (nI (n - 0))), (0, .ref v), (1, .int (nI 0)), (2, .int (nI n))]) X dJ16_copyOfRangeByte_12 (by decide) rfl ?_
  refine vv_aload_n X dJ16_copyOfRangeByte_14 rfl 2 rfl ?_
  refine vv_iload_n X dJ16_copyOfRangeByte_15 rfl 3 rfl ?_
  refine vv_aload X dJ16_copyOfRangeByte_16 0 rfl ?_
  refine vv_iconst (v := nI 0) X dJ16_copyOfRangeByte_18 (by decide) ?_
  refine vv_aload_n X dJ16_copyOfRangeByte_19 rfl 2 rfl ?_
  refine vv_alen (ty := 2) X hv rfl dJ16_copyOfRangeByte_20 ?_
  refine vv_iload_n X dJ16_copyOfRangeByte_21 rfl 3 rfl ?_
  refine vn_sub X (by omega) dJ16_copyOfRangeByte_22 ?_
  refine vv_iload_n X dJ16_copyOfRangeByte_23 rfl 1 rfl ?_
  refine vn_min X q551 (Nat.le_of_ble_eq_true rfl) (Nat.le_of_ble_eq_true rfl) ((Nat.le_of_ble_eq_true rfl)) ((Nat.le_of_ble_eq_true rfl)) (by omega) (by omega) dJ16_copyOfRangeByte_24 ?_
  refine vv_eqi (show nI (min q n) = nI n by rw [Nat.min_eq_right (by omega)]) ?_
  refine vv_copyi (n := n) (sp := 0) (dp := 0) (ty := 2) X hv hR_6 rfl rfl q554 q556 q555 q159 (by omega) (by omega) (by omega) (by omega) (fun i hi => by rw [Nat.zero_add]; exact hff i hi) (Nat.le_of_ble_eq_true rfl) (Nat.le_of_ble_eq_true rfl) (Or.inr ge_4) rfl rfl rfl dJ16_copyOfRangeByte_27 (fun H hc ho => ?_)
  have k_0 := hv.kept (hc.2 _ ne_3)
  replace hK := hK.ch hc kn_5
  clear hv
  have hv := k_0
  clear k_0
  replace hz := Nat.le_trans hz (Nat.le_of_eq hc.1.symm)
  clear hR_6
  have hR_6 := ho
  clear hc ho
  refine vv_aload X dJ16_copyOfRangeByte_30 0 rfl ?_
  exact vv_aret X (Or.inr ⟨_, rfl⟩) (Or.inr ⟨_, rfl⟩) hQ dJ16_copyOfRangeByte_32 (Nat.le_of_ble_eq_true rfl) (Nat.le_of_ble_eq_true rfl) (⟨_, rfl, ge_4, _, hR_6, fun j hj => by unfold va_cpy; rw [if_pos ⟨Nat.zero_le _, by omega⟩, Nat.zero_add, Nat.sub_zero]⟩)
theorem nJ16_copyOfRange : notMH yJ16_copyOfRange 3 := by decide +kernel
set_option maxHeartbeats 800000 in
theorem mJ16_copyOfRange (l : Launch) (D : DD) (v q n : Nat) (f : Nat → Int32) (hq : q ≤ 500) (hn : n < q) (hn9 : n ≤ 16) (hff : ∀ j, j < n → fits .byte (.int (f j)) = true) : Ct l yJ16_copyOfRange cJ16_copyOfRange 3 (some (.array .byte)) { frames := 3, cells := 1, slots := 16, locals := 84 } D [.ref v, .int (nI 0), .int (nI n)] (fun H => KH D H ∧ bA D H v q f) (fun _ => False) (fun r H H1 => ∃ a, r = some (.ref a) ∧ H.size ≤ a ∧ ∃ f2, bA D H1 a n f2 ∧ ∀ j, j < n → f2 j = f j) := by
  refine Ct.of (by decide +kernel) (Nat.le_of_ble_eq_true rfl) (fun K Qf hkl X hM hQ => ?_)
  subst hkl
  obtain ⟨hK, hv⟩ := hM
  have hz : (kS K).heap.size ≤ (kS K).heap.size := Nat.le_refl _
  refine vv_sub (lv' := [(0, .ref v), (1, .int (nI 0)), (2, .int (nI n))]) [0, 1, 2] rfl ?_
  refine vv_iload_n X dJ16_copyOfRange_0 rfl 1 rfl ?_
  refine vn_if_ne (tgt := 10) X (by omega) dJ16_copyOfRange_1 (by decide) (fun c_1 => ?_) (fun c_1 => ?_)
  · exact absurd c_1 (by omega)
  · refine vv_iload_n X dJ16_copyOfRange_4 rfl 2 rfl ?_
    refine vv_aload_n X dJ16_copyOfRange_5 rfl 0 rfl ?_
    refine vv_alen (ty := 2) X hv rfl dJ16_copyOfRange_6 ?_
    refine vn_eq (tgt := 17) X (by omega) (by omega) dJ16_copyOfRange_7 (by decide) (fun c_7 => ?_) (fun c_7 => ?_)
    · exact absurd c_7 (by omega)
    · refine vv_aload_n X dJ16_copyOfRange_10 rfl 0 rfl ?_
      refine vv_iload_n X dJ16_copyOfRange_11 rfl 1 rfl ?_
      refine vv_iload_n X dJ16_copyOfRange_12 rfl 2 rfl ?_
      refine vv_callS X (mJ16_copyOfRangeByte (kL K) D v q n f (by omega) (by omega) (by omega) hff) q685 q686 q158 q687 nJ16_copyOfRangeByte ⟨(Nat.le_of_ble_eq_true rfl), (Nat.le_of_ble_eq_true rfl)⟩ dJ16_copyOfRange_13 rfl (Nat.le_of_ble_eq_true rfl) ⟨hK, hv⟩ (fun _ z => z.elim) ⟨(Nat.le_of_ble_eq_true rfl), (Nat.le_of_ble_eq_true rfl)⟩ (fun v_ H hq hz_ hk => ?_)
      obtain ⟨a2, rfl, ha2z, f2, ha2, hf2⟩ := hq
      replace hv := hv.kept (hk _ hv.lt (fun z => z))
      replace hK := hK.to hk (fun _ z => z.elim)
      replace ha2z := Nat.le_trans hz ha2z
      replace hz := Nat.le_trans hz hz_
      clear hk hz_
      exact vv_aret X (Or.inr ⟨_, rfl⟩) (Or.inr ⟨_, rfl⟩) hQ dJ16_copyOfRange_16 (Nat.le_of_ble_eq_true rfl) (Nat.le_of_ble_eq_true rfl) (⟨_, rfl, ha2z, f2, ha2, hf2⟩)
theorem nJ2_getValue : notMH yJ2_getValue 0 := by decide +kernel
set_option maxHeartbeats 800000 in
theorem mJ2_getValue (l : Launch) (D : DD) (b v n : Nat) (z : Int32)  : Cp l yJ2_getValue cJ2_getValue 1 (some (.array .byte)) { frames := 1, cells := 0, slots := 0, locals := 12 } D [.ref b] (fun H => oB D H b 11 [.ref v, .int (nI 0), .int (z), .int (nI n)]) (.ref v) := by
  refine Ct.of (by decide +kernel) (Nat.le_of_ble_eq_true rfl) (fun K Qf hkl X hM hQ => ?_)
  subst hkl
  have hs := hM
  refine vv_sub (lv' := [(0, .ref b)]) [0] rfl ?_
  refine vv_aload_n X dJ2_getValue_0 rfl 0 rfl ?_
  refine vv_getf (C := RJ3) (T := TJ3) (N := 4) (ref := "java/lang/AbstractStringBuilder") X hs in_J3 CL_J3 0 (by decide) q241 rfl rfl dJ2_getValue_1 ?_
  exact vv_aret X (Or.inr ⟨_, rfl⟩) (Or.inr ⟨_, rfl⟩) hQ dJ2_getValue_4 (Nat.le_of_ble_eq_true rfl) (Nat.le_of_ble_eq_true rfl) (pqa (rfl))
theorem SB_of {D : DD} {H : Heap} {b v n q : Nat} {z : Int32} {f : Nat → Int32} {g : Nat → Nat} (hs : oB D H b 11 [.ref v, .int (nI 0), .int z, .int (nI n)]) (hv : bA D H v q f) (hn : n ≤ q) (hq : q ≤ 500) (hff : ∀ j, j < q → fits .byte (.int (f j)) = true) (h : ∀ j, j < n → f j = nI (g j)) (h2 : ∀ j, j < n → g j < 128) : SB D H b v n g := ⟨q, f, z, hs, hv, hn, hq, hff, h, h2⟩
theorem nJ4_init_2 : notMH yJ4_init_2 2 := by decide +kernel
set_option maxHeartbeats 800000 in
theorem mJ4_init_2 (l : Launch) (D : DD) (t b v n q : Nat) (z : Int32) (f : Nat → Int32) (g : Nat → Nat) (hq : q ≤ 500) (hn : n < q) (hn9 : n ≤ 16) (hffq : ∀ j, j < q → fits .byte (.int (f j)) = true) (hg : ∀ j, j < n → f j = nI (g j)) (hg8 : ∀ j, j < n → g j < 128) (hkt : KN D t) : Ct l yJ4_init_2 cJ4_init_2 5 none { frames := 4, cells := 1, slots := 16, locals := 106 } D [.ref t, .ref b, .null] (fun H => KH D H ∧ oB D H t 12 [.null, .int (nI 0), .int (nI 0), .int (nI 0)] ∧ oB D H b 11 [.ref v, .int (nI 0), .int (z), .int (nI n)] ∧ bA D H v q f) (fun q => q = t) (fun r H H1 => ∃ a, r = none ∧ H.size ≤ a ∧ oB D H1 t 12 [.ref a, .int (nI 0), .int (nI 0), .int (nI 0)] ∧ ∃ f2, bA D H1 a n f2 ∧ ∀ j, j < n → f2 j = f j) := by
  refine Ct.of (by decide +kernel) (Nat.le_of_ble_eq_true rfl) (fun K Qf hkl X hM hQ => ?_)
  subst hkl
  obtain ⟨hK, ht9, hs, hv⟩ := hM
  have hz : (kS K).heap.size ≤ (kS K).heap.size := Nat.le_refl _
  have hff : ∀ j, j < n → fits .byte (.int (f j)) = true := fun j hj => hffq j (by omega)
  refine vv_sub (lv' := [(0, .ref t), (1, .ref b), (2, .null)]) [0, 1, 2] rfl ?_
  refine vv_aload_n X dJ4_init_2_0 rfl 0 rfl ?_
  refine vv_obj X q667 q197 q198 (Nat.le_of_ble_eq_true rfl) (Nat.le_of_ble_eq_true rfl) dJ4_init_2_1 ?_
  refine vv_aload_n X dJ4_init_2_4 rfl 1 rfl ?_
  refine vv_callUp X (mJ2_getValue (kL K) D b v n z) q668 q670 q669 q671 q140 q672 rfl (show "java/lang/AbstractStringBuilder" ≠ "java/lang/invoke/MethodHandle" ∧ "java/lang/AbstractStringBuilder" ≠ "java/lang/invoke/VarHandle" ∧ (parseMethodDescriptor "()[B").map (fun d => d.parameters.length) = some 0 by decide +kernel) ⟨(Nat.le_of_ble_eq_true rfl), (Nat.le_of_ble_eq_true rfl)⟩ dJ4_init_2_5 rfl (Nat.le_of_ble_eq_true rfl) hs CL_J3 hs ⟨(Nat.le_of_ble_eq_true rfl), (Nat.le_of_ble_eq_true rfl)⟩ ?_
  refine vv_astore_n (lv' := [(3, .ref v), (0, .ref t), (1, .ref b), (2, .null)]) X dJ4_init_2_8 rfl (by decide) rfl ?_
  refine vv_aload_n X dJ4_init_2_9 rfl 2 rfl ?_
  refine vv_callWp X (mJ3_length (kL K) D b v n g (by omega)) q673 q675 q674 q680 q677 q676 q141 q678 (show "java/lang/AbstractStringBuilder" ≠ "java/lang/invoke/MethodHandle" ∧ "java/lang/AbstractStringBuilder" ≠ "java/lang/invoke/VarHandle" ∧ (parseMethodDescriptor "()I").map (fun d => d.parameters.length) = some 0 by decide +kernel) ⟨(Nat.le_of_ble_eq_true rfl), (Nat.le_of_ble_eq_true rfl)⟩ dJ4_init_2_10 rfl (Nat.le_of_ble_eq_true rfl) hs CL_J3 (SB_of hs hv (by omega) hq hffq hg hg8) ⟨(Nat.le_of_ble_eq_true rfl), (Nat.le_of_ble_eq_true rfl)⟩ ?_
  refine vv_istore (lv' := [(4, .int (nI n)), (3, .ref v), (0, .ref t), (1, .ref b), (2, .null)]) X dJ4_init_2_13 (by decide) rfl ?_
  refine vv_aload_n X dJ4_init_2_15 rfl 3 rfl ?_
  refine vv_callUp X (mJ2_isLatin1 (kL K) D b v n z) q681 q559 q558 q560 q140 q561 rfl (show "java/lang/AbstractStringBuilder" ≠ "java/lang/invoke/MethodHandle" ∧ "java/lang/AbstractStringBuilder" ≠ "java/lang/invoke/VarHandle" ∧ (parseMethodDescriptor "()Z").map (fun d => d.parameters.length) = some 0 by decide +kernel) ⟨(Nat.le_of_ble_eq_true rfl), (Nat.le_of_ble_eq_true rfl)⟩ dJ4_init_2_16 rfl (Nat.le_of_ble_eq_true rfl) hs CL_J3 ⟨hK, hs⟩ ⟨(Nat.le_of_ble_eq_true rfl), (Nat.le_of_ble_eq_true rfl)⟩ ?_
  refine vn_if_eq (tgt := 41) X (by omega) dJ4_init_2_19 (by decide) (fun c_19 => ?_) (fun c_19 => ?_)
  · exact absurd c_19 (by decide)
  · refine vv_aload_n X dJ4_init_2_22 rfl 2 rfl ?_
    refine vv_iconst (v := nI 0) X dJ4_init_2_23 (by decide) ?_
    refine vv_putfF (C := RJ4) (T := TJ4) (N := 4) (ref := "java/lang/String") X ht9 in_J4 CL_J4 tyJ4 tyJ4_ok nmJ4 1 (by decide) q718 rfl rfl rfl rfl rfl rfl (Nat.le_of_ble_eq_true rfl) (Or.inl rfl) dJ4_init_2_24 (fun H hc ho => ?_)
    have k_0 := hs.kept (hc.2 _ (X.oo hs ht9 CL_J3 CL_J4 (by decide)))
    have k_1 := hv.kept (hc.2 _ (X.ao hv ht9 CL_J4 rfl))
    replace hK := hK.ch hc hkt
    clear hs
    have hs := k_0
    clear k_0
    clear hv
    have hv := k_1
    clear k_1
    replace hz := Nat.le_trans hz (Nat.le_of_eq hc.1.symm)
    clear ht9
    have ht9 : oB D H t 12 [.null, .int (nI 0), .int (nI 0), .int (nI 0)] := ho
    clear hc ho
    refine vv_aload_n X dJ4_init_2_27 rfl 2 rfl ?_
    refine vv_aload_n X dJ4_init_2_28 rfl 1 rfl ?_
    refine vv_iconst (v := nI 0) X dJ4_init_2_29 (by decide) ?_
    refine vv_iload X dJ4_init_2_30 0 rfl ?_
    refine vv_callS X (mJ16_copyOfRange (kL K) D v q n f (by omega) (by omega) (by omega) hff) q682 q683 q158 q684 nJ16_copyOfRange ⟨(Nat.le_of_ble_eq_true rfl), (Nat.le_of_ble_eq_true rfl)⟩ dJ4_init_2_32 rfl (Nat.le_of_ble_eq_true rfl) ⟨hK, hv⟩ (fun _ z => z.elim) ⟨(Nat.le_of_ble_eq_true rfl), (Nat.le_of_ble_eq_true rfl)⟩ (fun v_ H hq hz_ hk => ?_)
    obtain ⟨a2, rfl, ha2z, f2, ha2, hf2⟩ := hq
    replace ht9 := ht9.kept (hk _ ht9.lt (fun z => z))
    replace hs := hs.kept (hk _ hs.lt (fun z => z))
    replace hv := hv.kept (hk _ hv.lt (fun z => z))
    replace hK := hK.to hk (fun _ z => z.elim)
    replace ha2z := Nat.le_trans hz ha2z
    replace hz := Nat.le_trans hz hz_
    clear hk hz_
    refine vv_putfF (C := RJ4) (T := TJ4) (N := 4) (ref := "java/lang/String") X ht9 in_J4 CL_J4 tyJ4 tyJ4_ok nmJ4 0 (by decide) q717 rfl rfl rfl rfl rfl rfl (Nat.le_of_ble_eq_true rfl) (Or.inl rfl) dJ4_init_2_35 (fun H hc ho => ?_)
    have k_0 := hs.kept (hc.2 _ (X.oo hs ht9 CL_J3 CL_J4 (by decide)))
    have k_1 := hv.kept (hc.2 _ (X.ao hv ht9 CL_J4 rfl))
    have k_2 := ha2.kept (hc.2 _ (X.ao ha2 ht9 CL_J4 rfl))
    replace hK := hK.ch hc hkt
    clear hs
    have hs := k_0
    clear k_0
    clear hv
    have hv := k_1
    clear k_1
    clear ha2
    have ha2 := k_2
    clear k_2
    replace hz := Nat.le_trans hz (Nat.le_of_eq hc.1.symm)
    clear ht9
    have ht9 : oB D H t 12 [.ref a2, .int (nI 0), .int (nI 0), .int (nI 0)] := ho
    clear hc ho
    refine vv_goto (tgt := 97) X dJ4_init_2_38 (by decide) ?_
    exact vv_vret X hQ dJ4_init_2_97 (Nat.le_of_ble_eq_true rfl) (Nat.le_of_ble_eq_true rfl) (⟨a2, rfl, ha2z, ht9, f2, ha2, hf2⟩)
theorem nJ4_init : notMH yJ4_init 1 := by decide +kernel
set_option maxHeartbeats 800000 in
theorem mJ4_init (l : Launch) (D : DD) (t b v n q : Nat) (z : Int32) (f : Nat → Int32) (g : Nat → Nat) (hq : q ≤ 500) (hn : n < q) (hn9 : n ≤ 16) (hffq : ∀ j, j < q → fits .byte (.int (f j)) = true) (hg : ∀ j, j < n → f j = nI (g j)) (hg8 : ∀ j, j < n → g j < 128) (hkt : KN D t) : Ct l yJ4_init cJ4_init 2 none { frames := 5, cells := 1, slots := 16, locals := 130 } D [.ref t, .ref b] (fun H => KH D H ∧ oB D H t 12 [.null, .int (nI 0), .int (nI 0), .int (nI 0)] ∧ oB D H b 11 [.ref v, .int (nI 0), .int (z), .int (nI n)] ∧ bA D H v q f) (fun q => q = t) (fun r H H1 => ∃ a, r = none ∧ H.size ≤ a ∧ oB D H1 t 12 [.ref a, .int (nI 0), .int (nI 0), .int (nI 0)] ∧ ∃ f2, bA D H1 a n f2 ∧ ∀ j, j < n → f2 j = f j) := by
  refine Ct.of (by decide +kernel) (Nat.le_of_ble_eq_true rfl) (fun K Qf hkl X hM hQ => ?_)
  subst hkl
  obtain ⟨hK, ht9, hs, hv⟩ := hM
  have hz : (kS K).heap.size ≤ (kS K).heap.size := Nat.le_refl _
  refine vv_sub (lv' := [(0, .ref t), (1, .ref b)]) [0, 1] rfl ?_
  refine vv_aload_n X dJ4_init_0 rfl 0 rfl ?_
  refine vv_aload_n X dJ4_init_1 rfl 1 rfl ?_
  refine vv_null X dJ4_init_2 ?_
  refine vv_callI X (mJ4_init_2 (kL K) D t b v n q z f g hq hn hn9 hffq hg hg8 hkt) q664 q665 q142 q666 rfl nJ4_init_2 ⟨(Nat.le_of_ble_eq_true rfl), (Nat.le_of_ble_eq_true rfl)⟩ dJ4_init_3 rfl (Nat.le_of_ble_eq_true rfl) ⟨hK, ht9, hs, hv⟩ (fun q z => by rcases z with rfl; exact (Or.inl rfl)) ⟨(Nat.le_of_ble_eq_true rfl), (Nat.le_of_ble_eq_true rfl)⟩ (fun v_ H hq hz_ hk => ?_)
  obtain ⟨a2, rfl, ha2z, ht2, f2, ha2, hf2⟩ := hq
  replace hs := hs.kept (hk _ hs.lt (X.oo hs ht9 CL_J3 CL_J4 (by decide)))
  replace hv := hv.kept (hk _ hv.lt (X.ao hv ht9 CL_J4 rfl))
  replace hK := hK.to hk (fun q z => by rcases z with rfl; exact hkt)
  replace ha2z := Nat.le_trans hz ha2z
  replace hz := Nat.le_trans hz hz_
  clear hk hz_
  clear ht9
  exact vv_vret X hQ dJ4_init_6 (Nat.le_of_ble_eq_true rfl) (Nat.le_of_ble_eq_true rfl) (⟨a2, rfl, ha2z, ht2, f2, ha2, hf2⟩)
theorem nJ3_toString : notMH yJ3_toString 0 := by decide +kernel
set_option maxHeartbeats 800000 in
theorem mJ3_toString (l : Launch) (D : DD) (b v n q : Nat) (z : Int32) (f : Nat → Int32) (g : Nat → Nat) (hq : q ≤ 500) (hn : n < q) (hn9 : n ≤ 16) (hffq : ∀ j, j < q → fits .byte (.int (f j)) = true) (hg : ∀ j, j < n → f j = nI (g j)) (hg8 : ∀ j, j < n → g j < 128) : Ct l yJ3_toString cJ3_toString 1 (some (.object "java/lang/String")) { frames := 6, cells := 2, slots := 20, locals := 151 } D [.ref b] (fun H => KH D H ∧ oB D H b 11 [.ref v, .int (nI 0), .int (z), .int (nI n)] ∧ bA D H v q f) (fun _ => False) (fun r H H1 => ∃ t a, r = some (.ref t) ∧ H.size ≤ t ∧ H.size ≤ a ∧ oB D H1 t 12 [.ref a, .int (nI 0), .int (nI 0), .int (nI 0)] ∧ ∃ f2, bA D H1 a n f2 ∧ ∀ j, j < n → f2 j = f j) := by
  refine Ct.of (by decide +kernel) (Nat.le_of_ble_eq_true rfl) (fun K Qf hkl X hM hQ => ?_)
  subst hkl
  obtain ⟨hK, hs, hv⟩ := hM
  have hz : (kS K).heap.size ≤ (kS K).heap.size := Nat.le_refl _
  refine vv_sub (lv' := [(0, .ref b)]) [0] rfl ?_
  refine vv_newA (C := RJ4) (T := TJ4) (N := 4) (fs := [.null, .int (nI 0), .int (nI 0), .int (nI 0)]) X in_J4 CL_J4 tyJ4 tyJ4_ok q660 q435 q142 (tyJ4_d) (Nat.le_of_ble_eq_true rfl) (Nat.le_of_ble_eq_true rfl) dJ3_toString_0 (fun a_1 H eq_2 hx ho => ?_)
  have ne_3 : b ≠ a_1 := Nat.ne_of_lt (eq_2.symm ▸ hs.lt)
  have ne_4 : v ≠ a_1 := Nat.ne_of_lt (eq_2.symm ▸ hv.lt)
  have ge_5 : (kS K).heap.size ≤ a_1 := by rw [eq_2]; exact hz
  have kn_6 : KN D a_1 := KN.new hK (Nat.le_of_eq eq_2.symm)
  replace hs := hs.kept (hx.2 _ hs.lt)
  replace hv := hv.kept (hx.2 _ hv.lt)
  replace hK := hK.ex hx
  replace hz : (kS K).heap.size ≤ H.size := by have := hx.1; omega
  have hO_7 : oB D H a_1 12 [.null, .int (nI 0), .int (nI 0), .int (nI 0)] := ho
  clear ho hx
  refine vv_dup X dJ3_toString_3 rfl ?_
  refine vv_aload_n X dJ3_toString_4 rfl 0 rfl ?_
  refine vv_callI X (mJ4_init (kL K) D a_1 b v n q z f g hq hn hn9 hffq hg hg8 kn_6) q661 q662 q142 q663 rfl nJ4_init ⟨(Nat.le_of_ble_eq_true rfl), (Nat.le_of_ble_eq_true rfl)⟩ dJ3_toString_5 rfl (Nat.le_of_ble_eq_true rfl) ⟨hK, hO_7, hs, hv⟩ (fun q z => by rcases z with rfl; exact (Or.inr ge_5)) ⟨(Nat.le_of_ble_eq_true rfl), (Nat.le_of_ble_eq_true rfl)⟩ (fun v_ H hq hz_ hk => ?_)
  obtain ⟨a2, rfl, ha2z, ht2, f2, ha2, hf2⟩ := hq
  replace hs := hs.kept (hk _ hs.lt ne_3)
  replace hv := hv.kept (hk _ hv.lt ne_4)
  replace hK := hK.to hk (fun q z => by rcases z with rfl; exact kn_6)
  replace ha2z := Nat.le_trans hz ha2z
  replace hz := Nat.le_trans hz hz_
  clear hk hz_
  clear hO_7
  exact vv_aret X (Or.inl ⟨_, rfl⟩) (Or.inr ⟨_, rfl⟩) hQ dJ3_toString_8 (Nat.le_of_ble_eq_true rfl) (Nat.le_of_ble_eq_true rfl) (⟨_, a2, rfl, ge_5, ha2z, ht2, f2, ha2, hf2⟩)
abbrev sqe (n : Nat) (f : Nat → Int32) (n2 : Nat) (f2 : Nat → Int32) : Prop := n = n2 ∧ ∀ j, j < n → f j = f2 j
/-- the hash of n bytes -/
def hsf (f : Nat → Int32) (n : Nat) : Int32 := fo (fun i v => nI 31 * v + (f i &&& nI 255)) n (nI 0)
theorem lk_h {n : Nat} (h : 2 ≤ n) (hn : n ≤ 1000) : Op.lookupswitch.offset [(0, 26), (1, 30)] 40 (nI n).toInt = 40 := by
  rw [nI_toInt (by omega)]
  show (if (0 : Int) = (n : Int) then (26 : Int) else if (1 : Int) = (n : Int) then 30 else 40) = 40
  rw [if_neg (by omega), if_neg (by omega)]
theorem nJ18_equals : notMH yJ18_equals 2 := by decide +kernel
set_option maxHeartbeats 800000 in
theorem mJ18_equals (l : Launch) (D : DD) (a n a2 n2 : Nat) (f f2 : Nat → Int32) (hn : n ≤ 1000) (hn2 : n2 ≤ 1000) : Cp l yJ18_equals cJ18_equals 3 (some .boolean) { frames := 1, cells := 0, slots := 0, locals := 12 } D [.ref a, .ref a2] (fun H => bA D H a n f ∧ bA D H a2 n2 f2) (.int (b2 (sqe n f n2 f2))) := by
  refine Ct.of (by decide +kernel) (Nat.le_of_ble_eq_true rfl) (fun K Qf hkl X hM hQ => ?_)
  subst hkl
  obtain ⟨ha, ha2⟩ := hM
  refine vv_sub (lv' := [(0, .ref a), (1, .ref a2)]) [0, 1] rfl ?_
  refine vv_aload_n X dJ18_equals_0 rfl 0 rfl ?_
  refine vv_alen (ty := 2) X ha rfl dJ18_equals_1 ?_
  refine vv_aload_n X dJ18_equals_2 rfl 1 rfl ?_
  refine vv_alen (ty := 2) X ha2 rfl dJ18_equals_3 ?_
  refine vn_ne (tgt := 34) X (by omega) (by omega) dJ18_equals_4 (by decide) (fun c_4 => ?_) (fun c_4 => ?_)
  · refine vv_iconst (v := nI 0) X dJ18_equals_34 (by decide) ?_
    exact vv_zret X (rfl) hQ dJ18_equals_35 (Nat.le_of_ble_eq_true rfl) (Nat.le_of_ble_eq_true rfl) (pq (b2_0 (fun z => c_4 z.1)))
  · refine vv_iconst (v := nI 0) X dJ18_equals_7 (by decide) ?_
    refine vv_istore_n (lv' := [(2, .int (nI 0)), (0, .ref a), (1, .ref a2)]) X dJ18_equals_8 rfl (by decide) rfl ?_
    have hx_1 : ∀ (hE : ∀ j, j < n → f j = f2 j), V K 3 (fun _ => False) (kS K).heap 0 0 Qf 32 [(0, .ref a), (1, .ref a2), (2, .int (nI n))] [] := by
      intro hE
      refine vv_iconst (v := nI 1) X dJ18_equals_32 (by decide) ?_
      exact vv_zret X (rfl) hQ dJ18_equals_33 (Nat.le_of_ble_eq_true rfl) (Nat.le_of_ble_eq_true rfl) (pq (b2_1 ⟨c_4, hE⟩))
    have hl_2 : ∀ (n_i i : Nat), i + n_i = n → (∀ j, j < i → f j = f2 j) → V K 3 (fun _ => False) (kS K).heap 0 0 Qf 9 [(0, .ref a), (1, .ref a2), (2, .int (nI i))] [] := by
      intro n_i
      induction n_i with
      | zero =>
        intro i hi hE
        obtain rfl : n = i := by omega
        refine vv_iload_n X dJ18_equals_9 rfl 2 rfl ?_
        refine vv_aload_n X dJ18_equals_10 rfl 0 rfl ?_
        refine vv_alen (ty := 2) X ha rfl dJ18_equals_11 ?_
        refine vn_ge (tgt := 32) X (by omega) (by omega) dJ18_equals_12 (by decide) (fun c_12 => ?_) (fun c_12 => ?_)
        · exact hx_1 hE
        · exact absurd c_12 (by omega)
      | succ n_i ihi =>
        intro i hi hE
        refine vv_iload_n X dJ18_equals_9 rfl 2 rfl ?_
        refine vv_aload_n X dJ18_equals_10 rfl 0 rfl ?_
        refine vv_alen (ty := 2) X ha rfl dJ18_equals_11 ?_
        refine vn_ge (tgt := 32) X (by omega) (by omega) dJ18_equals_12 (by decide) (fun c_12 => ?_) (fun c_12 => ?_)
        · exact absurd hi (by omega)
        · refine vv_aload_n X dJ18_equals_15 rfl 0 rfl ?_
          refine vv_iload_n X dJ18_equals_16 rfl 2 rfl ?_
          refine vv_bald X ha (i) (by omega) (by omega) rfl dJ18_equals_17 ?_
          refine vv_aload_n X dJ18_equals_18 rfl 1 rfl ?_
          refine vv_iload_n X dJ18_equals_19 rfl 2 rfl ?_
          refine vv_bald X ha2 (i) (by omega) (by omega) rfl dJ18_equals_20 ?_
          refine vv_icmp_eq (tgt := 26) X dJ18_equals_21 (by decide) (fun c_21 => ?_) (fun c_21 => ?_)
          · refine vv_iinc (v := nI (i + 1)) (lv' := [(2, .int (nI (i + 1))), (0, .ref a), (1, .ref a2)]) X dJ18_equals_26 (k := 2) rfl (nI_add _ 1) (by decide) rfl ?_
            refine vv_goto (tgt := 9) X dJ18_equals_29 (by decide) ?_
            refine vv_sub [1, 2, 0] rfl ?_
            exact ihi (i + 1) (by omega) (fun j hj => (Nat.lt_or_ge j i).elim (hE j) (fun h => by rw [show j = i by omega]; exact c_21))
          · refine vv_iconst (v := nI 0) X dJ18_equals_24 (by decide) ?_
            exact vv_zret X (rfl) hQ dJ18_equals_25 (Nat.le_of_ble_eq_true rfl) (Nat.le_of_ble_eq_true rfl) (pq (b2_0 (fun z => c_21 (z.2 i (by omega)))))
    refine vv_sub [1, 2, 0] rfl ?_
    exact hl_2 (n) 0 (by first | omega | assumption) (fun j hj => absurd hj (Nat.not_lt_zero _))
theorem nJ4_equals : notMH yJ4_equals 1 := by decide +kernel
set_option maxHeartbeats 800000 in
theorem mJ4_equals (l : Launch) (D : DD) (t a n t2 a2 n2 : Nat) (f f2 : Nat → Int32) (h z h2 z2 : Int32) (hn : n ≤ 1000) (hn2 : n2 ≤ 1000) (hsm : t = t2 → sqe n f n2 f2) : Cp l yJ4_equals cJ4_equals 3 (some .boolean) { frames := 2, cells := 0, slots := 0, locals := 34 } D [.ref t, .ref t2] (fun H => KH D H ∧ oB D H t 12 [.ref a, .int (nI 0), .int (h), .int (z)] ∧ bA D H a n f ∧ oB D H t2 12 [.ref a2, .int (nI 0), .int (h2), .int (z2)] ∧ bA D H a2 n2 f2) (.int (b2 (sqe n f n2 f2))) := by
  refine Ct.of (by decide +kernel) (Nat.le_of_ble_eq_true rfl) (fun K Qf hkl X hM hQ => ?_)
  subst hkl
  obtain ⟨hK, ht, ha, hu, ha2⟩ := hM
  refine vv_sub (lv' := [(0, .ref t), (1, .ref t2)]) [0, 1] rfl ?_
  refine vv_aload_n X dJ4_equals_0 rfl 0 rfl ?_
  refine vv_aload_n X dJ4_equals_1 rfl 1 rfl ?_
  refine vv_acmp_ne (tgt := 7) (rx := some t) (ry := some t2) X dJ4_equals_2 (by decide) (fun c_2 => ?_) (fun c_2 => ?_)
  · refine vv_aload_n X dJ4_equals_7 rfl 1 rfl ?_
    refine vv_instS X hu CL_J4 q952 dJ4_equals_8 ?_
    refine vv_eqi (show _ = nI 1 from by decide) ?_
    refine vn_if_eq (tgt := 54) X (by omega) dJ4_equals_11 (by decide) (fun c_11 => ?_) (fun c_11 => ?_)
    · exact absurd c_11 (by decide)
    · refine vv_aload_n X dJ4_equals_14 rfl 1 rfl ?_
      refine vv_castS X hu CL_J4 q952 dJ4_equals_15 ?_
      refine vv_astore_n (lv' := [(2, .ref t2), (0, .ref t), (1, .ref t2)]) X dJ4_equals_18 rfl (by decide) rfl ?_
      refine vv_gets X hK (ref := "java/lang/String") 0 (by decide) rfl q596 (fun _ z => z) dJ4_equals_19 ?_
      refine vv_eqi (show _ = nI 1 from by decide) ?_
      refine vn_if_eq (tgt := 36) X (by omega) dJ4_equals_22 (by decide) (fun c_22 => ?_) (fun c_22 => ?_)
      · exact absurd c_22 (by decide)
      · refine vv_aload_n X dJ4_equals_25 rfl 1 rfl ?_
        refine vv_getf (C := RJ4) (T := TJ4) (N := 4) (ref := "java/lang/String") X ht in_J4 CL_J4 1 (by decide) q718 rfl rfl dJ4_equals_26 ?_
        refine vv_aload_n X dJ4_equals_29 rfl 0 rfl ?_
        refine vv_getf (C := RJ4) (T := TJ4) (N := 4) (ref := "java/lang/String") X hu in_J4 CL_J4 1 (by decide) q718 rfl rfl dJ4_equals_30 ?_
        refine vn_ne (tgt := 54) X (by omega) (by omega) dJ4_equals_33 (by decide) (fun c_33 => ?_) (fun c_33 => ?_)
        · exact absurd c_33 (by decide)
        · refine vv_aload_n X dJ4_equals_36 rfl 1 rfl ?_
          refine vv_getf (C := RJ4) (T := TJ4) (N := 4) (ref := "java/lang/String") X ht in_J4 CL_J4 0 (by decide) q717 rfl rfl dJ4_equals_37 ?_
          refine vv_aload_n X dJ4_equals_40 rfl 0 rfl ?_
          refine vv_getf (C := RJ4) (T := TJ4) (N := 4) (ref := "java/lang/String") X hu in_J4 CL_J4 0 (by decide) q717 rfl rfl dJ4_equals_41 ?_
          refine vv_callSp X (mJ18_equals (kL K) D a n a2 n2 f f2 hn hn2) q953 q954 q161 q955 nJ18_equals ⟨(Nat.le_of_ble_eq_true rfl), (Nat.le_of_ble_eq_true rfl)⟩ dJ4_equals_44 rfl (Nat.le_of_ble_eq_true rfl) ⟨ha, ha2⟩ ⟨(Nat.le_of_ble_eq_true rfl), (Nat.le_of_ble_eq_true rfl)⟩ ?_
          refine vb_eq (tgt := 54) X dJ4_equals_47 (by decide) (fun c_47 => ?_) (fun c_47 => ?_)
          · refine vv_iconst (v := nI 0) X dJ4_equals_54 (by decide) ?_
            exact vv_zret X (rfl) hQ dJ4_equals_55 (Nat.le_of_ble_eq_true rfl) (Nat.le_of_ble_eq_true rfl) (pq (b2_0 c_47))
          · refine vv_iconst (v := nI 1) X dJ4_equals_50 (by decide) ?_
            refine vv_goto (tgt := 55) X dJ4_equals_51 (by decide) ?_
            exact vv_zret X (rfl) hQ dJ4_equals_55 (Nat.le_of_ble_eq_true rfl) (Nat.le_of_ble_eq_true rfl) (pq (b2_1 c_47))
  · refine vv_iconst (v := nI 1) X dJ4_equals_5 (by decide) ?_
    exact vv_zret X (rfl) hQ dJ4_equals_6 (Nat.le_of_ble_eq_true rfl) (Nat.le_of_ble_eq_true rfl) (pq (b2_1 (hsm (Option.some.inj c_2))))
theorem nJ4_isEmpty : notMH yJ4_isEmpty 0 := by decide +kernel
set_option maxHeartbeats 800000 in
theorem mJ4_isEmpty (l : Launch) (D : DD) (t a n : Nat) (f : Nat → Int32) (h z : Int32) (hn : n ≤ 1000) : Cp l yJ4_isEmpty cJ4_isEmpty 1 (some .boolean) { frames := 1, cells := 0, slots := 0, locals := 12 } D [.ref t] (fun H => oB D H t 12 [.ref a, .int (nI 0), .int (h), .int (z)] ∧ bA D H a n f) (.int (b2 (n = 0))) := by
  refine Ct.of (by decide +kernel) (Nat.le_of_ble_eq_true rfl) (fun K Qf hkl X hM hQ => ?_)
  subst hkl
  obtain ⟨ht, ha⟩ := hM
  refine vv_sub (lv' := [(0, .ref t)]) [0] rfl ?_
  refine vv_aload_n X dJ4_isEmpty_0 rfl 0 rfl ?_
  refine vv_getf (C := RJ4) (T := TJ4) (N := 4) (ref := "java/lang/String") X ht in_J4 CL_J4 0 (by decide) q717 rfl rfl dJ4_isEmpty_1 ?_
  refine vv_alen (ty := 2) X ha rfl dJ4_isEmpty_4 ?_
  refine vn_if_ne (tgt := 12) X (by omega) dJ4_isEmpty_5 (by decide) (fun c_5 => ?_) (fun c_5 => ?_)
  · refine vv_iconst (v := nI 0) X dJ4_isEmpty_12 (by decide) ?_
    exact vv_zret X (rfl) hQ dJ4_isEmpty_13 (Nat.le_of_ble_eq_true rfl) (Nat.le_of_ble_eq_true rfl) (pq (b2_0 (fun z => absurd c_5 (by show ¬ 0 < n; omega))))
  · refine vv_iconst (v := nI 1) X dJ4_isEmpty_8 (by decide) ?_
    refine vv_goto (tgt := 13) X dJ4_isEmpty_9 (by decide) ?_
    exact vv_zret X (rfl) hQ dJ4_isEmpty_13 (Nat.le_of_ble_eq_true rfl) (Nat.le_of_ble_eq_true rfl) (pq (b2_1 c_5))
theorem nJ14_signedHashCode : notMH yJ14_signedHashCode 4 := by decide +kernel
set_option maxHeartbeats 800000 in
theorem mJ14_signedHashCode (l : Launch) (D : DD) (a n : Nat) (f : Nat → Int32) (hn : n ≤ 1000) : Cp l yJ14_signedHashCode cJ14_signedHashCode 6 (some .int) { frames := 1, cells := 0, slots := 0, locals := 12 } D [.int (nI 0), .ref a, .int (nI 0), .int (nI n)] (fun H => bA D H a n f) (.int (hsf f n)) := by
  refine Ct.of (by decide +kernel) (Nat.le_of_ble_eq_true rfl) (fun K Qf hkl X hM hQ => ?_)
  subst hkl
  have ha := hM
  refine vv_sub (lv' := [(0, .int (nI 0)), (1, .ref a), (2, .int (nI 0)), (3, .int (nI n))]) [0, 1, 2, 3] rfl ?_
  refine vv_iload_n X dJ14_signedHashCode_0 rfl 2 rfl ?_
  refine vv_iload_n X dJ14_signedHashCode_1 rfl 3 rfl ?_
  refine vn_add X dJ14_signedHashCode_2 ?_
  refine vv_eqi (congrArg nI (Nat.zero_add n)) ?_
  refine vv_istore (lv' := [(4, .int (nI n)), (0, .int (nI 0)), (1, .ref a), (2, .int (nI 0)), (3, .int (nI n))]) X dJ14_signedHashCode_3 (by decide) rfl ?_
  refine vv_iload_n X dJ14_signedHashCode_5 rfl 3 rfl ?_
  refine vv_istore (lv' := [(5, .int (nI 0)), (4, .int (nI n)), (0, .int (nI 0)), (1, .ref a), (2, .int (nI 0)), (3, .int (nI n))]) X dJ14_signedHashCode_6 (by decide) rfl ?_
  have hx_1 : V K 6 (fun _ => False) (kS K).heap 0 0 Qf 35 [(0, .int (hsf f n)), (1, .ref a), (2, .int (nI 0)), (3, .int (nI n)), (4, .int (nI n)), (5, .int (nI n))] [] := by
    refine vv_iload_n X dJ14_signedHashCode_35 rfl 0 rfl ?_
    exact vv_iret X hQ dJ14_signedHashCode_36 (Nat.le_of_ble_eq_true rfl) (Nat.le_of_ble_eq_true rfl) (pq (rfl))
  have hl_2 : ∀ (n_i i : Nat), i + n_i = n → V K 6 (fun _ => False) (kS K).heap 0 0 Qf 8 [(0, .int (hsf f i)), (1, .ref a), (2, .int (nI 0)), (3, .int (nI n)), (4, .int (nI n)), (5, .int (nI i))] [] := by
    intro n_i
    induction n_i with
    | zero =>
      intro i hi
      obtain rfl : n = i := by omega
      refine vv_iload X dJ14_signedHashCode_8 5 rfl ?_
      refine vv_iload X dJ14_signedHashCode_10 4 rfl ?_
      refine vn_ge (tgt := 35) X (by omega) (by omega) dJ14_signedHashCode_12 (by decide) (fun c_12 => ?_) (fun c_12 => ?_)
      · exact hx_1
      · exact absurd c_12 (by omega)
    | succ n_i ihi =>
      intro i hi
      refine vv_iload X dJ14_signedHashCode_8 5 rfl ?_
      refine vv_iload X dJ14_signedHashCode_10 4 rfl ?_
      refine vn_ge (tgt := 35) X (by omega) (by omega) dJ14_signedHashCode_12 (by decide) (fun c_12 => ?_) (fun c_12 => ?_)
      · exact absurd hi (by omega)
      · refine vv_bipush (v := nI 31) X dJ14_signedHashCode_15 (by decide) ?_
        refine vv_iload_n X dJ14_signedHashCode_17 rfl 0 rfl ?_
        refine vv_imul X dJ14_signedHashCode_18 ?_
        refine vv_aload_n X dJ14_signedHashCode_19 rfl 1 rfl ?_
        refine vv_iload X dJ14_signedHashCode_20 5 rfl ?_
        refine vv_bald X ha (i) (by omega) (by omega) rfl dJ14_signedHashCode_22 ?_
        refine vv_sipush (v := nI 255) X dJ14_signedHashCode_23 (by decide) ?_
        refine vv_iand X dJ14_signedHashCode_26 ?_
        refine vv_iadd X dJ14_signedHashCode_27 ?_
        refine vv_istore_n (lv' := [(0, .int (((nI 31) * (hsf f i)) + ((f i) &&& (nI 255)))), (1, .ref a), (2, .int (nI 0)), (3, .int (nI n)), (4, .int (nI n)), (5, .int (nI i))]) X dJ14_signedHashCode_28 rfl (by decide) rfl ?_
        refine vv_iinc (v := nI (i + 1)) (lv' := [(5, .int (nI (i + 1))), (0, .int (((nI 31) * (hsf f i)) + ((f i) &&& (nI 255)))), (1, .ref a), (2, .int (nI 0)), (3, .int (nI n)), (4, .int (nI n))]) X dJ14_signedHashCode_29 (k := 5) rfl (nI_add _ 1) (by decide) rfl ?_
        refine vv_goto (tgt := 8) X dJ14_signedHashCode_32 (by decide) ?_
        refine vv_sub [1, 2, 3, 4, 5, 0] rfl ?_
        exact ihi (i + 1) (by omega)
  refine vv_sub [2, 3, 4, 5, 1, 0] rfl ?_
  exact hl_2 (n) 0 (by first | omega | assumption)
theorem nJ14_vectorizedHashCode : notMH yJ14_vectorizedHashCode 5 := by decide +kernel
set_option maxHeartbeats 800000 in
theorem mJ14_vectorizedHashCode (l : Launch) (D : DD) (a n : Nat) (f : Nat → Int32) (hn : n ≤ 1000) : Cp l yJ14_vectorizedHashCode cJ14_vectorizedHashCode 5 (some .int) { frames := 2, cells := 0, slots := 0, locals := 37 } D [.ref a, .int (nI 0), .int (nI n), .int (nI 0), .int (nI 4)] (fun H => bA D H a n f) (.int (hsf f n)) := by
  refine Ct.of (by decide +kernel) (Nat.le_of_ble_eq_true rfl) (fun K Qf hkl X hM hQ => ?_)
  subst hkl
  have ha := hM
  refine vv_sub (lv' := [(0, .ref a), (1, .int (nI 0)), (2, .int (nI n)), (3, .int (nI 0)), (4, .int (nI 4))]) [0, 1, 2, 3, 4] rfl ?_
  refine vv_iload X dJ14_vectorizedHashCode_0 4 rfl ?_
  refine vv_tableIn (tgt := 44) X dJ14_vectorizedHashCode_2 (by decide) (by decide) rfl (by decide) ?_
  refine vv_iload_n X dJ14_vectorizedHashCode_44 rfl 3 rfl ?_
  refine vv_aload_n X dJ14_vectorizedHashCode_45 rfl 0 rfl ?_
  refine vv_castA X ha rfl (by decide +kernel) q1022 dJ14_vectorizedHashCode_46 ?_
  refine vv_iload_n X dJ14_vectorizedHashCode_49 rfl 1 rfl ?_
  refine vv_iload_n X dJ14_vectorizedHashCode_50 rfl 2 rfl ?_
  refine vv_callSp X (mJ14_signedHashCode (kL K) D a n f hn) q1023 q1024 q156 q1025 nJ14_signedHashCode ⟨(Nat.le_of_ble_eq_true rfl), (Nat.le_of_ble_eq_true rfl)⟩ dJ14_vectorizedHashCode_51 rfl (Nat.le_of_ble_eq_true rfl) ha ⟨(Nat.le_of_ble_eq_true rfl), (Nat.le_of_ble_eq_true rfl)⟩ ?_
  refine vv_goto (tgt := 157) X dJ14_vectorizedHashCode_54 (by decide) ?_
  exact vv_iret X hQ dJ14_vectorizedHashCode_157 (Nat.le_of_ble_eq_true rfl) (Nat.le_of_ble_eq_true rfl) (pq (rfl))
theorem nJ18_hashCode : notMH yJ18_hashCode 1 := by decide +kernel
set_option maxHeartbeats 800000 in
theorem mJ18_hashCode (l : Launch) (D : DD) (a n : Nat) (f : Nat → Int32) (hn : n ≤ 1000) : Cp l yJ18_hashCode cJ18_hashCode 1 (some .int) { frames := 3, cells := 0, slots := 0, locals := 61 } D [.ref a] (fun H => bA D H a n f) (.int (hsf f n)) := by
  refine Ct.of (by decide +kernel) (Nat.le_of_ble_eq_true rfl) (fun K Qf hkl X hM hQ => ?_)
  subst hkl
  have ha := hM
  refine vv_sub (lv' := [(0, .ref a)]) [0] rfl ?_
  refine vv_aload_n X dJ18_hashCode_0 rfl 0 rfl ?_
  refine vv_alen (ty := 2) X ha rfl dJ18_hashCode_1 ?_
  rcases (show n = 0 ∨ n = 1 ∨ 2 ≤ n by omega) with h9 | h9 | h9
  · refine vv_eqi (congrArg nI h9) ?_
    refine vv_lookup (tgt := 28) (off := 26) X dJ18_hashCode_2 (by decide) rfl (by decide) ?_
    refine vv_iconst (v := nI 0) X dJ18_hashCode_28 (by decide) ?_
    refine vv_goto (tgt := 51) X dJ18_hashCode_29 (by decide) ?_
    exact vv_iret X hQ dJ18_hashCode_51 (Nat.le_of_ble_eq_true rfl) (Nat.le_of_ble_eq_true rfl) (pq (by rw [h9]; rfl))
  · refine vv_eqi (congrArg nI h9) ?_
    refine vv_lookup (tgt := 32) (off := 30) X dJ18_hashCode_2 (by decide) rfl (by decide) ?_
    have h19 : 0 < n := by omega
    refine vv_aload_n X dJ18_hashCode_32 rfl 0 rfl ?_
    refine vv_iconst (v := nI 0) X dJ18_hashCode_33 (by decide) ?_
    refine vv_bald X ha (0) (by omega) (by omega) rfl dJ18_hashCode_34 ?_
    refine vv_sipush (v := nI 255) X dJ18_hashCode_35 (by decide) ?_
    refine vv_iand X dJ18_hashCode_38 ?_
    refine vv_goto (tgt := 51) X dJ18_hashCode_39 (by decide) ?_
    exact vv_iret X hQ dJ18_hashCode_51 (Nat.le_of_ble_eq_true rfl) (Nat.le_of_ble_eq_true rfl) (pq (by rw [h9]; show f 0 &&& nI 255 = nI 31 * nI 0 + (f 0 &&& nI 255); rw [show nI 31 * nI 0 = 0 by decide, Int32.zero_add]))
  · refine vv_lookup (tgt := 42) (off := 40) X dJ18_hashCode_2 (by decide) (lk_h h9 hn) (by decide) ?_
    refine vv_aload_n X dJ18_hashCode_42 rfl 0 rfl ?_
    refine vv_iconst (v := nI 0) X dJ18_hashCode_43 (by decide) ?_
    refine vv_aload_n X dJ18_hashCode_44 rfl 0 rfl ?_
    refine vv_alen (ty := 2) X ha rfl dJ18_hashCode_45 ?_
    refine vv_iconst (v := nI 0) X dJ18_hashCode_46 (by decide) ?_
    refine vv_iconst (v := nI 4) X dJ18_hashCode_47 (by decide) ?_
    refine vv_callSp X (mJ14_vectorizedHashCode (kL K) D a n f hn) q1019 q1020 q156 q1021 nJ14_vectorizedHashCode ⟨(Nat.le_of_ble_eq_true rfl), (Nat.le_of_ble_eq_true rfl)⟩ dJ18_hashCode_48 rfl (Nat.le_of_ble_eq_true rfl) ha ⟨(Nat.le_of_ble_eq_true rfl), (Nat.le_of_ble_eq_true rfl)⟩ ?_
    exact vv_iret X hQ dJ18_hashCode_51 (Nat.le_of_ble_eq_true rfl) (Nat.le_of_ble_eq_true rfl) (pq (rfl))
theorem nJ4_hashCode : notMH yJ4_hashCode 0 := by decide +kernel
set_option maxHeartbeats 800000 in
theorem mJ4_hashCode (l : Launch) (D : DD) (t a n : Nat) (f : Nat → Int32) (h z : Int32) (hn : n ≤ 1000) (hh : h = hsf f n ∧ (h ≠ 0 ∨ z ≠ 0) ∨ h = 0 ∧ z = 0 ∧ KN D t) : Ct l yJ4_hashCode cJ4_hashCode 2 (some .int) { frames := 4, cells := 0, slots := 0, locals := 81 } D [.ref t] (fun H => KH D H ∧ oB D H t 12 [.ref a, .int (nI 0), .int (h), .int (z)] ∧ bA D H a n f) (fun q => q = t ∧ h = 0 ∧ z = 0) (fun r H H1 => r = some (.int (hsf f n)) ∧ ∃ h2 z2, oB D H1 t 12 [.ref a, .int (nI 0), .int h2, .int z2]) := by
  refine Ct.of (by decide +kernel) (Nat.le_of_ble_eq_true rfl) (fun K Qf hkl X hM hQ => ?_)
  subst hkl
  obtain ⟨hK, ht, ha⟩ := hM
  have hz : (kS K).heap.size ≤ (kS K).heap.size := Nat.le_refl _
  refine vv_sub (lv' := [(0, .ref t)]) [0] rfl ?_
  refine vv_aload_n X dJ4_hashCode_0 rfl 0 rfl ?_
  refine vv_getf (C := RJ4) (T := TJ4) (N := 4) (ref := "java/lang/String") X ht in_J4 CL_J4 2 (by decide) q719 rfl rfl dJ4_hashCode_1 ?_
  refine vv_istore_n (lv' := [(1, .int (h)), (0, .ref t)]) X dJ4_hashCode_4 rfl (by decide) rfl ?_
  refine vv_iload_n X dJ4_hashCode_5 rfl 0 rfl ?_
  refine vv_if_ne (tgt := 58) X dJ4_hashCode_6 (by decide) (fun c_6 => ?_) (fun c_6 => ?_)
  · refine vv_iload_n X dJ4_hashCode_58 rfl 0 rfl ?_
    exact vv_iret X hQ dJ4_hashCode_59 (Nat.le_of_ble_eq_true rfl) (Nat.le_of_ble_eq_true rfl) (⟨congrArg (fun z : Int32 => some (Value.int z)) (hh.elim (fun z => z.1) (fun z => absurd z.1 c_6)), _, _, ht⟩)
  · refine vv_aload_n X dJ4_hashCode_9 rfl 1 rfl ?_
    refine vv_getf (C := RJ4) (T := TJ4) (N := 4) (ref := "java/lang/String") X ht in_J4 CL_J4 3 (by decide) q720 rfl rfl dJ4_hashCode_10 ?_
    refine vv_if_ne (tgt := 58) X dJ4_hashCode_13 (by decide) (fun c_13 => ?_) (fun c_13 => ?_)
    · refine vv_iload_n X dJ4_hashCode_58 rfl 0 rfl ?_
      exact vv_iret X hQ dJ4_hashCode_59 (Nat.le_of_ble_eq_true rfl) (Nat.le_of_ble_eq_true rfl) (⟨congrArg (fun z : Int32 => some (Value.int z)) (hh.elim (fun z => z.1) (fun z => absurd z.2.1 c_13)), _, _, ht⟩)
    · have hkt : KN D t := hh.elim (fun q => q.2.elim (fun q2 => absurd c_6 (fun e => q2 e)) (fun q2 => absurd c_13 (fun e => q2 e))) (fun q => q.2.2)
      refine vv_aload_n X dJ4_hashCode_16 rfl 1 rfl ?_
      refine vv_callVp X (mJ4_isLatin1 (kL K) D t a n f h z (by omega)) q1012 q1013 q1014 q142 q1015 nJ4_isLatin1 ⟨(Nat.le_of_ble_eq_true rfl), (Nat.le_of_ble_eq_true rfl)⟩ dJ4_hashCode_17 rfl (Nat.le_of_ble_eq_true rfl) (recv X ht CL_J4) ⟨hK, ht, ha⟩ ⟨(Nat.le_of_ble_eq_true rfl), (Nat.le_of_ble_eq_true rfl)⟩ ?_
      refine vn_if_eq (tgt := 33) X (by omega) dJ4_hashCode_20 (by decide) (fun c_20 => ?_) (fun c_20 => ?_)
      · exact absurd c_20 (by decide)
      · refine vv_aload_n X dJ4_hashCode_23 rfl 1 rfl ?_
        refine vv_getf (C := RJ4) (T := TJ4) (N := 4) (ref := "java/lang/String") X ht in_J4 CL_J4 0 (by decide) q717 rfl rfl dJ4_hashCode_24 ?_
        refine vv_callSp X (mJ18_hashCode (kL K) D a n f hn) q1016 q1017 q161 q1018 nJ18_hashCode ⟨(Nat.le_of_ble_eq_true rfl), (Nat.le_of_ble_eq_true rfl)⟩ dJ4_hashCode_27 rfl (Nat.le_of_ble_eq_true rfl) ha ⟨(Nat.le_of_ble_eq_true rfl), (Nat.le_of_ble_eq_true rfl)⟩ ?_
        refine vv_goto (tgt := 40) X dJ4_hashCode_30 (by decide) ?_
        refine vv_istore_n (lv' := [(1, .int (hsf f n)), (0, .ref t)]) X dJ4_hashCode_40 rfl (by decide) rfl ?_
        refine vv_iload_n X dJ4_hashCode_41 rfl 0 rfl ?_
        refine vv_if_ne (tgt := 53) X dJ4_hashCode_42 (by decide) (fun c_42 => ?_) (fun c_42 => ?_)
        · refine vv_aload_n X dJ4_hashCode_53 rfl 1 rfl ?_
          refine vv_iload_n X dJ4_hashCode_54 rfl 0 rfl ?_
          refine vv_putf (C := RJ4) (T := TJ4) (N := 4) (ref := "java/lang/String") X ht in_J4 CL_J4 tyJ4 tyJ4_ok nmJ4 2 (by decide) q719 rfl rfl rfl rfl (Nat.le_of_ble_eq_true rfl) (Or.inl ⟨rfl, c_6, c_13⟩) dJ4_hashCode_55 (fun H hc ho => ?_)
          have k_0 := ha.kept (hc.2 _ (X.ao ha ht CL_J4 rfl))
          replace hK := hK.ch hc hkt
          clear ha
          have ha := k_0
          clear k_0
          replace hz := Nat.le_trans hz (Nat.le_of_eq hc.1.symm)
          clear ht
          have ht : oB D H t 12 [.ref a, .int (nI 0), .int (hsf f n), .int (z)] := ho
          clear hc ho
          refine vv_iload_n X dJ4_hashCode_58 rfl 0 rfl ?_
          exact vv_iret X hQ dJ4_hashCode_59 (Nat.le_of_ble_eq_true rfl) (Nat.le_of_ble_eq_true rfl) (⟨rfl, _, _, ht⟩)
        · refine vv_aload_n X dJ4_hashCode_45 rfl 1 rfl ?_
          refine vv_iconst (v := nI 1) X dJ4_hashCode_46 (by decide) ?_
          refine vv_putf (C := RJ4) (T := TJ4) (N := 4) (ref := "java/lang/String") X ht in_J4 CL_J4 tyJ4 tyJ4_ok nmJ4 3 (by decide) q720 rfl rfl rfl rfl (Nat.le_of_ble_eq_true rfl) (Or.inl ⟨rfl, c_6, c_13⟩) dJ4_hashCode_47 (fun H hc ho => ?_)
          have k_0 := ha.kept (hc.2 _ (X.ao ha ht CL_J4 rfl))
          replace hK := hK.ch hc hkt
          clear ha
          have ha := k_0
          clear k_0
          replace hz := Nat.le_trans hz (Nat.le_of_eq hc.1.symm)
          clear ht
          have ht : oB D H t 12 [.ref a, .int (nI 0), .int (h), .int (nI 1)] := ho
          clear hc ho
          refine vv_goto (tgt := 58) X dJ4_hashCode_50 (by decide) ?_
          refine vv_iload_n X dJ4_hashCode_58 rfl 0 rfl ?_
          exact vv_iret X hQ dJ4_hashCode_59 (Nat.le_of_ble_eq_true rfl) (Nat.le_of_ble_eq_true rfl) (⟨rfl, _, _, ht⟩)
