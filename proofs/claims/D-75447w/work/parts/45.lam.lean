/-! more of the lambda sites: printed by gen/mklam.py -/
set_option maxRecDepth 100000
def LD9 : ClassFile := (SH9.file "AcousticCamera").getD { minorVersion := 0, majorVersion := 0, constantPool := #[], accessFlags := 0, thisClass := 0, superClass := 0, interfaces := #[], fields := #[], methods := #[], attributes := #[] }
def LW9 : Method := ((layoutMethods LD9).bind (·[1]?)).getD default
def LL9 : Array Field × Array FieldType × Array FieldType := (layoutFields LD9 0).getD (#[], #[], #[])
def LB9 : ByteArray := ⟨#[0x2a, 0xb4, 0x00, 0x11, 0x2a, 0xb4, 0x00, 0x13, 0x1b, 0xb8, 0x00, 0x1b, 0xad]⟩
theorem lf9_1 : SH9.file "AcousticCamera" = some LD9 := by
  have h : (SH9.file "AcousticCamera").isSome = true := by decide +kernel
  obtain ⟨x, hx⟩ := Option.isSome_iff_exists.mp h
  simp [LD9, hx]
theorem lf9_2 : ∀ ms, layoutMethods LD9 = some ms → ms[1]? = some LW9 := by
  intro ms hms
  have h : ((layoutMethods LD9).bind (·[1]?)).isSome = true := by decide +kernel
  obtain ⟨x, hx⟩ := Option.isSome_iff_exists.mp h
  have hf : LW9 = x := by simp [LW9, hx]
  rw [hms] at hx
  rw [hf]
  exact hx
theorem lf9_3 : layoutFields LD9 0 = some LL9 := by
  have h : (layoutFields LD9 0).isSome = true := by decide +kernel
  obtain ⟨x, hx⟩ := Option.isSome_iff_exists.mp h
  simp [LL9, hx]
theorem lf9_c : (LW9.code.map fun c => (c.code.data, c.maxLocals)) = some (LB9.data, 2) := by decide +kernel
theorem lf9_f : (LW9.accessFlags, LW9.sig.returnType) = (0x0001, some FieldType.long) := by decide +kernel
theorem lf9_t : LL9.2.1 = #[.int, (.array .long)] := by decide +kernel
theorem lf9_M : LD9.constantPool[27]? = some (.methodref 23 26) ∧ LD9.constantPool.className? 23 = some "AcousticCamera" ∧ LD9.constantPool.nameAndType? 26 = some ("lambda$contrast$2", "(I[JI)J") := by decide +kernel
theorem lf9_C : LD9.constantPool[23]? = some (.class_ 22) ∧ LD9.constantPool.string? 22 = some "AcousticCamera" ∧ 23 ≠ LD9.thisClass := by decide +kernel
theorem lf9_F0 : LD9.constantPool[17]? = some (.fieldref 2 16) ∧ LD9.constantPool.nameAndType? 16 = some ("arg$1", "I") ∧ LL9.1.findIdx? (·.name == "arg$1") = some 0 ∧ (LL9.1[0]?).map (fun f => (f.isStatic, f.slot)) = some (false, 0) := by decide +kernel
theorem lf9_F1 : LD9.constantPool[19]? = some (.fieldref 2 18) ∧ LD9.constantPool.nameAndType? 18 = some ("arg$2", "[J") ∧ LL9.1.findIdx? (·.name == "arg$2") = some 1 ∧ (LL9.1[1]?).map (fun f => (f.isStatic, f.slot)) = some (false, 1) := by decide +kernel
theorem dl9_0 : decode LB9 0 = .ok (.aload_n 0, 1) := by decide +kernel
theorem dl9_1 : decode LB9 1 = .ok (.getfield 17, 3) := by decide +kernel
theorem dl9_4 : decode LB9 4 = .ok (.aload_n 0, 1) := by decide +kernel
theorem dl9_5 : decode LB9 5 = .ok (.getfield 19, 3) := by decide +kernel
theorem dl9_8 : decode LB9 8 = .ok (.iload_n 1, 1) := by decide +kernel
theorem dl9_9 : decode LB9 9 = .ok (.invokestatic 27, 3) := by decide +kernel
theorem dl9_12 : decode LB9 12 = .ok (.lreturn, 1) := by decide +kernel
theorem lam_site9 {U : State} {c : ClassId} {one : Nat} (h : LSt (({ cls := "AcousticCamera", name := "contrast", desc := "()F" } : MethodName), 28, 315, SH9) c one U) (hO : ObN U) : ∃ (k tk : Class) (methk : Method) (ck : Code) (toy iface : ClassId) (t found : MethodId) (file : ClassFile) (f0 : Field) (f1 : Field), U.vm.classes[c]? = some k ∧ k.kind = .ordinary ∧ k.instanceTypes = #[.int, (.array .long)] ∧ U.plainMethod ⟨c, 1⟩ ∧ U.vm.method? ⟨c, 1⟩ = some methk ∧ methk.code = some ck ∧ ck.code = LB9 ∧ ck.maxLocals = 2 ∧ methk.locks = false ∧ methk.accessFlags = 1 ∧ methk.sig.returnType = some FieldType.long ∧ U.vm.findClass "AcousticCamera" = some toy ∧ U.vm.classes[toy]? = some tk ∧ tk.isInterface = false ∧ ((methodIn toy "lambda$contrast$2" "(I[JI)J" tk.isInterface none).ask { classPath := fun _ => none } U.vm).1 = .ok t ∧ U.vm.findClass "AcousticCamera$Score" = some iface ∧ ((methodIn iface "of" SH9.sam.toString true none).ask { classPath := fun _ => none } U.vm).1 = .ok found ∧ selectMethod {} U.vm c found = .method ⟨c, 1⟩ ∧ k.cf = some file ∧ file.constantPool[27]? = some (.methodref 23 26) ∧ file.constantPool.nameAndType? 26 = some ("lambda$contrast$2", "(I[JI)J") ∧ U.vm.classReady c 23 toy ∧ U.vm.methodReady c 27 t ∧ U.vm.fieldReady c 17 c f0 ∧ f0.isStatic = false ∧ f0.slot = 0 ∧ U.vm.fieldReady c 19 c f1 ∧ f1.isStatic = false ∧ f1.slot = 1 := by
  obtain ⟨m, kd, cf, i0, p0, lk, hm, hkd, hcf, hsh, hfind, hmade, hcall, hl⟩ := h
  obtain ⟨kd', hkd', hname⟩ := className_of_methodNamed hm
  cases hkd.symm.trans hkd'
  cases hx : LW9.code with
  | none => exact absurd lf9_c (by rw [hx]; exact fun z => by cases z)
  | some x =>
  have fc := lf9_c
  rw [hx] at fc
  simp only [Option.map_some, Option.some.injEq, Prod.mk.injEq] at fc
  have ff := lf9_f
  simp only [Prod.mk.injEq] at ff
  obtain ⟨k, tk, methk, ck, toy, iface, t, found, hk, hkind, hty, hmk, hck, hcc, hml, hfl, hsig, htoy, htk, hitf, hlook, hif, hfo, hsel, ⟨file, hfile, hpool⟩, hres, hfields⟩ := made_gen hkd hname hmade hO lf9_1 lf9_2 lf9_3 hx
  have hkn : k.name = "AcousticCamera$$Lambda" := by
    obtain ⟨dk', k', ok, tk', file', cf', object, iface', t', lay, methods, target, found', hd', hk', -, -, -, -, -, -, -, -, -, -, -, hrec, -⟩ := Lambda.isMade_spec hmade
    cases hkd.symm.trans hd'
    cases hk.symm.trans hk'
    rw [hrec.1, hname]
    rfl
  obtain ⟨g0, hg0, hp0⟩ := Option.map_eq_some_iff.mp lf9_F0.2.2.2
  simp only [Prod.mk.injEq] at hp0
  obtain ⟨g1, hg1, hp1⟩ := Option.map_eq_some_iff.mp lf9_F1.2.2.2
  simp only [Prod.mk.injEq] at hp1
  have e1 : SH9.implItf = false := rfl
  rw [e1] at hitf
  have hds : SH9.implDesc.toString = "(I[JI)J" := by decide +kernel
  rw [hds] at hlook
  have hready : U.vm.methodReady c 27 t := ⟨k, hk, hres 27 _ (Lambda.resolvedOf_method lf9_M.1 lf9_M.2.1 htoy htk lf9_M.2.2 hlook)⟩
  have hcr : U.vm.classReady c 23 toy := ⟨k, hk, hres 23 _ (Lambda.resolvedOf_class lf9_C.1 lf9_C.2.2 lf9_C.2.1 htoy)⟩
  refine ⟨k, tk, methk, ck, toy, iface, t, found, file, g0, g1, hk, hkind, hty.trans lf9_t, State.plainMethod.of_name (fun k' hk' => by cases hk.symm.trans hk'; rw [hkn]; decide), hmk, hck, hcc.trans (ByteArray.ext fc.1), hml.trans fc.2, ?_, hfl.trans ff.1, by rw [hsig]; exact ff.2, htoy, htk, hitf, hlook, hif, hfo, hsel, hfile, by rw [hpool]; exact lf9_M.1, by rw [hpool]; exact lf9_M.2.2, hcr, hready, ⟨k, 0, k, hk, hres 17 _ (Lambda.resolvedOf_field lf9_F0.1 lf9_F0.2.1 lf9_F0.2.2.1), hk, hfields 0 _ hg0⟩, hp0.1, hp0.2, ⟨k, 1, k, hk, hres 19 _ (Lambda.resolvedOf_field lf9_F1.1 lf9_F1.2.1 lf9_F1.2.2.1), hk, hfields 1 _ hg1⟩, hp1.1, hp1.2⟩
  simp [Method.locks, Method.isSynchronized, hfl, ff.1, hasFlag, Acc.synchronized]
set_option maxHeartbeats 2000000 in
theorem vv_lam9 {K : C_} {y : MethodName} {cc : ByteArray} {nL : Nat} {ret : Option FieldType} {rm : Room} {D : DD} {A : Nat → Prop} {H : Heap} {cells slots : Nat} {Q : State → Prop} {pc : Nat} {lv : List (Nat × Value)} {st stk : List Value} {idx cnt a : Nat} {v0 : Int32} {v1 : Nat} {i : Int32} {rm2 : Room} {P : Heap → Prop} {A2 : Nat → Prop} {Q2 : Option Value → Heap → Heap → Prop} (X : Fx K y cc nL ret rm D) (hM : Ct (kL K) yX1_lambda_contrast_2 cX1_lambda_contrast_2 3 (some FieldType.long) rm2 D [.int v0, .ref v1, .int i] P A2 Q2) (hLO : LO D H a 9 [.int v0, .ref v1]) (q1 : Cond.methodLink y.cls idx ⟨"AcousticCamera$Score", "of", "(I)J"⟩ ∈ lw_all) (hR : rm2.frames + 2 ≤ rm.frames ∧ 43 + rm2.locals ≤ rm.locals) (d : decode cc pc = .ok (.invokeinterface idx cnt, 5)) (hstk : stk = .int i :: .ref a :: st) (hw : (st.map fun v => v.category).sum ≤ 8) (hP : P H) (hA : ∀ q, A2 q → kF K A q) (hc : cells + rm2.cells ≤ rm.cells ∧ slots + rm2.slots ≤ rm.slots) (hQ : ∀ v H H1, Q2 v H H1 → ∃ r : Int64, v = some (.long r))
    (kk : ∀ (v : Option Value) (H1 : Heap), Q2 v H H1 → H.size ≤ H1.size → (∀ q : Nat, q < H.size → ¬ A2 q → H1[q]? = H[q]?) → V K nL A H1 (cells + rm2.cells) (slots + rm2.slots) Q (pc + 5) lv (v.toList ++ st)) : V K nL A H cells slots Q pc lv stk := by
  subst hstk
  refine vv_after5 (mc := rm2.cells) (ms := rm2.slots) (as := [.int v0, .ref v1, .int i].toArray) (A2 := A2) (Q2 := Q2) (st := st) (fun L ls h0 T hT XX => ?_) hA kk
  have hmem : (⟨"AcousticCamera$Score", "of", "(I)J"⟩ : MethodName) ∈ IFL := by decide +kernel
  have hIF := X.ge.2.2.2.2.2.1 _ hmem
  have hLS := X.ge.2.2.2.1 9 _ rfl
  obtain ⟨r0, r, hn, hrm, hstR, hsigR⟩ := Cond.declares_spec (va_any (A' := kA K) rfl hIF.1)
  obtain ⟨cL, kL', r1, hcL, hkL, hiL, hfoundL, hn1⟩ := Cond.interfaceMethod_spec (va_any (A' := kA K) rfl hIF.2)
  cases hn.symm.trans hn1
  have hr0cls : r0.cls = cL := Option.some.inj ((findClass_of_methodNamed hn).symm.trans hcL)
  obtain ⟨hnameR, hdescR⟩ := name_of_methodNamed hn hrm
  obtain ⟨k, tk, methk, ck, toy, iface, t, found, file, f0, f1, hk, hkind, hty, hpl, hmk, hck, hcc, hml, hlk, hfl, hretk, htoy, htk, hitf, hlook, hif, hfo, hsel, hfile, hcp, hnt, hcr, hready, hf0, hfs0, hfn0, hf1, hfs1, hfn1⟩ := lam_site9 hLS X.ge.2.2.1
  obtain ⟨-, -, -, -, -, -, -, -, -, -, -, -, hcall, -⟩ := hLS
  obtain ⟨i2, hi2, hasg, hway⟩ := State.lambdaCallable_spec hcall
  have e1 : SH9.iface = "AcousticCamera$Score" := rfl
  have e2 : SH9.sam.toString = "(I)J" := by decide +kernel
  have e3 : SH9.name = "of" := rfl
  rw [e1] at hi2
  rw [e2, e3] at hway
  rw [e2] at hfo
  cases hcL.symm.trans hi2
  cases hcL.symm.trans hif
  have hfr : found = r0 := by
    have h1 : (kS K).methodFound? "AcousticCamera$Score" "of" "(I)J" = some r0 := hfoundL
    simp only [State.methodFound?, hcL, hkL, hiL, Option.bind_eq_bind, Option.bind_some] at h1
    rw [hfo] at h1
    exact Option.some.inj h1
  subst hfr
  have hselP : selectMethod (kE K).platform (kS K).vm (D.2.1 109) found = .method ⟨D.2.1 109, 1⟩ := by rw [Launch.admits_selectMethod XX.admits]; exact hsel
  obtain ⟨vm₁, X₁, hstep₁⟩ := XX.invokeinterface X.exec X.own (X.words _ q1) hn hrm hstR (by rw [hr0cls]; exact hkL) hiL (by decide) (a := a) (cell := { cls := D.2.1 109, slots := [.int v0, .ref v1].toArray, vm := .none }) (kcell := k) (by rw [hT]; exact hLO) (fun z h => by cases h) hk (by rw [hr0cls]; exact hasg) hselP hmk (by rw [hnameR, hdescR]; exact hway) (by rw [hfl]; decide) (by simp [Method.isAbstract, hfl, hasFlag, Acc.abstract]) (g := F0 (kM K) pc ls (.int i :: .ref a :: st)) rfl (argsL := [.int i]) (rest := st) (by
      have h9 := hsigR
      rw [show parseMethodDescriptor "(I)J" = some ⟨[.int], some FieldType.long⟩ from by decide +kernel] at h9
      rw [← Option.some.inj h9]
      rfl) rfl (by rw [X.code]; exact d)
  have hLS1 : LSt _ (D.2.1 109) (D.2.2 609) (T.setVm vm₁) := (X.ge.2.2.2.1 9 _ rfl).warm X₁.warmed
  have hO1 : ObN (T.setVm vm₁) := X.ge.2.2.1.moved X₁.warmed.alike
  clear hk hkind hty hpl hmk hck hcc hml hlk hfl hretk htoy htk hitf hlook hif hfo hsel hfile hcp hnt hcr hready hselP hf0 hfs0 hfn0 hf1 hfs1 hfn1
  obtain ⟨k, tk, methk, ck, toy, iface, t, found2, file, f0, f1, hk, hkind, hty, hpl, hmk, hck, hcc, hml, hlk, hfl, hretk, htoy, htk, hitf, hlook, hif, hfo, hsel, hfile, hcp, hnt, hcr, hready, hf0, hfs0, hfn0, hf1, hfs1, hfn1⟩ := lam_site9 hLS1 hO1
  have hwd : ∀ w ∈ lw_all, ∀ (a' : Array Value) (U : State), (T.setVm vm₁).WarmedH U.vm → w.before a' U = true := fun w hw a' U hW => pay_in X.words lw_self w hw a' U (State.WarmedH.trans X₁.warmed hW)
  have hwT : ∀ w ∈ lw_all, w.before #[] (T.setVm vm₁) = true := fun w hw => hwd w hw _ _ (State.WarmedH.refl _)
  obtain ⟨tkS, methB, hpr, htkS, hmB, hsp, hsB, hiB, hlB, hnB⟩ := lam_static (e := kE K) (n := 3) (y := yX1_lambda_contrast_2) (sig := SH9.implDesc) hk hfile hcp hnt hready hcr htoy htk hlook (by decide) (hwT _ q2378) (hwT _ q2377) (hwT _ q137) (by decide +kernel) rfl
  have hheap1 : (T.setVm vm₁).heap = H := hT
  obtain ⟨v, st₀, t9, T', L9, h1, X9, hL9, hth, htv, hq9, hstep⟩ := lam_runl (As := [.int v0, .ref v1, .int i]) (a := a) (i := i) (P := 9) X₁ X.exec (g := F0 (kM K) pc ls st) rfl (by rw [X.maxL]; exact h0.1) (by rw [X.code]; exact d) hmk hck hml hlk hpl hretk (hM H.size) PcT_blind rfl rfl (by rw [X.room]; exact hR.1) (by rw [X.room]; show 2 * 0 + (st.map fun v => v.category).sum + 13 + _ ≤ _; omega) (fun w hw a' U hW => (lw_meth q2378 w hw).1 |> fun h => hwd w h a' U hW) List.mem_cons_self (fun a' U hW => hwd _ q137 a' U hW) hnB (by rw [X.room]; exact hc.1) (by rw [X.room]; exact hc.2) (fun U hU hW => ⟨rfl, by rw [hU, hheap1], by rw [hU, hheap1]; exact hP, X.gk.warm (State.WarmedH.trans X₁.warmed hW)⟩)
    (fun R' s' args' U Y hvm hheap hnm target hrest => by
      have hs : U.topJava?.isSome := Y.here.top
      have hcl : U.heap[a]? = some { cls := D.2.1 109, slots := [.int v0, .ref v1].toArray, vm := .none } := by rw [hheap, hheap1]; exact hLO
      jvm_step Y.here [X.exec, hcc, dl9_0, Value.isRef]
      jvm_step Y.here [X.exec, hcc, dl9_1, getfield.wp_ready (e := kE K) (s := U) (c := D.2.1 109) (field := f0) (a := a) (rest := []) (cell := { cls := D.2.1 109, slots := [.int v0, .ref v1].toArray, vm := .none }) (v := .int v0) (f := frL (D.2.1 109) 1 a i [.ref a]) hs (by rw [hvm]; exact hf0) hfs0 rfl hcl (fun z => by cases z) (by rw [hfn0]; rfl)]
      jvm_step Y.here [X.exec, hcc, dl9_4, Value.isRef]
      jvm_step Y.here [X.exec, hcc, dl9_5, getfield.wp_ready (e := kE K) (s := U) (c := D.2.1 109) (field := f1) (a := a) (rest := [.int v0]) (cell := { cls := D.2.1 109, slots := [.int v0, .ref v1].toArray, vm := .none }) (v := .ref v1) (f := frL (D.2.1 109) 5 a i [.ref a, .int v0]) hs (by rw [hvm]; exact hf1) hfs1 rfl hcl (fun z => by cases z) (by rw [hfn1]; rfl)]
      jvm_step Y.here [X.exec, hcc, dl9_8]
      jvm_step Y.here [X.exec, hcc, dl9_9, invokestatic.wp_ready (e := kE K) (s := U) (m := t) (k := tkS) (meth := methB) (args := [.int v0, .ref v1, .int i]) (rest := []) (f := frL (D.2.1 109) 9 a i [.int i, .ref v1, .int v0]) hs (by unfold plainRef at hpr ⊢; rw [hvm]; exact hpr) (by rw [hvm]; exact hready) (by rw [hvm]; exact htkS) (by rw [hvm]; exact hmB) hsp hsB hiB hlB rfl]
      intro acts'
      exact hrest acts')
    (by rw [hcc]; exact dl9_9) (by rw [hcc]; exact dl9_12) (fun st o t h => by
      obtain ⟨v, rfl, hq, -⟩ := h
      obtain ⟨r, rfl⟩ := hQ _ _ _ hq
      exact ⟨r, rfl⟩)
  refine ⟨v, st₀, t9, T', L9, h1.trans hheap1, X9, hL9, hth, htv, hq9, fun target htg => ?_⟩
  exact hstep₁ _ fun acts => (hstep acts).trans htg
def LD10 : ClassFile := (SH10.file "AcousticCamera").getD { minorVersion := 0, majorVersion := 0, constantPool := #[], accessFlags := 0, thisClass := 0, superClass := 0, interfaces := #[], fields := #[], methods := #[], attributes := #[] }
def LW10 : Method := ((layoutMethods LD10).bind (·[1]?)).getD default
def LL10 : Array Field × Array FieldType × Array FieldType := (layoutFields LD10 0).getD (#[], #[], #[])
def LB10 : ByteArray := ⟨#[0x2a, 0xb4, 0x00, 0x12, 0x2a, 0xb4, 0x00, 0x14, 0x2a, 0xb4, 0x00, 0x16, 0x1b, 0xb8, 0x00, 0x1e, 0xac]⟩
theorem lf10_1 : SH10.file "AcousticCamera" = some LD10 := by
  have h : (SH10.file "AcousticCamera").isSome = true := by decide +kernel
  obtain ⟨x, hx⟩ := Option.isSome_iff_exists.mp h
  simp [LD10, hx]
theorem lf10_2 : ∀ ms, layoutMethods LD10 = some ms → ms[1]? = some LW10 := by
  intro ms hms
  have h : ((layoutMethods LD10).bind (·[1]?)).isSome = true := by decide +kernel
  obtain ⟨x, hx⟩ := Option.isSome_iff_exists.mp h
  have hf : LW10 = x := by simp [LW10, hx]
  rw [hms] at hx
  rw [hf]
  exact hx
theorem lf10_3 : layoutFields LD10 0 = some LL10 := by
  have h : (layoutFields LD10 0).isSome = true := by decide +kernel
  obtain ⟨x, hx⟩ := Option.isSome_iff_exists.mp h
  simp [LL10, hx]
theorem lf10_c : (LW10.code.map fun c => (c.code.data, c.maxLocals)) = some (LB10.data, 2) := by decide +kernel
theorem lf10_f : (LW10.accessFlags, LW10.sig.returnType) = (0x0001, some FieldType.boolean) := by decide +kernel
theorem lf10_t : LL10.2.1 = #[(.object "AcousticCamera$State"), .int, .int] := by decide +kernel
theorem lf10_M : LD10.constantPool[30]? = some (.methodref 26 29) ∧ LD10.constantPool.className? 26 = some "AcousticCamera" ∧ LD10.constantPool.nameAndType? 29 = some ("lambda$aliases$3", "(LAcousticCamera$State;III)Z") := by decide +kernel
theorem lf10_C : LD10.constantPool[26]? = some (.class_ 25) ∧ LD10.constantPool.string? 25 = some "AcousticCamera" ∧ 26 ≠ LD10.thisClass := by decide +kernel
theorem lf10_F0 : LD10.constantPool[18]? = some (.fieldref 2 17) ∧ LD10.constantPool.nameAndType? 17 = some ("arg$1", "LAcousticCamera$State;") ∧ LL10.1.findIdx? (·.name == "arg$1") = some 0 ∧ (LL10.1[0]?).map (fun f => (f.isStatic, f.slot)) = some (false, 0) := by decide +kernel
theorem lf10_F1 : LD10.constantPool[20]? = some (.fieldref 2 19) ∧ LD10.constantPool.nameAndType? 19 = some ("arg$2", "I") ∧ LL10.1.findIdx? (·.name == "arg$2") = some 1 ∧ (LL10.1[1]?).map (fun f => (f.isStatic, f.slot)) = some (false, 1) := by decide +kernel
theorem lf10_F2 : LD10.constantPool[22]? = some (.fieldref 2 21) ∧ LD10.constantPool.nameAndType? 21 = some ("arg$3", "I") ∧ LL10.1.findIdx? (·.name == "arg$3") = some 2 ∧ (LL10.1[2]?).map (fun f => (f.isStatic, f.slot)) = some (false, 2) := by decide +kernel
theorem dl10_0 : decode LB10 0 = .ok (.aload_n 0, 1) := by decide +kernel
theorem dl10_1 : decode LB10 1 = .ok (.getfield 18, 3) := by decide +kernel
theorem dl10_4 : decode LB10 4 = .ok (.aload_n 0, 1) := by decide +kernel
theorem dl10_5 : decode LB10 5 = .ok (.getfield 20, 3) := by decide +kernel
theorem dl10_8 : decode LB10 8 = .ok (.aload_n 0, 1) := by decide +kernel
theorem dl10_9 : decode LB10 9 = .ok (.getfield 22, 3) := by decide +kernel
theorem dl10_12 : decode LB10 12 = .ok (.iload_n 1, 1) := by decide +kernel
theorem dl10_13 : decode LB10 13 = .ok (.invokestatic 30, 3) := by decide +kernel
theorem dl10_16 : decode LB10 16 = .ok (.ireturn, 1) := by decide +kernel
theorem lam_site10 {U : State} {c : ClassId} {one : Nat} (h : LSt (({ cls := "AcousticCamera", name := "aliases", desc := "(II)I" } : MethodName), 20, 337, SH10) c one U) (hO : ObN U) : ∃ (k tk : Class) (methk : Method) (ck : Code) (toy iface : ClassId) (t found : MethodId) (file : ClassFile) (f0 : Field) (f1 : Field) (f2 : Field), U.vm.classes[c]? = some k ∧ k.kind = .ordinary ∧ k.instanceTypes = #[(.object "AcousticCamera$State"), .int, .int] ∧ U.plainMethod ⟨c, 1⟩ ∧ U.vm.method? ⟨c, 1⟩ = some methk ∧ methk.code = some ck ∧ ck.code = LB10 ∧ ck.maxLocals = 2 ∧ methk.locks = false ∧ methk.accessFlags = 1 ∧ methk.sig.returnType = some FieldType.boolean ∧ U.vm.findClass "AcousticCamera" = some toy ∧ U.vm.classes[toy]? = some tk ∧ tk.isInterface = false ∧ ((methodIn toy "lambda$aliases$3" "(LAcousticCamera$State;III)Z" tk.isInterface none).ask { classPath := fun _ => none } U.vm).1 = .ok t ∧ U.vm.findClass "AcousticCamera$Choice" = some iface ∧ ((methodIn iface "takes" SH10.sam.toString true none).ask { classPath := fun _ => none } U.vm).1 = .ok found ∧ selectMethod {} U.vm c found = .method ⟨c, 1⟩ ∧ k.cf = some file ∧ file.constantPool[30]? = some (.methodref 26 29) ∧ file.constantPool.nameAndType? 29 = some ("lambda$aliases$3", "(LAcousticCamera$State;III)Z") ∧ U.vm.classReady c 26 toy ∧ U.vm.methodReady c 30 t ∧ U.vm.fieldReady c 18 c f0 ∧ f0.isStatic = false ∧ f0.slot = 0 ∧ U.vm.fieldReady c 20 c f1 ∧ f1.isStatic = false ∧ f1.slot = 1 ∧ U.vm.fieldReady c 22 c f2 ∧ f2.isStatic = false ∧ f2.slot = 2 := by
  obtain ⟨m, kd, cf, i0, p0, lk, hm, hkd, hcf, hsh, hfind, hmade, hcall, hl⟩ := h
  obtain ⟨kd', hkd', hname⟩ := className_of_methodNamed hm
  cases hkd.symm.trans hkd'
  cases hx : LW10.code with
  | none => exact absurd lf10_c (by rw [hx]; exact fun z => by cases z)
  | some x =>
  have fc := lf10_c
  rw [hx] at fc
  simp only [Option.map_some, Option.some.injEq, Prod.mk.injEq] at fc
  have ff := lf10_f
  simp only [Prod.mk.injEq] at ff
  obtain ⟨k, tk, methk, ck, toy, iface, t, found, hk, hkind, hty, hmk, hck, hcc, hml, hfl, hsig, htoy, htk, hitf, hlook, hif, hfo, hsel, ⟨file, hfile, hpool⟩, hres, hfields⟩ := made_gen hkd hname hmade hO lf10_1 lf10_2 lf10_3 hx
  have hkn : k.name = "AcousticCamera$$Lambda" := by
    obtain ⟨dk', k', ok, tk', file', cf', object, iface', t', lay, methods, target, found', hd', hk', -, -, -, -, -, -, -, -, -, -, -, hrec, -⟩ := Lambda.isMade_spec hmade
    cases hkd.symm.trans hd'
    cases hk.symm.trans hk'
    rw [hrec.1, hname]
    rfl
  obtain ⟨g0, hg0, hp0⟩ := Option.map_eq_some_iff.mp lf10_F0.2.2.2
  simp only [Prod.mk.injEq] at hp0
  obtain ⟨g1, hg1, hp1⟩ := Option.map_eq_some_iff.mp lf10_F1.2.2.2
  simp only [Prod.mk.injEq] at hp1
  obtain ⟨g2, hg2, hp2⟩ := Option.map_eq_some_iff.mp lf10_F2.2.2.2
  simp only [Prod.mk.injEq] at hp2
  have e1 : SH10.implItf = false := rfl
  rw [e1] at hitf
  have hds : SH10.implDesc.toString = "(LAcousticCamera$State;III)Z" := by decide +kernel
  rw [hds] at hlook
  have hready : U.vm.methodReady c 30 t := ⟨k, hk, hres 30 _ (Lambda.resolvedOf_method lf10_M.1 lf10_M.2.1 htoy htk lf10_M.2.2 hlook)⟩
  have hcr : U.vm.classReady c 26 toy := ⟨k, hk, hres 26 _ (Lambda.resolvedOf_class lf10_C.1 lf10_C.2.2 lf10_C.2.1 htoy)⟩
  refine ⟨k, tk, methk, ck, toy, iface, t, found, file, g0, g1, g2, hk, hkind, hty.trans lf10_t, State.plainMethod.of_name (fun k' hk' => by cases hk.symm.trans hk'; rw [hkn]; decide), hmk, hck, hcc.trans (ByteArray.ext fc.1), hml.trans fc.2, ?_, hfl.trans ff.1, by rw [hsig]; exact ff.2, htoy, htk, hitf, hlook, hif, hfo, hsel, hfile, by rw [hpool]; exact lf10_M.1, by rw [hpool]; exact lf10_M.2.2, hcr, hready, ⟨k, 0, k, hk, hres 18 _ (Lambda.resolvedOf_field lf10_F0.1 lf10_F0.2.1 lf10_F0.2.2.1), hk, hfields 0 _ hg0⟩, hp0.1, hp0.2, ⟨k, 1, k, hk, hres 20 _ (Lambda.resolvedOf_field lf10_F1.1 lf10_F1.2.1 lf10_F1.2.2.1), hk, hfields 1 _ hg1⟩, hp1.1, hp1.2, ⟨k, 2, k, hk, hres 22 _ (Lambda.resolvedOf_field lf10_F2.1 lf10_F2.2.1 lf10_F2.2.2.1), hk, hfields 2 _ hg2⟩, hp2.1, hp2.2⟩
  simp [Method.locks, Method.isSynchronized, hfl, ff.1, hasFlag, Acc.synchronized]
set_option maxHeartbeats 2000000 in
theorem vv_lam10 {K : C_} {y : MethodName} {cc : ByteArray} {nL : Nat} {ret : Option FieldType} {rm : Room} {D : DD} {A : Nat → Prop} {H : Heap} {cells slots : Nat} {Q : State → Prop} {pc : Nat} {lv : List (Nat × Value)} {st stk : List Value} {idx cnt a : Nat} {v0 : Nat} {v1 : Int32} {v2 : Int32} {i : Int32} {rm2 : Room} {P : Heap → Prop} {A2 : Nat → Prop} {Q2 : Option Value → Heap → Heap → Prop} (X : Fx K y cc nL ret rm D) (hM : Ct (kL K) yX1_lambda_aliases_3 cX1_lambda_aliases_3 4 (some FieldType.boolean) rm2 D [.ref v0, .int v1, .int v2, .int i] P A2 Q2) (hLO : LO D H a 10 [.ref v0, .int v1, .int v2]) (q1 : Cond.methodLink y.cls idx ⟨"AcousticCamera$Choice", "takes", "(I)Z"⟩ ∈ lw_all) (hR : rm2.frames + 2 ≤ rm.frames ∧ 44 + rm2.locals ≤ rm.locals) (d : decode cc pc = .ok (.invokeinterface idx cnt, 5)) (hstk : stk = .int i :: .ref a :: st) (hw : (st.map fun v => v.category).sum ≤ 8) (hP : P H) (hA : ∀ q, A2 q → kF K A q) (hc : cells + rm2.cells ≤ rm.cells ∧ slots + rm2.slots ≤ rm.slots) (hQ : ∀ v H H1, Q2 v H H1 → ∃ r : Int32, v = some (.int r) ∧ narrow FieldType.boolean (.int r) = .int r)
    (kk : ∀ (v : Option Value) (H1 : Heap), Q2 v H H1 → H.size ≤ H1.size → (∀ q : Nat, q < H.size → ¬ A2 q → H1[q]? = H[q]?) → V K nL A H1 (cells + rm2.cells) (slots + rm2.slots) Q (pc + 5) lv (v.toList ++ st)) : V K nL A H cells slots Q pc lv stk := by
  subst hstk
  refine vv_after5 (mc := rm2.cells) (ms := rm2.slots) (as := [.ref v0, .int v1, .int v2, .int i].toArray) (A2 := A2) (Q2 := Q2) (st := st) (fun L ls h0 T hT XX => ?_) hA kk
  have hmem : (⟨"AcousticCamera$Choice", "takes", "(I)Z"⟩ : MethodName) ∈ IFL := by decide +kernel
  have hIF := X.ge.2.2.2.2.2.1 _ hmem
  have hLS := X.ge.2.2.2.1 10 _ rfl
  obtain ⟨r0, r, hn, hrm, hstR, hsigR⟩ := Cond.declares_spec (va_any (A' := kA K) rfl hIF.1)
  obtain ⟨cL, kL', r1, hcL, hkL, hiL, hfoundL, hn1⟩ := Cond.interfaceMethod_spec (va_any (A' := kA K) rfl hIF.2)
  cases hn.symm.trans hn1
  have hr0cls : r0.cls = cL := Option.some.inj ((findClass_of_methodNamed hn).symm.trans hcL)
  obtain ⟨hnameR, hdescR⟩ := name_of_methodNamed hn hrm
  obtain ⟨k, tk, methk, ck, toy, iface, t, found, file, f0, f1, f2, hk, hkind, hty, hpl, hmk, hck, hcc, hml, hlk, hfl, hretk, htoy, htk, hitf, hlook, hif, hfo, hsel, hfile, hcp, hnt, hcr, hready, hf0, hfs0, hfn0, hf1, hfs1, hfn1, hf2, hfs2, hfn2⟩ := lam_site10 hLS X.ge.2.2.1
  obtain ⟨-, -, -, -, -, -, -, -, -, -, -, -, hcall, -⟩ := hLS
  obtain ⟨i2, hi2, hasg, hway⟩ := State.lambdaCallable_spec hcall
  have e1 : SH10.iface = "AcousticCamera$Choice" := rfl
  have e2 : SH10.sam.toString = "(I)Z" := by decide +kernel
  have e3 : SH10.name = "takes" := rfl
  rw [e1] at hi2
  rw [e2, e3] at hway
  rw [e2] at hfo
  cases hcL.symm.trans hi2
  cases hcL.symm.trans hif
  have hfr : found = r0 := by
    have h1 : (kS K).methodFound? "AcousticCamera$Choice" "takes" "(I)Z" = some r0 := hfoundL
    simp only [State.methodFound?, hcL, hkL, hiL, Option.bind_eq_bind, Option.bind_some] at h1
    rw [hfo] at h1
    exact Option.some.inj h1
  subst hfr
  have hselP : selectMethod (kE K).platform (kS K).vm (D.2.1 110) found = .method ⟨D.2.1 110, 1⟩ := by rw [Launch.admits_selectMethod XX.admits]; exact hsel
  obtain ⟨vm₁, X₁, hstep₁⟩ := XX.invokeinterface X.exec X.own (X.words _ q1) hn hrm hstR (by rw [hr0cls]; exact hkL) hiL (by decide) (a := a) (cell := { cls := D.2.1 110, slots := [.ref v0, .int v1, .int v2].toArray, vm := .none }) (kcell := k) (by rw [hT]; exact hLO) (fun z h => by cases h) hk (by rw [hr0cls]; exact hasg) hselP hmk (by rw [hnameR, hdescR]; exact hway) (by rw [hfl]; decide) (by simp [Method.isAbstract, hfl, hasFlag, Acc.abstract]) (g := F0 (kM K) pc ls (.int i :: .ref a :: st)) rfl (argsL := [.int i]) (rest := st) (by
      have h9 := hsigR
      rw [show parseMethodDescriptor "(I)Z" = some ⟨[.int], some FieldType.boolean⟩ from by decide +kernel] at h9
      rw [← Option.some.inj h9]
      rfl) rfl (by rw [X.code]; exact d)
  have hLS1 : LSt _ (D.2.1 110) (D.2.2 610) (T.setVm vm₁) := (X.ge.2.2.2.1 10 _ rfl).warm X₁.warmed
  have hO1 : ObN (T.setVm vm₁) := X.ge.2.2.1.moved X₁.warmed.alike
  clear hk hkind hty hpl hmk hck hcc hml hlk hfl hretk htoy htk hitf hlook hif hfo hsel hfile hcp hnt hcr hready hselP hf0 hfs0 hfn0 hf1 hfs1 hfn1 hf2 hfs2 hfn2
  obtain ⟨k, tk, methk, ck, toy, iface, t, found2, file, f0, f1, f2, hk, hkind, hty, hpl, hmk, hck, hcc, hml, hlk, hfl, hretk, htoy, htk, hitf, hlook, hif, hfo, hsel, hfile, hcp, hnt, hcr, hready, hf0, hfs0, hfn0, hf1, hfs1, hfn1, hf2, hfs2, hfn2⟩ := lam_site10 hLS1 hO1
  have hwd : ∀ w ∈ lw_all, ∀ (a' : Array Value) (U : State), (T.setVm vm₁).WarmedH U.vm → w.before a' U = true := fun w hw a' U hW => pay_in X.words lw_self w hw a' U (State.WarmedH.trans X₁.warmed hW)
  have hwT : ∀ w ∈ lw_all, w.before #[] (T.setVm vm₁) = true := fun w hw => hwd w hw _ _ (State.WarmedH.refl _)
  obtain ⟨tkS, methB, hpr, htkS, hmB, hsp, hsB, hiB, hlB, hnB⟩ := lam_static (e := kE K) (n := 4) (y := yX1_lambda_aliases_3) (sig := SH10.implDesc) hk hfile hcp hnt hready hcr htoy htk hlook (by decide) (hwT _ q2441) (hwT _ q2440) (hwT _ q137) (by decide +kernel) rfl
  have hheap1 : (T.setVm vm₁).heap = H := hT
  obtain ⟨v, st₀, t9, T', L9, h1, X9, hL9, hth, htv, hq9, hstep⟩ := lam_runi (As := [.ref v0, .int v1, .int v2, .int i]) (a := a) (i := i) (P := 13) X₁ X.exec (g := F0 (kM K) pc ls st) rfl (by rw [X.maxL]; exact h0.1) (by rw [X.code]; exact d) hmk hck hml hlk hpl hretk (hM H.size) PcT_blind rfl rfl (by rw [X.room]; exact hR.1) (by rw [X.room]; show 2 * 0 + (st.map fun v => v.category).sum + 13 + _ ≤ _; omega) (fun w hw a' U hW => (lw_meth q2441 w hw).1 |> fun h => hwd w h a' U hW) List.mem_cons_self (fun a' U hW => hwd _ q137 a' U hW) hnB (by rw [X.room]; exact hc.1) (by rw [X.room]; exact hc.2) (fun U hU hW => ⟨rfl, by rw [hU, hheap1], by rw [hU, hheap1]; exact hP, X.gk.warm (State.WarmedH.trans X₁.warmed hW)⟩)
    (fun R' s' args' U Y hvm hheap hnm target hrest => by
      have hs : U.topJava?.isSome := Y.here.top
      have hcl : U.heap[a]? = some { cls := D.2.1 110, slots := [.ref v0, .int v1, .int v2].toArray, vm := .none } := by rw [hheap, hheap1]; exact hLO
      jvm_step Y.here [X.exec, hcc, dl10_0, Value.isRef]
      jvm_step Y.here [X.exec, hcc, dl10_1, getfield.wp_ready (e := kE K) (s := U) (c := D.2.1 110) (field := f0) (a := a) (rest := []) (cell := { cls := D.2.1 110, slots := [.ref v0, .int v1, .int v2].toArray, vm := .none }) (v := .ref v0) (f := frL (D.2.1 110) 1 a i [.ref a]) hs (by rw [hvm]; exact hf0) hfs0 rfl hcl (fun z => by cases z) (by rw [hfn0]; rfl)]
      jvm_step Y.here [X.exec, hcc, dl10_4, Value.isRef]
      jvm_step Y.here [X.exec, hcc, dl10_5, getfield.wp_ready (e := kE K) (s := U) (c := D.2.1 110) (field := f1) (a := a) (rest := [.ref v0]) (cell := { cls := D.2.1 110, slots := [.ref v0, .int v1, .int v2].toArray, vm := .none }) (v := .int v1) (f := frL (D.2.1 110) 5 a i [.ref a, .ref v0]) hs (by rw [hvm]; exact hf1) hfs1 rfl hcl (fun z => by cases z) (by rw [hfn1]; rfl)]
      jvm_step Y.here [X.exec, hcc, dl10_8, Value.isRef]
      jvm_step Y.here [X.exec, hcc, dl10_9, getfield.wp_ready (e := kE K) (s := U) (c := D.2.1 110) (field := f2) (a := a) (rest := [.int v1, .ref v0]) (cell := { cls := D.2.1 110, slots := [.ref v0, .int v1, .int v2].toArray, vm := .none }) (v := .int v2) (f := frL (D.2.1 110) 9 a i [.ref a, .int v1, .ref v0]) hs (by rw [hvm]; exact hf2) hfs2 rfl hcl (fun z => by cases z) (by rw [hfn2]; rfl)]
      jvm_step Y.here [X.exec, hcc, dl10_12]
      jvm_step Y.here [X.exec, hcc, dl10_13, invokestatic.wp_ready (e := kE K) (s := U) (m := t) (k := tkS) (meth := methB) (args := [.ref v0, .int v1, .int v2, .int i]) (rest := []) (f := frL (D.2.1 110) 13 a i [.int i, .int v2, .int v1, .ref v0]) hs (by unfold plainRef at hpr ⊢; rw [hvm]; exact hpr) (by rw [hvm]; exact hready) (by rw [hvm]; exact htkS) (by rw [hvm]; exact hmB) hsp hsB hiB hlB rfl]
      intro acts'
      exact hrest acts')
    (by rw [hcc]; exact dl10_13) (by rw [hcc]; exact dl10_16) (fun st o t h => by
      obtain ⟨v, rfl, hq, -⟩ := h
      obtain ⟨r, rfl, hn⟩ := hQ _ _ _ hq
      exact ⟨r, rfl, hn⟩)
  refine ⟨v, st₀, t9, T', L9, h1.trans hheap1, X9, hL9, hth, htv, hq9, fun target htg => ?_⟩
  exact hstep₁ _ fun acts => (hstep acts).trans htg
def LD11 : ClassFile := (SH11.file "AcousticCamera$State").getD { minorVersion := 0, majorVersion := 0, constantPool := #[], accessFlags := 0, thisClass := 0, superClass := 0, interfaces := #[], fields := #[], methods := #[], attributes := #[] }
def LW11 : Method := ((layoutMethods LD11).bind (·[1]?)).getD default
def LL11 : Array Field × Array FieldType × Array FieldType := (layoutFields LD11 0).getD (#[], #[], #[])
def LB11 : ByteArray := ⟨#[0x2a, 0xb4, 0x00, 0x12, 0x2a, 0xb4, 0x00, 0x14, 0x2a, 0xb4, 0x00, 0x16, 0x1b, 0xb6, 0x00, 0x1e, 0xad]⟩
theorem lf11_1 : SH11.file "AcousticCamera$State" = some LD11 := by
  have h : (SH11.file "AcousticCamera$State").isSome = true := by decide +kernel
  obtain ⟨x, hx⟩ := Option.isSome_iff_exists.mp h
  simp [LD11, hx]
theorem lf11_2 : ∀ ms, layoutMethods LD11 = some ms → ms[1]? = some LW11 := by
  intro ms hms
  have h : ((layoutMethods LD11).bind (·[1]?)).isSome = true := by decide +kernel
  obtain ⟨x, hx⟩ := Option.isSome_iff_exists.mp h
  have hf : LW11 = x := by simp [LW11, hx]
  rw [hms] at hx
  rw [hf]
  exact hx
theorem lf11_3 : layoutFields LD11 0 = some LL11 := by
  have h : (layoutFields LD11 0).isSome = true := by decide +kernel
  obtain ⟨x, hx⟩ := Option.isSome_iff_exists.mp h
  simp [LL11, hx]
theorem lf11_c : (LW11.code.map fun c => (c.code.data, c.maxLocals)) = some (LB11.data, 2) := by decide +kernel
theorem lf11_f : (LW11.accessFlags, LW11.sig.returnType) = (0x0001, some FieldType.long) := by decide +kernel
theorem lf11_t : LL11.2.1 = #[(.object "AcousticCamera$State"), .int, .int] := by decide +kernel
theorem lf11_M : LD11.constantPool[30]? = some (.methodref 26 29) ∧ LD11.constantPool.className? 26 = some "AcousticCamera$State" ∧ LD11.constantPool.nameAndType? 29 = some ("lambda$blockBest$1", "(III)J") := by decide +kernel
theorem lf11_C : LD11.constantPool[26]? = some (.class_ 25) ∧ LD11.constantPool.string? 25 = some "AcousticCamera$State" ∧ 26 ≠ LD11.thisClass := by decide +kernel
theorem lf11_F0 : LD11.constantPool[18]? = some (.fieldref 2 17) ∧ LD11.constantPool.nameAndType? 17 = some ("arg$1", "LAcousticCamera$State;") ∧ LL11.1.findIdx? (·.name == "arg$1") = some 0 ∧ (LL11.1[0]?).map (fun f => (f.isStatic, f.slot)) = some (false, 0) := by decide +kernel
theorem lf11_F1 : LD11.constantPool[20]? = some (.fieldref 2 19) ∧ LD11.constantPool.nameAndType? 19 = some ("arg$2", "I") ∧ LL11.1.findIdx? (·.name == "arg$2") = some 1 ∧ (LL11.1[1]?).map (fun f => (f.isStatic, f.slot)) = some (false, 1) := by decide +kernel
theorem lf11_F2 : LD11.constantPool[22]? = some (.fieldref 2 21) ∧ LD11.constantPool.nameAndType? 21 = some ("arg$3", "I") ∧ LL11.1.findIdx? (·.name == "arg$3") = some 2 ∧ (LL11.1[2]?).map (fun f => (f.isStatic, f.slot)) = some (false, 2) := by decide +kernel
theorem dl11_0 : decode LB11 0 = .ok (.aload_n 0, 1) := by decide +kernel
theorem dl11_1 : decode LB11 1 = .ok (.getfield 18, 3) := by decide +kernel
theorem dl11_4 : decode LB11 4 = .ok (.aload_n 0, 1) := by decide +kernel
theorem dl11_5 : decode LB11 5 = .ok (.getfield 20, 3) := by decide +kernel
theorem dl11_8 : decode LB11 8 = .ok (.aload_n 0, 1) := by decide +kernel
theorem dl11_9 : decode LB11 9 = .ok (.getfield 22, 3) := by decide +kernel
theorem dl11_12 : decode LB11 12 = .ok (.iload_n 1, 1) := by decide +kernel
theorem dl11_13 : decode LB11 13 = .ok (.invokevirtual 30, 3) := by decide +kernel
theorem dl11_16 : decode LB11 16 = .ok (.lreturn, 1) := by decide +kernel
theorem lam_site11 {U : State} {c : ClassId} {one : Nat} (h : LSt (({ cls := "AcousticCamera$State", name := "blockBest", desc := "(II)I" } : MethodName), 10, 227, SH11) c one U) (hO : ObN U) : ∃ (k tk : Class) (methk : Method) (ck : Code) (toy iface : ClassId) (t found : MethodId) (file : ClassFile) (f0 : Field) (f1 : Field) (f2 : Field), U.vm.classes[c]? = some k ∧ k.kind = .ordinary ∧ k.instanceTypes = #[(.object "AcousticCamera$State"), .int, .int] ∧ U.plainMethod ⟨c, 1⟩ ∧ U.vm.method? ⟨c, 1⟩ = some methk ∧ methk.code = some ck ∧ ck.code = LB11 ∧ ck.maxLocals = 2 ∧ methk.locks = false ∧ methk.accessFlags = 1 ∧ methk.sig.returnType = some FieldType.long ∧ U.vm.findClass "AcousticCamera$State" = some toy ∧ U.vm.classes[toy]? = some tk ∧ tk.isInterface = false ∧ ((methodIn toy "lambda$blockBest$1" "(III)J" tk.isInterface none).ask { classPath := fun _ => none } U.vm).1 = .ok t ∧ U.vm.findClass "AcousticCamera$Score" = some iface ∧ ((methodIn iface "of" SH11.sam.toString true none).ask { classPath := fun _ => none } U.vm).1 = .ok found ∧ selectMethod {} U.vm c found = .method ⟨c, 1⟩ ∧ k.cf = some file ∧ file.constantPool[30]? = some (.methodref 26 29) ∧ file.constantPool.nameAndType? 29 = some ("lambda$blockBest$1", "(III)J") ∧ U.vm.classReady c 26 toy ∧ U.vm.methodReady c 30 t ∧ U.vm.fieldReady c 18 c f0 ∧ f0.isStatic = false ∧ f0.slot = 0 ∧ U.vm.fieldReady c 20 c f1 ∧ f1.isStatic = false ∧ f1.slot = 1 ∧ U.vm.fieldReady c 22 c f2 ∧ f2.isStatic = false ∧ f2.slot = 2 := by
  obtain ⟨m, kd, cf, i0, p0, lk, hm, hkd, hcf, hsh, hfind, hmade, hcall, hl⟩ := h
  obtain ⟨kd', hkd', hname⟩ := className_of_methodNamed hm
  cases hkd.symm.trans hkd'
  cases hx : LW11.code with
  | none => exact absurd lf11_c (by rw [hx]; exact fun z => by cases z)
  | some x =>
  have fc := lf11_c
  rw [hx] at fc
  simp only [Option.map_some, Option.some.injEq, Prod.mk.injEq] at fc
  have ff := lf11_f
  simp only [Prod.mk.injEq] at ff
  obtain ⟨k, tk, methk, ck, toy, iface, t, found, hk, hkind, hty, hmk, hck, hcc, hml, hfl, hsig, htoy, htk, hitf, hlook, hif, hfo, hsel, ⟨file, hfile, hpool⟩, hres, hfields⟩ := made_gen hkd hname hmade hO lf11_1 lf11_2 lf11_3 hx
  have hkn : k.name = "AcousticCamera$State$$Lambda" := by
    obtain ⟨dk', k', ok, tk', file', cf', object, iface', t', lay, methods, target, found', hd', hk', -, -, -, -, -, -, -, -, -, -, -, hrec, -⟩ := Lambda.isMade_spec hmade
    cases hkd.symm.trans hd'
    cases hk.symm.trans hk'
    rw [hrec.1, hname]
    rfl
  obtain ⟨g0, hg0, hp0⟩ := Option.map_eq_some_iff.mp lf11_F0.2.2.2
  simp only [Prod.mk.injEq] at hp0
  obtain ⟨g1, hg1, hp1⟩ := Option.map_eq_some_iff.mp lf11_F1.2.2.2
  simp only [Prod.mk.injEq] at hp1
  obtain ⟨g2, hg2, hp2⟩ := Option.map_eq_some_iff.mp lf11_F2.2.2.2
  simp only [Prod.mk.injEq] at hp2
  have e1 : SH11.implItf = false := rfl
  rw [e1] at hitf
  have hds : SH11.implDesc.toString = "(III)J" := by decide +kernel
  rw [hds] at hlook
  have hready : U.vm.methodReady c 30 t := ⟨k, hk, hres 30 _ (Lambda.resolvedOf_method lf11_M.1 lf11_M.2.1 htoy htk lf11_M.2.2 hlook)⟩
  have hcr : U.vm.classReady c 26 toy := ⟨k, hk, hres 26 _ (Lambda.resolvedOf_class lf11_C.1 lf11_C.2.2 lf11_C.2.1 htoy)⟩
  refine ⟨k, tk, methk, ck, toy, iface, t, found, file, g0, g1, g2, hk, hkind, hty.trans lf11_t, State.plainMethod.of_name (fun k' hk' => by cases hk.symm.trans hk'; rw [hkn]; decide), hmk, hck, hcc.trans (ByteArray.ext fc.1), hml.trans fc.2, ?_, hfl.trans ff.1, by rw [hsig]; exact ff.2, htoy, htk, hitf, hlook, hif, hfo, hsel, hfile, by rw [hpool]; exact lf11_M.1, by rw [hpool]; exact lf11_M.2.2, hcr, hready, ⟨k, 0, k, hk, hres 18 _ (Lambda.resolvedOf_field lf11_F0.1 lf11_F0.2.1 lf11_F0.2.2.1), hk, hfields 0 _ hg0⟩, hp0.1, hp0.2, ⟨k, 1, k, hk, hres 20 _ (Lambda.resolvedOf_field lf11_F1.1 lf11_F1.2.1 lf11_F1.2.2.1), hk, hfields 1 _ hg1⟩, hp1.1, hp1.2, ⟨k, 2, k, hk, hres 22 _ (Lambda.resolvedOf_field lf11_F2.1 lf11_F2.2.1 lf11_F2.2.2.1), hk, hfields 2 _ hg2⟩, hp2.1, hp2.2⟩
  simp [Method.locks, Method.isSynchronized, hfl, ff.1, hasFlag, Acc.synchronized]
set_option maxHeartbeats 2000000 in
theorem vv_lam11 {K : C_} {y : MethodName} {cc : ByteArray} {nL : Nat} {ret : Option FieldType} {rm : Room} {D : DD} {A : Nat → Prop} {H : Heap} {cells slots : Nat} {Q : State → Prop} {pc : Nat} {lv : List (Nat × Value)} {st stk : List Value} {idx cnt a : Nat} {v0 : Nat} {v1 : Int32} {v2 : Int32} {i : Int32} {rm2 : Room} {P : Heap → Prop} {A2 : Nat → Prop} {Q2 : Option Value → Heap → Heap → Prop} (X : Fx K y cc nL ret rm D) (hM : Ct (kL K) yX3_lambda_blockBest_1 cX3_lambda_blockBest_1 4 (some FieldType.long) rm2 D [.ref v0, .int v1, .int v2, .int i] P A2 Q2) (hLO : LO D H a 11 [.ref v0, .int v1, .int v2]) (hrcv : ∃ cell : Cell, H[v0]? = some cell ∧ cell.vm.isStatics = false ∧ (kS K).vm.findClass "AcousticCamera$State" = some cell.cls) (q1 : Cond.methodLink y.cls idx ⟨"AcousticCamera$Score", "of", "(I)J"⟩ ∈ lw_all) (hR : rm2.frames + 2 ≤ rm.frames ∧ 44 + rm2.locals ≤ rm.locals) (d : decode cc pc = .ok (.invokeinterface idx cnt, 5)) (hstk : stk = .int i :: .ref a :: st) (hw : (st.map fun v => v.category).sum ≤ 8) (hP : P H) (hA : ∀ q, A2 q → kF K A q) (hc : cells + rm2.cells ≤ rm.cells ∧ slots + rm2.slots ≤ rm.slots) (hQ : ∀ v H H1, Q2 v H H1 → ∃ r : Int64, v = some (.long r))
    (kk : ∀ (v : Option Value) (H1 : Heap), Q2 v H H1 → H.size ≤ H1.size → (∀ q : Nat, q < H.size → ¬ A2 q → H1[q]? = H[q]?) → V K nL A H1 (cells + rm2.cells) (slots + rm2.slots) Q (pc + 5) lv (v.toList ++ st)) : V K nL A H cells slots Q pc lv stk := by
  subst hstk
  refine vv_after5 (mc := rm2.cells) (ms := rm2.slots) (as := [.ref v0, .int v1, .int v2, .int i].toArray) (A2 := A2) (Q2 := Q2) (st := st) (fun L ls h0 T hT XX => ?_) hA kk
  have hmem : (⟨"AcousticCamera$Score", "of", "(I)J"⟩ : MethodName) ∈ IFL := by decide +kernel
  have hIF := X.ge.2.2.2.2.2.1 _ hmem
  have hLS := X.ge.2.2.2.1 11 _ rfl
  obtain ⟨r0, r, hn, hrm, hstR, hsigR⟩ := Cond.declares_spec (va_any (A' := kA K) rfl hIF.1)
  obtain ⟨cL, kL', r1, hcL, hkL, hiL, hfoundL, hn1⟩ := Cond.interfaceMethod_spec (va_any (A' := kA K) rfl hIF.2)
  cases hn.symm.trans hn1
  have hr0cls : r0.cls = cL := Option.some.inj ((findClass_of_methodNamed hn).symm.trans hcL)
  obtain ⟨hnameR, hdescR⟩ := name_of_methodNamed hn hrm
  obtain ⟨k, tk, methk, ck, toy, iface, t, found, file, f0, f1, f2, hk, hkind, hty, hpl, hmk, hck, hcc, hml, hlk, hfl, hretk, htoy, htk, hitf, hlook, hif, hfo, hsel, hfile, hcp, hnt, hcr, hready, hf0, hfs0, hfn0, hf1, hfs1, hfn1, hf2, hfs2, hfn2⟩ := lam_site11 hLS X.ge.2.2.1
  obtain ⟨-, -, -, -, -, -, -, -, -, -, -, -, hcall, -⟩ := hLS
  obtain ⟨i2, hi2, hasg, hway⟩ := State.lambdaCallable_spec hcall
  have e1 : SH11.iface = "AcousticCamera$Score" := rfl
  have e2 : SH11.sam.toString = "(I)J" := by decide +kernel
  have e3 : SH11.name = "of" := rfl
  rw [e1] at hi2
  rw [e2, e3] at hway
  rw [e2] at hfo
  cases hcL.symm.trans hi2
  cases hcL.symm.trans hif
  have hfr : found = r0 := by
    have h1 : (kS K).methodFound? "AcousticCamera$Score" "of" "(I)J" = some r0 := hfoundL
    simp only [State.methodFound?, hcL, hkL, hiL, Option.bind_eq_bind, Option.bind_some] at h1
    rw [hfo] at h1
    exact Option.some.inj h1
  subst hfr
  have hselP : selectMethod (kE K).platform (kS K).vm (D.2.1 111) found = .method ⟨D.2.1 111, 1⟩ := by rw [Launch.admits_selectMethod XX.admits]; exact hsel
  obtain ⟨vm₁, X₁, hstep₁⟩ := XX.invokeinterface X.exec X.own (X.words _ q1) hn hrm hstR (by rw [hr0cls]; exact hkL) hiL (by decide) (a := a) (cell := { cls := D.2.1 111, slots := [.ref v0, .int v1, .int v2].toArray, vm := .none }) (kcell := k) (by rw [hT]; exact hLO) (fun z h => by cases h) hk (by rw [hr0cls]; exact hasg) hselP hmk (by rw [hnameR, hdescR]; exact hway) (by rw [hfl]; decide) (by simp [Method.isAbstract, hfl, hasFlag, Acc.abstract]) (g := F0 (kM K) pc ls (.int i :: .ref a :: st)) rfl (argsL := [.int i]) (rest := st) (by
      have h9 := hsigR
      rw [show parseMethodDescriptor "(I)J" = some ⟨[.int], some FieldType.long⟩ from by decide +kernel] at h9
      rw [← Option.some.inj h9]
      rfl) rfl (by rw [X.code]; exact d)
  have hLS1 : LSt _ (D.2.1 111) (D.2.2 611) (T.setVm vm₁) := (X.ge.2.2.2.1 11 _ rfl).warm X₁.warmed
  have hO1 : ObN (T.setVm vm₁) := X.ge.2.2.1.moved X₁.warmed.alike
  clear hk hkind hty hpl hmk hck hcc hml hlk hfl hretk htoy htk hitf hlook hif hfo hsel hfile hcp hnt hcr hready hselP hf0 hfs0 hfn0 hf1 hfs1 hfn1 hf2 hfs2 hfn2
  obtain ⟨k, tk, methk, ck, toy, iface, t, found2, file, f0, f1, f2, hk, hkind, hty, hpl, hmk, hck, hcc, hml, hlk, hfl, hretk, htoy, htk, hitf, hlook, hif, hfo, hsel, hfile, hcp, hnt, hcr, hready, hf0, hfs0, hfn0, hf1, hfs1, hfn1, hf2, hfs2, hfn2⟩ := lam_site11 hLS1 hO1
  have hwd : ∀ w ∈ lw_all, ∀ (a' : Array Value) (U : State), (T.setVm vm₁).WarmedH U.vm → w.before a' U = true := fun w hw a' U hW => pay_in X.words lw_self w hw a' U (State.WarmedH.trans X₁.warmed hW)
  have hwT : ∀ w ∈ lw_all, w.before #[] (T.setVm vm₁) = true := fun w hw => hwd w hw _ _ (State.WarmedH.refl _)
  obtain ⟨kT, kP2, methB, hnC, hkT, hmB, hsp, hsB, hlB, hsl, hab, hkP2, hkPi, hnB⟩ := lam_virtual XX.admits (n := 3) (y := yX3_lambda_blockBest_1) (sig := SH11.implDesc) hk hfile hcp hcr htoy htk hitf hlook (by decide) (hwT _ q2470) (hwT _ q2469) (hwT _ qs50) (by decide +kernel) rfl
  have hheap1 : (T.setVm vm₁).heap = H := hT
  have hrecv : ∃ cB : Cell, H[v0]? = some cB ∧ cB.vm.isStatics = false ∧ ∀ toy, (T.setVm vm₁).vm.findClass "AcousticCamera$State" = some toy → cB.cls = toy := by
    obtain ⟨cell, g1, g2, g3⟩ := hrcv
    exact ⟨cell, g1, g2, fun toy h => by rw [X₁.warmed.alike.findClass] at h; exact Option.some.inj (g3.symm.trans h)⟩
  obtain ⟨v, st₀, t9, T', L9, h1, X9, hL9, hth, htv, hq9, hstep⟩ := lam_runl (As := [.ref v0, .int v1, .int v2, .int i]) (a := a) (i := i) (P := 13) X₁ X.exec (g := F0 (kM K) pc ls st) rfl (by rw [X.maxL]; exact h0.1) (by rw [X.code]; exact d) hmk hck hml hlk hpl hretk (hM H.size) PcT_blind rfl rfl (by rw [X.room]; exact hR.1) (by rw [X.room]; show 2 * 0 + (st.map fun v => v.category).sum + 13 + _ ≤ _; omega) (fun w hw a' U hW => (lw_meth q2470 w hw).1 |> fun h => hwd w h a' U hW) List.mem_cons_self (fun a' U hW => hwd _ q150 a' U hW) hnB (by rw [X.room]; exact hc.1) (by rw [X.room]; exact hc.2) (fun U hU hW => ⟨rfl, by rw [hU, hheap1], by rw [hU, hheap1]; exact hP, X.gk.warm (State.WarmedH.trans X₁.warmed hW)⟩)
    (fun R' s' args' U Y hvm hheap hnm target hrest => by
      have hs : U.topJava?.isSome := Y.here.top
      have hcl : U.heap[a]? = some { cls := D.2.1 111, slots := [.ref v0, .int v1, .int v2].toArray, vm := .none } := by rw [hheap, hheap1]; exact hLO
      jvm_step Y.here [X.exec, hcc, dl11_0, Value.isRef]
      jvm_step Y.here [X.exec, hcc, dl11_1, getfield.wp_ready (e := kE K) (s := U) (c := D.2.1 111) (field := f0) (a := a) (rest := []) (cell := { cls := D.2.1 111, slots := [.ref v0, .int v1, .int v2].toArray, vm := .none }) (v := .ref v0) (f := frL (D.2.1 111) 1 a i [.ref a]) hs (by rw [hvm]; exact hf0) hfs0 rfl hcl (fun z => by cases z) (by rw [hfn0]; rfl)]
      jvm_step Y.here [X.exec, hcc, dl11_4, Value.isRef]
      jvm_step Y.here [X.exec, hcc, dl11_5, getfield.wp_ready (e := kE K) (s := U) (c := D.2.1 111) (field := f1) (a := a) (rest := [.ref v0]) (cell := { cls := D.2.1 111, slots := [.ref v0, .int v1, .int v2].toArray, vm := .none }) (v := .int v1) (f := frL (D.2.1 111) 5 a i [.ref a, .ref v0]) hs (by rw [hvm]; exact hf1) hfs1 rfl hcl (fun z => by cases z) (by rw [hfn1]; rfl)]
      jvm_step Y.here [X.exec, hcc, dl11_8, Value.isRef]
      jvm_step Y.here [X.exec, hcc, dl11_9, getfield.wp_ready (e := kE K) (s := U) (c := D.2.1 111) (field := f2) (a := a) (rest := [.int v1, .ref v0]) (cell := { cls := D.2.1 111, slots := [.ref v0, .int v1, .int v2].toArray, vm := .none }) (v := .int v2) (f := frL (D.2.1 111) 9 a i [.ref a, .int v1, .ref v0]) hs (by rw [hvm]; exact hf2) hfs2 rfl hcl (fun z => by cases z) (by rw [hfn2]; rfl)]
      jvm_step Y.here [X.exec, hcc, dl11_12]
      obtain ⟨cB, hcB, hvB, hclB⟩ := hrecv
      jvm_step Y.here [X.exec, hcc, dl11_13, invokevirtual.wp_ready (e := kE K) (s := U) (r := t) (m := t) (k := kT) (mk := kP2) (rmeth := methB) (meth := methB) (a := v0) (args := [.int v1, .int v2, .int i]) (rest := []) (cell := cB) (f := frL (D.2.1 111) 13 a i [.int i, .int v2, .int v1, .ref v0]) hs (by unfold namesAClass at hnC ⊢; rw [hvm]; exact hnC) (by rw [hvm]; exact hready) (by rw [hvm]; exact hkT) (by rw [hvm]; exact hmB) hsp hsB hlB rfl (by rw [hheap, hheap1]; exact hcB) (fun z h => by rw [h] at hvB; cases hvB) (by rw [hvm, hclB toy htoy]; exact hsl) (by rw [hvm]; exact hmB) hab (by rw [hvm]; exact hkP2) hkPi]
      intro acts'
      exact hrest acts')
    (by rw [hcc]; exact dl11_13) (by rw [hcc]; exact dl11_16) (fun st o t h => by
      obtain ⟨v, rfl, hq, -⟩ := h
      obtain ⟨r, rfl⟩ := hQ _ _ _ hq
      exact ⟨r, rfl⟩)
  refine ⟨v, st₀, t9, T', L9, h1.trans hheap1, X9, hL9, hth, htv, hq9, fun target htg => ?_⟩
  exact hstep₁ _ fun acts => (hstep acts).trans htg
def LD12 : ClassFile := (SH12.file "AcousticCamera").getD { minorVersion := 0, majorVersion := 0, constantPool := #[], accessFlags := 0, thisClass := 0, superClass := 0, interfaces := #[], fields := #[], methods := #[], attributes := #[] }
def LW12 : Method := ((layoutMethods LD12).bind (·[1]?)).getD default
def LL12 : Array Field × Array FieldType × Array FieldType := (layoutFields LD12 0).getD (#[], #[], #[])
def LB12 : ByteArray := ⟨#[0x2a, 0xb4, 0x00, 0x0f, 0x1b, 0xb8, 0x00, 0x17, 0xad]⟩
theorem lf12_1 : SH12.file "AcousticCamera" = some LD12 := by
  have h : (SH12.file "AcousticCamera").isSome = true := by decide +kernel
  obtain ⟨x, hx⟩ := Option.isSome_iff_exists.mp h
  simp [LD12, hx]
theorem lf12_2 : ∀ ms, layoutMethods LD12 = some ms → ms[1]? = some LW12 := by
  intro ms hms
  have h : ((layoutMethods LD12).bind (·[1]?)).isSome = true := by decide +kernel
  obtain ⟨x, hx⟩ := Option.isSome_iff_exists.mp h
  have hf : LW12 = x := by simp [LW12, hx]
  rw [hms] at hx
  rw [hf]
  exact hx
theorem lf12_3 : layoutFields LD12 0 = some LL12 := by
  have h : (layoutFields LD12 0).isSome = true := by decide +kernel
  obtain ⟨x, hx⟩ := Option.isSome_iff_exists.mp h
  simp [LL12, hx]
theorem lf12_c : (LW12.code.map fun c => (c.code.data, c.maxLocals)) = some (LB12.data, 2) := by decide +kernel
theorem lf12_f : (LW12.accessFlags, LW12.sig.returnType) = (0x0001, some FieldType.long) := by decide +kernel
theorem lf12_t : LL12.2.1 = #[(.array .long)] := by decide +kernel
theorem lf12_M : LD12.constantPool[23]? = some (.methodref 19 22) ∧ LD12.constantPool.className? 19 = some "AcousticCamera" ∧ LD12.constantPool.nameAndType? 22 = some ("lambda$trackScore$4", "([JI)J") := by decide +kernel
theorem lf12_C : LD12.constantPool[19]? = some (.class_ 18) ∧ LD12.constantPool.string? 18 = some "AcousticCamera" ∧ 19 ≠ LD12.thisClass := by decide +kernel
theorem lf12_F0 : LD12.constantPool[15]? = some (.fieldref 2 14) ∧ LD12.constantPool.nameAndType? 14 = some ("arg$1", "[J") ∧ LL12.1.findIdx? (·.name == "arg$1") = some 0 ∧ (LL12.1[0]?).map (fun f => (f.isStatic, f.slot)) = some (false, 0) := by decide +kernel
theorem dl12_0 : decode LB12 0 = .ok (.aload_n 0, 1) := by decide +kernel
theorem dl12_1 : decode LB12 1 = .ok (.getfield 15, 3) := by decide +kernel
theorem dl12_4 : decode LB12 4 = .ok (.iload_n 1, 1) := by decide +kernel
theorem dl12_5 : decode LB12 5 = .ok (.invokestatic 23, 3) := by decide +kernel
theorem dl12_8 : decode LB12 8 = .ok (.lreturn, 1) := by decide +kernel
theorem lam_site12 {U : State} {c : ClassId} {one : Nat} (h : LSt (({ cls := "AcousticCamera", name := "trackScore", desc := "(I)J" } : MethodName), 20, 360, SH12) c one U) (hO : ObN U) : ∃ (k tk : Class) (methk : Method) (ck : Code) (toy iface : ClassId) (t found : MethodId) (file : ClassFile) (f0 : Field), U.vm.classes[c]? = some k ∧ k.kind = .ordinary ∧ k.instanceTypes = #[(.array .long)] ∧ U.plainMethod ⟨c, 1⟩ ∧ U.vm.method? ⟨c, 1⟩ = some methk ∧ methk.code = some ck ∧ ck.code = LB12 ∧ ck.maxLocals = 2 ∧ methk.locks = false ∧ methk.accessFlags = 1 ∧ methk.sig.returnType = some FieldType.long ∧ U.vm.findClass "AcousticCamera" = some toy ∧ U.vm.classes[toy]? = some tk ∧ tk.isInterface = false ∧ ((methodIn toy "lambda$trackScore$4" "([JI)J" tk.isInterface none).ask { classPath := fun _ => none } U.vm).1 = .ok t ∧ U.vm.findClass "AcousticCamera$Score" = some iface ∧ ((methodIn iface "of" SH12.sam.toString true none).ask { classPath := fun _ => none } U.vm).1 = .ok found ∧ selectMethod {} U.vm c found = .method ⟨c, 1⟩ ∧ k.cf = some file ∧ file.constantPool[23]? = some (.methodref 19 22) ∧ file.constantPool.nameAndType? 22 = some ("lambda$trackScore$4", "([JI)J") ∧ U.vm.classReady c 19 toy ∧ U.vm.methodReady c 23 t ∧ U.vm.fieldReady c 15 c f0 ∧ f0.isStatic = false ∧ f0.slot = 0 := by
  obtain ⟨m, kd, cf, i0, p0, lk, hm, hkd, hcf, hsh, hfind, hmade, hcall, hl⟩ := h
  obtain ⟨kd', hkd', hname⟩ := className_of_methodNamed hm
  cases hkd.symm.trans hkd'
  cases hx : LW12.code with
  | none => exact absurd lf12_c (by rw [hx]; exact fun z => by cases z)
  | some x =>
  have fc := lf12_c
  rw [hx] at fc
  simp only [Option.map_some, Option.some.injEq, Prod.mk.injEq] at fc
  have ff := lf12_f
  simp only [Prod.mk.injEq] at ff
  obtain ⟨k, tk, methk, ck, toy, iface, t, found, hk, hkind, hty, hmk, hck, hcc, hml, hfl, hsig, htoy, htk, hitf, hlook, hif, hfo, hsel, ⟨file, hfile, hpool⟩, hres, hfields⟩ := made_gen hkd hname hmade hO lf12_1 lf12_2 lf12_3 hx
  have hkn : k.name = "AcousticCamera$$Lambda" := by
    obtain ⟨dk', k', ok, tk', file', cf', object, iface', t', lay, methods, target, found', hd', hk', -, -, -, -, -, -, -, -, -, -, -, hrec, -⟩ := Lambda.isMade_spec hmade
    cases hkd.symm.trans hd'
    cases hk.symm.trans hk'
    rw [hrec.1, hname]
    rfl
  obtain ⟨g0, hg0, hp0⟩ := Option.map_eq_some_iff.mp lf12_F0.2.2.2
  simp only [Prod.mk.injEq] at hp0
  have e1 : SH12.implItf = false := rfl
  rw [e1] at hitf
  have hds : SH12.implDesc.toString = "([JI)J" := by decide +kernel
  rw [hds] at hlook
  have hready : U.vm.methodReady c 23 t := ⟨k, hk, hres 23 _ (Lambda.resolvedOf_method lf12_M.1 lf12_M.2.1 htoy htk lf12_M.2.2 hlook)⟩
  have hcr : U.vm.classReady c 19 toy := ⟨k, hk, hres 19 _ (Lambda.resolvedOf_class lf12_C.1 lf12_C.2.2 lf12_C.2.1 htoy)⟩
  refine ⟨k, tk, methk, ck, toy, iface, t, found, file, g0, hk, hkind, hty.trans lf12_t, State.plainMethod.of_name (fun k' hk' => by cases hk.symm.trans hk'; rw [hkn]; decide), hmk, hck, hcc.trans (ByteArray.ext fc.1), hml.trans fc.2, ?_, hfl.trans ff.1, by rw [hsig]; exact ff.2, htoy, htk, hitf, hlook, hif, hfo, hsel, hfile, by rw [hpool]; exact lf12_M.1, by rw [hpool]; exact lf12_M.2.2, hcr, hready, ⟨k, 0, k, hk, hres 15 _ (Lambda.resolvedOf_field lf12_F0.1 lf12_F0.2.1 lf12_F0.2.2.1), hk, hfields 0 _ hg0⟩, hp0.1, hp0.2⟩
  simp [Method.locks, Method.isSynchronized, hfl, ff.1, hasFlag, Acc.synchronized]
set_option maxHeartbeats 2000000 in
theorem vv_lam12 {K : C_} {y : MethodName} {cc : ByteArray} {nL : Nat} {ret : Option FieldType} {rm : Room} {D : DD} {A : Nat → Prop} {H : Heap} {cells slots : Nat} {Q : State → Prop} {pc : Nat} {lv : List (Nat × Value)} {st stk : List Value} {idx cnt a : Nat} {v0 : Nat} {i : Int32} {rm2 : Room} {P : Heap → Prop} {A2 : Nat → Prop} {Q2 : Option Value → Heap → Heap → Prop} (X : Fx K y cc nL ret rm D) (hM : Ct (kL K) yX1_lambda_trackScore_4 cX1_lambda_trackScore_4 2 (some FieldType.long) rm2 D [.ref v0, .int i] P A2 Q2) (hLO : LO D H a 12 [.ref v0]) (q1 : Cond.methodLink y.cls idx ⟨"AcousticCamera$Score", "of", "(I)J"⟩ ∈ lw_all) (hR : rm2.frames + 2 ≤ rm.frames ∧ 42 + rm2.locals ≤ rm.locals) (d : decode cc pc = .ok (.invokeinterface idx cnt, 5)) (hstk : stk = .int i :: .ref a :: st) (hw : (st.map fun v => v.category).sum ≤ 8) (hP : P H) (hA : ∀ q, A2 q → kF K A q) (hc : cells + rm2.cells ≤ rm.cells ∧ slots + rm2.slots ≤ rm.slots) (hQ : ∀ v H H1, Q2 v H H1 → ∃ r : Int64, v = some (.long r))
    (kk : ∀ (v : Option Value) (H1 : Heap), Q2 v H H1 → H.size ≤ H1.size → (∀ q : Nat, q < H.size → ¬ A2 q → H1[q]? = H[q]?) → V K nL A H1 (cells + rm2.cells) (slots + rm2.slots) Q (pc + 5) lv (v.toList ++ st)) : V K nL A H cells slots Q pc lv stk := by
  subst hstk
  refine vv_after5 (mc := rm2.cells) (ms := rm2.slots) (as := [.ref v0, .int i].toArray) (A2 := A2) (Q2 := Q2) (st := st) (fun L ls h0 T hT XX => ?_) hA kk
  have hmem : (⟨"AcousticCamera$Score", "of", "(I)J"⟩ : MethodName) ∈ IFL := by decide +kernel
  have hIF := X.ge.2.2.2.2.2.1 _ hmem
  have hLS := X.ge.2.2.2.1 12 _ rfl
  obtain ⟨r0, r, hn, hrm, hstR, hsigR⟩ := Cond.declares_spec (va_any (A' := kA K) rfl hIF.1)
  obtain ⟨cL, kL', r1, hcL, hkL, hiL, hfoundL, hn1⟩ := Cond.interfaceMethod_spec (va_any (A' := kA K) rfl hIF.2)
  cases hn.symm.trans hn1
  have hr0cls : r0.cls = cL := Option.some.inj ((findClass_of_methodNamed hn).symm.trans hcL)
  obtain ⟨hnameR, hdescR⟩ := name_of_methodNamed hn hrm
  obtain ⟨k, tk, methk, ck, toy, iface, t, found, file, f0, hk, hkind, hty, hpl, hmk, hck, hcc, hml, hlk, hfl, hretk, htoy, htk, hitf, hlook, hif, hfo, hsel, hfile, hcp, hnt, hcr, hready, hf0, hfs0, hfn0⟩ := lam_site12 hLS X.ge.2.2.1
  obtain ⟨-, -, -, -, -, -, -, -, -, -, -, -, hcall, -⟩ := hLS
  obtain ⟨i2, hi2, hasg, hway⟩ := State.lambdaCallable_spec hcall
  have e1 : SH12.iface = "AcousticCamera$Score" := rfl
  have e2 : SH12.sam.toString = "(I)J" := by decide +kernel
  have e3 : SH12.name = "of" := rfl
  rw [e1] at hi2
  rw [e2, e3] at hway
  rw [e2] at hfo
  cases hcL.symm.trans hi2
  cases hcL.symm.trans hif
  have hfr : found = r0 := by
    have h1 : (kS K).methodFound? "AcousticCamera$Score" "of" "(I)J" = some r0 := hfoundL
    simp only [State.methodFound?, hcL, hkL, hiL, Option.bind_eq_bind, Option.bind_some] at h1
    rw [hfo] at h1
    exact Option.some.inj h1
  subst hfr
  have hselP : selectMethod (kE K).platform (kS K).vm (D.2.1 112) found = .method ⟨D.2.1 112, 1⟩ := by rw [Launch.admits_selectMethod XX.admits]; exact hsel
  obtain ⟨vm₁, X₁, hstep₁⟩ := XX.invokeinterface X.exec X.own (X.words _ q1) hn hrm hstR (by rw [hr0cls]; exact hkL) hiL (by decide) (a := a) (cell := { cls := D.2.1 112, slots := [.ref v0].toArray, vm := .none }) (kcell := k) (by rw [hT]; exact hLO) (fun z h => by cases h) hk (by rw [hr0cls]; exact hasg) hselP hmk (by rw [hnameR, hdescR]; exact hway) (by rw [hfl]; decide) (by simp [Method.isAbstract, hfl, hasFlag, Acc.abstract]) (g := F0 (kM K) pc ls (.int i :: .ref a :: st)) rfl (argsL := [.int i]) (rest := st) (by
      have h9 := hsigR
      rw [show parseMethodDescriptor "(I)J" = some ⟨[.int], some FieldType.long⟩ from by decide +kernel] at h9
      rw [← Option.some.inj h9]
      rfl) rfl (by rw [X.code]; exact d)
  have hLS1 : LSt _ (D.2.1 112) (D.2.2 612) (T.setVm vm₁) := (X.ge.2.2.2.1 12 _ rfl).warm X₁.warmed
  have hO1 : ObN (T.setVm vm₁) := X.ge.2.2.1.moved X₁.warmed.alike
  clear hk hkind hty hpl hmk hck hcc hml hlk hfl hretk htoy htk hitf hlook hif hfo hsel hfile hcp hnt hcr hready hselP hf0 hfs0 hfn0
  obtain ⟨k, tk, methk, ck, toy, iface, t, found2, file, f0, hk, hkind, hty, hpl, hmk, hck, hcc, hml, hlk, hfl, hretk, htoy, htk, hitf, hlook, hif, hfo, hsel, hfile, hcp, hnt, hcr, hready, hf0, hfs0, hfn0⟩ := lam_site12 hLS1 hO1
  have hwd : ∀ w ∈ lw_all, ∀ (a' : Array Value) (U : State), (T.setVm vm₁).WarmedH U.vm → w.before a' U = true := fun w hw a' U hW => pay_in X.words lw_self w hw a' U (State.WarmedH.trans X₁.warmed hW)
  have hwT : ∀ w ∈ lw_all, w.before #[] (T.setVm vm₁) = true := fun w hw => hwd w hw _ _ (State.WarmedH.refl _)
  obtain ⟨tkS, methB, hpr, htkS, hmB, hsp, hsB, hiB, hlB, hnB⟩ := lam_static (e := kE K) (n := 2) (y := yX1_lambda_trackScore_4) (sig := SH12.implDesc) hk hfile hcp hnt hready hcr htoy htk hlook (by decide) (hwT _ q2507) (hwT _ q2506) (hwT _ q137) (by decide +kernel) rfl
  have hheap1 : (T.setVm vm₁).heap = H := hT
  obtain ⟨v, st₀, t9, T', L9, h1, X9, hL9, hth, htv, hq9, hstep⟩ := lam_runl (As := [.ref v0, .int i]) (a := a) (i := i) (P := 5) X₁ X.exec (g := F0 (kM K) pc ls st) rfl (by rw [X.maxL]; exact h0.1) (by rw [X.code]; exact d) hmk hck hml hlk hpl hretk (hM H.size) PcT_blind rfl rfl (by rw [X.room]; exact hR.1) (by rw [X.room]; show 2 * 0 + (st.map fun v => v.category).sum + 13 + _ ≤ _; omega) (fun w hw a' U hW => (lw_meth q2507 w hw).1 |> fun h => hwd w h a' U hW) List.mem_cons_self (fun a' U hW => hwd _ q137 a' U hW) hnB (by rw [X.room]; exact hc.1) (by rw [X.room]; exact hc.2) (fun U hU hW => ⟨rfl, by rw [hU, hheap1], by rw [hU, hheap1]; exact hP, X.gk.warm (State.WarmedH.trans X₁.warmed hW)⟩)
    (fun R' s' args' U Y hvm hheap hnm target hrest => by
      have hs : U.topJava?.isSome := Y.here.top
      have hcl : U.heap[a]? = some { cls := D.2.1 112, slots := [.ref v0].toArray, vm := .none } := by rw [hheap, hheap1]; exact hLO
      jvm_step Y.here [X.exec, hcc, dl12_0, Value.isRef]
      jvm_step Y.here [X.exec, hcc, dl12_1, getfield.wp_ready (e := kE K) (s := U) (c := D.2.1 112) (field := f0) (a := a) (rest := []) (cell := { cls := D.2.1 112, slots := [.ref v0].toArray, vm := .none }) (v := .ref v0) (f := frL (D.2.1 112) 1 a i [.ref a]) hs (by rw [hvm]; exact hf0) hfs0 rfl hcl (fun z => by cases z) (by rw [hfn0]; rfl)]
      jvm_step Y.here [X.exec, hcc, dl12_4]
      jvm_step Y.here [X.exec, hcc, dl12_5, invokestatic.wp_ready (e := kE K) (s := U) (m := t) (k := tkS) (meth := methB) (args := [.ref v0, .int i]) (rest := []) (f := frL (D.2.1 112) 5 a i [.int i, .ref v0]) hs (by unfold plainRef at hpr ⊢; rw [hvm]; exact hpr) (by rw [hvm]; exact hready) (by rw [hvm]; exact htkS) (by rw [hvm]; exact hmB) hsp hsB hiB hlB rfl]
      intro acts'
      exact hrest acts')
    (by rw [hcc]; exact dl12_5) (by rw [hcc]; exact dl12_8) (fun st o t h => by
      obtain ⟨v, rfl, hq, -⟩ := h
      obtain ⟨r, rfl⟩ := hQ _ _ _ hq
      exact ⟨r, rfl⟩)
  refine ⟨v, st₀, t9, T', L9, h1.trans hheap1, X9, hL9, hth, htv, hq9, fun target htg => ?_⟩
  exact hstep₁ _ fun acts => (hstep acts).trans htg
def LD13 : ClassFile := (SH13.file "AcousticCamera").getD { minorVersion := 0, majorVersion := 0, constantPool := #[], accessFlags := 0, thisClass := 0, superClass := 0, interfaces := #[], fields := #[], methods := #[], attributes := #[] }
def LW13 : Method := ((layoutMethods LD13).bind (·[1]?)).getD default
def LL13 : Array Field × Array FieldType × Array FieldType := (layoutFields LD13 0).getD (#[], #[], #[])
def LB13 : ByteArray := ⟨#[0x2a, 0xb4, 0x00, 0x0f, 0x1b, 0xb8, 0x00, 0x17, 0xad]⟩
theorem lf13_1 : SH13.file "AcousticCamera" = some LD13 := by
  have h : (SH13.file "AcousticCamera").isSome = true := by decide +kernel
  obtain ⟨x, hx⟩ := Option.isSome_iff_exists.mp h
  simp [LD13, hx]
theorem lf13_2 : ∀ ms, layoutMethods LD13 = some ms → ms[1]? = some LW13 := by
  intro ms hms
  have h : ((layoutMethods LD13).bind (·[1]?)).isSome = true := by decide +kernel
  obtain ⟨x, hx⟩ := Option.isSome_iff_exists.mp h
  have hf : LW13 = x := by simp [LW13, hx]
  rw [hms] at hx
  rw [hf]
  exact hx
theorem lf13_3 : layoutFields LD13 0 = some LL13 := by
  have h : (layoutFields LD13 0).isSome = true := by decide +kernel
  obtain ⟨x, hx⟩ := Option.isSome_iff_exists.mp h
  simp [LL13, hx]
theorem lf13_c : (LW13.code.map fun c => (c.code.data, c.maxLocals)) = some (LB13.data, 2) := by decide +kernel
theorem lf13_f : (LW13.accessFlags, LW13.sig.returnType) = (0x0001, some FieldType.long) := by decide +kernel
theorem lf13_t : LL13.2.1 = #[(.array (.array .long))] := by decide +kernel
theorem lf13_M : LD13.constantPool[23]? = some (.methodref 19 22) ∧ LD13.constantPool.className? 19 = some "AcousticCamera" ∧ LD13.constantPool.nameAndType? 22 = some ("lambda$trackCell$5", "([[JI)J") := by decide +kernel
theorem lf13_C : LD13.constantPool[19]? = some (.class_ 18) ∧ LD13.constantPool.string? 18 = some "AcousticCamera" ∧ 19 ≠ LD13.thisClass := by decide +kernel
theorem lf13_F0 : LD13.constantPool[15]? = some (.fieldref 2 14) ∧ LD13.constantPool.nameAndType? 14 = some ("arg$1", "[[J") ∧ LL13.1.findIdx? (·.name == "arg$1") = some 0 ∧ (LL13.1[0]?).map (fun f => (f.isStatic, f.slot)) = some (false, 0) := by decide +kernel
theorem dl13_0 : decode LB13 0 = .ok (.aload_n 0, 1) := by decide +kernel
theorem dl13_1 : decode LB13 1 = .ok (.getfield 15, 3) := by decide +kernel
theorem dl13_4 : decode LB13 4 = .ok (.iload_n 1, 1) := by decide +kernel
theorem dl13_5 : decode LB13 5 = .ok (.invokestatic 23, 3) := by decide +kernel
theorem dl13_8 : decode LB13 8 = .ok (.lreturn, 1) := by decide +kernel
theorem lam_site13 {U : State} {c : ClassId} {one : Nat} (h : LSt (({ cls := "AcousticCamera", name := "trackCell", desc := "(II)I" } : MethodName), 35, 363, SH13) c one U) (hO : ObN U) : ∃ (k tk : Class) (methk : Method) (ck : Code) (toy iface : ClassId) (t found : MethodId) (file : ClassFile) (f0 : Field), U.vm.classes[c]? = some k ∧ k.kind = .ordinary ∧ k.instanceTypes = #[(.array (.array .long))] ∧ U.plainMethod ⟨c, 1⟩ ∧ U.vm.method? ⟨c, 1⟩ = some methk ∧ methk.code = some ck ∧ ck.code = LB13 ∧ ck.maxLocals = 2 ∧ methk.locks = false ∧ methk.accessFlags = 1 ∧ methk.sig.returnType = some FieldType.long ∧ U.vm.findClass "AcousticCamera" = some toy ∧ U.vm.classes[toy]? = some tk ∧ tk.isInterface = false ∧ ((methodIn toy "lambda$trackCell$5" "([[JI)J" tk.isInterface none).ask { classPath := fun _ => none } U.vm).1 = .ok t ∧ U.vm.findClass "AcousticCamera$Score" = some iface ∧ ((methodIn iface "of" SH13.sam.toString true none).ask { classPath := fun _ => none } U.vm).1 = .ok found ∧ selectMethod {} U.vm c found = .method ⟨c, 1⟩ ∧ k.cf = some file ∧ file.constantPool[23]? = some (.methodref 19 22) ∧ file.constantPool.nameAndType? 22 = some ("lambda$trackCell$5", "([[JI)J") ∧ U.vm.classReady c 19 toy ∧ U.vm.methodReady c 23 t ∧ U.vm.fieldReady c 15 c f0 ∧ f0.isStatic = false ∧ f0.slot = 0 := by
  obtain ⟨m, kd, cf, i0, p0, lk, hm, hkd, hcf, hsh, hfind, hmade, hcall, hl⟩ := h
  obtain ⟨kd', hkd', hname⟩ := className_of_methodNamed hm
  cases hkd.symm.trans hkd'
  cases hx : LW13.code with
  | none => exact absurd lf13_c (by rw [hx]; exact fun z => by cases z)
  | some x =>
  have fc := lf13_c
  rw [hx] at fc
  simp only [Option.map_some, Option.some.injEq, Prod.mk.injEq] at fc
  have ff := lf13_f
  simp only [Prod.mk.injEq] at ff
  obtain ⟨k, tk, methk, ck, toy, iface, t, found, hk, hkind, hty, hmk, hck, hcc, hml, hfl, hsig, htoy, htk, hitf, hlook, hif, hfo, hsel, ⟨file, hfile, hpool⟩, hres, hfields⟩ := made_gen hkd hname hmade hO lf13_1 lf13_2 lf13_3 hx
  have hkn : k.name = "AcousticCamera$$Lambda" := by
    obtain ⟨dk', k', ok, tk', file', cf', object, iface', t', lay, methods, target, found', hd', hk', -, -, -, -, -, -, -, -, -, -, -, hrec, -⟩ := Lambda.isMade_spec hmade
    cases hkd.symm.trans hd'
    cases hk.symm.trans hk'
    rw [hrec.1, hname]
    rfl
  obtain ⟨g0, hg0, hp0⟩ := Option.map_eq_some_iff.mp lf13_F0.2.2.2
  simp only [Prod.mk.injEq] at hp0
  have e1 : SH13.implItf = false := rfl
  rw [e1] at hitf
  have hds : SH13.implDesc.toString = "([[JI)J" := by decide +kernel
  rw [hds] at hlook
  have hready : U.vm.methodReady c 23 t := ⟨k, hk, hres 23 _ (Lambda.resolvedOf_method lf13_M.1 lf13_M.2.1 htoy htk lf13_M.2.2 hlook)⟩
  have hcr : U.vm.classReady c 19 toy := ⟨k, hk, hres 19 _ (Lambda.resolvedOf_class lf13_C.1 lf13_C.2.2 lf13_C.2.1 htoy)⟩
  refine ⟨k, tk, methk, ck, toy, iface, t, found, file, g0, hk, hkind, hty.trans lf13_t, State.plainMethod.of_name (fun k' hk' => by cases hk.symm.trans hk'; rw [hkn]; decide), hmk, hck, hcc.trans (ByteArray.ext fc.1), hml.trans fc.2, ?_, hfl.trans ff.1, by rw [hsig]; exact ff.2, htoy, htk, hitf, hlook, hif, hfo, hsel, hfile, by rw [hpool]; exact lf13_M.1, by rw [hpool]; exact lf13_M.2.2, hcr, hready, ⟨k, 0, k, hk, hres 15 _ (Lambda.resolvedOf_field lf13_F0.1 lf13_F0.2.1 lf13_F0.2.2.1), hk, hfields 0 _ hg0⟩, hp0.1, hp0.2⟩
  simp [Method.locks, Method.isSynchronized, hfl, ff.1, hasFlag, Acc.synchronized]
set_option maxHeartbeats 2000000 in
theorem vv_lam13 {K : C_} {y : MethodName} {cc : ByteArray} {nL : Nat} {ret : Option FieldType} {rm : Room} {D : DD} {A : Nat → Prop} {H : Heap} {cells slots : Nat} {Q : State → Prop} {pc : Nat} {lv : List (Nat × Value)} {st stk : List Value} {idx cnt a : Nat} {v0 : Nat} {i : Int32} {rm2 : Room} {P : Heap → Prop} {A2 : Nat → Prop} {Q2 : Option Value → Heap → Heap → Prop} (X : Fx K y cc nL ret rm D) (hM : Ct (kL K) yX1_lambda_trackCell_5 cX1_lambda_trackCell_5 2 (some FieldType.long) rm2 D [.ref v0, .int i] P A2 Q2) (hLO : LO D H a 13 [.ref v0]) (q1 : Cond.methodLink y.cls idx ⟨"AcousticCamera$Score", "of", "(I)J"⟩ ∈ lw_all) (hR : rm2.frames + 2 ≤ rm.frames ∧ 42 + rm2.locals ≤ rm.locals) (d : decode cc pc = .ok (.invokeinterface idx cnt, 5)) (hstk : stk = .int i :: .ref a :: st) (hw : (st.map fun v => v.category).sum ≤ 8) (hP : P H) (hA : ∀ q, A2 q → kF K A q) (hc : cells + rm2.cells ≤ rm.cells ∧ slots + rm2.slots ≤ rm.slots) (hQ : ∀ v H H1, Q2 v H H1 → ∃ r : Int64, v = some (.long r))
    (kk : ∀ (v : Option Value) (H1 : Heap), Q2 v H H1 → H.size ≤ H1.size → (∀ q : Nat, q < H.size → ¬ A2 q → H1[q]? = H[q]?) → V K nL A H1 (cells + rm2.cells) (slots + rm2.slots) Q (pc + 5) lv (v.toList ++ st)) : V K nL A H cells slots Q pc lv stk := by
  subst hstk
  refine vv_after5 (mc := rm2.cells) (ms := rm2.slots) (as := [.ref v0, .int i].toArray) (A2 := A2) (Q2 := Q2) (st := st) (fun L ls h0 T hT XX => ?_) hA kk
  have hmem : (⟨"AcousticCamera$Score", "of", "(I)J"⟩ : MethodName) ∈ IFL := by decide +kernel
  have hIF := X.ge.2.2.2.2.2.1 _ hmem
  have hLS := X.ge.2.2.2.1 13 _ rfl
  obtain ⟨r0, r, hn, hrm, hstR, hsigR⟩ := Cond.declares_spec (va_any (A' := kA K) rfl hIF.1)
  obtain ⟨cL, kL', r1, hcL, hkL, hiL, hfoundL, hn1⟩ := Cond.interfaceMethod_spec (va_any (A' := kA K) rfl hIF.2)
  cases hn.symm.trans hn1
  have hr0cls : r0.cls = cL := Option.some.inj ((findClass_of_methodNamed hn).symm.trans hcL)
  obtain ⟨hnameR, hdescR⟩ := name_of_methodNamed hn hrm
  obtain ⟨k, tk, methk, ck, toy, iface, t, found, file, f0, hk, hkind, hty, hpl, hmk, hck, hcc, hml, hlk, hfl, hretk, htoy, htk, hitf, hlook, hif, hfo, hsel, hfile, hcp, hnt, hcr, hready, hf0, hfs0, hfn0⟩ := lam_site13 hLS X.ge.2.2.1
  obtain ⟨-, -, -, -, -, -, -, -, -, -, -, -, hcall, -⟩ := hLS
  obtain ⟨i2, hi2, hasg, hway⟩ := State.lambdaCallable_spec hcall
  have e1 : SH13.iface = "AcousticCamera$Score" := rfl
  have e2 : SH13.sam.toString = "(I)J" := by decide +kernel
  have e3 : SH13.name = "of" := rfl
  rw [e1] at hi2
  rw [e2, e3] at hway
  rw [e2] at hfo
  cases hcL.symm.trans hi2
  cases hcL.symm.trans hif
  have hfr : found = r0 := by
    have h1 : (kS K).methodFound? "AcousticCamera$Score" "of" "(I)J" = some r0 := hfoundL
    simp only [State.methodFound?, hcL, hkL, hiL, Option.bind_eq_bind, Option.bind_some] at h1
    rw [hfo] at h1
    exact Option.some.inj h1
  subst hfr
  have hselP : selectMethod (kE K).platform (kS K).vm (D.2.1 113) found = .method ⟨D.2.1 113, 1⟩ := by rw [Launch.admits_selectMethod XX.admits]; exact hsel
  obtain ⟨vm₁, X₁, hstep₁⟩ := XX.invokeinterface X.exec X.own (X.words _ q1) hn hrm hstR (by rw [hr0cls]; exact hkL) hiL (by decide) (a := a) (cell := { cls := D.2.1 113, slots := [.ref v0].toArray, vm := .none }) (kcell := k) (by rw [hT]; exact hLO) (fun z h => by cases h) hk (by rw [hr0cls]; exact hasg) hselP hmk (by rw [hnameR, hdescR]; exact hway) (by rw [hfl]; decide) (by simp [Method.isAbstract, hfl, hasFlag, Acc.abstract]) (g := F0 (kM K) pc ls (.int i :: .ref a :: st)) rfl (argsL := [.int i]) (rest := st) (by
      have h9 := hsigR
      rw [show parseMethodDescriptor "(I)J" = some ⟨[.int], some FieldType.long⟩ from by decide +kernel] at h9
      rw [← Option.some.inj h9]
      rfl) rfl (by rw [X.code]; exact d)
  have hLS1 : LSt _ (D.2.1 113) (D.2.2 613) (T.setVm vm₁) := (X.ge.2.2.2.1 13 _ rfl).warm X₁.warmed
  have hO1 : ObN (T.setVm vm₁) := X.ge.2.2.1.moved X₁.warmed.alike
  clear hk hkind hty hpl hmk hck hcc hml hlk hfl hretk htoy htk hitf hlook hif hfo hsel hfile hcp hnt hcr hready hselP hf0 hfs0 hfn0
  obtain ⟨k, tk, methk, ck, toy, iface, t, found2, file, f0, hk, hkind, hty, hpl, hmk, hck, hcc, hml, hlk, hfl, hretk, htoy, htk, hitf, hlook, hif, hfo, hsel, hfile, hcp, hnt, hcr, hready, hf0, hfs0, hfn0⟩ := lam_site13 hLS1 hO1
  have hwd : ∀ w ∈ lw_all, ∀ (a' : Array Value) (U : State), (T.setVm vm₁).WarmedH U.vm → w.before a' U = true := fun w hw a' U hW => pay_in X.words lw_self w hw a' U (State.WarmedH.trans X₁.warmed hW)
  have hwT : ∀ w ∈ lw_all, w.before #[] (T.setVm vm₁) = true := fun w hw => hwd w hw _ _ (State.WarmedH.refl _)
  obtain ⟨tkS, methB, hpr, htkS, hmB, hsp, hsB, hiB, hlB, hnB⟩ := lam_static (e := kE K) (n := 2) (y := yX1_lambda_trackCell_5) (sig := SH13.implDesc) hk hfile hcp hnt hready hcr htoy htk hlook (by decide) (hwT _ q2516) (hwT _ q2515) (hwT _ q137) (by decide +kernel) rfl
  have hheap1 : (T.setVm vm₁).heap = H := hT
  obtain ⟨v, st₀, t9, T', L9, h1, X9, hL9, hth, htv, hq9, hstep⟩ := lam_runl (As := [.ref v0, .int i]) (a := a) (i := i) (P := 5) X₁ X.exec (g := F0 (kM K) pc ls st) rfl (by rw [X.maxL]; exact h0.1) (by rw [X.code]; exact d) hmk hck hml hlk hpl hretk (hM H.size) PcT_blind rfl rfl (by rw [X.room]; exact hR.1) (by rw [X.room]; show 2 * 0 + (st.map fun v => v.category).sum + 13 + _ ≤ _; omega) (fun w hw a' U hW => (lw_meth q2516 w hw).1 |> fun h => hwd w h a' U hW) List.mem_cons_self (fun a' U hW => hwd _ q137 a' U hW) hnB (by rw [X.room]; exact hc.1) (by rw [X.room]; exact hc.2) (fun U hU hW => ⟨rfl, by rw [hU, hheap1], by rw [hU, hheap1]; exact hP, X.gk.warm (State.WarmedH.trans X₁.warmed hW)⟩)
    (fun R' s' args' U Y hvm hheap hnm target hrest => by
      have hs : U.topJava?.isSome := Y.here.top
      have hcl : U.heap[a]? = some { cls := D.2.1 113, slots := [.ref v0].toArray, vm := .none } := by rw [hheap, hheap1]; exact hLO
      jvm_step Y.here [X.exec, hcc, dl13_0, Value.isRef]
      jvm_step Y.here [X.exec, hcc, dl13_1, getfield.wp_ready (e := kE K) (s := U) (c := D.2.1 113) (field := f0) (a := a) (rest := []) (cell := { cls := D.2.1 113, slots := [.ref v0].toArray, vm := .none }) (v := .ref v0) (f := frL (D.2.1 113) 1 a i [.ref a]) hs (by rw [hvm]; exact hf0) hfs0 rfl hcl (fun z => by cases z) (by rw [hfn0]; rfl)]
      jvm_step Y.here [X.exec, hcc, dl13_4]
      jvm_step Y.here [X.exec, hcc, dl13_5, invokestatic.wp_ready (e := kE K) (s := U) (m := t) (k := tkS) (meth := methB) (args := [.ref v0, .int i]) (rest := []) (f := frL (D.2.1 113) 5 a i [.int i, .ref v0]) hs (by unfold plainRef at hpr ⊢; rw [hvm]; exact hpr) (by rw [hvm]; exact hready) (by rw [hvm]; exact htkS) (by rw [hvm]; exact hmB) hsp hsB hiB hlB rfl]
      intro acts'
      exact hrest acts')
    (by rw [hcc]; exact dl13_5) (by rw [hcc]; exact dl13_8) (fun st o t h => by
      obtain ⟨v, rfl, hq, -⟩ := h
      obtain ⟨r, rfl⟩ := hQ _ _ _ hq
      exact ⟨r, rfl⟩)
  refine ⟨v, st₀, t9, T', L9, h1.trans hheap1, X9, hL9, hth, htv, hq9, fun target htg => ?_⟩
  exact hstep₁ _ fun acts => (hstep acts).trans htg
def LD14 : ClassFile := (SH14.file "AcousticCamera").getD { minorVersion := 0, majorVersion := 0, constantPool := #[], accessFlags := 0, thisClass := 0, superClass := 0, interfaces := #[], fields := #[], methods := #[], attributes := #[] }
def LW14 : Method := ((layoutMethods LD14).bind (·[1]?)).getD default
def LL14 : Array Field × Array FieldType × Array FieldType := (layoutFields LD14 0).getD (#[], #[], #[])
def LB14 : ByteArray := ⟨#[0x2a, 0xb4, 0x00, 0x14, 0x2a, 0xb4, 0x00, 0x16, 0x2a, 0xb4, 0x00, 0x18, 0x2a, 0xb4, 0x00, 0x1a, 0x2a, 0xb4, 0x00, 0x1c, 0x1b, 0xb8, 0x00, 0x24, 0xad]⟩
theorem lf14_1 : SH14.file "AcousticCamera" = some LD14 := by
  have h : (SH14.file "AcousticCamera").isSome = true := by decide +kernel
  obtain ⟨x, hx⟩ := Option.isSome_iff_exists.mp h
  simp [LD14, hx]
theorem lf14_2 : ∀ ms, layoutMethods LD14 = some ms → ms[1]? = some LW14 := by
  intro ms hms
  have h : ((layoutMethods LD14).bind (·[1]?)).isSome = true := by decide +kernel
  obtain ⟨x, hx⟩ := Option.isSome_iff_exists.mp h
  have hf : LW14 = x := by simp [LW14, hx]
  rw [hms] at hx
  rw [hf]
  exact hx
theorem lf14_3 : layoutFields LD14 0 = some LL14 := by
  have h : (layoutFields LD14 0).isSome = true := by decide +kernel
  obtain ⟨x, hx⟩ := Option.isSome_iff_exists.mp h
  simp [LL14, hx]
theorem lf14_c : (LW14.code.map fun c => (c.code.data, c.maxLocals)) = some (LB14.data, 2) := by decide +kernel
theorem lf14_f : (LW14.accessFlags, LW14.sig.returnType) = (0x0001, some FieldType.long) := by decide +kernel
theorem lf14_t : LL14.2.1 = #[(.object "AcousticCamera$State"), .int, .int, .int, .int] := by decide +kernel
theorem lf14_M : LD14.constantPool[36]? = some (.methodref 32 35) ∧ LD14.constantPool.className? 32 = some "AcousticCamera" ∧ LD14.constantPool.nameAndType? 35 = some ("lambda$bestVelocity$6", "(LAcousticCamera$State;IIIII)J") := by decide +kernel
theorem lf14_C : LD14.constantPool[32]? = some (.class_ 31) ∧ LD14.constantPool.string? 31 = some "AcousticCamera" ∧ 32 ≠ LD14.thisClass := by decide +kernel
theorem lf14_F0 : LD14.constantPool[20]? = some (.fieldref 2 19) ∧ LD14.constantPool.nameAndType? 19 = some ("arg$1", "LAcousticCamera$State;") ∧ LL14.1.findIdx? (·.name == "arg$1") = some 0 ∧ (LL14.1[0]?).map (fun f => (f.isStatic, f.slot)) = some (false, 0) := by decide +kernel
theorem lf14_F1 : LD14.constantPool[22]? = some (.fieldref 2 21) ∧ LD14.constantPool.nameAndType? 21 = some ("arg$2", "I") ∧ LL14.1.findIdx? (·.name == "arg$2") = some 1 ∧ (LL14.1[1]?).map (fun f => (f.isStatic, f.slot)) = some (false, 1) := by decide +kernel
theorem lf14_F2 : LD14.constantPool[24]? = some (.fieldref 2 23) ∧ LD14.constantPool.nameAndType? 23 = some ("arg$3", "I") ∧ LL14.1.findIdx? (·.name == "arg$3") = some 2 ∧ (LL14.1[2]?).map (fun f => (f.isStatic, f.slot)) = some (false, 2) := by decide +kernel
theorem lf14_F3 : LD14.constantPool[26]? = some (.fieldref 2 25) ∧ LD14.constantPool.nameAndType? 25 = some ("arg$4", "I") ∧ LL14.1.findIdx? (·.name == "arg$4") = some 3 ∧ (LL14.1[3]?).map (fun f => (f.isStatic, f.slot)) = some (false, 3) := by decide +kernel
theorem lf14_F4 : LD14.constantPool[28]? = some (.fieldref 2 27) ∧ LD14.constantPool.nameAndType? 27 = some ("arg$5", "I") ∧ LL14.1.findIdx? (·.name == "arg$5") = some 4 ∧ (LL14.1[4]?).map (fun f => (f.isStatic, f.slot)) = some (false, 4) := by decide +kernel
theorem dl14_0 : decode LB14 0 = .ok (.aload_n 0, 1) := by decide +kernel
theorem dl14_1 : decode LB14 1 = .ok (.getfield 20, 3) := by decide +kernel
theorem dl14_4 : decode LB14 4 = .ok (.aload_n 0, 1) := by decide +kernel
theorem dl14_5 : decode LB14 5 = .ok (.getfield 22, 3) := by decide +kernel
theorem dl14_8 : decode LB14 8 = .ok (.aload_n 0, 1) := by decide +kernel
theorem dl14_9 : decode LB14 9 = .ok (.getfield 24, 3) := by decide +kernel
theorem dl14_12 : decode LB14 12 = .ok (.aload_n 0, 1) := by decide +kernel
theorem dl14_13 : decode LB14 13 = .ok (.getfield 26, 3) := by decide +kernel
theorem dl14_16 : decode LB14 16 = .ok (.aload_n 0, 1) := by decide +kernel
theorem dl14_17 : decode LB14 17 = .ok (.getfield 28, 3) := by decide +kernel
theorem dl14_20 : decode LB14 20 = .ok (.iload_n 1, 1) := by decide +kernel
theorem dl14_21 : decode LB14 21 = .ok (.invokestatic 36, 3) := by decide +kernel
theorem dl14_24 : decode LB14 24 = .ok (.lreturn, 1) := by decide +kernel
theorem lam_site14 {U : State} {c : ClassId} {one : Nat} (h : LSt (({ cls := "AcousticCamera", name := "bestVelocity", desc := "(III)I" } : MethodName), 58, 376, SH14) c one U) (hO : ObN U) : ∃ (k tk : Class) (methk : Method) (ck : Code) (toy iface : ClassId) (t found : MethodId) (file : ClassFile) (f0 : Field) (f1 : Field) (f2 : Field) (f3 : Field) (f4 : Field), U.vm.classes[c]? = some k ∧ k.kind = .ordinary ∧ k.instanceTypes = #[(.object "AcousticCamera$State"), .int, .int, .int, .int] ∧ U.plainMethod ⟨c, 1⟩ ∧ U.vm.method? ⟨c, 1⟩ = some methk ∧ methk.code = some ck ∧ ck.code = LB14 ∧ ck.maxLocals = 2 ∧ methk.locks = false ∧ methk.accessFlags = 1 ∧ methk.sig.returnType = some FieldType.long ∧ U.vm.findClass "AcousticCamera" = some toy ∧ U.vm.classes[toy]? = some tk ∧ tk.isInterface = false ∧ ((methodIn toy "lambda$bestVelocity$6" "(LAcousticCamera$State;IIIII)J" tk.isInterface none).ask { classPath := fun _ => none } U.vm).1 = .ok t ∧ U.vm.findClass "AcousticCamera$Score" = some iface ∧ ((methodIn iface "of" SH14.sam.toString true none).ask { classPath := fun _ => none } U.vm).1 = .ok found ∧ selectMethod {} U.vm c found = .method ⟨c, 1⟩ ∧ k.cf = some file ∧ file.constantPool[36]? = some (.methodref 32 35) ∧ file.constantPool.nameAndType? 35 = some ("lambda$bestVelocity$6", "(LAcousticCamera$State;IIIII)J") ∧ U.vm.classReady c 32 toy ∧ U.vm.methodReady c 36 t ∧ U.vm.fieldReady c 20 c f0 ∧ f0.isStatic = false ∧ f0.slot = 0 ∧ U.vm.fieldReady c 22 c f1 ∧ f1.isStatic = false ∧ f1.slot = 1 ∧ U.vm.fieldReady c 24 c f2 ∧ f2.isStatic = false ∧ f2.slot = 2 ∧ U.vm.fieldReady c 26 c f3 ∧ f3.isStatic = false ∧ f3.slot = 3 ∧ U.vm.fieldReady c 28 c f4 ∧ f4.isStatic = false ∧ f4.slot = 4 := by
  obtain ⟨m, kd, cf, i0, p0, lk, hm, hkd, hcf, hsh, hfind, hmade, hcall, hl⟩ := h
  obtain ⟨kd', hkd', hname⟩ := className_of_methodNamed hm
  cases hkd.symm.trans hkd'
  cases hx : LW14.code with
  | none => exact absurd lf14_c (by rw [hx]; exact fun z => by cases z)
  | some x =>
  have fc := lf14_c
  rw [hx] at fc
  simp only [Option.map_some, Option.some.injEq, Prod.mk.injEq] at fc
  have ff := lf14_f
  simp only [Prod.mk.injEq] at ff
  obtain ⟨k, tk, methk, ck, toy, iface, t, found, hk, hkind, hty, hmk, hck, hcc, hml, hfl, hsig, htoy, htk, hitf, hlook, hif, hfo, hsel, ⟨file, hfile, hpool⟩, hres, hfields⟩ := made_gen hkd hname hmade hO lf14_1 lf14_2 lf14_3 hx
  have hkn : k.name = "AcousticCamera$$Lambda" := by
    obtain ⟨dk', k', ok, tk', file', cf', object, iface', t', lay, methods, target, found', hd', hk', -, -, -, -, -, -, -, -, -, -, -, hrec, -⟩ := Lambda.isMade_spec hmade
    cases hkd.symm.trans hd'
    cases hk.symm.trans hk'
    rw [hrec.1, hname]
    rfl
  obtain ⟨g0, hg0, hp0⟩ := Option.map_eq_some_iff.mp lf14_F0.2.2.2
  simp only [Prod.mk.injEq] at hp0
  obtain ⟨g1, hg1, hp1⟩ := Option.map_eq_some_iff.mp lf14_F1.2.2.2
  simp only [Prod.mk.injEq] at hp1
  obtain ⟨g2, hg2, hp2⟩ := Option.map_eq_some_iff.mp lf14_F2.2.2.2
  simp only [Prod.mk.injEq] at hp2
  obtain ⟨g3, hg3, hp3⟩ := Option.map_eq_some_iff.mp lf14_F3.2.2.2
  simp only [Prod.mk.injEq] at hp3
  obtain ⟨g4, hg4, hp4⟩ := Option.map_eq_some_iff.mp lf14_F4.2.2.2
  simp only [Prod.mk.injEq] at hp4
  have e1 : SH14.implItf = false := rfl
  rw [e1] at hitf
  have hds : SH14.implDesc.toString = "(LAcousticCamera$State;IIIII)J" := by decide +kernel
  rw [hds] at hlook
  have hready : U.vm.methodReady c 36 t := ⟨k, hk, hres 36 _ (Lambda.resolvedOf_method lf14_M.1 lf14_M.2.1 htoy htk lf14_M.2.2 hlook)⟩
  have hcr : U.vm.classReady c 32 toy := ⟨k, hk, hres 32 _ (Lambda.resolvedOf_class lf14_C.1 lf14_C.2.2 lf14_C.2.1 htoy)⟩
  refine ⟨k, tk, methk, ck, toy, iface, t, found, file, g0, g1, g2, g3, g4, hk, hkind, hty.trans lf14_t, State.plainMethod.of_name (fun k' hk' => by cases hk.symm.trans hk'; rw [hkn]; decide), hmk, hck, hcc.trans (ByteArray.ext fc.1), hml.trans fc.2, ?_, hfl.trans ff.1, by rw [hsig]; exact ff.2, htoy, htk, hitf, hlook, hif, hfo, hsel, hfile, by rw [hpool]; exact lf14_M.1, by rw [hpool]; exact lf14_M.2.2, hcr, hready, ⟨k, 0, k, hk, hres 20 _ (Lambda.resolvedOf_field lf14_F0.1 lf14_F0.2.1 lf14_F0.2.2.1), hk, hfields 0 _ hg0⟩, hp0.1, hp0.2, ⟨k, 1, k, hk, hres 22 _ (Lambda.resolvedOf_field lf14_F1.1 lf14_F1.2.1 lf14_F1.2.2.1), hk, hfields 1 _ hg1⟩, hp1.1, hp1.2, ⟨k, 2, k, hk, hres 24 _ (Lambda.resolvedOf_field lf14_F2.1 lf14_F2.2.1 lf14_F2.2.2.1), hk, hfields 2 _ hg2⟩, hp2.1, hp2.2, ⟨k, 3, k, hk, hres 26 _ (Lambda.resolvedOf_field lf14_F3.1 lf14_F3.2.1 lf14_F3.2.2.1), hk, hfields 3 _ hg3⟩, hp3.1, hp3.2, ⟨k, 4, k, hk, hres 28 _ (Lambda.resolvedOf_field lf14_F4.1 lf14_F4.2.1 lf14_F4.2.2.1), hk, hfields 4 _ hg4⟩, hp4.1, hp4.2⟩
  simp [Method.locks, Method.isSynchronized, hfl, ff.1, hasFlag, Acc.synchronized]
set_option maxHeartbeats 2000000 in
theorem vv_lam14 {K : C_} {y : MethodName} {cc : ByteArray} {nL : Nat} {ret : Option FieldType} {rm : Room} {D : DD} {A : Nat → Prop} {H : Heap} {cells slots : Nat} {Q : State → Prop} {pc : Nat} {lv : List (Nat × Value)} {st stk : List Value} {idx cnt a : Nat} {v0 : Nat} {v1 : Int32} {v2 : Int32} {v3 : Int32} {v4 : Int32} {i : Int32} {rm2 : Room} {P : Heap → Prop} {A2 : Nat → Prop} {Q2 : Option Value → Heap → Heap → Prop} (X : Fx K y cc nL ret rm D) (hM : Ct (kL K) yX1_lambda_bestVelocity_6 cX1_lambda_bestVelocity_6 6 (some FieldType.long) rm2 D [.ref v0, .int v1, .int v2, .int v3, .int v4, .int i] P A2 Q2) (hLO : LO D H a 14 [.ref v0, .int v1, .int v2, .int v3, .int v4]) (q1 : Cond.methodLink y.cls idx ⟨"AcousticCamera$Score", "of", "(I)J"⟩ ∈ lw_all) (hR : rm2.frames + 2 ≤ rm.frames ∧ 46 + rm2.locals ≤ rm.locals) (d : decode cc pc = .ok (.invokeinterface idx cnt, 5)) (hstk : stk = .int i :: .ref a :: st) (hw : (st.map fun v => v.category).sum ≤ 8) (hP : P H) (hA : ∀ q, A2 q → kF K A q) (hc : cells + rm2.cells ≤ rm.cells ∧ slots + rm2.slots ≤ rm.slots) (hQ : ∀ v H H1, Q2 v H H1 → ∃ r : Int64, v = some (.long r))
    (kk : ∀ (v : Option Value) (H1 : Heap), Q2 v H H1 → H.size ≤ H1.size → (∀ q : Nat, q < H.size → ¬ A2 q → H1[q]? = H[q]?) → V K nL A H1 (cells + rm2.cells) (slots + rm2.slots) Q (pc + 5) lv (v.toList ++ st)) : V K nL A H cells slots Q pc lv stk := by
  subst hstk
  refine vv_after5 (mc := rm2.cells) (ms := rm2.slots) (as := [.ref v0, .int v1, .int v2, .int v3, .int v4, .int i].toArray) (A2 := A2) (Q2 := Q2) (st := st) (fun L ls h0 T hT XX => ?_) hA kk
  have hmem : (⟨"AcousticCamera$Score", "of", "(I)J"⟩ : MethodName) ∈ IFL := by decide +kernel
  have hIF := X.ge.2.2.2.2.2.1 _ hmem
  have hLS := X.ge.2.2.2.1 14 _ rfl
  obtain ⟨r0, r, hn, hrm, hstR, hsigR⟩ := Cond.declares_spec (va_any (A' := kA K) rfl hIF.1)
  obtain ⟨cL, kL', r1, hcL, hkL, hiL, hfoundL, hn1⟩ := Cond.interfaceMethod_spec (va_any (A' := kA K) rfl hIF.2)
  cases hn.symm.trans hn1
  have hr0cls : r0.cls = cL := Option.some.inj ((findClass_of_methodNamed hn).symm.trans hcL)
  obtain ⟨hnameR, hdescR⟩ := name_of_methodNamed hn hrm
  obtain ⟨k, tk, methk, ck, toy, iface, t, found, file, f0, f1, f2, f3, f4, hk, hkind, hty, hpl, hmk, hck, hcc, hml, hlk, hfl, hretk, htoy, htk, hitf, hlook, hif, hfo, hsel, hfile, hcp, hnt, hcr, hready, hf0, hfs0, hfn0, hf1, hfs1, hfn1, hf2, hfs2, hfn2, hf3, hfs3, hfn3, hf4, hfs4, hfn4⟩ := lam_site14 hLS X.ge.2.2.1
  obtain ⟨-, -, -, -, -, -, -, -, -, -, -, -, hcall, -⟩ := hLS
  obtain ⟨i2, hi2, hasg, hway⟩ := State.lambdaCallable_spec hcall
  have e1 : SH14.iface = "AcousticCamera$Score" := rfl
  have e2 : SH14.sam.toString = "(I)J" := by decide +kernel
  have e3 : SH14.name = "of" := rfl
  rw [e1] at hi2
  rw [e2, e3] at hway
  rw [e2] at hfo
  cases hcL.symm.trans hi2
  cases hcL.symm.trans hif
  have hfr : found = r0 := by
    have h1 : (kS K).methodFound? "AcousticCamera$Score" "of" "(I)J" = some r0 := hfoundL
    simp only [State.methodFound?, hcL, hkL, hiL, Option.bind_eq_bind, Option.bind_some] at h1
    rw [hfo] at h1
    exact Option.some.inj h1
  subst hfr
  have hselP : selectMethod (kE K).platform (kS K).vm (D.2.1 114) found = .method ⟨D.2.1 114, 1⟩ := by rw [Launch.admits_selectMethod XX.admits]; exact hsel
  obtain ⟨vm₁, X₁, hstep₁⟩ := XX.invokeinterface X.exec X.own (X.words _ q1) hn hrm hstR (by rw [hr0cls]; exact hkL) hiL (by decide) (a := a) (cell := { cls := D.2.1 114, slots := [.ref v0, .int v1, .int v2, .int v3, .int v4].toArray, vm := .none }) (kcell := k) (by rw [hT]; exact hLO) (fun z h => by cases h) hk (by rw [hr0cls]; exact hasg) hselP hmk (by rw [hnameR, hdescR]; exact hway) (by rw [hfl]; decide) (by simp [Method.isAbstract, hfl, hasFlag, Acc.abstract]) (g := F0 (kM K) pc ls (.int i :: .ref a :: st)) rfl (argsL := [.int i]) (rest := st) (by
      have h9 := hsigR
      rw [show parseMethodDescriptor "(I)J" = some ⟨[.int], some FieldType.long⟩ from by decide +kernel] at h9
      rw [← Option.some.inj h9]
      rfl) rfl (by rw [X.code]; exact d)
  have hLS1 : LSt _ (D.2.1 114) (D.2.2 614) (T.setVm vm₁) := (X.ge.2.2.2.1 14 _ rfl).warm X₁.warmed
  have hO1 : ObN (T.setVm vm₁) := X.ge.2.2.1.moved X₁.warmed.alike
  clear hk hkind hty hpl hmk hck hcc hml hlk hfl hretk htoy htk hitf hlook hif hfo hsel hfile hcp hnt hcr hready hselP hf0 hfs0 hfn0 hf1 hfs1 hfn1 hf2 hfs2 hfn2 hf3 hfs3 hfn3 hf4 hfs4 hfn4
  obtain ⟨k, tk, methk, ck, toy, iface, t, found2, file, f0, f1, f2, f3, f4, hk, hkind, hty, hpl, hmk, hck, hcc, hml, hlk, hfl, hretk, htoy, htk, hitf, hlook, hif, hfo, hsel, hfile, hcp, hnt, hcr, hready, hf0, hfs0, hfn0, hf1, hfs1, hfn1, hf2, hfs2, hfn2, hf3, hfs3, hfn3, hf4, hfs4, hfn4⟩ := lam_site14 hLS1 hO1
  have hwd : ∀ w ∈ lw_all, ∀ (a' : Array Value) (U : State), (T.setVm vm₁).WarmedH U.vm → w.before a' U = true := fun w hw a' U hW => pay_in X.words lw_self w hw a' U (State.WarmedH.trans X₁.warmed hW)
  have hwT : ∀ w ∈ lw_all, w.before #[] (T.setVm vm₁) = true := fun w hw => hwd w hw _ _ (State.WarmedH.refl _)
  obtain ⟨tkS, methB, hpr, htkS, hmB, hsp, hsB, hiB, hlB, hnB⟩ := lam_static (e := kE K) (n := 6) (y := yX1_lambda_bestVelocity_6) (sig := SH14.implDesc) hk hfile hcp hnt hready hcr htoy htk hlook (by decide) (hwT _ q2541) (hwT _ q2540) (hwT _ q137) (by decide +kernel) rfl
  have hheap1 : (T.setVm vm₁).heap = H := hT
  obtain ⟨v, st₀, t9, T', L9, h1, X9, hL9, hth, htv, hq9, hstep⟩ := lam_runl (As := [.ref v0, .int v1, .int v2, .int v3, .int v4, .int i]) (a := a) (i := i) (P := 21) X₁ X.exec (g := F0 (kM K) pc ls st) rfl (by rw [X.maxL]; exact h0.1) (by rw [X.code]; exact d) hmk hck hml hlk hpl hretk (hM H.size) PcT_blind rfl rfl (by rw [X.room]; exact hR.1) (by rw [X.room]; show 2 * 0 + (st.map fun v => v.category).sum + 13 + _ ≤ _; omega) (fun w hw a' U hW => (lw_meth q2541 w hw).1 |> fun h => hwd w h a' U hW) List.mem_cons_self (fun a' U hW => hwd _ q137 a' U hW) hnB (by rw [X.room]; exact hc.1) (by rw [X.room]; exact hc.2) (fun U hU hW => ⟨rfl, by rw [hU, hheap1], by rw [hU, hheap1]; exact hP, X.gk.warm (State.WarmedH.trans X₁.warmed hW)⟩)
    (fun R' s' args' U Y hvm hheap hnm target hrest => by
      have hs : U.topJava?.isSome := Y.here.top
      have hcl : U.heap[a]? = some { cls := D.2.1 114, slots := [.ref v0, .int v1, .int v2, .int v3, .int v4].toArray, vm := .none } := by rw [hheap, hheap1]; exact hLO
      jvm_step Y.here [X.exec, hcc, dl14_0, Value.isRef]
      jvm_step Y.here [X.exec, hcc, dl14_1, getfield.wp_ready (e := kE K) (s := U) (c := D.2.1 114) (field := f0) (a := a) (rest := []) (cell := { cls := D.2.1 114, slots := [.ref v0, .int v1, .int v2, .int v3, .int v4].toArray, vm := .none }) (v := .ref v0) (f := frL (D.2.1 114) 1 a i [.ref a]) hs (by rw [hvm]; exact hf0) hfs0 rfl hcl (fun z => by cases z) (by rw [hfn0]; rfl)]
      jvm_step Y.here [X.exec, hcc, dl14_4, Value.isRef]
      jvm_step Y.here [X.exec, hcc, dl14_5, getfield.wp_ready (e := kE K) (s := U) (c := D.2.1 114) (field := f1) (a := a) (rest := [.ref v0]) (cell := { cls := D.2.1 114, slots := [.ref v0, .int v1, .int v2, .int v3, .int v4].toArray, vm := .none }) (v := .int v1) (f := frL (D.2.1 114) 5 a i [.ref a, .ref v0]) hs (by rw [hvm]; exact hf1) hfs1 rfl hcl (fun z => by cases z) (by rw [hfn1]; rfl)]
      jvm_step Y.here [X.exec, hcc, dl14_8, Value.isRef]
      jvm_step Y.here [X.exec, hcc, dl14_9, getfield.wp_ready (e := kE K) (s := U) (c := D.2.1 114) (field := f2) (a := a) (rest := [.int v1, .ref v0]) (cell := { cls := D.2.1 114, slots := [.ref v0, .int v1, .int v2, .int v3, .int v4].toArray, vm := .none }) (v := .int v2) (f := frL (D.2.1 114) 9 a i [.ref a, .int v1, .ref v0]) hs (by rw [hvm]; exact hf2) hfs2 rfl hcl (fun z => by cases z) (by rw [hfn2]; rfl)]
      jvm_step Y.here [X.exec, hcc, dl14_12, Value.isRef]
      jvm_step Y.here [X.exec, hcc, dl14_13, getfield.wp_ready (e := kE K) (s := U) (c := D.2.1 114) (field := f3) (a := a) (rest := [.int v2, .int v1, .ref v0]) (cell := { cls := D.2.1 114, slots := [.ref v0, .int v1, .int v2, .int v3, .int v4].toArray, vm := .none }) (v := .int v3) (f := frL (D.2.1 114) 13 a i [.ref a, .int v2, .int v1, .ref v0]) hs (by rw [hvm]; exact hf3) hfs3 rfl hcl (fun z => by cases z) (by rw [hfn3]; rfl)]
      jvm_step Y.here [X.exec, hcc, dl14_16, Value.isRef]
      jvm_step Y.here [X.exec, hcc, dl14_17, getfield.wp_ready (e := kE K) (s := U) (c := D.2.1 114) (field := f4) (a := a) (rest := [.int v3, .int v2, .int v1, .ref v0]) (cell := { cls := D.2.1 114, slots := [.ref v0, .int v1, .int v2, .int v3, .int v4].toArray, vm := .none }) (v := .int v4) (f := frL (D.2.1 114) 17 a i [.ref a, .int v3, .int v2, .int v1, .ref v0]) hs (by rw [hvm]; exact hf4) hfs4 rfl hcl (fun z => by cases z) (by rw [hfn4]; rfl)]
      jvm_step Y.here [X.exec, hcc, dl14_20]
      jvm_step Y.here [X.exec, hcc, dl14_21, invokestatic.wp_ready (e := kE K) (s := U) (m := t) (k := tkS) (meth := methB) (args := [.ref v0, .int v1, .int v2, .int v3, .int v4, .int i]) (rest := []) (f := frL (D.2.1 114) 21 a i [.int i, .int v4, .int v3, .int v2, .int v1, .ref v0]) hs (by unfold plainRef at hpr ⊢; rw [hvm]; exact hpr) (by rw [hvm]; exact hready) (by rw [hvm]; exact htkS) (by rw [hvm]; exact hmB) hsp hsB hiB hlB rfl]
      intro acts'
      exact hrest acts')
    (by rw [hcc]; exact dl14_21) (by rw [hcc]; exact dl14_24) (fun st o t h => by
      obtain ⟨v, rfl, hq, -⟩ := h
      obtain ⟨r, rfl⟩ := hQ _ _ _ hq
      exact ⟨r, rfl⟩)
  refine ⟨v, st₀, t9, T', L9, h1.trans hheap1, X9, hL9, hth, htv, hq9, fun target htg => ?_⟩
  exact hstep₁ _ fun acts => (hstep acts).trans htg
def LD15 : ClassFile := (SH15.file "AcousticCamera").getD { minorVersion := 0, majorVersion := 0, constantPool := #[], accessFlags := 0, thisClass := 0, superClass := 0, interfaces := #[], fields := #[], methods := #[], attributes := #[] }
def LW15 : Method := ((layoutMethods LD15).bind (·[1]?)).getD default
def LL15 : Array Field × Array FieldType × Array FieldType := (layoutFields LD15 0).getD (#[], #[], #[])
def LB15 : ByteArray := ⟨#[0x2a, 0xb4, 0x00, 0x12, 0x2a, 0xb4, 0x00, 0x14, 0x2a, 0xb4, 0x00, 0x16, 0x1b, 0xb8, 0x00, 0x1e, 0xad]⟩
theorem lf15_1 : SH15.file "AcousticCamera" = some LD15 := by
  have h : (SH15.file "AcousticCamera").isSome = true := by decide +kernel
  obtain ⟨x, hx⟩ := Option.isSome_iff_exists.mp h
  simp [LD15, hx]
theorem lf15_2 : ∀ ms, layoutMethods LD15 = some ms → ms[1]? = some LW15 := by
  intro ms hms
  have h : ((layoutMethods LD15).bind (·[1]?)).isSome = true := by decide +kernel
  obtain ⟨x, hx⟩ := Option.isSome_iff_exists.mp h
  have hf : LW15 = x := by simp [LW15, hx]
  rw [hms] at hx
  rw [hf]
  exact hx
theorem lf15_3 : layoutFields LD15 0 = some LL15 := by
  have h : (layoutFields LD15 0).isSome = true := by decide +kernel
  obtain ⟨x, hx⟩ := Option.isSome_iff_exists.mp h
  simp [LL15, hx]
theorem lf15_c : (LW15.code.map fun c => (c.code.data, c.maxLocals)) = some (LB15.data, 2) := by decide +kernel
theorem lf15_f : (LW15.accessFlags, LW15.sig.returnType) = (0x0001, some FieldType.long) := by decide +kernel
theorem lf15_t : LL15.2.1 = #[(.object "AcousticCamera$State"), .int, .int] := by decide +kernel
theorem lf15_M : LD15.constantPool[30]? = some (.methodref 26 29) ∧ LD15.constantPool.className? 26 = some "AcousticCamera" ∧ LD15.constantPool.nameAndType? 29 = some ("lambda$bestLag$7", "(LAcousticCamera$State;III)J") := by decide +kernel
theorem lf15_C : LD15.constantPool[26]? = some (.class_ 25) ∧ LD15.constantPool.string? 25 = some "AcousticCamera" ∧ 26 ≠ LD15.thisClass := by decide +kernel
theorem lf15_F0 : LD15.constantPool[18]? = some (.fieldref 2 17) ∧ LD15.constantPool.nameAndType? 17 = some ("arg$1", "LAcousticCamera$State;") ∧ LL15.1.findIdx? (·.name == "arg$1") = some 0 ∧ (LL15.1[0]?).map (fun f => (f.isStatic, f.slot)) = some (false, 0) := by decide +kernel
theorem lf15_F1 : LD15.constantPool[20]? = some (.fieldref 2 19) ∧ LD15.constantPool.nameAndType? 19 = some ("arg$2", "I") ∧ LL15.1.findIdx? (·.name == "arg$2") = some 1 ∧ (LL15.1[1]?).map (fun f => (f.isStatic, f.slot)) = some (false, 1) := by decide +kernel
theorem lf15_F2 : LD15.constantPool[22]? = some (.fieldref 2 21) ∧ LD15.constantPool.nameAndType? 21 = some ("arg$3", "I") ∧ LL15.1.findIdx? (·.name == "arg$3") = some 2 ∧ (LL15.1[2]?).map (fun f => (f.isStatic, f.slot)) = some (false, 2) := by decide +kernel
theorem dl15_0 : decode LB15 0 = .ok (.aload_n 0, 1) := by decide +kernel
theorem dl15_1 : decode LB15 1 = .ok (.getfield 18, 3) := by decide +kernel
theorem dl15_4 : decode LB15 4 = .ok (.aload_n 0, 1) := by decide +kernel
theorem dl15_5 : decode LB15 5 = .ok (.getfield 20, 3) := by decide +kernel
theorem dl15_8 : decode LB15 8 = .ok (.aload_n 0, 1) := by decide +kernel
theorem dl15_9 : decode LB15 9 = .ok (.getfield 22, 3) := by decide +kernel
theorem dl15_12 : decode LB15 12 = .ok (.iload_n 1, 1) := by decide +kernel
theorem dl15_13 : decode LB15 13 = .ok (.invokestatic 30, 3) := by decide +kernel
theorem dl15_16 : decode LB15 16 = .ok (.lreturn, 1) := by decide +kernel
theorem lam_site15 {U : State} {c : ClassId} {one : Nat} (h : LSt (({ cls := "AcousticCamera", name := "bestLag", desc := "(III)I" } : MethodName), 23, 385, SH15) c one U) (hO : ObN U) : ∃ (k tk : Class) (methk : Method) (ck : Code) (toy iface : ClassId) (t found : MethodId) (file : ClassFile) (f0 : Field) (f1 : Field) (f2 : Field), U.vm.classes[c]? = some k ∧ k.kind = .ordinary ∧ k.instanceTypes = #[(.object "AcousticCamera$State"), .int, .int] ∧ U.plainMethod ⟨c, 1⟩ ∧ U.vm.method? ⟨c, 1⟩ = some methk ∧ methk.code = some ck ∧ ck.code = LB15 ∧ ck.maxLocals = 2 ∧ methk.locks = false ∧ methk.accessFlags = 1 ∧ methk.sig.returnType = some FieldType.long ∧ U.vm.findClass "AcousticCamera" = some toy ∧ U.vm.classes[toy]? = some tk ∧ tk.isInterface = false ∧ ((methodIn toy "lambda$bestLag$7" "(LAcousticCamera$State;III)J" tk.isInterface none).ask { classPath := fun _ => none } U.vm).1 = .ok t ∧ U.vm.findClass "AcousticCamera$Score" = some iface ∧ ((methodIn iface "of" SH15.sam.toString true none).ask { classPath := fun _ => none } U.vm).1 = .ok found ∧ selectMethod {} U.vm c found = .method ⟨c, 1⟩ ∧ k.cf = some file ∧ file.constantPool[30]? = some (.methodref 26 29) ∧ file.constantPool.nameAndType? 29 = some ("lambda$bestLag$7", "(LAcousticCamera$State;III)J") ∧ U.vm.classReady c 26 toy ∧ U.vm.methodReady c 30 t ∧ U.vm.fieldReady c 18 c f0 ∧ f0.isStatic = false ∧ f0.slot = 0 ∧ U.vm.fieldReady c 20 c f1 ∧ f1.isStatic = false ∧ f1.slot = 1 ∧ U.vm.fieldReady c 22 c f2 ∧ f2.isStatic = false ∧ f2.slot = 2 := by
  obtain ⟨m, kd, cf, i0, p0, lk, hm, hkd, hcf, hsh, hfind, hmade, hcall, hl⟩ := h
  obtain ⟨kd', hkd', hname⟩ := className_of_methodNamed hm
  cases hkd.symm.trans hkd'
  cases hx : LW15.code with
  | none => exact absurd lf15_c (by rw [hx]; exact fun z => by cases z)
  | some x =>
  have fc := lf15_c
  rw [hx] at fc
  simp only [Option.map_some, Option.some.injEq, Prod.mk.injEq] at fc
  have ff := lf15_f
  simp only [Prod.mk.injEq] at ff
  obtain ⟨k, tk, methk, ck, toy, iface, t, found, hk, hkind, hty, hmk, hck, hcc, hml, hfl, hsig, htoy, htk, hitf, hlook, hif, hfo, hsel, ⟨file, hfile, hpool⟩, hres, hfields⟩ := made_gen hkd hname hmade hO lf15_1 lf15_2 lf15_3 hx
  have hkn : k.name = "AcousticCamera$$Lambda" := by
    obtain ⟨dk', k', ok, tk', file', cf', object, iface', t', lay, methods, target, found', hd', hk', -, -, -, -, -, -, -, -, -, -, -, hrec, -⟩ := Lambda.isMade_spec hmade
    cases hkd.symm.trans hd'
    cases hk.symm.trans hk'
    rw [hrec.1, hname]
    rfl
  obtain ⟨g0, hg0, hp0⟩ := Option.map_eq_some_iff.mp lf15_F0.2.2.2
  simp only [Prod.mk.injEq] at hp0
  obtain ⟨g1, hg1, hp1⟩ := Option.map_eq_some_iff.mp lf15_F1.2.2.2
  simp only [Prod.mk.injEq] at hp1
  obtain ⟨g2, hg2, hp2⟩ := Option.map_eq_some_iff.mp lf15_F2.2.2.2
  simp only [Prod.mk.injEq] at hp2
  have e1 : SH15.implItf = false := rfl
  rw [e1] at hitf
  have hds : SH15.implDesc.toString = "(LAcousticCamera$State;III)J" := by decide +kernel
  rw [hds] at hlook
  have hready : U.vm.methodReady c 30 t := ⟨k, hk, hres 30 _ (Lambda.resolvedOf_method lf15_M.1 lf15_M.2.1 htoy htk lf15_M.2.2 hlook)⟩
  have hcr : U.vm.classReady c 26 toy := ⟨k, hk, hres 26 _ (Lambda.resolvedOf_class lf15_C.1 lf15_C.2.2 lf15_C.2.1 htoy)⟩
  refine ⟨k, tk, methk, ck, toy, iface, t, found, file, g0, g1, g2, hk, hkind, hty.trans lf15_t, State.plainMethod.of_name (fun k' hk' => by cases hk.symm.trans hk'; rw [hkn]; decide), hmk, hck, hcc.trans (ByteArray.ext fc.1), hml.trans fc.2, ?_, hfl.trans ff.1, by rw [hsig]; exact ff.2, htoy, htk, hitf, hlook, hif, hfo, hsel, hfile, by rw [hpool]; exact lf15_M.1, by rw [hpool]; exact lf15_M.2.2, hcr, hready, ⟨k, 0, k, hk, hres 18 _ (Lambda.resolvedOf_field lf15_F0.1 lf15_F0.2.1 lf15_F0.2.2.1), hk, hfields 0 _ hg0⟩, hp0.1, hp0.2, ⟨k, 1, k, hk, hres 20 _ (Lambda.resolvedOf_field lf15_F1.1 lf15_F1.2.1 lf15_F1.2.2.1), hk, hfields 1 _ hg1⟩, hp1.1, hp1.2, ⟨k, 2, k, hk, hres 22 _ (Lambda.resolvedOf_field lf15_F2.1 lf15_F2.2.1 lf15_F2.2.2.1), hk, hfields 2 _ hg2⟩, hp2.1, hp2.2⟩
  simp [Method.locks, Method.isSynchronized, hfl, ff.1, hasFlag, Acc.synchronized]
set_option maxHeartbeats 2000000 in
theorem vv_lam15 {K : C_} {y : MethodName} {cc : ByteArray} {nL : Nat} {ret : Option FieldType} {rm : Room} {D : DD} {A : Nat → Prop} {H : Heap} {cells slots : Nat} {Q : State → Prop} {pc : Nat} {lv : List (Nat × Value)} {st stk : List Value} {idx cnt a : Nat} {v0 : Nat} {v1 : Int32} {v2 : Int32} {i : Int32} {rm2 : Room} {P : Heap → Prop} {A2 : Nat → Prop} {Q2 : Option Value → Heap → Heap → Prop} (X : Fx K y cc nL ret rm D) (hM : Ct (kL K) yX1_lambda_bestLag_7 cX1_lambda_bestLag_7 4 (some FieldType.long) rm2 D [.ref v0, .int v1, .int v2, .int i] P A2 Q2) (hLO : LO D H a 15 [.ref v0, .int v1, .int v2]) (q1 : Cond.methodLink y.cls idx ⟨"AcousticCamera$Score", "of", "(I)J"⟩ ∈ lw_all) (hR : rm2.frames + 2 ≤ rm.frames ∧ 44 + rm2.locals ≤ rm.locals) (d : decode cc pc = .ok (.invokeinterface idx cnt, 5)) (hstk : stk = .int i :: .ref a :: st) (hw : (st.map fun v => v.category).sum ≤ 8) (hP : P H) (hA : ∀ q, A2 q → kF K A q) (hc : cells + rm2.cells ≤ rm.cells ∧ slots + rm2.slots ≤ rm.slots) (hQ : ∀ v H H1, Q2 v H H1 → ∃ r : Int64, v = some (.long r))
    (kk : ∀ (v : Option Value) (H1 : Heap), Q2 v H H1 → H.size ≤ H1.size → (∀ q : Nat, q < H.size → ¬ A2 q → H1[q]? = H[q]?) → V K nL A H1 (cells + rm2.cells) (slots + rm2.slots) Q (pc + 5) lv (v.toList ++ st)) : V K nL A H cells slots Q pc lv stk := by
  subst hstk
  refine vv_after5 (mc := rm2.cells) (ms := rm2.slots) (as := [.ref v0, .int v1, .int v2, .int i].toArray) (A2 := A2) (Q2 := Q2) (st := st) (fun L ls h0 T hT XX => ?_) hA kk
  have hmem : (⟨"AcousticCamera$Score", "of", "(I)J"⟩ : MethodName) ∈ IFL := by decide +kernel
  have hIF := X.ge.2.2.2.2.2.1 _ hmem
  have hLS := X.ge.2.2.2.1 15 _ rfl
  obtain ⟨r0, r, hn, hrm, hstR, hsigR⟩ := Cond.declares_spec (va_any (A' := kA K) rfl hIF.1)
  obtain ⟨cL, kL', r1, hcL, hkL, hiL, hfoundL, hn1⟩ := Cond.interfaceMethod_spec (va_any (A' := kA K) rfl hIF.2)
  cases hn.symm.trans hn1
  have hr0cls : r0.cls = cL := Option.some.inj ((findClass_of_methodNamed hn).symm.trans hcL)
  obtain ⟨hnameR, hdescR⟩ := name_of_methodNamed hn hrm
  obtain ⟨k, tk, methk, ck, toy, iface, t, found, file, f0, f1, f2, hk, hkind, hty, hpl, hmk, hck, hcc, hml, hlk, hfl, hretk, htoy, htk, hitf, hlook, hif, hfo, hsel, hfile, hcp, hnt, hcr, hready, hf0, hfs0, hfn0, hf1, hfs1, hfn1, hf2, hfs2, hfn2⟩ := lam_site15 hLS X.ge.2.2.1
  obtain ⟨-, -, -, -, -, -, -, -, -, -, -, -, hcall, -⟩ := hLS
  obtain ⟨i2, hi2, hasg, hway⟩ := State.lambdaCallable_spec hcall
  have e1 : SH15.iface = "AcousticCamera$Score" := rfl
  have e2 : SH15.sam.toString = "(I)J" := by decide +kernel
  have e3 : SH15.name = "of" := rfl
  rw [e1] at hi2
  rw [e2, e3] at hway
  rw [e2] at hfo
  cases hcL.symm.trans hi2
  cases hcL.symm.trans hif
  have hfr : found = r0 := by
    have h1 : (kS K).methodFound? "AcousticCamera$Score" "of" "(I)J" = some r0 := hfoundL
    simp only [State.methodFound?, hcL, hkL, hiL, Option.bind_eq_bind, Option.bind_some] at h1
    rw [hfo] at h1
    exact Option.some.inj h1
  subst hfr
  have hselP : selectMethod (kE K).platform (kS K).vm (D.2.1 115) found = .method ⟨D.2.1 115, 1⟩ := by rw [Launch.admits_selectMethod XX.admits]; exact hsel
  obtain ⟨vm₁, X₁, hstep₁⟩ := XX.invokeinterface X.exec X.own (X.words _ q1) hn hrm hstR (by rw [hr0cls]; exact hkL) hiL (by decide) (a := a) (cell := { cls := D.2.1 115, slots := [.ref v0, .int v1, .int v2].toArray, vm := .none }) (kcell := k) (by rw [hT]; exact hLO) (fun z h => by cases h) hk (by rw [hr0cls]; exact hasg) hselP hmk (by rw [hnameR, hdescR]; exact hway) (by rw [hfl]; decide) (by simp [Method.isAbstract, hfl, hasFlag, Acc.abstract]) (g := F0 (kM K) pc ls (.int i :: .ref a :: st)) rfl (argsL := [.int i]) (rest := st) (by
      have h9 := hsigR
      rw [show parseMethodDescriptor "(I)J" = some ⟨[.int], some FieldType.long⟩ from by decide +kernel] at h9
      rw [← Option.some.inj h9]
      rfl) rfl (by rw [X.code]; exact d)
  have hLS1 : LSt _ (D.2.1 115) (D.2.2 615) (T.setVm vm₁) := (X.ge.2.2.2.1 15 _ rfl).warm X₁.warmed
  have hO1 : ObN (T.setVm vm₁) := X.ge.2.2.1.moved X₁.warmed.alike
  clear hk hkind hty hpl hmk hck hcc hml hlk hfl hretk htoy htk hitf hlook hif hfo hsel hfile hcp hnt hcr hready hselP hf0 hfs0 hfn0 hf1 hfs1 hfn1 hf2 hfs2 hfn2
  obtain ⟨k, tk, methk, ck, toy, iface, t, found2, file, f0, f1, f2, hk, hkind, hty, hpl, hmk, hck, hcc, hml, hlk, hfl, hretk, htoy, htk, hitf, hlook, hif, hfo, hsel, hfile, hcp, hnt, hcr, hready, hf0, hfs0, hfn0, hf1, hfs1, hfn1, hf2, hfs2, hfn2⟩ := lam_site15 hLS1 hO1
  have hwd : ∀ w ∈ lw_all, ∀ (a' : Array Value) (U : State), (T.setVm vm₁).WarmedH U.vm → w.before a' U = true := fun w hw a' U hW => pay_in X.words lw_self w hw a' U (State.WarmedH.trans X₁.warmed hW)
  have hwT : ∀ w ∈ lw_all, w.before #[] (T.setVm vm₁) = true := fun w hw => hwd w hw _ _ (State.WarmedH.refl _)
  obtain ⟨tkS, methB, hpr, htkS, hmB, hsp, hsB, hiB, hlB, hnB⟩ := lam_static (e := kE K) (n := 4) (y := yX1_lambda_bestLag_7) (sig := SH15.implDesc) hk hfile hcp hnt hready hcr htoy htk hlook (by decide) (hwT _ q2565) (hwT _ q2564) (hwT _ q137) (by decide +kernel) rfl
  have hheap1 : (T.setVm vm₁).heap = H := hT
  obtain ⟨v, st₀, t9, T', L9, h1, X9, hL9, hth, htv, hq9, hstep⟩ := lam_runl (As := [.ref v0, .int v1, .int v2, .int i]) (a := a) (i := i) (P := 13) X₁ X.exec (g := F0 (kM K) pc ls st) rfl (by rw [X.maxL]; exact h0.1) (by rw [X.code]; exact d) hmk hck hml hlk hpl hretk (hM H.size) PcT_blind rfl rfl (by rw [X.room]; exact hR.1) (by rw [X.room]; show 2 * 0 + (st.map fun v => v.category).sum + 13 + _ ≤ _; omega) (fun w hw a' U hW => (lw_meth q2565 w hw).1 |> fun h => hwd w h a' U hW) List.mem_cons_self (fun a' U hW => hwd _ q137 a' U hW) hnB (by rw [X.room]; exact hc.1) (by rw [X.room]; exact hc.2) (fun U hU hW => ⟨rfl, by rw [hU, hheap1], by rw [hU, hheap1]; exact hP, X.gk.warm (State.WarmedH.trans X₁.warmed hW)⟩)
    (fun R' s' args' U Y hvm hheap hnm target hrest => by
      have hs : U.topJava?.isSome := Y.here.top
      have hcl : U.heap[a]? = some { cls := D.2.1 115, slots := [.ref v0, .int v1, .int v2].toArray, vm := .none } := by rw [hheap, hheap1]; exact hLO
      jvm_step Y.here [X.exec, hcc, dl15_0, Value.isRef]
      jvm_step Y.here [X.exec, hcc, dl15_1, getfield.wp_ready (e := kE K) (s := U) (c := D.2.1 115) (field := f0) (a := a) (rest := []) (cell := { cls := D.2.1 115, slots := [.ref v0, .int v1, .int v2].toArray, vm := .none }) (v := .ref v0) (f := frL (D.2.1 115) 1 a i [.ref a]) hs (by rw [hvm]; exact hf0) hfs0 rfl hcl (fun z => by cases z) (by rw [hfn0]; rfl)]
      jvm_step Y.here [X.exec, hcc, dl15_4, Value.isRef]
      jvm_step Y.here [X.exec, hcc, dl15_5, getfield.wp_ready (e := kE K) (s := U) (c := D.2.1 115) (field := f1) (a := a) (rest := [.ref v0]) (cell := { cls := D.2.1 115, slots := [.ref v0, .int v1, .int v2].toArray, vm := .none }) (v := .int v1) (f := frL (D.2.1 115) 5 a i [.ref a, .ref v0]) hs (by rw [hvm]; exact hf1) hfs1 rfl hcl (fun z => by cases z) (by rw [hfn1]; rfl)]
      jvm_step Y.here [X.exec, hcc, dl15_8, Value.isRef]
      jvm_step Y.here [X.exec, hcc, dl15_9, getfield.wp_ready (e := kE K) (s := U) (c := D.2.1 115) (field := f2) (a := a) (rest := [.int v1, .ref v0]) (cell := { cls := D.2.1 115, slots := [.ref v0, .int v1, .int v2].toArray, vm := .none }) (v := .int v2) (f := frL (D.2.1 115) 9 a i [.ref a, .int v1, .ref v0]) hs (by rw [hvm]; exact hf2) hfs2 rfl hcl (fun z => by cases z) (by rw [hfn2]; rfl)]
      jvm_step Y.here [X.exec, hcc, dl15_12]
      jvm_step Y.here [X.exec, hcc, dl15_13, invokestatic.wp_ready (e := kE K) (s := U) (m := t) (k := tkS) (meth := methB) (args := [.ref v0, .int v1, .int v2, .int i]) (rest := []) (f := frL (D.2.1 115) 13 a i [.int i, .int v2, .int v1, .ref v0]) hs (by unfold plainRef at hpr ⊢; rw [hvm]; exact hpr) (by rw [hvm]; exact hready) (by rw [hvm]; exact htkS) (by rw [hvm]; exact hmB) hsp hsB hiB hlB rfl]
      intro acts'
      exact hrest acts')
    (by rw [hcc]; exact dl15_13) (by rw [hcc]; exact dl15_16) (fun st o t h => by
      obtain ⟨v, rfl, hq, -⟩ := h
      obtain ⟨r, rfl⟩ := hQ _ _ _ hq
      exact ⟨r, rfl⟩)
  refine ⟨v, st₀, t9, T', L9, h1.trans hheap1, X9, hL9, hth, htv, hq9, fun target htg => ?_⟩
  exact hstep₁ _ fun acts => (hstep acts).trans htg
def LD16 : ClassFile := (SH16.file "AcousticCamera").getD { minorVersion := 0, majorVersion := 0, constantPool := #[], accessFlags := 0, thisClass := 0, superClass := 0, interfaces := #[], fields := #[], methods := #[], attributes := #[] }
def LW16 : Method := ((layoutMethods LD16).bind (·[1]?)).getD default
def LL16 : Array Field × Array FieldType × Array FieldType := (layoutFields LD16 0).getD (#[], #[], #[])
def LB16 : ByteArray := ⟨#[0x1b, 0xb8, 0x00, 0x11, 0xac]⟩
theorem lf16_1 : SH16.file "AcousticCamera" = some LD16 := by
  have h : (SH16.file "AcousticCamera").isSome = true := by decide +kernel
  obtain ⟨x, hx⟩ := Option.isSome_iff_exists.mp h
  simp [LD16, hx]
theorem lf16_2 : ∀ ms, layoutMethods LD16 = some ms → ms[1]? = some LW16 := by
  intro ms hms
  have h : ((layoutMethods LD16).bind (·[1]?)).isSome = true := by decide +kernel
  obtain ⟨x, hx⟩ := Option.isSome_iff_exists.mp h
  have hf : LW16 = x := by simp [LW16, hx]
  rw [hms] at hx
  rw [hf]
  exact hx
theorem lf16_3 : layoutFields LD16 0 = some LL16 := by
  have h : (layoutFields LD16 0).isSome = true := by decide +kernel
  obtain ⟨x, hx⟩ := Option.isSome_iff_exists.mp h
  simp [LL16, hx]
theorem lf16_c : (LW16.code.map fun c => (c.code.data, c.maxLocals)) = some (LB16.data, 2) := by decide +kernel
theorem lf16_f : (LW16.accessFlags, LW16.sig.returnType) = (0x0001, some FieldType.boolean) := by decide +kernel
theorem lf16_t : LL16.2.1 = #[] := by decide +kernel
theorem lf16_M : LD16.constantPool[17]? = some (.methodref 14 16) ∧ LD16.constantPool.className? 14 = some "AcousticCamera" ∧ LD16.constantPool.nameAndType? 16 = some ("lambda$loudest$8", "(I)Z") := by decide +kernel
theorem lf16_C : LD16.constantPool[14]? = some (.class_ 13) ∧ LD16.constantPool.string? 13 = some "AcousticCamera" ∧ 14 ≠ LD16.thisClass := by decide +kernel
theorem dl16_0 : decode LB16 0 = .ok (.iload_n 1, 1) := by decide +kernel
theorem dl16_1 : decode LB16 1 = .ok (.invokestatic 17, 3) := by decide +kernel
theorem dl16_4 : decode LB16 4 = .ok (.ireturn, 1) := by decide +kernel
theorem lam_site16 {U : State} {c : ClassId} {one : Nat} (h : LSt (({ cls := "AcousticCamera", name := "loudest", desc := "(I)I" } : MethodName), 11, 391, SH16) c one U) (hO : ObN U) : ∃ (k tk : Class) (methk : Method) (ck : Code) (toy iface : ClassId) (t found : MethodId) (file : ClassFile), U.vm.classes[c]? = some k ∧ k.kind = .ordinary ∧ k.instanceTypes = #[] ∧ U.plainMethod ⟨c, 1⟩ ∧ U.vm.method? ⟨c, 1⟩ = some methk ∧ methk.code = some ck ∧ ck.code = LB16 ∧ ck.maxLocals = 2 ∧ methk.locks = false ∧ methk.accessFlags = 1 ∧ methk.sig.returnType = some FieldType.boolean ∧ U.vm.findClass "AcousticCamera" = some toy ∧ U.vm.classes[toy]? = some tk ∧ tk.isInterface = false ∧ ((methodIn toy "lambda$loudest$8" "(I)Z" tk.isInterface none).ask { classPath := fun _ => none } U.vm).1 = .ok t ∧ U.vm.findClass "AcousticCamera$Choice" = some iface ∧ ((methodIn iface "takes" SH16.sam.toString true none).ask { classPath := fun _ => none } U.vm).1 = .ok found ∧ selectMethod {} U.vm c found = .method ⟨c, 1⟩ ∧ k.cf = some file ∧ file.constantPool[17]? = some (.methodref 14 16) ∧ file.constantPool.nameAndType? 16 = some ("lambda$loudest$8", "(I)Z") ∧ U.vm.classReady c 14 toy ∧ U.vm.methodReady c 17 t := by
  obtain ⟨m, kd, cf, i0, p0, lk, hm, hkd, hcf, hsh, hfind, hmade, hcall, hl⟩ := h
  obtain ⟨kd', hkd', hname⟩ := className_of_methodNamed hm
  cases hkd.symm.trans hkd'
  cases hx : LW16.code with
  | none => exact absurd lf16_c (by rw [hx]; exact fun z => by cases z)
  | some x =>
  have fc := lf16_c
  rw [hx] at fc
  simp only [Option.map_some, Option.some.injEq, Prod.mk.injEq] at fc
  have ff := lf16_f
  simp only [Prod.mk.injEq] at ff
  obtain ⟨k, tk, methk, ck, toy, iface, t, found, hk, hkind, hty, hmk, hck, hcc, hml, hfl, hsig, htoy, htk, hitf, hlook, hif, hfo, hsel, ⟨file, hfile, hpool⟩, hres, hfields⟩ := made_gen hkd hname hmade hO lf16_1 lf16_2 lf16_3 hx
  have hkn : k.name = "AcousticCamera$$Lambda" := by
    obtain ⟨dk', k', ok, tk', file', cf', object, iface', t', lay, methods, target, found', hd', hk', -, -, -, -, -, -, -, -, -, -, -, hrec, -⟩ := Lambda.isMade_spec hmade
    cases hkd.symm.trans hd'
    cases hk.symm.trans hk'
    rw [hrec.1, hname]
    rfl
  have e1 : SH16.implItf = false := rfl
  rw [e1] at hitf
  have hds : SH16.implDesc.toString = "(I)Z" := by decide +kernel
  rw [hds] at hlook
  have hready : U.vm.methodReady c 17 t := ⟨k, hk, hres 17 _ (Lambda.resolvedOf_method lf16_M.1 lf16_M.2.1 htoy htk lf16_M.2.2 hlook)⟩
  have hcr : U.vm.classReady c 14 toy := ⟨k, hk, hres 14 _ (Lambda.resolvedOf_class lf16_C.1 lf16_C.2.2 lf16_C.2.1 htoy)⟩
  refine ⟨k, tk, methk, ck, toy, iface, t, found, file, hk, hkind, hty.trans lf16_t, State.plainMethod.of_name (fun k' hk' => by cases hk.symm.trans hk'; rw [hkn]; decide), hmk, hck, hcc.trans (ByteArray.ext fc.1), hml.trans fc.2, ?_, hfl.trans ff.1, by rw [hsig]; exact ff.2, htoy, htk, hitf, hlook, hif, hfo, hsel, hfile, by rw [hpool]; exact lf16_M.1, by rw [hpool]; exact lf16_M.2.2, hcr, hready⟩
  simp [Method.locks, Method.isSynchronized, hfl, ff.1, hasFlag, Acc.synchronized]
set_option maxHeartbeats 2000000 in
theorem vv_lam16 {K : C_} {y : MethodName} {cc : ByteArray} {nL : Nat} {ret : Option FieldType} {rm : Room} {D : DD} {A : Nat → Prop} {H : Heap} {cells slots : Nat} {Q : State → Prop} {pc : Nat} {lv : List (Nat × Value)} {st stk : List Value} {idx cnt a : Nat}  {i : Int32} {rm2 : Room} {P : Heap → Prop} {A2 : Nat → Prop} {Q2 : Option Value → Heap → Heap → Prop} (X : Fx K y cc nL ret rm D) (hM : Ct (kL K) yX1_lambda_loudest_8 cX1_lambda_loudest_8 1 (some FieldType.boolean) rm2 D [.int i] P A2 Q2) (hLO : LO D H a 16 []) (q1 : Cond.methodLink y.cls idx ⟨"AcousticCamera$Choice", "takes", "(I)Z"⟩ ∈ lw_all) (hR : rm2.frames + 2 ≤ rm.frames ∧ 41 + rm2.locals ≤ rm.locals) (d : decode cc pc = .ok (.invokeinterface idx cnt, 5)) (hstk : stk = .int i :: .ref a :: st) (hw : (st.map fun v => v.category).sum ≤ 8) (hP : P H) (hA : ∀ q, A2 q → kF K A q) (hc : cells + rm2.cells ≤ rm.cells ∧ slots + rm2.slots ≤ rm.slots) (hQ : ∀ v H H1, Q2 v H H1 → ∃ r : Int32, v = some (.int r) ∧ narrow FieldType.boolean (.int r) = .int r)
    (kk : ∀ (v : Option Value) (H1 : Heap), Q2 v H H1 → H.size ≤ H1.size → (∀ q : Nat, q < H.size → ¬ A2 q → H1[q]? = H[q]?) → V K nL A H1 (cells + rm2.cells) (slots + rm2.slots) Q (pc + 5) lv (v.toList ++ st)) : V K nL A H cells slots Q pc lv stk := by
  subst hstk
  refine vv_after5 (mc := rm2.cells) (ms := rm2.slots) (as := [.int i].toArray) (A2 := A2) (Q2 := Q2) (st := st) (fun L ls h0 T hT XX => ?_) hA kk
  have hmem : (⟨"AcousticCamera$Choice", "takes", "(I)Z"⟩ : MethodName) ∈ IFL := by decide +kernel
  have hIF := X.ge.2.2.2.2.2.1 _ hmem
  have hLS := X.ge.2.2.2.1 16 _ rfl
  obtain ⟨r0, r, hn, hrm, hstR, hsigR⟩ := Cond.declares_spec (va_any (A' := kA K) rfl hIF.1)
  obtain ⟨cL, kL', r1, hcL, hkL, hiL, hfoundL, hn1⟩ := Cond.interfaceMethod_spec (va_any (A' := kA K) rfl hIF.2)
  cases hn.symm.trans hn1
  have hr0cls : r0.cls = cL := Option.some.inj ((findClass_of_methodNamed hn).symm.trans hcL)
  obtain ⟨hnameR, hdescR⟩ := name_of_methodNamed hn hrm
  obtain ⟨k, tk, methk, ck, toy, iface, t, found, file, hk, hkind, hty, hpl, hmk, hck, hcc, hml, hlk, hfl, hretk, htoy, htk, hitf, hlook, hif, hfo, hsel, hfile, hcp, hnt, hcr, hready⟩ := lam_site16 hLS X.ge.2.2.1
  obtain ⟨-, -, -, -, -, -, -, -, -, -, -, -, hcall, -⟩ := hLS
  obtain ⟨i2, hi2, hasg, hway⟩ := State.lambdaCallable_spec hcall
  have e1 : SH16.iface = "AcousticCamera$Choice" := rfl
  have e2 : SH16.sam.toString = "(I)Z" := by decide +kernel
  have e3 : SH16.name = "takes" := rfl
  rw [e1] at hi2
  rw [e2, e3] at hway
  rw [e2] at hfo
  cases hcL.symm.trans hi2
  cases hcL.symm.trans hif
  have hfr : found = r0 := by
    have h1 : (kS K).methodFound? "AcousticCamera$Choice" "takes" "(I)Z" = some r0 := hfoundL
    simp only [State.methodFound?, hcL, hkL, hiL, Option.bind_eq_bind, Option.bind_some] at h1
    rw [hfo] at h1
    exact Option.some.inj h1
  subst hfr
  have hselP : selectMethod (kE K).platform (kS K).vm (D.2.1 116) found = .method ⟨D.2.1 116, 1⟩ := by rw [Launch.admits_selectMethod XX.admits]; exact hsel
  obtain ⟨vm₁, X₁, hstep₁⟩ := XX.invokeinterface X.exec X.own (X.words _ q1) hn hrm hstR (by rw [hr0cls]; exact hkL) hiL (by decide) (a := a) (cell := { cls := D.2.1 116, slots := [].toArray, vm := .none }) (kcell := k) (by rw [hT]; exact hLO) (fun z h => by cases h) hk (by rw [hr0cls]; exact hasg) hselP hmk (by rw [hnameR, hdescR]; exact hway) (by rw [hfl]; decide) (by simp [Method.isAbstract, hfl, hasFlag, Acc.abstract]) (g := F0 (kM K) pc ls (.int i :: .ref a :: st)) rfl (argsL := [.int i]) (rest := st) (by
      have h9 := hsigR
      rw [show parseMethodDescriptor "(I)Z" = some ⟨[.int], some FieldType.boolean⟩ from by decide +kernel] at h9
      rw [← Option.some.inj h9]
      rfl) rfl (by rw [X.code]; exact d)
  have hLS1 : LSt _ (D.2.1 116) (D.2.2 616) (T.setVm vm₁) := (X.ge.2.2.2.1 16 _ rfl).warm X₁.warmed
  have hO1 : ObN (T.setVm vm₁) := X.ge.2.2.1.moved X₁.warmed.alike
  clear hk hkind hty hpl hmk hck hcc hml hlk hfl hretk htoy htk hitf hlook hif hfo hsel hfile hcp hnt hcr hready hselP
  obtain ⟨k, tk, methk, ck, toy, iface, t, found2, file, hk, hkind, hty, hpl, hmk, hck, hcc, hml, hlk, hfl, hretk, htoy, htk, hitf, hlook, hif, hfo, hsel, hfile, hcp, hnt, hcr, hready⟩ := lam_site16 hLS1 hO1
  have hwd : ∀ w ∈ lw_all, ∀ (a' : Array Value) (U : State), (T.setVm vm₁).WarmedH U.vm → w.before a' U = true := fun w hw a' U hW => pay_in X.words lw_self w hw a' U (State.WarmedH.trans X₁.warmed hW)
  have hwT : ∀ w ∈ lw_all, w.before #[] (T.setVm vm₁) = true := fun w hw => hwd w hw _ _ (State.WarmedH.refl _)
  obtain ⟨tkS, methB, hpr, htkS, hmB, hsp, hsB, hiB, hlB, hnB⟩ := lam_static (e := kE K) (n := 1) (y := yX1_lambda_loudest_8) (sig := SH16.implDesc) hk hfile hcp hnt hready hcr htoy htk hlook (by decide) (hwT _ q2585) (hwT _ q2584) (hwT _ q137) (by decide +kernel) rfl
  have hheap1 : (T.setVm vm₁).heap = H := hT
  obtain ⟨v, st₀, t9, T', L9, h1, X9, hL9, hth, htv, hq9, hstep⟩ := lam_runi (As := [.int i]) (a := a) (i := i) (P := 1) X₁ X.exec (g := F0 (kM K) pc ls st) rfl (by rw [X.maxL]; exact h0.1) (by rw [X.code]; exact d) hmk hck hml hlk hpl hretk (hM H.size) PcT_blind rfl rfl (by rw [X.room]; exact hR.1) (by rw [X.room]; show 2 * 0 + (st.map fun v => v.category).sum + 13 + _ ≤ _; omega) (fun w hw a' U hW => (lw_meth q2585 w hw).1 |> fun h => hwd w h a' U hW) List.mem_cons_self (fun a' U hW => hwd _ q137 a' U hW) hnB (by rw [X.room]; exact hc.1) (by rw [X.room]; exact hc.2) (fun U hU hW => ⟨rfl, by rw [hU, hheap1], by rw [hU, hheap1]; exact hP, X.gk.warm (State.WarmedH.trans X₁.warmed hW)⟩)
    (fun R' s' args' U Y hvm hheap hnm target hrest => by
      have hs : U.topJava?.isSome := Y.here.top
      have hcl : U.heap[a]? = some { cls := D.2.1 116, slots := [].toArray, vm := .none } := by rw [hheap, hheap1]; exact hLO
      jvm_step Y.here [X.exec, hcc, dl16_0]
      jvm_step Y.here [X.exec, hcc, dl16_1, invokestatic.wp_ready (e := kE K) (s := U) (m := t) (k := tkS) (meth := methB) (args := [.int i]) (rest := []) (f := frL (D.2.1 116) 1 a i [.int i]) hs (by unfold plainRef at hpr ⊢; rw [hvm]; exact hpr) (by rw [hvm]; exact hready) (by rw [hvm]; exact htkS) (by rw [hvm]; exact hmB) hsp hsB hiB hlB rfl]
      intro acts'
      exact hrest acts')
    (by rw [hcc]; exact dl16_1) (by rw [hcc]; exact dl16_4) (fun st o t h => by
      obtain ⟨v, rfl, hq, -⟩ := h
      obtain ⟨r, rfl, hn⟩ := hQ _ _ _ hq
      exact ⟨r, rfl, hn⟩)
  refine ⟨v, st₀, t9, T', L9, h1.trans hheap1, X9, hL9, hth, htv, hq9, fun target htg => ?_⟩
  exact hstep₁ _ fun acts => (hstep acts).trans htg
def LD17 : ClassFile := (SH17.file "AcousticCamera").getD { minorVersion := 0, majorVersion := 0, constantPool := #[], accessFlags := 0, thisClass := 0, superClass := 0, interfaces := #[], fields := #[], methods := #[], attributes := #[] }
def LW17 : Method := ((layoutMethods LD17).bind (·[1]?)).getD default
def LL17 : Array Field × Array FieldType × Array FieldType := (layoutFields LD17 0).getD (#[], #[], #[])
def LB17 : ByteArray := ⟨#[0x2a, 0xb4, 0x00, 0x0f, 0x1b, 0xb8, 0x00, 0x17, 0xad]⟩
theorem lf17_1 : SH17.file "AcousticCamera" = some LD17 := by
  have h : (SH17.file "AcousticCamera").isSome = true := by decide +kernel
  obtain ⟨x, hx⟩ := Option.isSome_iff_exists.mp h
  simp [LD17, hx]
theorem lf17_2 : ∀ ms, layoutMethods LD17 = some ms → ms[1]? = some LW17 := by
  intro ms hms
  have h : ((layoutMethods LD17).bind (·[1]?)).isSome = true := by decide +kernel
  obtain ⟨x, hx⟩ := Option.isSome_iff_exists.mp h
  have hf : LW17 = x := by simp [LW17, hx]
  rw [hms] at hx
  rw [hf]
  exact hx
theorem lf17_3 : layoutFields LD17 0 = some LL17 := by
  have h : (layoutFields LD17 0).isSome = true := by decide +kernel
  obtain ⟨x, hx⟩ := Option.isSome_iff_exists.mp h
  simp [LL17, hx]
theorem lf17_c : (LW17.code.map fun c => (c.code.data, c.maxLocals)) = some (LB17.data, 2) := by decide +kernel
theorem lf17_f : (LW17.accessFlags, LW17.sig.returnType) = (0x0001, some FieldType.long) := by decide +kernel
theorem lf17_t : LL17.2.1 = #[(.object "AcousticCamera$State")] := by decide +kernel
theorem lf17_M : LD17.constantPool[23]? = some (.methodref 19 22) ∧ LD17.constantPool.className? 19 = some "AcousticCamera" ∧ LD17.constantPool.nameAndType? 22 = some ("lambda$loudest$9", "(LAcousticCamera$State;I)J") := by decide +kernel
theorem lf17_C : LD17.constantPool[19]? = some (.class_ 18) ∧ LD17.constantPool.string? 18 = some "AcousticCamera" ∧ 19 ≠ LD17.thisClass := by decide +kernel
theorem lf17_F0 : LD17.constantPool[15]? = some (.fieldref 2 14) ∧ LD17.constantPool.nameAndType? 14 = some ("arg$1", "LAcousticCamera$State;") ∧ LL17.1.findIdx? (·.name == "arg$1") = some 0 ∧ (LL17.1[0]?).map (fun f => (f.isStatic, f.slot)) = some (false, 0) := by decide +kernel
theorem dl17_0 : decode LB17 0 = .ok (.aload_n 0, 1) := by decide +kernel
theorem dl17_1 : decode LB17 1 = .ok (.getfield 15, 3) := by decide +kernel
theorem dl17_4 : decode LB17 4 = .ok (.iload_n 1, 1) := by decide +kernel
theorem dl17_5 : decode LB17 5 = .ok (.invokestatic 23, 3) := by decide +kernel
theorem dl17_8 : decode LB17 8 = .ok (.lreturn, 1) := by decide +kernel
theorem lam_site17 {U : State} {c : ClassId} {one : Nat} (h : LSt (({ cls := "AcousticCamera", name := "loudest", desc := "(I)I" } : MethodName), 17, 394, SH17) c one U) (hO : ObN U) : ∃ (k tk : Class) (methk : Method) (ck : Code) (toy iface : ClassId) (t found : MethodId) (file : ClassFile) (f0 : Field), U.vm.classes[c]? = some k ∧ k.kind = .ordinary ∧ k.instanceTypes = #[(.object "AcousticCamera$State")] ∧ U.plainMethod ⟨c, 1⟩ ∧ U.vm.method? ⟨c, 1⟩ = some methk ∧ methk.code = some ck ∧ ck.code = LB17 ∧ ck.maxLocals = 2 ∧ methk.locks = false ∧ methk.accessFlags = 1 ∧ methk.sig.returnType = some FieldType.long ∧ U.vm.findClass "AcousticCamera" = some toy ∧ U.vm.classes[toy]? = some tk ∧ tk.isInterface = false ∧ ((methodIn toy "lambda$loudest$9" "(LAcousticCamera$State;I)J" tk.isInterface none).ask { classPath := fun _ => none } U.vm).1 = .ok t ∧ U.vm.findClass "AcousticCamera$Score" = some iface ∧ ((methodIn iface "of" SH17.sam.toString true none).ask { classPath := fun _ => none } U.vm).1 = .ok found ∧ selectMethod {} U.vm c found = .method ⟨c, 1⟩ ∧ k.cf = some file ∧ file.constantPool[23]? = some (.methodref 19 22) ∧ file.constantPool.nameAndType? 22 = some ("lambda$loudest$9", "(LAcousticCamera$State;I)J") ∧ U.vm.classReady c 19 toy ∧ U.vm.methodReady c 23 t ∧ U.vm.fieldReady c 15 c f0 ∧ f0.isStatic = false ∧ f0.slot = 0 := by
  obtain ⟨m, kd, cf, i0, p0, lk, hm, hkd, hcf, hsh, hfind, hmade, hcall, hl⟩ := h
  obtain ⟨kd', hkd', hname⟩ := className_of_methodNamed hm
  cases hkd.symm.trans hkd'
  cases hx : LW17.code with
  | none => exact absurd lf17_c (by rw [hx]; exact fun z => by cases z)
  | some x =>
  have fc := lf17_c
  rw [hx] at fc
  simp only [Option.map_some, Option.some.injEq, Prod.mk.injEq] at fc
  have ff := lf17_f
  simp only [Prod.mk.injEq] at ff
  obtain ⟨k, tk, methk, ck, toy, iface, t, found, hk, hkind, hty, hmk, hck, hcc, hml, hfl, hsig, htoy, htk, hitf, hlook, hif, hfo, hsel, ⟨file, hfile, hpool⟩, hres, hfields⟩ := made_gen hkd hname hmade hO lf17_1 lf17_2 lf17_3 hx
  have hkn : k.name = "AcousticCamera$$Lambda" := by
    obtain ⟨dk', k', ok, tk', file', cf', object, iface', t', lay, methods, target, found', hd', hk', -, -, -, -, -, -, -, -, -, -, -, hrec, -⟩ := Lambda.isMade_spec hmade
    cases hkd.symm.trans hd'
    cases hk.symm.trans hk'
    rw [hrec.1, hname]
    rfl
  obtain ⟨g0, hg0, hp0⟩ := Option.map_eq_some_iff.mp lf17_F0.2.2.2
  simp only [Prod.mk.injEq] at hp0
  have e1 : SH17.implItf = false := rfl
  rw [e1] at hitf
  have hds : SH17.implDesc.toString = "(LAcousticCamera$State;I)J" := by decide +kernel
  rw [hds] at hlook
  have hready : U.vm.methodReady c 23 t := ⟨k, hk, hres 23 _ (Lambda.resolvedOf_method lf17_M.1 lf17_M.2.1 htoy htk lf17_M.2.2 hlook)⟩
  have hcr : U.vm.classReady c 19 toy := ⟨k, hk, hres 19 _ (Lambda.resolvedOf_class lf17_C.1 lf17_C.2.2 lf17_C.2.1 htoy)⟩
  refine ⟨k, tk, methk, ck, toy, iface, t, found, file, g0, hk, hkind, hty.trans lf17_t, State.plainMethod.of_name (fun k' hk' => by cases hk.symm.trans hk'; rw [hkn]; decide), hmk, hck, hcc.trans (ByteArray.ext fc.1), hml.trans fc.2, ?_, hfl.trans ff.1, by rw [hsig]; exact ff.2, htoy, htk, hitf, hlook, hif, hfo, hsel, hfile, by rw [hpool]; exact lf17_M.1, by rw [hpool]; exact lf17_M.2.2, hcr, hready, ⟨k, 0, k, hk, hres 15 _ (Lambda.resolvedOf_field lf17_F0.1 lf17_F0.2.1 lf17_F0.2.2.1), hk, hfields 0 _ hg0⟩, hp0.1, hp0.2⟩
  simp [Method.locks, Method.isSynchronized, hfl, ff.1, hasFlag, Acc.synchronized]
set_option maxHeartbeats 2000000 in
theorem vv_lam17 {K : C_} {y : MethodName} {cc : ByteArray} {nL : Nat} {ret : Option FieldType} {rm : Room} {D : DD} {A : Nat → Prop} {H : Heap} {cells slots : Nat} {Q : State → Prop} {pc : Nat} {lv : List (Nat × Value)} {st stk : List Value} {idx cnt a : Nat} {v0 : Nat} {i : Int32} {rm2 : Room} {P : Heap → Prop} {A2 : Nat → Prop} {Q2 : Option Value → Heap → Heap → Prop} (X : Fx K y cc nL ret rm D) (hM : Ct (kL K) yX1_lambda_loudest_9 cX1_lambda_loudest_9 2 (some FieldType.long) rm2 D [.ref v0, .int i] P A2 Q2) (hLO : LO D H a 17 [.ref v0]) (q1 : Cond.methodLink y.cls idx ⟨"AcousticCamera$Score", "of", "(I)J"⟩ ∈ lw_all) (hR : rm2.frames + 2 ≤ rm.frames ∧ 42 + rm2.locals ≤ rm.locals) (d : decode cc pc = .ok (.invokeinterface idx cnt, 5)) (hstk : stk = .int i :: .ref a :: st) (hw : (st.map fun v => v.category).sum ≤ 8) (hP : P H) (hA : ∀ q, A2 q → kF K A q) (hc : cells + rm2.cells ≤ rm.cells ∧ slots + rm2.slots ≤ rm.slots) (hQ : ∀ v H H1, Q2 v H H1 → ∃ r : Int64, v = some (.long r))
    (kk : ∀ (v : Option Value) (H1 : Heap), Q2 v H H1 → H.size ≤ H1.size → (∀ q : Nat, q < H.size → ¬ A2 q → H1[q]? = H[q]?) → V K nL A H1 (cells + rm2.cells) (slots + rm2.slots) Q (pc + 5) lv (v.toList ++ st)) : V K nL A H cells slots Q pc lv stk := by
  subst hstk
  refine vv_after5 (mc := rm2.cells) (ms := rm2.slots) (as := [.ref v0, .int i].toArray) (A2 := A2) (Q2 := Q2) (st := st) (fun L ls h0 T hT XX => ?_) hA kk
  have hmem : (⟨"AcousticCamera$Score", "of", "(I)J"⟩ : MethodName) ∈ IFL := by decide +kernel
  have hIF := X.ge.2.2.2.2.2.1 _ hmem
  have hLS := X.ge.2.2.2.1 17 _ rfl
  obtain ⟨r0, r, hn, hrm, hstR, hsigR⟩ := Cond.declares_spec (va_any (A' := kA K) rfl hIF.1)
  obtain ⟨cL, kL', r1, hcL, hkL, hiL, hfoundL, hn1⟩ := Cond.interfaceMethod_spec (va_any (A' := kA K) rfl hIF.2)
  cases hn.symm.trans hn1
  have hr0cls : r0.cls = cL := Option.some.inj ((findClass_of_methodNamed hn).symm.trans hcL)
  obtain ⟨hnameR, hdescR⟩ := name_of_methodNamed hn hrm
  obtain ⟨k, tk, methk, ck, toy, iface, t, found, file, f0, hk, hkind, hty, hpl, hmk, hck, hcc, hml, hlk, hfl, hretk, htoy, htk, hitf, hlook, hif, hfo, hsel, hfile, hcp, hnt, hcr, hready, hf0, hfs0, hfn0⟩ := lam_site17 hLS X.ge.2.2.1
  obtain ⟨-, -, -, -, -, -, -, -, -, -, -, -, hcall, -⟩ := hLS
  obtain ⟨i2, hi2, hasg, hway⟩ := State.lambdaCallable_spec hcall
  have e1 : SH17.iface = "AcousticCamera$Score" := rfl
  have e2 : SH17.sam.toString = "(I)J" := by decide +kernel
  have e3 : SH17.name = "of" := rfl
  rw [e1] at hi2
  rw [e2, e3] at hway
  rw [e2] at hfo
  cases hcL.symm.trans hi2
  cases hcL.symm.trans hif
  have hfr : found = r0 := by
    have h1 : (kS K).methodFound? "AcousticCamera$Score" "of" "(I)J" = some r0 := hfoundL
    simp only [State.methodFound?, hcL, hkL, hiL, Option.bind_eq_bind, Option.bind_some] at h1
    rw [hfo] at h1
    exact Option.some.inj h1
  subst hfr
  have hselP : selectMethod (kE K).platform (kS K).vm (D.2.1 117) found = .method ⟨D.2.1 117, 1⟩ := by rw [Launch.admits_selectMethod XX.admits]; exact hsel
  obtain ⟨vm₁, X₁, hstep₁⟩ := XX.invokeinterface X.exec X.own (X.words _ q1) hn hrm hstR (by rw [hr0cls]; exact hkL) hiL (by decide) (a := a) (cell := { cls := D.2.1 117, slots := [.ref v0].toArray, vm := .none }) (kcell := k) (by rw [hT]; exact hLO) (fun z h => by cases h) hk (by rw [hr0cls]; exact hasg) hselP hmk (by rw [hnameR, hdescR]; exact hway) (by rw [hfl]; decide) (by simp [Method.isAbstract, hfl, hasFlag, Acc.abstract]) (g := F0 (kM K) pc ls (.int i :: .ref a :: st)) rfl (argsL := [.int i]) (rest := st) (by
      have h9 := hsigR
      rw [show parseMethodDescriptor "(I)J" = some ⟨[.int], some FieldType.long⟩ from by decide +kernel] at h9
      rw [← Option.some.inj h9]
      rfl) rfl (by rw [X.code]; exact d)
  have hLS1 : LSt _ (D.2.1 117) (D.2.2 617) (T.setVm vm₁) := (X.ge.2.2.2.1 17 _ rfl).warm X₁.warmed
  have hO1 : ObN (T.setVm vm₁) := X.ge.2.2.1.moved X₁.warmed.alike
  clear hk hkind hty hpl hmk hck hcc hml hlk hfl hretk htoy htk hitf hlook hif hfo hsel hfile hcp hnt hcr hready hselP hf0 hfs0 hfn0
  obtain ⟨k, tk, methk, ck, toy, iface, t, found2, file, f0, hk, hkind, hty, hpl, hmk, hck, hcc, hml, hlk, hfl, hretk, htoy, htk, hitf, hlook, hif, hfo, hsel, hfile, hcp, hnt, hcr, hready, hf0, hfs0, hfn0⟩ := lam_site17 hLS1 hO1
  have hwd : ∀ w ∈ lw_all, ∀ (a' : Array Value) (U : State), (T.setVm vm₁).WarmedH U.vm → w.before a' U = true := fun w hw a' U hW => pay_in X.words lw_self w hw a' U (State.WarmedH.trans X₁.warmed hW)
  have hwT : ∀ w ∈ lw_all, w.before #[] (T.setVm vm₁) = true := fun w hw => hwd w hw _ _ (State.WarmedH.refl _)
  obtain ⟨tkS, methB, hpr, htkS, hmB, hsp, hsB, hiB, hlB, hnB⟩ := lam_static (e := kE K) (n := 2) (y := yX1_lambda_loudest_9) (sig := SH17.implDesc) hk hfile hcp hnt hready hcr htoy htk hlook (by decide) (hwT _ q2587) (hwT _ q2586) (hwT _ q137) (by decide +kernel) rfl
  have hheap1 : (T.setVm vm₁).heap = H := hT
  obtain ⟨v, st₀, t9, T', L9, h1, X9, hL9, hth, htv, hq9, hstep⟩ := lam_runl (As := [.ref v0, .int i]) (a := a) (i := i) (P := 5) X₁ X.exec (g := F0 (kM K) pc ls st) rfl (by rw [X.maxL]; exact h0.1) (by rw [X.code]; exact d) hmk hck hml hlk hpl hretk (hM H.size) PcT_blind rfl rfl (by rw [X.room]; exact hR.1) (by rw [X.room]; show 2 * 0 + (st.map fun v => v.category).sum + 13 + _ ≤ _; omega) (fun w hw a' U hW => (lw_meth q2587 w hw).1 |> fun h => hwd w h a' U hW) List.mem_cons_self (fun a' U hW => hwd _ q137 a' U hW) hnB (by rw [X.room]; exact hc.1) (by rw [X.room]; exact hc.2) (fun U hU hW => ⟨rfl, by rw [hU, hheap1], by rw [hU, hheap1]; exact hP, X.gk.warm (State.WarmedH.trans X₁.warmed hW)⟩)
    (fun R' s' args' U Y hvm hheap hnm target hrest => by
      have hs : U.topJava?.isSome := Y.here.top
      have hcl : U.heap[a]? = some { cls := D.2.1 117, slots := [.ref v0].toArray, vm := .none } := by rw [hheap, hheap1]; exact hLO
      jvm_step Y.here [X.exec, hcc, dl17_0, Value.isRef]
      jvm_step Y.here [X.exec, hcc, dl17_1, getfield.wp_ready (e := kE K) (s := U) (c := D.2.1 117) (field := f0) (a := a) (rest := []) (cell := { cls := D.2.1 117, slots := [.ref v0].toArray, vm := .none }) (v := .ref v0) (f := frL (D.2.1 117) 1 a i [.ref a]) hs (by rw [hvm]; exact hf0) hfs0 rfl hcl (fun z => by cases z) (by rw [hfn0]; rfl)]
      jvm_step Y.here [X.exec, hcc, dl17_4]
      jvm_step Y.here [X.exec, hcc, dl17_5, invokestatic.wp_ready (e := kE K) (s := U) (m := t) (k := tkS) (meth := methB) (args := [.ref v0, .int i]) (rest := []) (f := frL (D.2.1 117) 5 a i [.int i, .ref v0]) hs (by unfold plainRef at hpr ⊢; rw [hvm]; exact hpr) (by rw [hvm]; exact hready) (by rw [hvm]; exact htkS) (by rw [hvm]; exact hmB) hsp hsB hiB hlB rfl]
      intro acts'
      exact hrest acts')
    (by rw [hcc]; exact dl17_5) (by rw [hcc]; exact dl17_8) (fun st o t h => by
      obtain ⟨v, rfl, hq, -⟩ := h
      obtain ⟨r, rfl⟩ := hQ _ _ _ hq
      exact ⟨r, rfl⟩)
  refine ⟨v, st₀, t9, T', L9, h1.trans hheap1, X9, hL9, hth, htv, hq9, fun target htg => ?_⟩
  exact hstep₁ _ fun acts => (hstep acts).trans htg
