/-! the classes that lambda sites make; calls of their methods: printed by gen/mklam.py -/
set_option maxRecDepth 100000
theorem st_weaken {tb : Tables} {e : Env} {mid below : List Frame} {a b : State} (h : Steps tb e (mid ++ below) a b) : Steps tb e below a b := by
  obtain ⟨n, hn, w⟩ := h
  exact ⟨n, hn, fun k hk => (w k hk).weaken⟩
/-- what is known of a made class: out of Lambda.isMade_spec -/
theorem made_gen {vm : Vm} {d c : ClassId} {dk : Class} {sh : Lambda.Shape} {own : String} {cf0 : ClassFile} {fw : Method} {x : Code} {ld : Array Field × Array FieldType × Array FieldType} (hd : vm.classes[d]? = some dk) (hname : dk.name = own) (h : Lambda.isMade { classPath := fun _ => none } vm d sh c = true) (hO : ∀ o ok, vm.findClass "java/lang/Object" = some o → vm.classes[o]? = some ok → ok.instanceTypes = #[]) (f1 : sh.file own = some cf0) (f2 : ∀ ms, layoutMethods cf0 = some ms → ms[1]? = some fw) (f3 : layoutFields cf0 0 = some ld) (hx : fw.code = some x) :
    ∃ (k tk : Class) (methk : Method) (ck : Code) (toy iface : ClassId) (t found : MethodId),
      vm.classes[c]? = some k ∧ k.kind = .ordinary ∧ k.instanceTypes = ld.2.1 ∧ vm.method? ⟨c, 1⟩ = some methk ∧ methk.code = some ck ∧ ck.code = x.code ∧ ck.maxLocals = x.maxLocals ∧ methk.accessFlags = fw.accessFlags ∧ methk.sig = fw.sig ∧
      vm.findClass sh.implClass = some toy ∧ vm.classes[toy]? = some tk ∧ tk.isInterface = sh.implItf ∧ ((methodIn toy sh.implName sh.implDesc.toString tk.isInterface none).ask { classPath := fun _ => none } vm).1 = .ok t ∧
      vm.findClass sh.iface = some iface ∧ ((methodIn iface sh.name sh.sam.toString true none).ask { classPath := fun _ => none } vm).1 = .ok found ∧ selectMethod {} vm c found = .method ⟨c, 1⟩ ∧
      (∃ file : ClassFile, k.cf = some file ∧ file.constantPool = cf0.constantPool) ∧ (∀ (i : Nat) v, (Lambda.resolvedOf { classPath := fun _ => none } vm cf0 ld.1 c)[i]? = some (some v) → k.resolved[i]? = some (some v)) ∧ (∀ (i : Nat) a, ld.1[i]? = some a → k.fields[i]? = some a) := by
  obtain ⟨dk', k, ok, tk, file, cf, object, iface, toy, lay, methods, target, found, hd', hk, hfile, hcf, hobj, hif, hok, hlay, hms, ht, htk, hg, hfo, hrec, -, -, -, hitf, hpool, hmeth, hfields, hty, hres, hsel⟩ := Lambda.isMade_spec h
  cases hd.symm.trans hd'
  rw [hname, f1] at hcf
  cases hcf
  have hO' := hO object ok hobj hok
  rw [hO'] at hlay hty
  rw [show (#[] : Array FieldType).size = 0 from rfl, f3] at hlay
  cases hlay
  obtain ⟨b, hb, hsame⟩ := hmeth 1 fw (f2 methods hms)
  simp only [Lambda.sameMethod, Bool.and_eq_true, decide_eq_true_eq] at hsame
  obtain ⟨⟨hn, -, hsig, hfl⟩, hcode⟩ := hsame
  cases hbc : b.code with
  | none => simp [hx, hbc] at hcode
  | some y =>
    simp only [hx, hbc, Bool.and_eq_true, decide_eq_true_eq] at hcode
    refine ⟨k, tk, b, y, toy, iface, target, found, hk, hrec.2.1, by rw [hty.1]; simp, by simp [Vm.method?, hk, hb], hbc, hcode.1.1.1.1.2.2.symm, hcode.1.1.1.1.2.1.symm, hfl.symm, hsig.symm, ht, htk, hitf, hg, hif, hfo, hsel, ⟨file, hfile, hpool.2.1⟩, hres, hfields⟩
abbrev frL (c : ClassId) (pc : Nat) (a : Nat) (i : Int32) (st : List Value) : JFrame := { method := ⟨c, 1⟩, pc := pc, locals := #[.val (.ref a), .val (.int i)], stack := st, locked := none }
/-- a static target at a made class's entry -/
theorem lam_static {e : Env} {U : State} {cK mi ci nt n : Nat} {y : MethodName} {kK tk : Class} {file : ClassFile} {toy : ClassId} {t : MethodId} {bytes : ByteArray} {maxL : Nat} {ret : Option FieldType} {sig : MethodDescriptor} (hkK : U.vm.classes[cK]? = some kK) (hfile : kK.cf = some file) (hM : file.constantPool[mi]? = some (.methodref ci nt)) (hnt : file.constantPool.nameAndType? nt = some (y.name, y.desc))
    (hready : U.vm.methodReady cK mi t) (hclsR : U.vm.classReady cK ci toy) (htoy : U.vm.findClass y.cls = some toy) (htk : U.vm.classes[toy]? = some tk) (hlook : ((methodIn toy y.name y.desc tk.isInterface none).ask { classPath := fun _ => none } U.vm).1 = .ok t) (hy : y.cls ≠ "java/lang/invoke/MethodHandle" ∧ y.cls ≠ "java/lang/invoke/VarHandle")
    {A : Array Value} (hcode : (Cond.code y bytes maxL ret).before A U = true) (hst : (Cond.static y).before A U = true) (hini : (Cond.initialized y.cls).before A U = true) (hsig : parseMethodDescriptor y.desc = some sig) (hn : sig.parameters.length = n) :
    ∃ (tk : Class) (methB : Method), plainRef U e cK mi ∧ U.vm.classes[t.cls]? = some tk ∧ U.vm.method? t = some methB ∧ signaturePolymorphic tk methB = false ∧ methB.isStatic = true ∧ tk.init = .initialized ∧ n = methB.sig.parameters.length ∧ U.methodNamed? y = some t := by
  cases hnB : U.methodNamed? y with
  | none => simp [Cond.before, Cond.holds, Cond.value, hnB] at hcode
  | some mB =>
  obtain ⟨methB, cB, hmB, -, -, -, -, -, -, hsigB⟩ := Cond.code_spec hnB hcode
  have hstaticB : methB.isStatic = true := Cond.static_spec hnB hmB hst
  have hfT : U.vm.findClass y.cls = some mB.cls := findClass_of_methodNamed hnB
  cases htoy.symm.trans hfT
  have hinitK : tk.init = .initialized := Cond.initialized_spec hfT htk hini
  obtain ⟨kT', hkT', hnameT⟩ := className_of_methodNamed hnB
  cases htk.symm.trans hkT'
  have htB : t = mB := by
    have h1 : U.methodFound? y.cls y.name y.desc = some mB := State.methodFound?_of_named hnB hy
    simp only [State.methodFound?, hfT, htk, Option.bind_eq_bind, Option.bind_some] at h1
    rw [hlook] at h1
    exact Option.some.inj h1
  subst htB
  have hsp : ∀ z : Method, signaturePolymorphic tk z = false := fun z => by simp [signaturePolymorphic, hnameT, hy.1, hy.2]
  obtain ⟨b, hmem⟩ := memberRef_ask' (e := e) (vm := U.vm) (d := cK) (index := mi) hkK hfile (Or.inl hM) hnt
  exact ⟨tk, methB, ⟨ci, _, _, b, t.cls, tk, hmem, hclsR, htk, by simp [hsp]⟩, htk, hmB, hsp _, hstaticB, hinitK, by rw [← Option.some.inj (hsig.symm.trans hsigB)]; exact hn.symm, rfl⟩
/-- .. an instance method -/
theorem lam_virtual {l : Launch} {e : Env} (hadm : l.admits e) {U : State} {cK mi ci nt n : Nat} {y : MethodName} {kK tk : Class} {file : ClassFile} {cB : ClassId} {t : MethodId} {bytes : ByteArray} {maxL : Nat} {ret : Option FieldType} {sig : MethodDescriptor} (hkK : U.vm.classes[cK]? = some kK) (hfile : kK.cf = some file) (hM : file.constantPool[mi]? = some (.methodref ci nt))
    (hclsR : U.vm.classReady cK ci cB) (hcB : U.vm.findClass y.cls = some cB) (htk : U.vm.classes[cB]? = some tk) (hitf : tk.isInterface = false) (hlook : ((methodIn cB y.name y.desc tk.isInterface none).ask { classPath := fun _ => none } U.vm).1 = .ok t) (hy : y.cls ≠ "java/lang/invoke/MethodHandle" ∧ y.cls ≠ "java/lang/invoke/VarHandle")
    {A : Array Value} (hcode : (Cond.code y bytes maxL ret).before A U = true) (hinst : (Cond.instanceMethod y).before A U = true) (hsel : (Cond.selects y.cls y y).before A U = true) (hsig : parseMethodDescriptor y.desc = some sig) (hn : sig.parameters.length = n) :
    ∃ (kT kP : Class) (methB : Method), namesAClass U cK mi ∧ U.vm.classes[t.cls]? = some kT ∧ U.vm.method? t = some methB ∧ signaturePolymorphic kT methB = false ∧ methB.isStatic = false ∧ n = methB.sig.parameters.length ∧ selectMethod e.platform U.vm cB t = .method t ∧ methB.isAbstract = false ∧ U.vm.classes[t.cls]? = some kP ∧ kP.isInterface = false ∧ U.methodNamed? y = some t := by
  cases hnB : U.methodNamed? y with
  | none => simp [Cond.before, Cond.holds, Cond.value, hnB] at hcode
  | some mB =>
  obtain ⟨methB, cB', hmB, -, -, -, -, -, -, hsigB⟩ := Cond.code_spec hnB hcode
  obtain ⟨mk, methM, hnamed, hmethM, hst, hab⟩ := Cond.instanceMethod_spec hinst
  cases hnB.symm.trans hnamed
  cases hmB.symm.trans hmethM
  obtain ⟨c2, r2, m2, q1, q2, q3, q4, kP, hkP, hkPi⟩ := Cond.selects_spec hsel
  cases hcB.symm.trans q1
  cases (State.methodFound?_of_named hnB hy).symm.trans q2
  cases hnB.symm.trans q3
  have hcls : mB.cls = cB := Option.some.inj ((findClass_of_methodNamed hnB).symm.trans hcB)
  have htB : t = mB := by
    have h1 : U.methodFound? y.cls y.name y.desc = some mB := State.methodFound?_of_named hnB hy
    simp only [State.methodFound?, hcB, htk, Option.bind_eq_bind, Option.bind_some] at h1
    rw [hlook] at h1
    exact Option.some.inj h1
  subst htB
  obtain ⟨kT', hkT', hnameT⟩ := className_of_methodNamed hnB
  have hsp : signaturePolymorphic kT' methB = false := by simp [signaturePolymorphic, hnameT, hy.1, hy.2]
  exact ⟨kT', kP, methB, ⟨kK, file, ci, nt, cB, tk, hkK, hfile, hM, hclsR, htk, hitf⟩, hkT', hmB, hsp, hst, by rw [← Option.some.inj (hsig.symm.trans hsigB)]; exact hn.symm, by rw [Launch.admits_selectMethod hadm]; exact q4, hab, hkP, hkPi, rfl⟩
/-- an object of a made class: what it has captured -/
def LO (D : DD) (H : Heap) (a j : Nat) (vals : List Value) : Prop := H[a]? = some ({ cls := D.2.1 (100 + j), slots := vals.toArray, vm := .none } : Cell)
theorem LO.kept {D : DD} {H H1 : Heap} {a j : Nat} {vals : List Value} (h : LO D H a j vals) (hk : H1[a]? = H[a]?) : LO D H1 a j vals := hk.trans h
theorem LO.lt {D : DD} {H : Heap} {a j : Nat} {vals : List Value} (h : LO D H a j vals) : a < H.size := (Array.getElem?_eq_some_iff.mp h).1
theorem lam_runi {p : Program} {l : Launch} {e : Env} {R : Room} {s : State} {m : MethodId} {args : Array Value} {below : List Frame} {meth : Method} {c : Code} {T : State} {locs : List Loc} {cells slots : Nat} (X : Stand p l e R s m args below meth c T locs cells slots) (hexec : p.tables.exec = Jvm.exec) {g : JFrame} (hg : g.method = m) (hsize : g.locals.size = c.maxLocals) {ix cnt : Nat} (hdgI : decode c.code g.pc = .ok (.invokeinterface ix cnt, 5))
    {cK : ClassId} {methk : Method} {ck : Code} {rt : FieldType} (hmk : T.vm.method? ⟨cK, 1⟩ = some methk) (hck : methk.code = some ck) (hml : ck.maxLocals = 2) (hlk : methk.locks = false) (hpk : T.plainMethod ⟨cK, 1⟩) (hretk : methk.sig.returnType = some rt) {a P : Nat} {i : Int32} {As : List Value}
    {y : MethodName} {ws : List Cond} {rm : Room} {Pc : Array Value → State → Prop} {Qc : Array Value → State → Outcome → State → Prop} {mc ms : Nat} {free : Addr → Prop} {bytes : ByteArray} {maxL : Nat} {ret : Option FieldType} (hM : Met l y ws rm Pc Qc mc ms free) (hbl : FrameBlind Pc) (hrc : rm.cells = mc) (hrs : rm.slots = ms) (hf2 : rm.frames + 2 ≤ R.frames) (hl2 : 2 * g.monitorRoom + (g.stack.map fun v => v.category).sum + 13 + (8 + (maxL + 11) + rm.locals) ≤ R.locals)
    (hws : ∀ w ∈ ws, ∀ a' U, T.WarmedH U.vm → w.before a' U = true) (hcode : Cond.code y bytes maxL ret ∈ ws) (hini : ∀ a' U, T.WarmedH U.vm → (Cond.initialized y.cls).before a' U = true) {tgt : MethodId} (hnamed : T.methodNamed? y = some tgt) (hcells : cells + mc ≤ R.cells) (hslots : slots + ms ≤ R.slots) (hPc : ∀ U : State, U.heap = T.heap → T.WarmedH U.vm → Pc As.toArray U)
    (hgo : ∀ (R' : Room) (s' : State) (args' : Array Value) (U : State), Stand p l e R' s' ⟨cK, 1⟩ args' (.java g :: below) methk ck U [] 0 0 → U.vm = T.vm → U.heap = T.heap → (∀ y : MethodName, U.methodNamed? y = T.methodNamed? y) → ∀ target, (∀ acts, Steps p.tables e (.java g :: below) (doInvoke e (U.setTop (frL cK P a i [])) acts tgt As.toArray).1 target) → Steps p.tables e (.java g :: below) (U.setTop (frL cK 0 a i [])) target)
    {igI : Instr} (hdP : decode ck.code P = .ok (igI, 3)) (hdR : decode ck.code (P + 3) = .ok (.ireturn, 1)) (hQ : ∀ st o t, Qc As.toArray st o t → ∃ r : Int32, o = .returned (some (.int r)) ∧ narrow rt (.int r) = .int r) :
    ∃ (v : Option Value) (st₀ t T' : State) (L : List Loc), st₀.heap = T.heap ∧ Stand p l e R s m args below meth c T' (locs ++ L) (cells + mc) (slots + ms) ∧ (∀ q ∈ L, free q.base) ∧ T'.heap = t.heap ∧ T'.vm = t.vm ∧ Qc As.toArray st₀ (.returned v) t ∧
      ∀ acts, Steps p.tables e below (doInvoke e (T.setTop g) acts ⟨cK, 1⟩ #[.ref a, .int i]).1 (T'.setTop { g with pc := g.pc + 5, stack := v.toList ++ g.stack }) := by
  obtain ⟨Y, hin⟩ := X.into hg hsize hdgI #[.ref a, .int i] (R' := { frames := rm.frames + 1, locals := 8 + (maxL + 11) + rm.locals, cells := mc, slots := ms }) hmk hck hlk hpk (by show rm.frames + 1 + 1 ≤ _; omega) (by rw [hml]; show _ + (2 + 11) + (8 + (maxL + 11) + rm.locals) ≤ _; omega) hcells hslots
  have hK := back_of (l := l) (R := { frames := rm.frames + 1, locals := 8 + (maxL + 11) + rm.locals, cells := mc, slots := ms }) (p := p) (e := e) (below := .java g :: below) (s := T.calling g ⟨cK, 1⟩ #[.ref a, .int i]) (sargs := #[.ref a, .int i]) (len := 3) (W := 8) (bytes := bytes) (maxL := maxL) (ret := ret) hM hbl hrc hrs (Nat.le_refl _) (Nat.le_refl _) (fun w hw a' U' hW => hws w hw a' U' hW) hcode (fun a' U' hW => hini a' U' hW)
  have hvm0 : ((T.setTop g).pushFrame (.java (entryFrame ⟨cK, 1⟩ #[.ref a, .int i] ck.maxLocals))).vm = T.vm := rfl
  have hheap0 : ((T.setTop g).pushFrame (.java (entryFrame ⟨cK, 1⟩ #[.ref a, .int i] ck.maxLocals))).heap = T.heap := rfl
  have hnm0 : ∀ y : MethodName, ((T.setTop g).pushFrame (.java (entryFrame ⟨cK, 1⟩ #[.ref a, .int i] ck.maxLocals))).methodNamed? y = T.methodNamed? y := fun _ => rfl
  generalize hU : (T.setTop g).pushFrame (.java (entryFrame ⟨cK, 1⟩ #[.ref a, .int i] ck.maxLocals)) = U at Y hin hvm0 hheap0 hnm0
  obtain ⟨v, ⟨U2, l2, c2, s2⟩, Y', ⟨g', mk, t, L, e1, e2, hq, h1, hL, h2, h3⟩, hst⟩ := hK ⟨cK, 1⟩ methk ck ⟨U, [], 0, 0⟩ (frL cK P a i []) igI tgt As.toArray Y rfl (by rw [hml]; rfl) hdP (by show 2 * 0 + 0 ≤ 8; omega) (by show U.methodNamed? y = some tgt; rw [hnm0]; exact hnamed) ⟨by show 0 + mc ≤ mc; omega, by show 0 + ms ≤ ms; omega, hPc U hheap0 (by rw [hvm0]; exact State.WarmedH.refl T)⟩
  dsimp only [Pt.U, Pt.locs, Pt.cells, Pt.slots] at Y' e1 e2 h1 h2 h3 hst hq
  subst h1; subst h2; subst h3
  obtain ⟨r, hv, hnar⟩ := hQ _ _ _ hq
  cases hv
  obtain ⟨fs, hleave, -, hended, hWe, hsame⟩ := Y'.leave (v := some (.int r)) (fun h => by rw [hretk] at h; cases h) hlk
  obtain ⟨T', X', hW', -, ht⟩ := X.outOf hg hdgI hended hWe hsame
  have hth : T'.heap = t.heap := by
    have h9 : (U2.setFrames fs).heap = (T'.setTop { g with pc := g.pc + 5, stack := (some (.int r)).toList ++ g.stack }).heap := by rw [ht]
    exact h9.symm.trans e1
  have htv : T'.vm = t.vm := by
    have h9 : (U2.setFrames fs).vm = (T'.setTop { g with pc := g.pc + 5, stack := (some (.int r)).toList ++ g.stack }).vm := by rw [ht]
    exact h9.symm.trans e2
  refine ⟨some (.int r), U.calling g' mk As.toArray, t, T', l2, hheap0, by simpa using X', hL, hth, htv, hq, fun acts => ?_⟩
  rw [hin acts]
  show Steps p.tables e below _ (T'.setTop { g with pc := g.pc + 5, stack := (some (.int r)).toList ++ g.stack })
  rw [← ht]
  refine st_weaken (mid := [.java g]) ?_
  have hloc : entryFrame ⟨cK, 1⟩ #[.ref a, .int i] ck.maxLocals = frL cK 0 a i [] := by rw [hml]; rfl
  rw [hloc]
  refine hgo _ _ _ U Y hvm0 hheap0 hnm0 _ (fun acts' => ?_)
  rw [doInvoke_state]
  refine hst.trans ?_
  show Steps p.tables e (.java g :: below) (U2.setTop (frL cK (P + 3) a i [.int r])) _
  have hs : U2.topJava?.isSome := Y'.here.top
  jvm_step Y'.here [hs, hexec, hdR, (show U2.vm.method? ⟨cK, 1⟩ = some methk from Y'.method'), hretk, hnar]
  intro acts''
  rw [hleave (frL cK (P + 3) a i []) acts'' rfl rfl rfl]
  exact Steps.refl _
theorem lam_runl {p : Program} {l : Launch} {e : Env} {R : Room} {s : State} {m : MethodId} {args : Array Value} {below : List Frame} {meth : Method} {c : Code} {T : State} {locs : List Loc} {cells slots : Nat} (X : Stand p l e R s m args below meth c T locs cells slots) (hexec : p.tables.exec = Jvm.exec) {g : JFrame} (hg : g.method = m) (hsize : g.locals.size = c.maxLocals) {ix cnt : Nat} (hdgI : decode c.code g.pc = .ok (.invokeinterface ix cnt, 5))
    {cK : ClassId} {methk : Method} {ck : Code} (hmk : T.vm.method? ⟨cK, 1⟩ = some methk) (hck : methk.code = some ck) (hml : ck.maxLocals = 2) (hlk : methk.locks = false) (hpk : T.plainMethod ⟨cK, 1⟩) (hretk : methk.sig.returnType = some .long) {a P : Nat} {i : Int32} {As : List Value}
    {y : MethodName} {ws : List Cond} {rm : Room} {Pc : Array Value → State → Prop} {Qc : Array Value → State → Outcome → State → Prop} {mc ms : Nat} {free : Addr → Prop} {bytes : ByteArray} {maxL : Nat} {ret : Option FieldType} (hM : Met l y ws rm Pc Qc mc ms free) (hbl : FrameBlind Pc) (hrc : rm.cells = mc) (hrs : rm.slots = ms) (hf2 : rm.frames + 2 ≤ R.frames) (hl2 : 2 * g.monitorRoom + (g.stack.map fun v => v.category).sum + 13 + (8 + (maxL + 11) + rm.locals) ≤ R.locals)
    (hws : ∀ w ∈ ws, ∀ a' U, T.WarmedH U.vm → w.before a' U = true) (hcode : Cond.code y bytes maxL ret ∈ ws) (hini : ∀ a' U, T.WarmedH U.vm → (Cond.initialized y.cls).before a' U = true) {tgt : MethodId} (hnamed : T.methodNamed? y = some tgt) (hcells : cells + mc ≤ R.cells) (hslots : slots + ms ≤ R.slots) (hPc : ∀ U : State, U.heap = T.heap → T.WarmedH U.vm → Pc As.toArray U)
    (hgo : ∀ (R' : Room) (s' : State) (args' : Array Value) (U : State), Stand p l e R' s' ⟨cK, 1⟩ args' (.java g :: below) methk ck U [] 0 0 → U.vm = T.vm → U.heap = T.heap → (∀ y : MethodName, U.methodNamed? y = T.methodNamed? y) → ∀ target, (∀ acts, Steps p.tables e (.java g :: below) (doInvoke e (U.setTop (frL cK P a i [])) acts tgt As.toArray).1 target) → Steps p.tables e (.java g :: below) (U.setTop (frL cK 0 a i [])) target)
    {igI : Instr} (hdP : decode ck.code P = .ok (igI, 3)) (hdR : decode ck.code (P + 3) = .ok (.lreturn, 1)) (hQ : ∀ st o t, Qc As.toArray st o t → ∃ r : Int64, o = .returned (some (.long r))) :
    ∃ (v : Option Value) (st₀ t T' : State) (L : List Loc), st₀.heap = T.heap ∧ Stand p l e R s m args below meth c T' (locs ++ L) (cells + mc) (slots + ms) ∧ (∀ q ∈ L, free q.base) ∧ T'.heap = t.heap ∧ T'.vm = t.vm ∧ Qc As.toArray st₀ (.returned v) t ∧
      ∀ acts, Steps p.tables e below (doInvoke e (T.setTop g) acts ⟨cK, 1⟩ #[.ref a, .int i]).1 (T'.setTop { g with pc := g.pc + 5, stack := v.toList ++ g.stack }) := by
  obtain ⟨Y, hin⟩ := X.into hg hsize hdgI #[.ref a, .int i] (R' := { frames := rm.frames + 1, locals := 8 + (maxL + 11) + rm.locals, cells := mc, slots := ms }) hmk hck hlk hpk (by show rm.frames + 1 + 1 ≤ _; omega) (by rw [hml]; show _ + (2 + 11) + (8 + (maxL + 11) + rm.locals) ≤ _; omega) hcells hslots
  have hK := back_of (l := l) (R := { frames := rm.frames + 1, locals := 8 + (maxL + 11) + rm.locals, cells := mc, slots := ms }) (p := p) (e := e) (below := .java g :: below) (s := T.calling g ⟨cK, 1⟩ #[.ref a, .int i]) (sargs := #[.ref a, .int i]) (len := 3) (W := 8) (bytes := bytes) (maxL := maxL) (ret := ret) hM hbl hrc hrs (Nat.le_refl _) (Nat.le_refl _) (fun w hw a' U' hW => hws w hw a' U' hW) hcode (fun a' U' hW => hini a' U' hW)
  have hvm0 : ((T.setTop g).pushFrame (.java (entryFrame ⟨cK, 1⟩ #[.ref a, .int i] ck.maxLocals))).vm = T.vm := rfl
  have hheap0 : ((T.setTop g).pushFrame (.java (entryFrame ⟨cK, 1⟩ #[.ref a, .int i] ck.maxLocals))).heap = T.heap := rfl
  have hnm0 : ∀ y : MethodName, ((T.setTop g).pushFrame (.java (entryFrame ⟨cK, 1⟩ #[.ref a, .int i] ck.maxLocals))).methodNamed? y = T.methodNamed? y := fun _ => rfl
  generalize hU : (T.setTop g).pushFrame (.java (entryFrame ⟨cK, 1⟩ #[.ref a, .int i] ck.maxLocals)) = U at Y hin hvm0 hheap0 hnm0
  obtain ⟨v, ⟨U2, l2, c2, s2⟩, Y', ⟨g', mk, t, L, e1, e2, hq, h1, hL, h2, h3⟩, hst⟩ := hK ⟨cK, 1⟩ methk ck ⟨U, [], 0, 0⟩ (frL cK P a i []) igI tgt As.toArray Y rfl (by rw [hml]; rfl) hdP (by show 2 * 0 + 0 ≤ 8; omega) (by show U.methodNamed? y = some tgt; rw [hnm0]; exact hnamed) ⟨by show 0 + mc ≤ mc; omega, by show 0 + ms ≤ ms; omega, hPc U hheap0 (by rw [hvm0]; exact State.WarmedH.refl T)⟩
  dsimp only [Pt.U, Pt.locs, Pt.cells, Pt.slots] at Y' e1 e2 h1 h2 h3 hst hq
  subst h1; subst h2; subst h3
  obtain ⟨r, hv⟩ := hQ _ _ _ hq
  cases hv
  obtain ⟨fs, hleave, -, hended, hWe, hsame⟩ := Y'.leave (v := some (.long r)) (fun h => by rw [hretk] at h; cases h) hlk
  obtain ⟨T', X', hW', -, ht⟩ := X.outOf hg hdgI hended hWe hsame
  have hth : T'.heap = t.heap := by
    have h9 : (U2.setFrames fs).heap = (T'.setTop { g with pc := g.pc + 5, stack := (some (.long r)).toList ++ g.stack }).heap := by rw [ht]
    exact h9.symm.trans e1
  have htv : T'.vm = t.vm := by
    have h9 : (U2.setFrames fs).vm = (T'.setTop { g with pc := g.pc + 5, stack := (some (.long r)).toList ++ g.stack }).vm := by rw [ht]
    exact h9.symm.trans e2
  refine ⟨some (.long r), U.calling g' mk As.toArray, t, T', l2, hheap0, by simpa using X', hL, hth, htv, hq, fun acts => ?_⟩
  rw [hin acts]
  show Steps p.tables e below _ (T'.setTop { g with pc := g.pc + 5, stack := (some (.long r)).toList ++ g.stack })
  rw [← ht]
  refine st_weaken (mid := [.java g]) ?_
  have hloc : entryFrame ⟨cK, 1⟩ #[.ref a, .int i] ck.maxLocals = frL cK 0 a i [] := by rw [hml]; rfl
  rw [hloc]
  refine hgo _ _ _ U Y hvm0 hheap0 hnm0 _ (fun acts' => ?_)
  rw [doInvoke_state]
  refine hst.trans ?_
  show Steps p.tables e (.java g :: below) (U2.setTop (frL cK (P + 3) a i [.long r])) _
  have hs : U2.topJava?.isSome := Y'.here.top
  jvm_step Y'.here [hs, hexec, hdR, (show U2.vm.method? ⟨cK, 1⟩ = some methk from Y'.method'), hretk, narrow]
  intro acts''
  rw [hleave (frL cK (P + 3) a i []) acts'' rfl rfl rfl]
  exact Steps.refl _
def LD0 : ClassFile := (SH0.file "AcousticCamera$Waves").getD { minorVersion := 0, majorVersion := 0, constantPool := #[], accessFlags := 0, thisClass := 0, superClass := 0, interfaces := #[], fields := #[], methods := #[], attributes := #[] }
def LW0 : Method := ((layoutMethods LD0).bind (·[1]?)).getD default
def LL0 : Array Field × Array FieldType × Array FieldType := (layoutFields LD0 0).getD (#[], #[], #[])
def LB0 : ByteArray := ⟨#[0x2a, 0xb4, 0x00, 0x11, 0x2a, 0xb4, 0x00, 0x13, 0x2a, 0xb4, 0x00, 0x15, 0x1b, 0xb8, 0x00, 0x1d, 0xac]⟩
theorem lf0_1 : SH0.file "AcousticCamera$Waves" = some LD0 := by
  have h : (SH0.file "AcousticCamera$Waves").isSome = true := by decide +kernel
  obtain ⟨x, hx⟩ := Option.isSome_iff_exists.mp h
  simp [LD0, hx]
theorem lf0_2 : ∀ ms, layoutMethods LD0 = some ms → ms[1]? = some LW0 := by
  intro ms hms
  have h : ((layoutMethods LD0).bind (·[1]?)).isSome = true := by decide +kernel
  obtain ⟨x, hx⟩ := Option.isSome_iff_exists.mp h
  have hf : LW0 = x := by simp [LW0, hx]
  rw [hms] at hx
  rw [hf]
  exact hx
theorem lf0_3 : layoutFields LD0 0 = some LL0 := by
  have h : (layoutFields LD0 0).isSome = true := by decide +kernel
  obtain ⟨x, hx⟩ := Option.isSome_iff_exists.mp h
  simp [LL0, hx]
theorem lf0_c : (LW0.code.map fun c => (c.code.data, c.maxLocals)) = some (LB0.data, 2) := by decide +kernel
theorem lf0_f : (LW0.accessFlags, LW0.sig.returnType) = (0x0001, some FieldType.int) := by decide +kernel
theorem lf0_t : LL0.2.1 = #[.int, .int, .int] := by decide +kernel
theorem lf0_M : LD0.constantPool[29]? = some (.methodref 25 28) ∧ LD0.constantPool.className? 25 = some "AcousticCamera$Waves" ∧ LD0.constantPool.nameAndType? 28 = some ("lambda$square$0", "(IIII)I") := by decide +kernel
theorem lf0_C : LD0.constantPool[25]? = some (.class_ 24) ∧ LD0.constantPool.string? 24 = some "AcousticCamera$Waves" ∧ 25 ≠ LD0.thisClass := by decide +kernel
theorem lf0_F0 : LD0.constantPool[17]? = some (.fieldref 2 16) ∧ LD0.constantPool.nameAndType? 16 = some ("arg$1", "I") ∧ LL0.1.findIdx? (·.name == "arg$1") = some 0 ∧ (LL0.1[0]?).map (fun f => (f.isStatic, f.slot)) = some (false, 0) := by decide +kernel
theorem lf0_F1 : LD0.constantPool[19]? = some (.fieldref 2 18) ∧ LD0.constantPool.nameAndType? 18 = some ("arg$2", "I") ∧ LL0.1.findIdx? (·.name == "arg$2") = some 1 ∧ (LL0.1[1]?).map (fun f => (f.isStatic, f.slot)) = some (false, 1) := by decide +kernel
theorem lf0_F2 : LD0.constantPool[21]? = some (.fieldref 2 20) ∧ LD0.constantPool.nameAndType? 20 = some ("arg$3", "I") ∧ LL0.1.findIdx? (·.name == "arg$3") = some 2 ∧ (LL0.1[2]?).map (fun f => (f.isStatic, f.slot)) = some (false, 2) := by decide +kernel
theorem dl0_0 : decode LB0 0 = .ok (.aload_n 0, 1) := by decide +kernel
theorem dl0_1 : decode LB0 1 = .ok (.getfield 17, 3) := by decide +kernel
theorem dl0_4 : decode LB0 4 = .ok (.aload_n 0, 1) := by decide +kernel
theorem dl0_5 : decode LB0 5 = .ok (.getfield 19, 3) := by decide +kernel
theorem dl0_8 : decode LB0 8 = .ok (.aload_n 0, 1) := by decide +kernel
theorem dl0_9 : decode LB0 9 = .ok (.getfield 21, 3) := by decide +kernel
theorem dl0_12 : decode LB0 12 = .ok (.iload_n 1, 1) := by decide +kernel
theorem dl0_13 : decode LB0 13 = .ok (.invokestatic 29, 3) := by decide +kernel
theorem dl0_16 : decode LB0 16 = .ok (.ireturn, 1) := by decide +kernel
theorem lam_site0 {U : State} {c : ClassId} {one : Nat} (h : LSt (({ cls := "AcousticCamera$Waves", name := "square", desc := "(III)LAcousticCamera$Wave;" } : MethodName), 3, 7, SH0) c one U) (hO : ObN U) : ∃ (k tk : Class) (methk : Method) (ck : Code) (toy iface : ClassId) (t found : MethodId) (file : ClassFile) (f0 : Field) (f1 : Field) (f2 : Field), U.vm.classes[c]? = some k ∧ k.kind = .ordinary ∧ k.instanceTypes = #[.int, .int, .int] ∧ U.plainMethod ⟨c, 1⟩ ∧ U.vm.method? ⟨c, 1⟩ = some methk ∧ methk.code = some ck ∧ ck.code = LB0 ∧ ck.maxLocals = 2 ∧ methk.locks = false ∧ methk.accessFlags = 1 ∧ methk.sig.returnType = some FieldType.int ∧ U.vm.findClass "AcousticCamera$Waves" = some toy ∧ U.vm.classes[toy]? = some tk ∧ tk.isInterface = false ∧ ((methodIn toy "lambda$square$0" "(IIII)I" tk.isInterface none).ask { classPath := fun _ => none } U.vm).1 = .ok t ∧ U.vm.findClass "AcousticCamera$Wave" = some iface ∧ ((methodIn iface "at" SH0.sam.toString true none).ask { classPath := fun _ => none } U.vm).1 = .ok found ∧ selectMethod {} U.vm c found = .method ⟨c, 1⟩ ∧ k.cf = some file ∧ file.constantPool[29]? = some (.methodref 25 28) ∧ file.constantPool.nameAndType? 28 = some ("lambda$square$0", "(IIII)I") ∧ U.vm.classReady c 25 toy ∧ U.vm.methodReady c 29 t ∧ U.vm.fieldReady c 17 c f0 ∧ f0.isStatic = false ∧ f0.slot = 0 ∧ U.vm.fieldReady c 19 c f1 ∧ f1.isStatic = false ∧ f1.slot = 1 ∧ U.vm.fieldReady c 21 c f2 ∧ f2.isStatic = false ∧ f2.slot = 2 := by
  obtain ⟨m, kd, cf, i0, p0, lk, hm, hkd, hcf, hsh, hfind, hmade, hcall, hl⟩ := h
  obtain ⟨kd', hkd', hname⟩ := className_of_methodNamed hm
  cases hkd.symm.trans hkd'
  cases hx : LW0.code with
  | none => exact absurd lf0_c (by rw [hx]; exact fun z => by cases z)
  | some x =>
  have fc := lf0_c
  rw [hx] at fc
  simp only [Option.map_some, Option.some.injEq, Prod.mk.injEq] at fc
  have ff := lf0_f
  simp only [Prod.mk.injEq] at ff
  obtain ⟨k, tk, methk, ck, toy, iface, t, found, hk, hkind, hty, hmk, hck, hcc, hml, hfl, hsig, htoy, htk, hitf, hlook, hif, hfo, hsel, ⟨file, hfile, hpool⟩, hres, hfields⟩ := made_gen hkd hname hmade hO lf0_1 lf0_2 lf0_3 hx
  have hkn : k.name = "AcousticCamera$Waves$$Lambda" := by
    obtain ⟨dk', k', ok, tk', file', cf', object, iface', t', lay, methods, target, found', hd', hk', -, -, -, -, -, -, -, -, -, -, -, hrec, -⟩ := Lambda.isMade_spec hmade
    cases hkd.symm.trans hd'
    cases hk.symm.trans hk'
    rw [hrec.1, hname]
    rfl
  obtain ⟨g0, hg0, hp0⟩ := Option.map_eq_some_iff.mp lf0_F0.2.2.2
  simp only [Prod.mk.injEq] at hp0
  obtain ⟨g1, hg1, hp1⟩ := Option.map_eq_some_iff.mp lf0_F1.2.2.2
  simp only [Prod.mk.injEq] at hp1
  obtain ⟨g2, hg2, hp2⟩ := Option.map_eq_some_iff.mp lf0_F2.2.2.2
  simp only [Prod.mk.injEq] at hp2
  have e1 : SH0.implItf = false := rfl
  rw [e1] at hitf
  have hds : SH0.implDesc.toString = "(IIII)I" := by decide +kernel
  rw [hds] at hlook
  have hready : U.vm.methodReady c 29 t := ⟨k, hk, hres 29 _ (Lambda.resolvedOf_method lf0_M.1 lf0_M.2.1 htoy htk lf0_M.2.2 hlook)⟩
  have hcr : U.vm.classReady c 25 toy := ⟨k, hk, hres 25 _ (Lambda.resolvedOf_class lf0_C.1 lf0_C.2.2 lf0_C.2.1 htoy)⟩
  refine ⟨k, tk, methk, ck, toy, iface, t, found, file, g0, g1, g2, hk, hkind, hty.trans lf0_t, State.plainMethod.of_name (fun k' hk' => by cases hk.symm.trans hk'; rw [hkn]; decide), hmk, hck, hcc.trans (ByteArray.ext fc.1), hml.trans fc.2, ?_, hfl.trans ff.1, by rw [hsig]; exact ff.2, htoy, htk, hitf, hlook, hif, hfo, hsel, hfile, by rw [hpool]; exact lf0_M.1, by rw [hpool]; exact lf0_M.2.2, hcr, hready, ⟨k, 0, k, hk, hres 17 _ (Lambda.resolvedOf_field lf0_F0.1 lf0_F0.2.1 lf0_F0.2.2.1), hk, hfields 0 _ hg0⟩, hp0.1, hp0.2, ⟨k, 1, k, hk, hres 19 _ (Lambda.resolvedOf_field lf0_F1.1 lf0_F1.2.1 lf0_F1.2.2.1), hk, hfields 1 _ hg1⟩, hp1.1, hp1.2, ⟨k, 2, k, hk, hres 21 _ (Lambda.resolvedOf_field lf0_F2.1 lf0_F2.2.1 lf0_F2.2.2.1), hk, hfields 2 _ hg2⟩, hp2.1, hp2.2⟩
  simp [Method.locks, Method.isSynchronized, hfl, ff.1, hasFlag, Acc.synchronized]
set_option maxHeartbeats 2000000 in
theorem vv_lam0 {K : C_} {y : MethodName} {cc : ByteArray} {nL : Nat} {ret : Option FieldType} {rm : Room} {D : DD} {A : Nat → Prop} {H : Heap} {cells slots : Nat} {Q : State → Prop} {pc : Nat} {lv : List (Nat × Value)} {st stk : List Value} {idx cnt a : Nat} {v0 : Int32} {v1 : Int32} {v2 : Int32} {i : Int32} {rm2 : Room} {P : Heap → Prop} {A2 : Nat → Prop} {Q2 : Option Value → Heap → Heap → Prop} (X : Fx K y cc nL ret rm D) (hM : Ct (kL K) yX9_lambda_square_0 cX9_lambda_square_0 4 (some FieldType.int) rm2 D [.int v0, .int v1, .int v2, .int i] P A2 Q2) (hLO : LO D H a 0 [.int v0, .int v1, .int v2]) (q1 : Cond.methodLink y.cls idx ⟨"AcousticCamera$Wave", "at", "(I)I"⟩ ∈ lw_all) (hR : rm2.frames + 2 ≤ rm.frames ∧ 44 + rm2.locals ≤ rm.locals) (d : decode cc pc = .ok (.invokeinterface idx cnt, 5)) (hstk : stk = .int i :: .ref a :: st) (hw : (st.map fun v => v.category).sum ≤ 8) (hP : P H) (hA : ∀ q, A2 q → kF K A q) (hc : cells + rm2.cells ≤ rm.cells ∧ slots + rm2.slots ≤ rm.slots) (hQ : ∀ v H H1, Q2 v H H1 → ∃ r : Int32, v = some (.int r) ∧ narrow FieldType.int (.int r) = .int r)
    (kk : ∀ (v : Option Value) (H1 : Heap), Q2 v H H1 → H.size ≤ H1.size → (∀ q : Nat, q < H.size → ¬ A2 q → H1[q]? = H[q]?) → V K nL A H1 (cells + rm2.cells) (slots + rm2.slots) Q (pc + 5) lv (v.toList ++ st)) : V K nL A H cells slots Q pc lv stk := by
  subst hstk
  refine vv_after5 (mc := rm2.cells) (ms := rm2.slots) (as := [.int v0, .int v1, .int v2, .int i].toArray) (A2 := A2) (Q2 := Q2) (st := st) (fun L ls h0 T hT XX => ?_) hA kk
  have hmem : (⟨"AcousticCamera$Wave", "at", "(I)I"⟩ : MethodName) ∈ IFL := by decide +kernel
  have hIF := X.ge.2.2.2.2.2.1 _ hmem
  have hLS := X.ge.2.2.2.1 0 _ rfl
  obtain ⟨r0, r, hn, hrm, hstR, hsigR⟩ := Cond.declares_spec (va_any (A' := kA K) rfl hIF.1)
  obtain ⟨cL, kL', r1, hcL, hkL, hiL, hfoundL, hn1⟩ := Cond.interfaceMethod_spec (va_any (A' := kA K) rfl hIF.2)
  cases hn.symm.trans hn1
  have hr0cls : r0.cls = cL := Option.some.inj ((findClass_of_methodNamed hn).symm.trans hcL)
  obtain ⟨hnameR, hdescR⟩ := name_of_methodNamed hn hrm
  obtain ⟨k, tk, methk, ck, toy, iface, t, found, file, f0, f1, f2, hk, hkind, hty, hpl, hmk, hck, hcc, hml, hlk, hfl, hretk, htoy, htk, hitf, hlook, hif, hfo, hsel, hfile, hcp, hnt, hcr, hready, hf0, hfs0, hfn0, hf1, hfs1, hfn1, hf2, hfs2, hfn2⟩ := lam_site0 hLS X.ge.2.2.1
  obtain ⟨-, -, -, -, -, -, -, -, -, -, -, -, hcall, -⟩ := hLS
  obtain ⟨i2, hi2, hasg, hway⟩ := State.lambdaCallable_spec hcall
  have e1 : SH0.iface = "AcousticCamera$Wave" := rfl
  have e2 : SH0.sam.toString = "(I)I" := by decide +kernel
  have e3 : SH0.name = "at" := rfl
  rw [e1] at hi2
  rw [e2, e3] at hway
  rw [e2] at hfo
  cases hcL.symm.trans hi2
  cases hcL.symm.trans hif
  have hfr : found = r0 := by
    have h1 : (kS K).methodFound? "AcousticCamera$Wave" "at" "(I)I" = some r0 := hfoundL
    simp only [State.methodFound?, hcL, hkL, hiL, Option.bind_eq_bind, Option.bind_some] at h1
    rw [hfo] at h1
    exact Option.some.inj h1
  subst hfr
  have hselP : selectMethod (kE K).platform (kS K).vm (D.2.1 100) found = .method ⟨D.2.1 100, 1⟩ := by rw [Launch.admits_selectMethod XX.admits]; exact hsel
  obtain ⟨vm₁, X₁, hstep₁⟩ := XX.invokeinterface X.exec X.own (X.words _ q1) hn hrm hstR (by rw [hr0cls]; exact hkL) hiL (by decide) (a := a) (cell := { cls := D.2.1 100, slots := [.int v0, .int v1, .int v2].toArray, vm := .none }) (kcell := k) (by rw [hT]; exact hLO) (fun z h => by cases h) hk (by rw [hr0cls]; exact hasg) hselP hmk (by rw [hnameR, hdescR]; exact hway) (by rw [hfl]; decide) (by simp [Method.isAbstract, hfl, hasFlag, Acc.abstract]) (g := F0 (kM K) pc ls (.int i :: .ref a :: st)) rfl (argsL := [.int i]) (rest := st) (by
      have h9 := hsigR
      rw [show parseMethodDescriptor "(I)I" = some ⟨[.int], some FieldType.int⟩ from by decide +kernel] at h9
      rw [← Option.some.inj h9]
      rfl) rfl (by rw [X.code]; exact d)
  have hLS1 : LSt _ (D.2.1 100) (D.2.2 600) (T.setVm vm₁) := (X.ge.2.2.2.1 0 _ rfl).warm X₁.warmed
  have hO1 : ObN (T.setVm vm₁) := X.ge.2.2.1.moved X₁.warmed.alike
  clear hk hkind hty hpl hmk hck hcc hml hlk hfl hretk htoy htk hitf hlook hif hfo hsel hfile hcp hnt hcr hready hselP hf0 hfs0 hfn0 hf1 hfs1 hfn1 hf2 hfs2 hfn2
  obtain ⟨k, tk, methk, ck, toy, iface, t, found2, file, f0, f1, f2, hk, hkind, hty, hpl, hmk, hck, hcc, hml, hlk, hfl, hretk, htoy, htk, hitf, hlook, hif, hfo, hsel, hfile, hcp, hnt, hcr, hready, hf0, hfs0, hfn0, hf1, hfs1, hfn1, hf2, hfs2, hfn2⟩ := lam_site0 hLS1 hO1
  have hwd : ∀ w ∈ lw_all, ∀ (a' : Array Value) (U : State), (T.setVm vm₁).WarmedH U.vm → w.before a' U = true := fun w hw a' U hW => pay_in X.words lw_self w hw a' U (State.WarmedH.trans X₁.warmed hW)
  have hwT : ∀ w ∈ lw_all, w.before #[] (T.setVm vm₁) = true := fun w hw => hwd w hw _ _ (State.WarmedH.refl _)
  obtain ⟨tkS, methB, hpr, htkS, hmB, hsp, hsB, hiB, hlB, hnB⟩ := lam_static (e := kE K) (n := 4) (y := yX9_lambda_square_0) (sig := SH0.implDesc) hk hfile hcp hnt hready hcr htoy htk hlook (by decide) (hwT _ q1371) (hwT _ q1370) (hwT _ q176) (by decide +kernel) rfl
  have hheap1 : (T.setVm vm₁).heap = H := hT
  obtain ⟨v, st₀, t9, T', L9, h1, X9, hL9, hth, htv, hq9, hstep⟩ := lam_runi (As := [.int v0, .int v1, .int v2, .int i]) (a := a) (i := i) (P := 13) X₁ X.exec (g := F0 (kM K) pc ls st) rfl (by rw [X.maxL]; exact h0.1) (by rw [X.code]; exact d) hmk hck hml hlk hpl hretk (hM H.size) PcT_blind rfl rfl (by rw [X.room]; exact hR.1) (by rw [X.room]; show 2 * 0 + (st.map fun v => v.category).sum + 13 + _ ≤ _; omega) (fun w hw a' U hW => (lw_meth q1371 w hw).1 |> fun h => hwd w h a' U hW) List.mem_cons_self (fun a' U hW => hwd _ q176 a' U hW) hnB (by rw [X.room]; exact hc.1) (by rw [X.room]; exact hc.2) (fun U hU hW => ⟨rfl, by rw [hU, hheap1], by rw [hU, hheap1]; exact hP, X.gk.warm (State.WarmedH.trans X₁.warmed hW)⟩)
    (fun R' s' args' U Y hvm hheap hnm target hrest => by
      have hs : U.topJava?.isSome := Y.here.top
      have hcl : U.heap[a]? = some { cls := D.2.1 100, slots := [.int v0, .int v1, .int v2].toArray, vm := .none } := by rw [hheap, hheap1]; exact hLO
      jvm_step Y.here [X.exec, hcc, dl0_0, Value.isRef]
      jvm_step Y.here [X.exec, hcc, dl0_1, getfield.wp_ready (e := kE K) (s := U) (c := D.2.1 100) (field := f0) (a := a) (rest := []) (cell := { cls := D.2.1 100, slots := [.int v0, .int v1, .int v2].toArray, vm := .none }) (v := .int v0) (f := frL (D.2.1 100) 1 a i [.ref a]) hs (by rw [hvm]; exact hf0) hfs0 rfl hcl (fun z => by cases z) (by rw [hfn0]; rfl)]
      jvm_step Y.here [X.exec, hcc, dl0_4, Value.isRef]
      jvm_step Y.here [X.exec, hcc, dl0_5, getfield.wp_ready (e := kE K) (s := U) (c := D.2.1 100) (field := f1) (a := a) (rest := [.int v0]) (cell := { cls := D.2.1 100, slots := [.int v0, .int v1, .int v2].toArray, vm := .none }) (v := .int v1) (f := frL (D.2.1 100) 5 a i [.ref a, .int v0]) hs (by rw [hvm]; exact hf1) hfs1 rfl hcl (fun z => by cases z) (by rw [hfn1]; rfl)]
      jvm_step Y.here [X.exec, hcc, dl0_8, Value.isRef]
      jvm_step Y.here [X.exec, hcc, dl0_9, getfield.wp_ready (e := kE K) (s := U) (c := D.2.1 100) (field := f2) (a := a) (rest := [.int v1, .int v0]) (cell := { cls := D.2.1 100, slots := [.int v0, .int v1, .int v2].toArray, vm := .none }) (v := .int v2) (f := frL (D.2.1 100) 9 a i [.ref a, .int v1, .int v0]) hs (by rw [hvm]; exact hf2) hfs2 rfl hcl (fun z => by cases z) (by rw [hfn2]; rfl)]
      jvm_step Y.here [X.exec, hcc, dl0_12]
      jvm_step Y.here [X.exec, hcc, dl0_13, invokestatic.wp_ready (e := kE K) (s := U) (m := t) (k := tkS) (meth := methB) (args := [.int v0, .int v1, .int v2, .int i]) (rest := []) (f := frL (D.2.1 100) 13 a i [.int i, .int v2, .int v1, .int v0]) hs (by unfold plainRef at hpr ⊢; rw [hvm]; exact hpr) (by rw [hvm]; exact hready) (by rw [hvm]; exact htkS) (by rw [hvm]; exact hmB) hsp hsB hiB hlB rfl]
      intro acts'
      exact hrest acts')
    (by rw [hcc]; exact dl0_13) (by rw [hcc]; exact dl0_16) (fun st o t h => by
      obtain ⟨v, rfl, hq, -⟩ := h
      obtain ⟨r, rfl, hn⟩ := hQ _ _ _ hq
      exact ⟨r, rfl, hn⟩)
  refine ⟨v, st₀, t9, T', L9, h1.trans hheap1, X9, hL9, hth, htv, hq9, fun target htg => ?_⟩
  exact hstep₁ _ fun acts => (hstep acts).trans htg
def LD1 : ClassFile := (SH1.file "AcousticCamera$Waves").getD { minorVersion := 0, majorVersion := 0, constantPool := #[], accessFlags := 0, thisClass := 0, superClass := 0, interfaces := #[], fields := #[], methods := #[], attributes := #[] }
def LW1 : Method := ((layoutMethods LD1).bind (·[1]?)).getD default
def LL1 : Array Field × Array FieldType × Array FieldType := (layoutFields LD1 0).getD (#[], #[], #[])
def LB1 : ByteArray := ⟨#[0x2a, 0xb4, 0x00, 0x11, 0x2a, 0xb4, 0x00, 0x13, 0x2a, 0xb4, 0x00, 0x15, 0x1b, 0xb8, 0x00, 0x1d, 0xac]⟩
theorem lf1_1 : SH1.file "AcousticCamera$Waves" = some LD1 := by
  have h : (SH1.file "AcousticCamera$Waves").isSome = true := by decide +kernel
  obtain ⟨x, hx⟩ := Option.isSome_iff_exists.mp h
  simp [LD1, hx]
theorem lf1_2 : ∀ ms, layoutMethods LD1 = some ms → ms[1]? = some LW1 := by
  intro ms hms
  have h : ((layoutMethods LD1).bind (·[1]?)).isSome = true := by decide +kernel
  obtain ⟨x, hx⟩ := Option.isSome_iff_exists.mp h
  have hf : LW1 = x := by simp [LW1, hx]
  rw [hms] at hx
  rw [hf]
  exact hx
theorem lf1_3 : layoutFields LD1 0 = some LL1 := by
  have h : (layoutFields LD1 0).isSome = true := by decide +kernel
  obtain ⟨x, hx⟩ := Option.isSome_iff_exists.mp h
  simp [LL1, hx]
theorem lf1_c : (LW1.code.map fun c => (c.code.data, c.maxLocals)) = some (LB1.data, 2) := by decide +kernel
theorem lf1_f : (LW1.accessFlags, LW1.sig.returnType) = (0x0001, some FieldType.int) := by decide +kernel
theorem lf1_t : LL1.2.1 = #[.int, .int, .int] := by decide +kernel
theorem lf1_M : LD1.constantPool[29]? = some (.methodref 25 28) ∧ LD1.constantPool.className? 25 = some "AcousticCamera$Waves" ∧ LD1.constantPool.nameAndType? 28 = some ("lambda$triangle$1", "(IIII)I") := by decide +kernel
theorem lf1_C : LD1.constantPool[25]? = some (.class_ 24) ∧ LD1.constantPool.string? 24 = some "AcousticCamera$Waves" ∧ 25 ≠ LD1.thisClass := by decide +kernel
theorem lf1_F0 : LD1.constantPool[17]? = some (.fieldref 2 16) ∧ LD1.constantPool.nameAndType? 16 = some ("arg$1", "I") ∧ LL1.1.findIdx? (·.name == "arg$1") = some 0 ∧ (LL1.1[0]?).map (fun f => (f.isStatic, f.slot)) = some (false, 0) := by decide +kernel
theorem lf1_F1 : LD1.constantPool[19]? = some (.fieldref 2 18) ∧ LD1.constantPool.nameAndType? 18 = some ("arg$2", "I") ∧ LL1.1.findIdx? (·.name == "arg$2") = some 1 ∧ (LL1.1[1]?).map (fun f => (f.isStatic, f.slot)) = some (false, 1) := by decide +kernel
theorem lf1_F2 : LD1.constantPool[21]? = some (.fieldref 2 20) ∧ LD1.constantPool.nameAndType? 20 = some ("arg$3", "I") ∧ LL1.1.findIdx? (·.name == "arg$3") = some 2 ∧ (LL1.1[2]?).map (fun f => (f.isStatic, f.slot)) = some (false, 2) := by decide +kernel
theorem dl1_0 : decode LB1 0 = .ok (.aload_n 0, 1) := by decide +kernel
theorem dl1_1 : decode LB1 1 = .ok (.getfield 17, 3) := by decide +kernel
theorem dl1_4 : decode LB1 4 = .ok (.aload_n 0, 1) := by decide +kernel
theorem dl1_5 : decode LB1 5 = .ok (.getfield 19, 3) := by decide +kernel
theorem dl1_8 : decode LB1 8 = .ok (.aload_n 0, 1) := by decide +kernel
theorem dl1_9 : decode LB1 9 = .ok (.getfield 21, 3) := by decide +kernel
theorem dl1_12 : decode LB1 12 = .ok (.iload_n 1, 1) := by decide +kernel
theorem dl1_13 : decode LB1 13 = .ok (.invokestatic 29, 3) := by decide +kernel
theorem dl1_16 : decode LB1 16 = .ok (.ireturn, 1) := by decide +kernel
theorem lam_site1 {U : State} {c : ClassId} {one : Nat} (h : LSt (({ cls := "AcousticCamera$Waves", name := "triangle", desc := "(III)LAcousticCamera$Wave;" } : MethodName), 3, 11, SH1) c one U) (hO : ObN U) : ∃ (k tk : Class) (methk : Method) (ck : Code) (toy iface : ClassId) (t found : MethodId) (file : ClassFile) (f0 : Field) (f1 : Field) (f2 : Field), U.vm.classes[c]? = some k ∧ k.kind = .ordinary ∧ k.instanceTypes = #[.int, .int, .int] ∧ U.plainMethod ⟨c, 1⟩ ∧ U.vm.method? ⟨c, 1⟩ = some methk ∧ methk.code = some ck ∧ ck.code = LB1 ∧ ck.maxLocals = 2 ∧ methk.locks = false ∧ methk.accessFlags = 1 ∧ methk.sig.returnType = some FieldType.int ∧ U.vm.findClass "AcousticCamera$Waves" = some toy ∧ U.vm.classes[toy]? = some tk ∧ tk.isInterface = false ∧ ((methodIn toy "lambda$triangle$1" "(IIII)I" tk.isInterface none).ask { classPath := fun _ => none } U.vm).1 = .ok t ∧ U.vm.findClass "AcousticCamera$Wave" = some iface ∧ ((methodIn iface "at" SH1.sam.toString true none).ask { classPath := fun _ => none } U.vm).1 = .ok found ∧ selectMethod {} U.vm c found = .method ⟨c, 1⟩ ∧ k.cf = some file ∧ file.constantPool[29]? = some (.methodref 25 28) ∧ file.constantPool.nameAndType? 28 = some ("lambda$triangle$1", "(IIII)I") ∧ U.vm.classReady c 25 toy ∧ U.vm.methodReady c 29 t ∧ U.vm.fieldReady c 17 c f0 ∧ f0.isStatic = false ∧ f0.slot = 0 ∧ U.vm.fieldReady c 19 c f1 ∧ f1.isStatic = false ∧ f1.slot = 1 ∧ U.vm.fieldReady c 21 c f2 ∧ f2.isStatic = false ∧ f2.slot = 2 := by
  obtain ⟨m, kd, cf, i0, p0, lk, hm, hkd, hcf, hsh, hfind, hmade, hcall, hl⟩ := h
  obtain ⟨kd', hkd', hname⟩ := className_of_methodNamed hm
  cases hkd.symm.trans hkd'
  cases hx : LW1.code with
  | none => exact absurd lf1_c (by rw [hx]; exact fun z => by cases z)
  | some x =>
  have fc := lf1_c
  rw [hx] at fc
  simp only [Option.map_some, Option.some.injEq, Prod.mk.injEq] at fc
  have ff := lf1_f
  simp only [Prod.mk.injEq] at ff
  obtain ⟨k, tk, methk, ck, toy, iface, t, found, hk, hkind, hty, hmk, hck, hcc, hml, hfl, hsig, htoy, htk, hitf, hlook, hif, hfo, hsel, ⟨file, hfile, hpool⟩, hres, hfields⟩ := made_gen hkd hname hmade hO lf1_1 lf1_2 lf1_3 hx
  have hkn : k.name = "AcousticCamera$Waves$$Lambda" := by
    obtain ⟨dk', k', ok, tk', file', cf', object, iface', t', lay, methods, target, found', hd', hk', -, -, -, -, -, -, -, -, -, -, -, hrec, -⟩ := Lambda.isMade_spec hmade
    cases hkd.symm.trans hd'
    cases hk.symm.trans hk'
    rw [hrec.1, hname]
    rfl
  obtain ⟨g0, hg0, hp0⟩ := Option.map_eq_some_iff.mp lf1_F0.2.2.2
  simp only [Prod.mk.injEq] at hp0
  obtain ⟨g1, hg1, hp1⟩ := Option.map_eq_some_iff.mp lf1_F1.2.2.2
  simp only [Prod.mk.injEq] at hp1
  obtain ⟨g2, hg2, hp2⟩ := Option.map_eq_some_iff.mp lf1_F2.2.2.2
  simp only [Prod.mk.injEq] at hp2
  have e1 : SH1.implItf = false := rfl
  rw [e1] at hitf
  have hds : SH1.implDesc.toString = "(IIII)I" := by decide +kernel
  rw [hds] at hlook
  have hready : U.vm.methodReady c 29 t := ⟨k, hk, hres 29 _ (Lambda.resolvedOf_method lf1_M.1 lf1_M.2.1 htoy htk lf1_M.2.2 hlook)⟩
  have hcr : U.vm.classReady c 25 toy := ⟨k, hk, hres 25 _ (Lambda.resolvedOf_class lf1_C.1 lf1_C.2.2 lf1_C.2.1 htoy)⟩
  refine ⟨k, tk, methk, ck, toy, iface, t, found, file, g0, g1, g2, hk, hkind, hty.trans lf1_t, State.plainMethod.of_name (fun k' hk' => by cases hk.symm.trans hk'; rw [hkn]; decide), hmk, hck, hcc.trans (ByteArray.ext fc.1), hml.trans fc.2, ?_, hfl.trans ff.1, by rw [hsig]; exact ff.2, htoy, htk, hitf, hlook, hif, hfo, hsel, hfile, by rw [hpool]; exact lf1_M.1, by rw [hpool]; exact lf1_M.2.2, hcr, hready, ⟨k, 0, k, hk, hres 17 _ (Lambda.resolvedOf_field lf1_F0.1 lf1_F0.2.1 lf1_F0.2.2.1), hk, hfields 0 _ hg0⟩, hp0.1, hp0.2, ⟨k, 1, k, hk, hres 19 _ (Lambda.resolvedOf_field lf1_F1.1 lf1_F1.2.1 lf1_F1.2.2.1), hk, hfields 1 _ hg1⟩, hp1.1, hp1.2, ⟨k, 2, k, hk, hres 21 _ (Lambda.resolvedOf_field lf1_F2.1 lf1_F2.2.1 lf1_F2.2.2.1), hk, hfields 2 _ hg2⟩, hp2.1, hp2.2⟩
  simp [Method.locks, Method.isSynchronized, hfl, ff.1, hasFlag, Acc.synchronized]
set_option maxHeartbeats 2000000 in
theorem vv_lam1 {K : C_} {y : MethodName} {cc : ByteArray} {nL : Nat} {ret : Option FieldType} {rm : Room} {D : DD} {A : Nat → Prop} {H : Heap} {cells slots : Nat} {Q : State → Prop} {pc : Nat} {lv : List (Nat × Value)} {st stk : List Value} {idx cnt a : Nat} {v0 : Int32} {v1 : Int32} {v2 : Int32} {i : Int32} {rm2 : Room} {P : Heap → Prop} {A2 : Nat → Prop} {Q2 : Option Value → Heap → Heap → Prop} (X : Fx K y cc nL ret rm D) (hM : Ct (kL K) yX9_lambda_triangle_1 cX9_lambda_triangle_1 5 (some FieldType.int) rm2 D [.int v0, .int v1, .int v2, .int i] P A2 Q2) (hLO : LO D H a 1 [.int v0, .int v1, .int v2]) (q1 : Cond.methodLink y.cls idx ⟨"AcousticCamera$Wave", "at", "(I)I"⟩ ∈ lw_all) (hR : rm2.frames + 2 ≤ rm.frames ∧ 45 + rm2.locals ≤ rm.locals) (d : decode cc pc = .ok (.invokeinterface idx cnt, 5)) (hstk : stk = .int i :: .ref a :: st) (hw : (st.map fun v => v.category).sum ≤ 8) (hP : P H) (hA : ∀ q, A2 q → kF K A q) (hc : cells + rm2.cells ≤ rm.cells ∧ slots + rm2.slots ≤ rm.slots) (hQ : ∀ v H H1, Q2 v H H1 → ∃ r : Int32, v = some (.int r) ∧ narrow FieldType.int (.int r) = .int r)
    (kk : ∀ (v : Option Value) (H1 : Heap), Q2 v H H1 → H.size ≤ H1.size → (∀ q : Nat, q < H.size → ¬ A2 q → H1[q]? = H[q]?) → V K nL A H1 (cells + rm2.cells) (slots + rm2.slots) Q (pc + 5) lv (v.toList ++ st)) : V K nL A H cells slots Q pc lv stk := by
  subst hstk
  refine vv_after5 (mc := rm2.cells) (ms := rm2.slots) (as := [.int v0, .int v1, .int v2, .int i].toArray) (A2 := A2) (Q2 := Q2) (st := st) (fun L ls h0 T hT XX => ?_) hA kk
  have hmem : (⟨"AcousticCamera$Wave", "at", "(I)I"⟩ : MethodName) ∈ IFL := by decide +kernel
  have hIF := X.ge.2.2.2.2.2.1 _ hmem
  have hLS := X.ge.2.2.2.1 1 _ rfl
  obtain ⟨r0, r, hn, hrm, hstR, hsigR⟩ := Cond.declares_spec (va_any (A' := kA K) rfl hIF.1)
  obtain ⟨cL, kL', r1, hcL, hkL, hiL, hfoundL, hn1⟩ := Cond.interfaceMethod_spec (va_any (A' := kA K) rfl hIF.2)
  cases hn.symm.trans hn1
  have hr0cls : r0.cls = cL := Option.some.inj ((findClass_of_methodNamed hn).symm.trans hcL)
  obtain ⟨hnameR, hdescR⟩ := name_of_methodNamed hn hrm
  obtain ⟨k, tk, methk, ck, toy, iface, t, found, file, f0, f1, f2, hk, hkind, hty, hpl, hmk, hck, hcc, hml, hlk, hfl, hretk, htoy, htk, hitf, hlook, hif, hfo, hsel, hfile, hcp, hnt, hcr, hready, hf0, hfs0, hfn0, hf1, hfs1, hfn1, hf2, hfs2, hfn2⟩ := lam_site1 hLS X.ge.2.2.1
  obtain ⟨-, -, -, -, -, -, -, -, -, -, -, -, hcall, -⟩ := hLS
  obtain ⟨i2, hi2, hasg, hway⟩ := State.lambdaCallable_spec hcall
  have e1 : SH1.iface = "AcousticCamera$Wave" := rfl
  have e2 : SH1.sam.toString = "(I)I" := by decide +kernel
  have e3 : SH1.name = "at" := rfl
  rw [e1] at hi2
  rw [e2, e3] at hway
  rw [e2] at hfo
  cases hcL.symm.trans hi2
  cases hcL.symm.trans hif
  have hfr : found = r0 := by
    have h1 : (kS K).methodFound? "AcousticCamera$Wave" "at" "(I)I" = some r0 := hfoundL
    simp only [State.methodFound?, hcL, hkL, hiL, Option.bind_eq_bind, Option.bind_some] at h1
    rw [hfo] at h1
    exact Option.some.inj h1
  subst hfr
  have hselP : selectMethod (kE K).platform (kS K).vm (D.2.1 101) found = .method ⟨D.2.1 101, 1⟩ := by rw [Launch.admits_selectMethod XX.admits]; exact hsel
  obtain ⟨vm₁, X₁, hstep₁⟩ := XX.invokeinterface X.exec X.own (X.words _ q1) hn hrm hstR (by rw [hr0cls]; exact hkL) hiL (by decide) (a := a) (cell := { cls := D.2.1 101, slots := [.int v0, .int v1, .int v2].toArray, vm := .none }) (kcell := k) (by rw [hT]; exact hLO) (fun z h => by cases h) hk (by rw [hr0cls]; exact hasg) hselP hmk (by rw [hnameR, hdescR]; exact hway) (by rw [hfl]; decide) (by simp [Method.isAbstract, hfl, hasFlag, Acc.abstract]) (g := F0 (kM K) pc ls (.int i :: .ref a :: st)) rfl (argsL := [.int i]) (rest := st) (by
      have h9 := hsigR
      rw [show parseMethodDescriptor "(I)I" = some ⟨[.int], some FieldType.int⟩ from by decide +kernel] at h9
      rw [← Option.some.inj h9]
      rfl) rfl (by rw [X.code]; exact d)
  have hLS1 : LSt _ (D.2.1 101) (D.2.2 601) (T.setVm vm₁) := (X.ge.2.2.2.1 1 _ rfl).warm X₁.warmed
  have hO1 : ObN (T.setVm vm₁) := X.ge.2.2.1.moved X₁.warmed.alike
  clear hk hkind hty hpl hmk hck hcc hml hlk hfl hretk htoy htk hitf hlook hif hfo hsel hfile hcp hnt hcr hready hselP hf0 hfs0 hfn0 hf1 hfs1 hfn1 hf2 hfs2 hfn2
  obtain ⟨k, tk, methk, ck, toy, iface, t, found2, file, f0, f1, f2, hk, hkind, hty, hpl, hmk, hck, hcc, hml, hlk, hfl, hretk, htoy, htk, hitf, hlook, hif, hfo, hsel, hfile, hcp, hnt, hcr, hready, hf0, hfs0, hfn0, hf1, hfs1, hfn1, hf2, hfs2, hfn2⟩ := lam_site1 hLS1 hO1
  have hwd : ∀ w ∈ lw_all, ∀ (a' : Array Value) (U : State), (T.setVm vm₁).WarmedH U.vm → w.before a' U = true := fun w hw a' U hW => pay_in X.words lw_self w hw a' U (State.WarmedH.trans X₁.warmed hW)
  have hwT : ∀ w ∈ lw_all, w.before #[] (T.setVm vm₁) = true := fun w hw => hwd w hw _ _ (State.WarmedH.refl _)
  obtain ⟨tkS, methB, hpr, htkS, hmB, hsp, hsB, hiB, hlB, hnB⟩ := lam_static (e := kE K) (n := 4) (y := yX9_lambda_triangle_1) (sig := SH1.implDesc) hk hfile hcp hnt hready hcr htoy htk hlook (by decide) (hwT _ q1376) (hwT _ q1375) (hwT _ q176) (by decide +kernel) rfl
  have hheap1 : (T.setVm vm₁).heap = H := hT
  obtain ⟨v, st₀, t9, T', L9, h1, X9, hL9, hth, htv, hq9, hstep⟩ := lam_runi (As := [.int v0, .int v1, .int v2, .int i]) (a := a) (i := i) (P := 13) X₁ X.exec (g := F0 (kM K) pc ls st) rfl (by rw [X.maxL]; exact h0.1) (by rw [X.code]; exact d) hmk hck hml hlk hpl hretk (hM H.size) PcT_blind rfl rfl (by rw [X.room]; exact hR.1) (by rw [X.room]; show 2 * 0 + (st.map fun v => v.category).sum + 13 + _ ≤ _; omega) (fun w hw a' U hW => (lw_meth q1376 w hw).1 |> fun h => hwd w h a' U hW) List.mem_cons_self (fun a' U hW => hwd _ q176 a' U hW) hnB (by rw [X.room]; exact hc.1) (by rw [X.room]; exact hc.2) (fun U hU hW => ⟨rfl, by rw [hU, hheap1], by rw [hU, hheap1]; exact hP, X.gk.warm (State.WarmedH.trans X₁.warmed hW)⟩)
    (fun R' s' args' U Y hvm hheap hnm target hrest => by
      have hs : U.topJava?.isSome := Y.here.top
      have hcl : U.heap[a]? = some { cls := D.2.1 101, slots := [.int v0, .int v1, .int v2].toArray, vm := .none } := by rw [hheap, hheap1]; exact hLO
      jvm_step Y.here [X.exec, hcc, dl1_0, Value.isRef]
      jvm_step Y.here [X.exec, hcc, dl1_1, getfield.wp_ready (e := kE K) (s := U) (c := D.2.1 101) (field := f0) (a := a) (rest := []) (cell := { cls := D.2.1 101, slots := [.int v0, .int v1, .int v2].toArray, vm := .none }) (v := .int v0) (f := frL (D.2.1 101) 1 a i [.ref a]) hs (by rw [hvm]; exact hf0) hfs0 rfl hcl (fun z => by cases z) (by rw [hfn0]; rfl)]
      jvm_step Y.here [X.exec, hcc, dl1_4, Value.isRef]
      jvm_step Y.here [X.exec, hcc, dl1_5, getfield.wp_ready (e := kE K) (s := U) (c := D.2.1 101) (field := f1) (a := a) (rest := [.int v0]) (cell := { cls := D.2.1 101, slots := [.int v0, .int v1, .int v2].toArray, vm := .none }) (v := .int v1) (f := frL (D.2.1 101) 5 a i [.ref a, .int v0]) hs (by rw [hvm]; exact hf1) hfs1 rfl hcl (fun z => by cases z) (by rw [hfn1]; rfl)]
      jvm_step Y.here [X.exec, hcc, dl1_8, Value.isRef]
      jvm_step Y.here [X.exec, hcc, dl1_9, getfield.wp_ready (e := kE K) (s := U) (c := D.2.1 101) (field := f2) (a := a) (rest := [.int v1, .int v0]) (cell := { cls := D.2.1 101, slots := [.int v0, .int v1, .int v2].toArray, vm := .none }) (v := .int v2) (f := frL (D.2.1 101) 9 a i [.ref a, .int v1, .int v0]) hs (by rw [hvm]; exact hf2) hfs2 rfl hcl (fun z => by cases z) (by rw [hfn2]; rfl)]
      jvm_step Y.here [X.exec, hcc, dl1_12]
      jvm_step Y.here [X.exec, hcc, dl1_13, invokestatic.wp_ready (e := kE K) (s := U) (m := t) (k := tkS) (meth := methB) (args := [.int v0, .int v1, .int v2, .int i]) (rest := []) (f := frL (D.2.1 101) 13 a i [.int i, .int v2, .int v1, .int v0]) hs (by unfold plainRef at hpr ⊢; rw [hvm]; exact hpr) (by rw [hvm]; exact hready) (by rw [hvm]; exact htkS) (by rw [hvm]; exact hmB) hsp hsB hiB hlB rfl]
      intro acts'
      exact hrest acts')
    (by rw [hcc]; exact dl1_13) (by rw [hcc]; exact dl1_16) (fun st o t h => by
      obtain ⟨v, rfl, hq, -⟩ := h
      obtain ⟨r, rfl, hn⟩ := hQ _ _ _ hq
      exact ⟨r, rfl, hn⟩)
  refine ⟨v, st₀, t9, T', L9, h1.trans hheap1, X9, hL9, hth, htv, hq9, fun target htg => ?_⟩
  exact hstep₁ _ fun acts => (hstep acts).trans htg
def LD2 : ClassFile := (SH2.file "AcousticCamera$Waves").getD { minorVersion := 0, majorVersion := 0, constantPool := #[], accessFlags := 0, thisClass := 0, superClass := 0, interfaces := #[], fields := #[], methods := #[], attributes := #[] }
def LW2 : Method := ((layoutMethods LD2).bind (·[1]?)).getD default
def LL2 : Array Field × Array FieldType × Array FieldType := (layoutFields LD2 0).getD (#[], #[], #[])
def LB2 : ByteArray := ⟨#[0x2a, 0xb4, 0x00, 0x11, 0x2a, 0xb4, 0x00, 0x13, 0x2a, 0xb4, 0x00, 0x15, 0x1b, 0xb8, 0x00, 0x1d, 0xac]⟩
theorem lf2_1 : SH2.file "AcousticCamera$Waves" = some LD2 := by
  have h : (SH2.file "AcousticCamera$Waves").isSome = true := by decide +kernel
  obtain ⟨x, hx⟩ := Option.isSome_iff_exists.mp h
  simp [LD2, hx]
theorem lf2_2 : ∀ ms, layoutMethods LD2 = some ms → ms[1]? = some LW2 := by
  intro ms hms
  have h : ((layoutMethods LD2).bind (·[1]?)).isSome = true := by decide +kernel
  obtain ⟨x, hx⟩ := Option.isSome_iff_exists.mp h
  have hf : LW2 = x := by simp [LW2, hx]
  rw [hms] at hx
  rw [hf]
  exact hx
theorem lf2_3 : layoutFields LD2 0 = some LL2 := by
  have h : (layoutFields LD2 0).isSome = true := by decide +kernel
  obtain ⟨x, hx⟩ := Option.isSome_iff_exists.mp h
  simp [LL2, hx]
theorem lf2_c : (LW2.code.map fun c => (c.code.data, c.maxLocals)) = some (LB2.data, 2) := by decide +kernel
theorem lf2_f : (LW2.accessFlags, LW2.sig.returnType) = (0x0001, some FieldType.int) := by decide +kernel
theorem lf2_t : LL2.2.1 = #[.int, .int, .int] := by decide +kernel
theorem lf2_M : LD2.constantPool[29]? = some (.methodref 25 28) ∧ LD2.constantPool.className? 25 = some "AcousticCamera$Waves" ∧ LD2.constantPool.nameAndType? 28 = some ("lambda$pulse$2", "(IIII)I") := by decide +kernel
theorem lf2_C : LD2.constantPool[25]? = some (.class_ 24) ∧ LD2.constantPool.string? 24 = some "AcousticCamera$Waves" ∧ 25 ≠ LD2.thisClass := by decide +kernel
theorem lf2_F0 : LD2.constantPool[17]? = some (.fieldref 2 16) ∧ LD2.constantPool.nameAndType? 16 = some ("arg$1", "I") ∧ LL2.1.findIdx? (·.name == "arg$1") = some 0 ∧ (LL2.1[0]?).map (fun f => (f.isStatic, f.slot)) = some (false, 0) := by decide +kernel
theorem lf2_F1 : LD2.constantPool[19]? = some (.fieldref 2 18) ∧ LD2.constantPool.nameAndType? 18 = some ("arg$2", "I") ∧ LL2.1.findIdx? (·.name == "arg$2") = some 1 ∧ (LL2.1[1]?).map (fun f => (f.isStatic, f.slot)) = some (false, 1) := by decide +kernel
theorem lf2_F2 : LD2.constantPool[21]? = some (.fieldref 2 20) ∧ LD2.constantPool.nameAndType? 20 = some ("arg$3", "I") ∧ LL2.1.findIdx? (·.name == "arg$3") = some 2 ∧ (LL2.1[2]?).map (fun f => (f.isStatic, f.slot)) = some (false, 2) := by decide +kernel
theorem dl2_0 : decode LB2 0 = .ok (.aload_n 0, 1) := by decide +kernel
theorem dl2_1 : decode LB2 1 = .ok (.getfield 17, 3) := by decide +kernel
theorem dl2_4 : decode LB2 4 = .ok (.aload_n 0, 1) := by decide +kernel
theorem dl2_5 : decode LB2 5 = .ok (.getfield 19, 3) := by decide +kernel
theorem dl2_8 : decode LB2 8 = .ok (.aload_n 0, 1) := by decide +kernel
theorem dl2_9 : decode LB2 9 = .ok (.getfield 21, 3) := by decide +kernel
theorem dl2_12 : decode LB2 12 = .ok (.iload_n 1, 1) := by decide +kernel
theorem dl2_13 : decode LB2 13 = .ok (.invokestatic 29, 3) := by decide +kernel
theorem dl2_16 : decode LB2 16 = .ok (.ireturn, 1) := by decide +kernel
theorem lam_site2 {U : State} {c : ClassId} {one : Nat} (h : LSt (({ cls := "AcousticCamera$Waves", name := "pulse", desc := "(III)LAcousticCamera$Wave;" } : MethodName), 3, 12, SH2) c one U) (hO : ObN U) : ∃ (k tk : Class) (methk : Method) (ck : Code) (toy iface : ClassId) (t found : MethodId) (file : ClassFile) (f0 : Field) (f1 : Field) (f2 : Field), U.vm.classes[c]? = some k ∧ k.kind = .ordinary ∧ k.instanceTypes = #[.int, .int, .int] ∧ U.plainMethod ⟨c, 1⟩ ∧ U.vm.method? ⟨c, 1⟩ = some methk ∧ methk.code = some ck ∧ ck.code = LB2 ∧ ck.maxLocals = 2 ∧ methk.locks = false ∧ methk.accessFlags = 1 ∧ methk.sig.returnType = some FieldType.int ∧ U.vm.findClass "AcousticCamera$Waves" = some toy ∧ U.vm.classes[toy]? = some tk ∧ tk.isInterface = false ∧ ((methodIn toy "lambda$pulse$2" "(IIII)I" tk.isInterface none).ask { classPath := fun _ => none } U.vm).1 = .ok t ∧ U.vm.findClass "AcousticCamera$Wave" = some iface ∧ ((methodIn iface "at" SH2.sam.toString true none).ask { classPath := fun _ => none } U.vm).1 = .ok found ∧ selectMethod {} U.vm c found = .method ⟨c, 1⟩ ∧ k.cf = some file ∧ file.constantPool[29]? = some (.methodref 25 28) ∧ file.constantPool.nameAndType? 28 = some ("lambda$pulse$2", "(IIII)I") ∧ U.vm.classReady c 25 toy ∧ U.vm.methodReady c 29 t ∧ U.vm.fieldReady c 17 c f0 ∧ f0.isStatic = false ∧ f0.slot = 0 ∧ U.vm.fieldReady c 19 c f1 ∧ f1.isStatic = false ∧ f1.slot = 1 ∧ U.vm.fieldReady c 21 c f2 ∧ f2.isStatic = false ∧ f2.slot = 2 := by
  obtain ⟨m, kd, cf, i0, p0, lk, hm, hkd, hcf, hsh, hfind, hmade, hcall, hl⟩ := h
  obtain ⟨kd', hkd', hname⟩ := className_of_methodNamed hm
  cases hkd.symm.trans hkd'
  cases hx : LW2.code with
  | none => exact absurd lf2_c (by rw [hx]; exact fun z => by cases z)
  | some x =>
  have fc := lf2_c
  rw [hx] at fc
  simp only [Option.map_some, Option.some.injEq, Prod.mk.injEq] at fc
  have ff := lf2_f
  simp only [Prod.mk.injEq] at ff
  obtain ⟨k, tk, methk, ck, toy, iface, t, found, hk, hkind, hty, hmk, hck, hcc, hml, hfl, hsig, htoy, htk, hitf, hlook, hif, hfo, hsel, ⟨file, hfile, hpool⟩, hres, hfields⟩ := made_gen hkd hname hmade hO lf2_1 lf2_2 lf2_3 hx
  have hkn : k.name = "AcousticCamera$Waves$$Lambda" := by
    obtain ⟨dk', k', ok, tk', file', cf', object, iface', t', lay, methods, target, found', hd', hk', -, -, -, -, -, -, -, -, -, -, -, hrec, -⟩ := Lambda.isMade_spec hmade
    cases hkd.symm.trans hd'
    cases hk.symm.trans hk'
    rw [hrec.1, hname]
    rfl
  obtain ⟨g0, hg0, hp0⟩ := Option.map_eq_some_iff.mp lf2_F0.2.2.2
  simp only [Prod.mk.injEq] at hp0
  obtain ⟨g1, hg1, hp1⟩ := Option.map_eq_some_iff.mp lf2_F1.2.2.2
  simp only [Prod.mk.injEq] at hp1
  obtain ⟨g2, hg2, hp2⟩ := Option.map_eq_some_iff.mp lf2_F2.2.2.2
  simp only [Prod.mk.injEq] at hp2
  have e1 : SH2.implItf = false := rfl
  rw [e1] at hitf
  have hds : SH2.implDesc.toString = "(IIII)I" := by decide +kernel
  rw [hds] at hlook
  have hready : U.vm.methodReady c 29 t := ⟨k, hk, hres 29 _ (Lambda.resolvedOf_method lf2_M.1 lf2_M.2.1 htoy htk lf2_M.2.2 hlook)⟩
  have hcr : U.vm.classReady c 25 toy := ⟨k, hk, hres 25 _ (Lambda.resolvedOf_class lf2_C.1 lf2_C.2.2 lf2_C.2.1 htoy)⟩
  refine ⟨k, tk, methk, ck, toy, iface, t, found, file, g0, g1, g2, hk, hkind, hty.trans lf2_t, State.plainMethod.of_name (fun k' hk' => by cases hk.symm.trans hk'; rw [hkn]; decide), hmk, hck, hcc.trans (ByteArray.ext fc.1), hml.trans fc.2, ?_, hfl.trans ff.1, by rw [hsig]; exact ff.2, htoy, htk, hitf, hlook, hif, hfo, hsel, hfile, by rw [hpool]; exact lf2_M.1, by rw [hpool]; exact lf2_M.2.2, hcr, hready, ⟨k, 0, k, hk, hres 17 _ (Lambda.resolvedOf_field lf2_F0.1 lf2_F0.2.1 lf2_F0.2.2.1), hk, hfields 0 _ hg0⟩, hp0.1, hp0.2, ⟨k, 1, k, hk, hres 19 _ (Lambda.resolvedOf_field lf2_F1.1 lf2_F1.2.1 lf2_F1.2.2.1), hk, hfields 1 _ hg1⟩, hp1.1, hp1.2, ⟨k, 2, k, hk, hres 21 _ (Lambda.resolvedOf_field lf2_F2.1 lf2_F2.2.1 lf2_F2.2.2.1), hk, hfields 2 _ hg2⟩, hp2.1, hp2.2⟩
  simp [Method.locks, Method.isSynchronized, hfl, ff.1, hasFlag, Acc.synchronized]
set_option maxHeartbeats 2000000 in
theorem vv_lam2 {K : C_} {y : MethodName} {cc : ByteArray} {nL : Nat} {ret : Option FieldType} {rm : Room} {D : DD} {A : Nat → Prop} {H : Heap} {cells slots : Nat} {Q : State → Prop} {pc : Nat} {lv : List (Nat × Value)} {st stk : List Value} {idx cnt a : Nat} {v0 : Int32} {v1 : Int32} {v2 : Int32} {i : Int32} {rm2 : Room} {P : Heap → Prop} {A2 : Nat → Prop} {Q2 : Option Value → Heap → Heap → Prop} (X : Fx K y cc nL ret rm D) (hM : Ct (kL K) yX9_lambda_pulse_2 cX9_lambda_pulse_2 4 (some FieldType.int) rm2 D [.int v0, .int v1, .int v2, .int i] P A2 Q2) (hLO : LO D H a 2 [.int v0, .int v1, .int v2]) (q1 : Cond.methodLink y.cls idx ⟨"AcousticCamera$Wave", "at", "(I)I"⟩ ∈ lw_all) (hR : rm2.frames + 2 ≤ rm.frames ∧ 44 + rm2.locals ≤ rm.locals) (d : decode cc pc = .ok (.invokeinterface idx cnt, 5)) (hstk : stk = .int i :: .ref a :: st) (hw : (st.map fun v => v.category).sum ≤ 8) (hP : P H) (hA : ∀ q, A2 q → kF K A q) (hc : cells + rm2.cells ≤ rm.cells ∧ slots + rm2.slots ≤ rm.slots) (hQ : ∀ v H H1, Q2 v H H1 → ∃ r : Int32, v = some (.int r) ∧ narrow FieldType.int (.int r) = .int r)
    (kk : ∀ (v : Option Value) (H1 : Heap), Q2 v H H1 → H.size ≤ H1.size → (∀ q : Nat, q < H.size → ¬ A2 q → H1[q]? = H[q]?) → V K nL A H1 (cells + rm2.cells) (slots + rm2.slots) Q (pc + 5) lv (v.toList ++ st)) : V K nL A H cells slots Q pc lv stk := by
  subst hstk
  refine vv_after5 (mc := rm2.cells) (ms := rm2.slots) (as := [.int v0, .int v1, .int v2, .int i].toArray) (A2 := A2) (Q2 := Q2) (st := st) (fun L ls h0 T hT XX => ?_) hA kk
  have hmem : (⟨"AcousticCamera$Wave", "at", "(I)I"⟩ : MethodName) ∈ IFL := by decide +kernel
  have hIF := X.ge.2.2.2.2.2.1 _ hmem
  have hLS := X.ge.2.2.2.1 2 _ rfl
  obtain ⟨r0, r, hn, hrm, hstR, hsigR⟩ := Cond.declares_spec (va_any (A' := kA K) rfl hIF.1)
  obtain ⟨cL, kL', r1, hcL, hkL, hiL, hfoundL, hn1⟩ := Cond.interfaceMethod_spec (va_any (A' := kA K) rfl hIF.2)
  cases hn.symm.trans hn1
  have hr0cls : r0.cls = cL := Option.some.inj ((findClass_of_methodNamed hn).symm.trans hcL)
  obtain ⟨hnameR, hdescR⟩ := name_of_methodNamed hn hrm
  obtain ⟨k, tk, methk, ck, toy, iface, t, found, file, f0, f1, f2, hk, hkind, hty, hpl, hmk, hck, hcc, hml, hlk, hfl, hretk, htoy, htk, hitf, hlook, hif, hfo, hsel, hfile, hcp, hnt, hcr, hready, hf0, hfs0, hfn0, hf1, hfs1, hfn1, hf2, hfs2, hfn2⟩ := lam_site2 hLS X.ge.2.2.1
  obtain ⟨-, -, -, -, -, -, -, -, -, -, -, -, hcall, -⟩ := hLS
  obtain ⟨i2, hi2, hasg, hway⟩ := State.lambdaCallable_spec hcall
  have e1 : SH2.iface = "AcousticCamera$Wave" := rfl
  have e2 : SH2.sam.toString = "(I)I" := by decide +kernel
  have e3 : SH2.name = "at" := rfl
  rw [e1] at hi2
  rw [e2, e3] at hway
  rw [e2] at hfo
  cases hcL.symm.trans hi2
  cases hcL.symm.trans hif
  have hfr : found = r0 := by
    have h1 : (kS K).methodFound? "AcousticCamera$Wave" "at" "(I)I" = some r0 := hfoundL
    simp only [State.methodFound?, hcL, hkL, hiL, Option.bind_eq_bind, Option.bind_some] at h1
    rw [hfo] at h1
    exact Option.some.inj h1
  subst hfr
  have hselP : selectMethod (kE K).platform (kS K).vm (D.2.1 102) found = .method ⟨D.2.1 102, 1⟩ := by rw [Launch.admits_selectMethod XX.admits]; exact hsel
  obtain ⟨vm₁, X₁, hstep₁⟩ := XX.invokeinterface X.exec X.own (X.words _ q1) hn hrm hstR (by rw [hr0cls]; exact hkL) hiL (by decide) (a := a) (cell := { cls := D.2.1 102, slots := [.int v0, .int v1, .int v2].toArray, vm := .none }) (kcell := k) (by rw [hT]; exact hLO) (fun z h => by cases h) hk (by rw [hr0cls]; exact hasg) hselP hmk (by rw [hnameR, hdescR]; exact hway) (by rw [hfl]; decide) (by simp [Method.isAbstract, hfl, hasFlag, Acc.abstract]) (g := F0 (kM K) pc ls (.int i :: .ref a :: st)) rfl (argsL := [.int i]) (rest := st) (by
      have h9 := hsigR
      rw [show parseMethodDescriptor "(I)I" = some ⟨[.int], some FieldType.int⟩ from by decide +kernel] at h9
      rw [← Option.some.inj h9]
      rfl) rfl (by rw [X.code]; exact d)
  have hLS1 : LSt _ (D.2.1 102) (D.2.2 602) (T.setVm vm₁) := (X.ge.2.2.2.1 2 _ rfl).warm X₁.warmed
  have hO1 : ObN (T.setVm vm₁) := X.ge.2.2.1.moved X₁.warmed.alike
  clear hk hkind hty hpl hmk hck hcc hml hlk hfl hretk htoy htk hitf hlook hif hfo hsel hfile hcp hnt hcr hready hselP hf0 hfs0 hfn0 hf1 hfs1 hfn1 hf2 hfs2 hfn2
  obtain ⟨k, tk, methk, ck, toy, iface, t, found2, file, f0, f1, f2, hk, hkind, hty, hpl, hmk, hck, hcc, hml, hlk, hfl, hretk, htoy, htk, hitf, hlook, hif, hfo, hsel, hfile, hcp, hnt, hcr, hready, hf0, hfs0, hfn0, hf1, hfs1, hfn1, hf2, hfs2, hfn2⟩ := lam_site2 hLS1 hO1
  have hwd : ∀ w ∈ lw_all, ∀ (a' : Array Value) (U : State), (T.setVm vm₁).WarmedH U.vm → w.before a' U = true := fun w hw a' U hW => pay_in X.words lw_self w hw a' U (State.WarmedH.trans X₁.warmed hW)
  have hwT : ∀ w ∈ lw_all, w.before #[] (T.setVm vm₁) = true := fun w hw => hwd w hw _ _ (State.WarmedH.refl _)
  obtain ⟨tkS, methB, hpr, htkS, hmB, hsp, hsB, hiB, hlB, hnB⟩ := lam_static (e := kE K) (n := 4) (y := yX9_lambda_pulse_2) (sig := SH2.implDesc) hk hfile hcp hnt hready hcr htoy htk hlook (by decide) (hwT _ q1384) (hwT _ q1383) (hwT _ q176) (by decide +kernel) rfl
  have hheap1 : (T.setVm vm₁).heap = H := hT
  obtain ⟨v, st₀, t9, T', L9, h1, X9, hL9, hth, htv, hq9, hstep⟩ := lam_runi (As := [.int v0, .int v1, .int v2, .int i]) (a := a) (i := i) (P := 13) X₁ X.exec (g := F0 (kM K) pc ls st) rfl (by rw [X.maxL]; exact h0.1) (by rw [X.code]; exact d) hmk hck hml hlk hpl hretk (hM H.size) PcT_blind rfl rfl (by rw [X.room]; exact hR.1) (by rw [X.room]; show 2 * 0 + (st.map fun v => v.category).sum + 13 + _ ≤ _; omega) (fun w hw a' U hW => (lw_meth q1384 w hw).1 |> fun h => hwd w h a' U hW) List.mem_cons_self (fun a' U hW => hwd _ q176 a' U hW) hnB (by rw [X.room]; exact hc.1) (by rw [X.room]; exact hc.2) (fun U hU hW => ⟨rfl, by rw [hU, hheap1], by rw [hU, hheap1]; exact hP, X.gk.warm (State.WarmedH.trans X₁.warmed hW)⟩)
    (fun R' s' args' U Y hvm hheap hnm target hrest => by
      have hs : U.topJava?.isSome := Y.here.top
      have hcl : U.heap[a]? = some { cls := D.2.1 102, slots := [.int v0, .int v1, .int v2].toArray, vm := .none } := by rw [hheap, hheap1]; exact hLO
      jvm_step Y.here [X.exec, hcc, dl2_0, Value.isRef]
      jvm_step Y.here [X.exec, hcc, dl2_1, getfield.wp_ready (e := kE K) (s := U) (c := D.2.1 102) (field := f0) (a := a) (rest := []) (cell := { cls := D.2.1 102, slots := [.int v0, .int v1, .int v2].toArray, vm := .none }) (v := .int v0) (f := frL (D.2.1 102) 1 a i [.ref a]) hs (by rw [hvm]; exact hf0) hfs0 rfl hcl (fun z => by cases z) (by rw [hfn0]; rfl)]
      jvm_step Y.here [X.exec, hcc, dl2_4, Value.isRef]
      jvm_step Y.here [X.exec, hcc, dl2_5, getfield.wp_ready (e := kE K) (s := U) (c := D.2.1 102) (field := f1) (a := a) (rest := [.int v0]) (cell := { cls := D.2.1 102, slots := [.int v0, .int v1, .int v2].toArray, vm := .none }) (v := .int v1) (f := frL (D.2.1 102) 5 a i [.ref a, .int v0]) hs (by rw [hvm]; exact hf1) hfs1 rfl hcl (fun z => by cases z) (by rw [hfn1]; rfl)]
      jvm_step Y.here [X.exec, hcc, dl2_8, Value.isRef]
      jvm_step Y.here [X.exec, hcc, dl2_9, getfield.wp_ready (e := kE K) (s := U) (c := D.2.1 102) (field := f2) (a := a) (rest := [.int v1, .int v0]) (cell := { cls := D.2.1 102, slots := [.int v0, .int v1, .int v2].toArray, vm := .none }) (v := .int v2) (f := frL (D.2.1 102) 9 a i [.ref a, .int v1, .int v0]) hs (by rw [hvm]; exact hf2) hfs2 rfl hcl (fun z => by cases z) (by rw [hfn2]; rfl)]
      jvm_step Y.here [X.exec, hcc, dl2_12]
      jvm_step Y.here [X.exec, hcc, dl2_13, invokestatic.wp_ready (e := kE K) (s := U) (m := t) (k := tkS) (meth := methB) (args := [.int v0, .int v1, .int v2, .int i]) (rest := []) (f := frL (D.2.1 102) 13 a i [.int i, .int v2, .int v1, .int v0]) hs (by unfold plainRef at hpr ⊢; rw [hvm]; exact hpr) (by rw [hvm]; exact hready) (by rw [hvm]; exact htkS) (by rw [hvm]; exact hmB) hsp hsB hiB hlB rfl]
      intro acts'
      exact hrest acts')
    (by rw [hcc]; exact dl2_13) (by rw [hcc]; exact dl2_16) (fun st o t h => by
      obtain ⟨v, rfl, hq, -⟩ := h
      obtain ⟨r, rfl, hn⟩ := hQ _ _ _ hq
      exact ⟨r, rfl, hn⟩)
  refine ⟨v, st₀, t9, T', L9, h1.trans hheap1, X9, hL9, hth, htv, hq9, fun target htg => ?_⟩
  exact hstep₁ _ fun acts => (hstep acts).trans htg
def LD3 : ClassFile := (SH3.file "AcousticCamera$Waves").getD { minorVersion := 0, majorVersion := 0, constantPool := #[], accessFlags := 0, thisClass := 0, superClass := 0, interfaces := #[], fields := #[], methods := #[], attributes := #[] }
def LW3 : Method := ((layoutMethods LD3).bind (·[1]?)).getD default
def LL3 : Array Field × Array FieldType × Array FieldType := (layoutFields LD3 0).getD (#[], #[], #[])
def LB3 : ByteArray := ⟨#[0x2a, 0xb4, 0x00, 0x10, 0x2a, 0xb4, 0x00, 0x12, 0x1b, 0xb8, 0x00, 0x1a, 0xac]⟩
theorem lf3_1 : SH3.file "AcousticCamera$Waves" = some LD3 := by
  have h : (SH3.file "AcousticCamera$Waves").isSome = true := by decide +kernel
  obtain ⟨x, hx⟩ := Option.isSome_iff_exists.mp h
  simp [LD3, hx]
theorem lf3_2 : ∀ ms, layoutMethods LD3 = some ms → ms[1]? = some LW3 := by
  intro ms hms
  have h : ((layoutMethods LD3).bind (·[1]?)).isSome = true := by decide +kernel
  obtain ⟨x, hx⟩ := Option.isSome_iff_exists.mp h
  have hf : LW3 = x := by simp [LW3, hx]
  rw [hms] at hx
  rw [hf]
  exact hx
theorem lf3_3 : layoutFields LD3 0 = some LL3 := by
  have h : (layoutFields LD3 0).isSome = true := by decide +kernel
  obtain ⟨x, hx⟩ := Option.isSome_iff_exists.mp h
  simp [LL3, hx]
theorem lf3_c : (LW3.code.map fun c => (c.code.data, c.maxLocals)) = some (LB3.data, 2) := by decide +kernel
theorem lf3_f : (LW3.accessFlags, LW3.sig.returnType) = (0x0001, some FieldType.int) := by decide +kernel
theorem lf3_t : LL3.2.1 = #[.int, .int] := by decide +kernel
theorem lf3_M : LD3.constantPool[26]? = some (.methodref 22 25) ∧ LD3.constantPool.className? 22 = some "AcousticCamera$Waves" ∧ LD3.constantPool.nameAndType? 25 = some ("lambda$noise$3", "(III)I") := by decide +kernel
theorem lf3_C : LD3.constantPool[22]? = some (.class_ 21) ∧ LD3.constantPool.string? 21 = some "AcousticCamera$Waves" ∧ 22 ≠ LD3.thisClass := by decide +kernel
theorem lf3_F0 : LD3.constantPool[16]? = some (.fieldref 2 15) ∧ LD3.constantPool.nameAndType? 15 = some ("arg$1", "I") ∧ LL3.1.findIdx? (·.name == "arg$1") = some 0 ∧ (LL3.1[0]?).map (fun f => (f.isStatic, f.slot)) = some (false, 0) := by decide +kernel
theorem lf3_F1 : LD3.constantPool[18]? = some (.fieldref 2 17) ∧ LD3.constantPool.nameAndType? 17 = some ("arg$2", "I") ∧ LL3.1.findIdx? (·.name == "arg$2") = some 1 ∧ (LL3.1[1]?).map (fun f => (f.isStatic, f.slot)) = some (false, 1) := by decide +kernel
theorem dl3_0 : decode LB3 0 = .ok (.aload_n 0, 1) := by decide +kernel
theorem dl3_1 : decode LB3 1 = .ok (.getfield 16, 3) := by decide +kernel
theorem dl3_4 : decode LB3 4 = .ok (.aload_n 0, 1) := by decide +kernel
theorem dl3_5 : decode LB3 5 = .ok (.getfield 18, 3) := by decide +kernel
theorem dl3_8 : decode LB3 8 = .ok (.iload_n 1, 1) := by decide +kernel
theorem dl3_9 : decode LB3 9 = .ok (.invokestatic 26, 3) := by decide +kernel
theorem dl3_12 : decode LB3 12 = .ok (.ireturn, 1) := by decide +kernel
theorem lam_site3 {U : State} {c : ClassId} {one : Nat} (h : LSt (({ cls := "AcousticCamera$Waves", name := "noise", desc := "(II)LAcousticCamera$Wave;" } : MethodName), 2, 13, SH3) c one U) (hO : ObN U) : ∃ (k tk : Class) (methk : Method) (ck : Code) (toy iface : ClassId) (t found : MethodId) (file : ClassFile) (f0 : Field) (f1 : Field), U.vm.classes[c]? = some k ∧ k.kind = .ordinary ∧ k.instanceTypes = #[.int, .int] ∧ U.plainMethod ⟨c, 1⟩ ∧ U.vm.method? ⟨c, 1⟩ = some methk ∧ methk.code = some ck ∧ ck.code = LB3 ∧ ck.maxLocals = 2 ∧ methk.locks = false ∧ methk.accessFlags = 1 ∧ methk.sig.returnType = some FieldType.int ∧ U.vm.findClass "AcousticCamera$Waves" = some toy ∧ U.vm.classes[toy]? = some tk ∧ tk.isInterface = false ∧ ((methodIn toy "lambda$noise$3" "(III)I" tk.isInterface none).ask { classPath := fun _ => none } U.vm).1 = .ok t ∧ U.vm.findClass "AcousticCamera$Wave" = some iface ∧ ((methodIn iface "at" SH3.sam.toString true none).ask { classPath := fun _ => none } U.vm).1 = .ok found ∧ selectMethod {} U.vm c found = .method ⟨c, 1⟩ ∧ k.cf = some file ∧ file.constantPool[26]? = some (.methodref 22 25) ∧ file.constantPool.nameAndType? 25 = some ("lambda$noise$3", "(III)I") ∧ U.vm.classReady c 22 toy ∧ U.vm.methodReady c 26 t ∧ U.vm.fieldReady c 16 c f0 ∧ f0.isStatic = false ∧ f0.slot = 0 ∧ U.vm.fieldReady c 18 c f1 ∧ f1.isStatic = false ∧ f1.slot = 1 := by
  obtain ⟨m, kd, cf, i0, p0, lk, hm, hkd, hcf, hsh, hfind, hmade, hcall, hl⟩ := h
  obtain ⟨kd', hkd', hname⟩ := className_of_methodNamed hm
  cases hkd.symm.trans hkd'
  cases hx : LW3.code with
  | none => exact absurd lf3_c (by rw [hx]; exact fun z => by cases z)
  | some x =>
  have fc := lf3_c
  rw [hx] at fc
  simp only [Option.map_some, Option.some.injEq, Prod.mk.injEq] at fc
  have ff := lf3_f
  simp only [Prod.mk.injEq] at ff
  obtain ⟨k, tk, methk, ck, toy, iface, t, found, hk, hkind, hty, hmk, hck, hcc, hml, hfl, hsig, htoy, htk, hitf, hlook, hif, hfo, hsel, ⟨file, hfile, hpool⟩, hres, hfields⟩ := made_gen hkd hname hmade hO lf3_1 lf3_2 lf3_3 hx
  have hkn : k.name = "AcousticCamera$Waves$$Lambda" := by
    obtain ⟨dk', k', ok, tk', file', cf', object, iface', t', lay, methods, target, found', hd', hk', -, -, -, -, -, -, -, -, -, -, -, hrec, -⟩ := Lambda.isMade_spec hmade
    cases hkd.symm.trans hd'
    cases hk.symm.trans hk'
    rw [hrec.1, hname]
    rfl
  obtain ⟨g0, hg0, hp0⟩ := Option.map_eq_some_iff.mp lf3_F0.2.2.2
  simp only [Prod.mk.injEq] at hp0
  obtain ⟨g1, hg1, hp1⟩ := Option.map_eq_some_iff.mp lf3_F1.2.2.2
  simp only [Prod.mk.injEq] at hp1
  have e1 : SH3.implItf = false := rfl
  rw [e1] at hitf
  have hds : SH3.implDesc.toString = "(III)I" := by decide +kernel
  rw [hds] at hlook
  have hready : U.vm.methodReady c 26 t := ⟨k, hk, hres 26 _ (Lambda.resolvedOf_method lf3_M.1 lf3_M.2.1 htoy htk lf3_M.2.2 hlook)⟩
  have hcr : U.vm.classReady c 22 toy := ⟨k, hk, hres 22 _ (Lambda.resolvedOf_class lf3_C.1 lf3_C.2.2 lf3_C.2.1 htoy)⟩
  refine ⟨k, tk, methk, ck, toy, iface, t, found, file, g0, g1, hk, hkind, hty.trans lf3_t, State.plainMethod.of_name (fun k' hk' => by cases hk.symm.trans hk'; rw [hkn]; decide), hmk, hck, hcc.trans (ByteArray.ext fc.1), hml.trans fc.2, ?_, hfl.trans ff.1, by rw [hsig]; exact ff.2, htoy, htk, hitf, hlook, hif, hfo, hsel, hfile, by rw [hpool]; exact lf3_M.1, by rw [hpool]; exact lf3_M.2.2, hcr, hready, ⟨k, 0, k, hk, hres 16 _ (Lambda.resolvedOf_field lf3_F0.1 lf3_F0.2.1 lf3_F0.2.2.1), hk, hfields 0 _ hg0⟩, hp0.1, hp0.2, ⟨k, 1, k, hk, hres 18 _ (Lambda.resolvedOf_field lf3_F1.1 lf3_F1.2.1 lf3_F1.2.2.1), hk, hfields 1 _ hg1⟩, hp1.1, hp1.2⟩
  simp [Method.locks, Method.isSynchronized, hfl, ff.1, hasFlag, Acc.synchronized]
set_option maxHeartbeats 2000000 in
theorem vv_lam3 {K : C_} {y : MethodName} {cc : ByteArray} {nL : Nat} {ret : Option FieldType} {rm : Room} {D : DD} {A : Nat → Prop} {H : Heap} {cells slots : Nat} {Q : State → Prop} {pc : Nat} {lv : List (Nat × Value)} {st stk : List Value} {idx cnt a : Nat} {v0 : Int32} {v1 : Int32} {i : Int32} {rm2 : Room} {P : Heap → Prop} {A2 : Nat → Prop} {Q2 : Option Value → Heap → Heap → Prop} (X : Fx K y cc nL ret rm D) (hM : Ct (kL K) yX9_lambda_noise_3 cX9_lambda_noise_3 3 (some FieldType.int) rm2 D [.int v0, .int v1, .int i] P A2 Q2) (hLO : LO D H a 3 [.int v0, .int v1]) (q1 : Cond.methodLink y.cls idx ⟨"AcousticCamera$Wave", "at", "(I)I"⟩ ∈ lw_all) (hR : rm2.frames + 2 ≤ rm.frames ∧ 43 + rm2.locals ≤ rm.locals) (d : decode cc pc = .ok (.invokeinterface idx cnt, 5)) (hstk : stk = .int i :: .ref a :: st) (hw : (st.map fun v => v.category).sum ≤ 8) (hP : P H) (hA : ∀ q, A2 q → kF K A q) (hc : cells + rm2.cells ≤ rm.cells ∧ slots + rm2.slots ≤ rm.slots) (hQ : ∀ v H H1, Q2 v H H1 → ∃ r : Int32, v = some (.int r) ∧ narrow FieldType.int (.int r) = .int r)
    (kk : ∀ (v : Option Value) (H1 : Heap), Q2 v H H1 → H.size ≤ H1.size → (∀ q : Nat, q < H.size → ¬ A2 q → H1[q]? = H[q]?) → V K nL A H1 (cells + rm2.cells) (slots + rm2.slots) Q (pc + 5) lv (v.toList ++ st)) : V K nL A H cells slots Q pc lv stk := by
  subst hstk
  refine vv_after5 (mc := rm2.cells) (ms := rm2.slots) (as := [.int v0, .int v1, .int i].toArray) (A2 := A2) (Q2 := Q2) (st := st) (fun L ls h0 T hT XX => ?_) hA kk
  have hmem : (⟨"AcousticCamera$Wave", "at", "(I)I"⟩ : MethodName) ∈ IFL := by decide +kernel
  have hIF := X.ge.2.2.2.2.2.1 _ hmem
  have hLS := X.ge.2.2.2.1 3 _ rfl
  obtain ⟨r0, r, hn, hrm, hstR, hsigR⟩ := Cond.declares_spec (va_any (A' := kA K) rfl hIF.1)
  obtain ⟨cL, kL', r1, hcL, hkL, hiL, hfoundL, hn1⟩ := Cond.interfaceMethod_spec (va_any (A' := kA K) rfl hIF.2)
  cases hn.symm.trans hn1
  have hr0cls : r0.cls = cL := Option.some.inj ((findClass_of_methodNamed hn).symm.trans hcL)
  obtain ⟨hnameR, hdescR⟩ := name_of_methodNamed hn hrm
  obtain ⟨k, tk, methk, ck, toy, iface, t, found, file, f0, f1, hk, hkind, hty, hpl, hmk, hck, hcc, hml, hlk, hfl, hretk, htoy, htk, hitf, hlook, hif, hfo, hsel, hfile, hcp, hnt, hcr, hready, hf0, hfs0, hfn0, hf1, hfs1, hfn1⟩ := lam_site3 hLS X.ge.2.2.1
  obtain ⟨-, -, -, -, -, -, -, -, -, -, -, -, hcall, -⟩ := hLS
  obtain ⟨i2, hi2, hasg, hway⟩ := State.lambdaCallable_spec hcall
  have e1 : SH3.iface = "AcousticCamera$Wave" := rfl
  have e2 : SH3.sam.toString = "(I)I" := by decide +kernel
  have e3 : SH3.name = "at" := rfl
  rw [e1] at hi2
  rw [e2, e3] at hway
  rw [e2] at hfo
  cases hcL.symm.trans hi2
  cases hcL.symm.trans hif
  have hfr : found = r0 := by
    have h1 : (kS K).methodFound? "AcousticCamera$Wave" "at" "(I)I" = some r0 := hfoundL
    simp only [State.methodFound?, hcL, hkL, hiL, Option.bind_eq_bind, Option.bind_some] at h1
    rw [hfo] at h1
    exact Option.some.inj h1
  subst hfr
  have hselP : selectMethod (kE K).platform (kS K).vm (D.2.1 103) found = .method ⟨D.2.1 103, 1⟩ := by rw [Launch.admits_selectMethod XX.admits]; exact hsel
  obtain ⟨vm₁, X₁, hstep₁⟩ := XX.invokeinterface X.exec X.own (X.words _ q1) hn hrm hstR (by rw [hr0cls]; exact hkL) hiL (by decide) (a := a) (cell := { cls := D.2.1 103, slots := [.int v0, .int v1].toArray, vm := .none }) (kcell := k) (by rw [hT]; exact hLO) (fun z h => by cases h) hk (by rw [hr0cls]; exact hasg) hselP hmk (by rw [hnameR, hdescR]; exact hway) (by rw [hfl]; decide) (by simp [Method.isAbstract, hfl, hasFlag, Acc.abstract]) (g := F0 (kM K) pc ls (.int i :: .ref a :: st)) rfl (argsL := [.int i]) (rest := st) (by
      have h9 := hsigR
      rw [show parseMethodDescriptor "(I)I" = some ⟨[.int], some FieldType.int⟩ from by decide +kernel] at h9
      rw [← Option.some.inj h9]
      rfl) rfl (by rw [X.code]; exact d)
  have hLS1 : LSt _ (D.2.1 103) (D.2.2 603) (T.setVm vm₁) := (X.ge.2.2.2.1 3 _ rfl).warm X₁.warmed
  have hO1 : ObN (T.setVm vm₁) := X.ge.2.2.1.moved X₁.warmed.alike
  clear hk hkind hty hpl hmk hck hcc hml hlk hfl hretk htoy htk hitf hlook hif hfo hsel hfile hcp hnt hcr hready hselP hf0 hfs0 hfn0 hf1 hfs1 hfn1
  obtain ⟨k, tk, methk, ck, toy, iface, t, found2, file, f0, f1, hk, hkind, hty, hpl, hmk, hck, hcc, hml, hlk, hfl, hretk, htoy, htk, hitf, hlook, hif, hfo, hsel, hfile, hcp, hnt, hcr, hready, hf0, hfs0, hfn0, hf1, hfs1, hfn1⟩ := lam_site3 hLS1 hO1
  have hwd : ∀ w ∈ lw_all, ∀ (a' : Array Value) (U : State), (T.setVm vm₁).WarmedH U.vm → w.before a' U = true := fun w hw a' U hW => pay_in X.words lw_self w hw a' U (State.WarmedH.trans X₁.warmed hW)
  have hwT : ∀ w ∈ lw_all, w.before #[] (T.setVm vm₁) = true := fun w hw => hwd w hw _ _ (State.WarmedH.refl _)
  obtain ⟨tkS, methB, hpr, htkS, hmB, hsp, hsB, hiB, hlB, hnB⟩ := lam_static (e := kE K) (n := 3) (y := yX9_lambda_noise_3) (sig := SH3.implDesc) hk hfile hcp hnt hready hcr htoy htk hlook (by decide) (hwT _ q1389) (hwT _ q1388) (hwT _ q176) (by decide +kernel) rfl
  have hheap1 : (T.setVm vm₁).heap = H := hT
  obtain ⟨v, st₀, t9, T', L9, h1, X9, hL9, hth, htv, hq9, hstep⟩ := lam_runi (As := [.int v0, .int v1, .int i]) (a := a) (i := i) (P := 9) X₁ X.exec (g := F0 (kM K) pc ls st) rfl (by rw [X.maxL]; exact h0.1) (by rw [X.code]; exact d) hmk hck hml hlk hpl hretk (hM H.size) PcT_blind rfl rfl (by rw [X.room]; exact hR.1) (by rw [X.room]; show 2 * 0 + (st.map fun v => v.category).sum + 13 + _ ≤ _; omega) (fun w hw a' U hW => (lw_meth q1389 w hw).1 |> fun h => hwd w h a' U hW) List.mem_cons_self (fun a' U hW => hwd _ q176 a' U hW) hnB (by rw [X.room]; exact hc.1) (by rw [X.room]; exact hc.2) (fun U hU hW => ⟨rfl, by rw [hU, hheap1], by rw [hU, hheap1]; exact hP, X.gk.warm (State.WarmedH.trans X₁.warmed hW)⟩)
    (fun R' s' args' U Y hvm hheap hnm target hrest => by
      have hs : U.topJava?.isSome := Y.here.top
      have hcl : U.heap[a]? = some { cls := D.2.1 103, slots := [.int v0, .int v1].toArray, vm := .none } := by rw [hheap, hheap1]; exact hLO
      jvm_step Y.here [X.exec, hcc, dl3_0, Value.isRef]
      jvm_step Y.here [X.exec, hcc, dl3_1, getfield.wp_ready (e := kE K) (s := U) (c := D.2.1 103) (field := f0) (a := a) (rest := []) (cell := { cls := D.2.1 103, slots := [.int v0, .int v1].toArray, vm := .none }) (v := .int v0) (f := frL (D.2.1 103) 1 a i [.ref a]) hs (by rw [hvm]; exact hf0) hfs0 rfl hcl (fun z => by cases z) (by rw [hfn0]; rfl)]
      jvm_step Y.here [X.exec, hcc, dl3_4, Value.isRef]
      jvm_step Y.here [X.exec, hcc, dl3_5, getfield.wp_ready (e := kE K) (s := U) (c := D.2.1 103) (field := f1) (a := a) (rest := [.int v0]) (cell := { cls := D.2.1 103, slots := [.int v0, .int v1].toArray, vm := .none }) (v := .int v1) (f := frL (D.2.1 103) 5 a i [.ref a, .int v0]) hs (by rw [hvm]; exact hf1) hfs1 rfl hcl (fun z => by cases z) (by rw [hfn1]; rfl)]
      jvm_step Y.here [X.exec, hcc, dl3_8]
      jvm_step Y.here [X.exec, hcc, dl3_9, invokestatic.wp_ready (e := kE K) (s := U) (m := t) (k := tkS) (meth := methB) (args := [.int v0, .int v1, .int i]) (rest := []) (f := frL (D.2.1 103) 9 a i [.int i, .int v1, .int v0]) hs (by unfold plainRef at hpr ⊢; rw [hvm]; exact hpr) (by rw [hvm]; exact hready) (by rw [hvm]; exact htkS) (by rw [hvm]; exact hmB) hsp hsB hiB hlB rfl]
      intro acts'
      exact hrest acts')
    (by rw [hcc]; exact dl3_9) (by rw [hcc]; exact dl3_12) (fun st o t h => by
      obtain ⟨v, rfl, hq, -⟩ := h
      obtain ⟨r, rfl, hn⟩ := hQ _ _ _ hq
      exact ⟨r, rfl, hn⟩)
  refine ⟨v, st₀, t9, T', L9, h1.trans hheap1, X9, hL9, hth, htv, hq9, fun target htg => ?_⟩
  exact hstep₁ _ fun acts => (hstep acts).trans htg
def LD4 : ClassFile := (SH4.file "AcousticCamera$State").getD { minorVersion := 0, majorVersion := 0, constantPool := #[], accessFlags := 0, thisClass := 0, superClass := 0, interfaces := #[], fields := #[], methods := #[], attributes := #[] }
def LW4 : Method := ((layoutMethods LD4).bind (·[1]?)).getD default
def LL4 : Array Field × Array FieldType × Array FieldType := (layoutFields LD4 0).getD (#[], #[], #[])
def LB4 : ByteArray := ⟨#[0x2a, 0xb4, 0x00, 0x0f, 0x1b, 0xb8, 0x00, 0x17, 0xad]⟩
theorem lf4_1 : SH4.file "AcousticCamera$State" = some LD4 := by
  have h : (SH4.file "AcousticCamera$State").isSome = true := by decide +kernel
  obtain ⟨x, hx⟩ := Option.isSome_iff_exists.mp h
  simp [LD4, hx]
theorem lf4_2 : ∀ ms, layoutMethods LD4 = some ms → ms[1]? = some LW4 := by
  intro ms hms
  have h : ((layoutMethods LD4).bind (·[1]?)).isSome = true := by decide +kernel
  obtain ⟨x, hx⟩ := Option.isSome_iff_exists.mp h
  have hf : LW4 = x := by simp [LW4, hx]
  rw [hms] at hx
  rw [hf]
  exact hx
theorem lf4_3 : layoutFields LD4 0 = some LL4 := by
  have h : (layoutFields LD4 0).isSome = true := by decide +kernel
  obtain ⟨x, hx⟩ := Option.isSome_iff_exists.mp h
  simp [LL4, hx]
theorem lf4_c : (LW4.code.map fun c => (c.code.data, c.maxLocals)) = some (LB4.data, 2) := by decide +kernel
theorem lf4_f : (LW4.accessFlags, LW4.sig.returnType) = (0x0001, some FieldType.long) := by decide +kernel
theorem lf4_t : LL4.2.1 = #[(.array .long)] := by decide +kernel
theorem lf4_M : LD4.constantPool[23]? = some (.methodref 19 22) ∧ LD4.constantPool.className? 19 = some "AcousticCamera$State" ∧ LD4.constantPool.nameAndType? 22 = some ("lambda$best$0", "([JI)J") := by decide +kernel
theorem lf4_C : LD4.constantPool[19]? = some (.class_ 18) ∧ LD4.constantPool.string? 18 = some "AcousticCamera$State" ∧ 19 ≠ LD4.thisClass := by decide +kernel
theorem lf4_F0 : LD4.constantPool[15]? = some (.fieldref 2 14) ∧ LD4.constantPool.nameAndType? 14 = some ("arg$1", "[J") ∧ LL4.1.findIdx? (·.name == "arg$1") = some 0 ∧ (LL4.1[0]?).map (fun f => (f.isStatic, f.slot)) = some (false, 0) := by decide +kernel
theorem dl4_0 : decode LB4 0 = .ok (.aload_n 0, 1) := by decide +kernel
theorem dl4_1 : decode LB4 1 = .ok (.getfield 15, 3) := by decide +kernel
theorem dl4_4 : decode LB4 4 = .ok (.iload_n 1, 1) := by decide +kernel
theorem dl4_5 : decode LB4 5 = .ok (.invokestatic 23, 3) := by decide +kernel
theorem dl4_8 : decode LB4 8 = .ok (.lreturn, 1) := by decide +kernel
theorem lam_site4 {U : State} {c : ClassId} {one : Nat} (h : LSt (({ cls := "AcousticCamera$State", name := "best", desc := "()I" } : MethodName), 8, 209, SH4) c one U) (hO : ObN U) : ∃ (k tk : Class) (methk : Method) (ck : Code) (toy iface : ClassId) (t found : MethodId) (file : ClassFile) (f0 : Field), U.vm.classes[c]? = some k ∧ k.kind = .ordinary ∧ k.instanceTypes = #[(.array .long)] ∧ U.plainMethod ⟨c, 1⟩ ∧ U.vm.method? ⟨c, 1⟩ = some methk ∧ methk.code = some ck ∧ ck.code = LB4 ∧ ck.maxLocals = 2 ∧ methk.locks = false ∧ methk.accessFlags = 1 ∧ methk.sig.returnType = some FieldType.long ∧ U.vm.findClass "AcousticCamera$State" = some toy ∧ U.vm.classes[toy]? = some tk ∧ tk.isInterface = false ∧ ((methodIn toy "lambda$best$0" "([JI)J" tk.isInterface none).ask { classPath := fun _ => none } U.vm).1 = .ok t ∧ U.vm.findClass "AcousticCamera$Score" = some iface ∧ ((methodIn iface "of" SH4.sam.toString true none).ask { classPath := fun _ => none } U.vm).1 = .ok found ∧ selectMethod {} U.vm c found = .method ⟨c, 1⟩ ∧ k.cf = some file ∧ file.constantPool[23]? = some (.methodref 19 22) ∧ file.constantPool.nameAndType? 22 = some ("lambda$best$0", "([JI)J") ∧ U.vm.classReady c 19 toy ∧ U.vm.methodReady c 23 t ∧ U.vm.fieldReady c 15 c f0 ∧ f0.isStatic = false ∧ f0.slot = 0 := by
  obtain ⟨m, kd, cf, i0, p0, lk, hm, hkd, hcf, hsh, hfind, hmade, hcall, hl⟩ := h
  obtain ⟨kd', hkd', hname⟩ := className_of_methodNamed hm
  cases hkd.symm.trans hkd'
  cases hx : LW4.code with
  | none => exact absurd lf4_c (by rw [hx]; exact fun z => by cases z)
  | some x =>
  have fc := lf4_c
  rw [hx] at fc
  simp only [Option.map_some, Option.some.injEq, Prod.mk.injEq] at fc
  have ff := lf4_f
  simp only [Prod.mk.injEq] at ff
  obtain ⟨k, tk, methk, ck, toy, iface, t, found, hk, hkind, hty, hmk, hck, hcc, hml, hfl, hsig, htoy, htk, hitf, hlook, hif, hfo, hsel, ⟨file, hfile, hpool⟩, hres, hfields⟩ := made_gen hkd hname hmade hO lf4_1 lf4_2 lf4_3 hx
  have hkn : k.name = "AcousticCamera$State$$Lambda" := by
    obtain ⟨dk', k', ok, tk', file', cf', object, iface', t', lay, methods, target, found', hd', hk', -, -, -, -, -, -, -, -, -, -, -, hrec, -⟩ := Lambda.isMade_spec hmade
    cases hkd.symm.trans hd'
    cases hk.symm.trans hk'
    rw [hrec.1, hname]
    rfl
  obtain ⟨g0, hg0, hp0⟩ := Option.map_eq_some_iff.mp lf4_F0.2.2.2
  simp only [Prod.mk.injEq] at hp0
  have e1 : SH4.implItf = false := rfl
  rw [e1] at hitf
  have hds : SH4.implDesc.toString = "([JI)J" := by decide +kernel
  rw [hds] at hlook
  have hready : U.vm.methodReady c 23 t := ⟨k, hk, hres 23 _ (Lambda.resolvedOf_method lf4_M.1 lf4_M.2.1 htoy htk lf4_M.2.2 hlook)⟩
  have hcr : U.vm.classReady c 19 toy := ⟨k, hk, hres 19 _ (Lambda.resolvedOf_class lf4_C.1 lf4_C.2.2 lf4_C.2.1 htoy)⟩
  refine ⟨k, tk, methk, ck, toy, iface, t, found, file, g0, hk, hkind, hty.trans lf4_t, State.plainMethod.of_name (fun k' hk' => by cases hk.symm.trans hk'; rw [hkn]; decide), hmk, hck, hcc.trans (ByteArray.ext fc.1), hml.trans fc.2, ?_, hfl.trans ff.1, by rw [hsig]; exact ff.2, htoy, htk, hitf, hlook, hif, hfo, hsel, hfile, by rw [hpool]; exact lf4_M.1, by rw [hpool]; exact lf4_M.2.2, hcr, hready, ⟨k, 0, k, hk, hres 15 _ (Lambda.resolvedOf_field lf4_F0.1 lf4_F0.2.1 lf4_F0.2.2.1), hk, hfields 0 _ hg0⟩, hp0.1, hp0.2⟩
  simp [Method.locks, Method.isSynchronized, hfl, ff.1, hasFlag, Acc.synchronized]
set_option maxHeartbeats 2000000 in
theorem vv_lam4 {K : C_} {y : MethodName} {cc : ByteArray} {nL : Nat} {ret : Option FieldType} {rm : Room} {D : DD} {A : Nat → Prop} {H : Heap} {cells slots : Nat} {Q : State → Prop} {pc : Nat} {lv : List (Nat × Value)} {st stk : List Value} {idx cnt a : Nat} {v0 : Nat} {i : Int32} {rm2 : Room} {P : Heap → Prop} {A2 : Nat → Prop} {Q2 : Option Value → Heap → Heap → Prop} (X : Fx K y cc nL ret rm D) (hM : Ct (kL K) yX3_lambda_best_0 cX3_lambda_best_0 2 (some FieldType.long) rm2 D [.ref v0, .int i] P A2 Q2) (hLO : LO D H a 4 [.ref v0]) (q1 : Cond.methodLink y.cls idx ⟨"AcousticCamera$Score", "of", "(I)J"⟩ ∈ lw_all) (hR : rm2.frames + 2 ≤ rm.frames ∧ 42 + rm2.locals ≤ rm.locals) (d : decode cc pc = .ok (.invokeinterface idx cnt, 5)) (hstk : stk = .int i :: .ref a :: st) (hw : (st.map fun v => v.category).sum ≤ 8) (hP : P H) (hA : ∀ q, A2 q → kF K A q) (hc : cells + rm2.cells ≤ rm.cells ∧ slots + rm2.slots ≤ rm.slots) (hQ : ∀ v H H1, Q2 v H H1 → ∃ r : Int64, v = some (.long r))
    (kk : ∀ (v : Option Value) (H1 : Heap), Q2 v H H1 → H.size ≤ H1.size → (∀ q : Nat, q < H.size → ¬ A2 q → H1[q]? = H[q]?) → V K nL A H1 (cells + rm2.cells) (slots + rm2.slots) Q (pc + 5) lv (v.toList ++ st)) : V K nL A H cells slots Q pc lv stk := by
  subst hstk
  refine vv_after5 (mc := rm2.cells) (ms := rm2.slots) (as := [.ref v0, .int i].toArray) (A2 := A2) (Q2 := Q2) (st := st) (fun L ls h0 T hT XX => ?_) hA kk
  have hmem : (⟨"AcousticCamera$Score", "of", "(I)J"⟩ : MethodName) ∈ IFL := by decide +kernel
  have hIF := X.ge.2.2.2.2.2.1 _ hmem
  have hLS := X.ge.2.2.2.1 4 _ rfl
  obtain ⟨r0, r, hn, hrm, hstR, hsigR⟩ := Cond.declares_spec (va_any (A' := kA K) rfl hIF.1)
  obtain ⟨cL, kL', r1, hcL, hkL, hiL, hfoundL, hn1⟩ := Cond.interfaceMethod_spec (va_any (A' := kA K) rfl hIF.2)
  cases hn.symm.trans hn1
  have hr0cls : r0.cls = cL := Option.some.inj ((findClass_of_methodNamed hn).symm.trans hcL)
  obtain ⟨hnameR, hdescR⟩ := name_of_methodNamed hn hrm
  obtain ⟨k, tk, methk, ck, toy, iface, t, found, file, f0, hk, hkind, hty, hpl, hmk, hck, hcc, hml, hlk, hfl, hretk, htoy, htk, hitf, hlook, hif, hfo, hsel, hfile, hcp, hnt, hcr, hready, hf0, hfs0, hfn0⟩ := lam_site4 hLS X.ge.2.2.1
  obtain ⟨-, -, -, -, -, -, -, -, -, -, -, -, hcall, -⟩ := hLS
  obtain ⟨i2, hi2, hasg, hway⟩ := State.lambdaCallable_spec hcall
  have e1 : SH4.iface = "AcousticCamera$Score" := rfl
  have e2 : SH4.sam.toString = "(I)J" := by decide +kernel
  have e3 : SH4.name = "of" := rfl
  rw [e1] at hi2
  rw [e2, e3] at hway
  rw [e2] at hfo
  cases hcL.symm.trans hi2
  cases hcL.symm.trans hif
  have hfr : found = r0 := by
    have h1 : (kS K).methodFound? "AcousticCamera$Score" "of" "(I)J" = some r0 := hfoundL
    simp only [State.methodFound?, hcL, hkL, hiL, Option.bind_eq_bind, Option.bind_some] at h1
    rw [hfo] at h1
    exact Option.some.inj h1
  subst hfr
  have hselP : selectMethod (kE K).platform (kS K).vm (D.2.1 104) found = .method ⟨D.2.1 104, 1⟩ := by rw [Launch.admits_selectMethod XX.admits]; exact hsel
  obtain ⟨vm₁, X₁, hstep₁⟩ := XX.invokeinterface X.exec X.own (X.words _ q1) hn hrm hstR (by rw [hr0cls]; exact hkL) hiL (by decide) (a := a) (cell := { cls := D.2.1 104, slots := [.ref v0].toArray, vm := .none }) (kcell := k) (by rw [hT]; exact hLO) (fun z h => by cases h) hk (by rw [hr0cls]; exact hasg) hselP hmk (by rw [hnameR, hdescR]; exact hway) (by rw [hfl]; decide) (by simp [Method.isAbstract, hfl, hasFlag, Acc.abstract]) (g := F0 (kM K) pc ls (.int i :: .ref a :: st)) rfl (argsL := [.int i]) (rest := st) (by
      have h9 := hsigR
      rw [show parseMethodDescriptor "(I)J" = some ⟨[.int], some FieldType.long⟩ from by decide +kernel] at h9
      rw [← Option.some.inj h9]
      rfl) rfl (by rw [X.code]; exact d)
  have hLS1 : LSt _ (D.2.1 104) (D.2.2 604) (T.setVm vm₁) := (X.ge.2.2.2.1 4 _ rfl).warm X₁.warmed
  have hO1 : ObN (T.setVm vm₁) := X.ge.2.2.1.moved X₁.warmed.alike
  clear hk hkind hty hpl hmk hck hcc hml hlk hfl hretk htoy htk hitf hlook hif hfo hsel hfile hcp hnt hcr hready hselP hf0 hfs0 hfn0
  obtain ⟨k, tk, methk, ck, toy, iface, t, found2, file, f0, hk, hkind, hty, hpl, hmk, hck, hcc, hml, hlk, hfl, hretk, htoy, htk, hitf, hlook, hif, hfo, hsel, hfile, hcp, hnt, hcr, hready, hf0, hfs0, hfn0⟩ := lam_site4 hLS1 hO1
  have hwd : ∀ w ∈ lw_all, ∀ (a' : Array Value) (U : State), (T.setVm vm₁).WarmedH U.vm → w.before a' U = true := fun w hw a' U hW => pay_in X.words lw_self w hw a' U (State.WarmedH.trans X₁.warmed hW)
  have hwT : ∀ w ∈ lw_all, w.before #[] (T.setVm vm₁) = true := fun w hw => hwd w hw _ _ (State.WarmedH.refl _)
  obtain ⟨tkS, methB, hpr, htkS, hmB, hsp, hsB, hiB, hlB, hnB⟩ := lam_static (e := kE K) (n := 2) (y := yX3_lambda_best_0) (sig := SH4.implDesc) hk hfile hcp hnt hready hcr htoy htk hlook (by decide) (hwT _ q1999) (hwT _ q1998) (hwT _ q150) (by decide +kernel) rfl
  have hheap1 : (T.setVm vm₁).heap = H := hT
  obtain ⟨v, st₀, t9, T', L9, h1, X9, hL9, hth, htv, hq9, hstep⟩ := lam_runl (As := [.ref v0, .int i]) (a := a) (i := i) (P := 5) X₁ X.exec (g := F0 (kM K) pc ls st) rfl (by rw [X.maxL]; exact h0.1) (by rw [X.code]; exact d) hmk hck hml hlk hpl hretk (hM H.size) PcT_blind rfl rfl (by rw [X.room]; exact hR.1) (by rw [X.room]; show 2 * 0 + (st.map fun v => v.category).sum + 13 + _ ≤ _; omega) (fun w hw a' U hW => (lw_meth q1999 w hw).1 |> fun h => hwd w h a' U hW) List.mem_cons_self (fun a' U hW => hwd _ q150 a' U hW) hnB (by rw [X.room]; exact hc.1) (by rw [X.room]; exact hc.2) (fun U hU hW => ⟨rfl, by rw [hU, hheap1], by rw [hU, hheap1]; exact hP, X.gk.warm (State.WarmedH.trans X₁.warmed hW)⟩)
    (fun R' s' args' U Y hvm hheap hnm target hrest => by
      have hs : U.topJava?.isSome := Y.here.top
      have hcl : U.heap[a]? = some { cls := D.2.1 104, slots := [.ref v0].toArray, vm := .none } := by rw [hheap, hheap1]; exact hLO
      jvm_step Y.here [X.exec, hcc, dl4_0, Value.isRef]
      jvm_step Y.here [X.exec, hcc, dl4_1, getfield.wp_ready (e := kE K) (s := U) (c := D.2.1 104) (field := f0) (a := a) (rest := []) (cell := { cls := D.2.1 104, slots := [.ref v0].toArray, vm := .none }) (v := .ref v0) (f := frL (D.2.1 104) 1 a i [.ref a]) hs (by rw [hvm]; exact hf0) hfs0 rfl hcl (fun z => by cases z) (by rw [hfn0]; rfl)]
      jvm_step Y.here [X.exec, hcc, dl4_4]
      jvm_step Y.here [X.exec, hcc, dl4_5, invokestatic.wp_ready (e := kE K) (s := U) (m := t) (k := tkS) (meth := methB) (args := [.ref v0, .int i]) (rest := []) (f := frL (D.2.1 104) 5 a i [.int i, .ref v0]) hs (by unfold plainRef at hpr ⊢; rw [hvm]; exact hpr) (by rw [hvm]; exact hready) (by rw [hvm]; exact htkS) (by rw [hvm]; exact hmB) hsp hsB hiB hlB rfl]
      intro acts'
      exact hrest acts')
    (by rw [hcc]; exact dl4_5) (by rw [hcc]; exact dl4_8) (fun st o t h => by
      obtain ⟨v, rfl, hq, -⟩ := h
      obtain ⟨r, rfl⟩ := hQ _ _ _ hq
      exact ⟨r, rfl⟩)
  refine ⟨v, st₀, t9, T', L9, h1.trans hheap1, X9, hL9, hth, htv, hq9, fun target htg => ?_⟩
  exact hstep₁ _ fun acts => (hstep acts).trans htg
def LD5 : ClassFile := (SH5.file "AcousticCamera").getD { minorVersion := 0, majorVersion := 0, constantPool := #[], accessFlags := 0, thisClass := 0, superClass := 0, interfaces := #[], fields := #[], methods := #[], attributes := #[] }
def LW5 : Method := ((layoutMethods LD5).bind (·[1]?)).getD default
def LL5 : Array Field × Array FieldType × Array FieldType := (layoutFields LD5 0).getD (#[], #[], #[])
def LB5 : ByteArray := ⟨#[0x2a, 0xb4, 0x00, 0x0f, 0x1b, 0xb8, 0x00, 0x17, 0xac]⟩
theorem lf5_1 : SH5.file "AcousticCamera" = some LD5 := by
  have h : (SH5.file "AcousticCamera").isSome = true := by decide +kernel
  obtain ⟨x, hx⟩ := Option.isSome_iff_exists.mp h
  simp [LD5, hx]
theorem lf5_2 : ∀ ms, layoutMethods LD5 = some ms → ms[1]? = some LW5 := by
  intro ms hms
  have h : ((layoutMethods LD5).bind (·[1]?)).isSome = true := by decide +kernel
  obtain ⟨x, hx⟩ := Option.isSome_iff_exists.mp h
  have hf : LW5 = x := by simp [LW5, hx]
  rw [hms] at hx
  rw [hf]
  exact hx
theorem lf5_3 : layoutFields LD5 0 = some LL5 := by
  have h : (layoutFields LD5 0).isSome = true := by decide +kernel
  obtain ⟨x, hx⟩ := Option.isSome_iff_exists.mp h
  simp [LL5, hx]
theorem lf5_c : (LW5.code.map fun c => (c.code.data, c.maxLocals)) = some (LB5.data, 2) := by decide +kernel
theorem lf5_f : (LW5.accessFlags, LW5.sig.returnType) = (0x0001, some FieldType.boolean) := by decide +kernel
theorem lf5_t : LL5.2.1 = #[(.object "AcousticCamera$State")] := by decide +kernel
theorem lf5_M : LD5.constantPool[23]? = some (.methodref 19 22) ∧ LD5.constantPool.className? 19 = some "AcousticCamera" ∧ LD5.constantPool.nameAndType? 22 = some ("lambda$peaks$0", "(LAcousticCamera$State;I)Z") := by decide +kernel
theorem lf5_C : LD5.constantPool[19]? = some (.class_ 18) ∧ LD5.constantPool.string? 18 = some "AcousticCamera" ∧ 19 ≠ LD5.thisClass := by decide +kernel
theorem lf5_F0 : LD5.constantPool[15]? = some (.fieldref 2 14) ∧ LD5.constantPool.nameAndType? 14 = some ("arg$1", "LAcousticCamera$State;") ∧ LL5.1.findIdx? (·.name == "arg$1") = some 0 ∧ (LL5.1[0]?).map (fun f => (f.isStatic, f.slot)) = some (false, 0) := by decide +kernel
theorem dl5_0 : decode LB5 0 = .ok (.aload_n 0, 1) := by decide +kernel
theorem dl5_1 : decode LB5 1 = .ok (.getfield 15, 3) := by decide +kernel
theorem dl5_4 : decode LB5 4 = .ok (.iload_n 1, 1) := by decide +kernel
theorem dl5_5 : decode LB5 5 = .ok (.invokestatic 23, 3) := by decide +kernel
theorem dl5_8 : decode LB5 8 = .ok (.ireturn, 1) := by decide +kernel
theorem lam_site5 {U : State} {c : ClassId} {one : Nat} (h : LSt (({ cls := "AcousticCamera", name := "peaks", desc := "()I" } : MethodName), 13, 284, SH5) c one U) (hO : ObN U) : ∃ (k tk : Class) (methk : Method) (ck : Code) (toy iface : ClassId) (t found : MethodId) (file : ClassFile) (f0 : Field), U.vm.classes[c]? = some k ∧ k.kind = .ordinary ∧ k.instanceTypes = #[(.object "AcousticCamera$State")] ∧ U.plainMethod ⟨c, 1⟩ ∧ U.vm.method? ⟨c, 1⟩ = some methk ∧ methk.code = some ck ∧ ck.code = LB5 ∧ ck.maxLocals = 2 ∧ methk.locks = false ∧ methk.accessFlags = 1 ∧ methk.sig.returnType = some FieldType.boolean ∧ U.vm.findClass "AcousticCamera" = some toy ∧ U.vm.classes[toy]? = some tk ∧ tk.isInterface = false ∧ ((methodIn toy "lambda$peaks$0" "(LAcousticCamera$State;I)Z" tk.isInterface none).ask { classPath := fun _ => none } U.vm).1 = .ok t ∧ U.vm.findClass "AcousticCamera$Choice" = some iface ∧ ((methodIn iface "takes" SH5.sam.toString true none).ask { classPath := fun _ => none } U.vm).1 = .ok found ∧ selectMethod {} U.vm c found = .method ⟨c, 1⟩ ∧ k.cf = some file ∧ file.constantPool[23]? = some (.methodref 19 22) ∧ file.constantPool.nameAndType? 22 = some ("lambda$peaks$0", "(LAcousticCamera$State;I)Z") ∧ U.vm.classReady c 19 toy ∧ U.vm.methodReady c 23 t ∧ U.vm.fieldReady c 15 c f0 ∧ f0.isStatic = false ∧ f0.slot = 0 := by
  obtain ⟨m, kd, cf, i0, p0, lk, hm, hkd, hcf, hsh, hfind, hmade, hcall, hl⟩ := h
  obtain ⟨kd', hkd', hname⟩ := className_of_methodNamed hm
  cases hkd.symm.trans hkd'
  cases hx : LW5.code with
  | none => exact absurd lf5_c (by rw [hx]; exact fun z => by cases z)
  | some x =>
  have fc := lf5_c
  rw [hx] at fc
  simp only [Option.map_some, Option.some.injEq, Prod.mk.injEq] at fc
  have ff := lf5_f
  simp only [Prod.mk.injEq] at ff
  obtain ⟨k, tk, methk, ck, toy, iface, t, found, hk, hkind, hty, hmk, hck, hcc, hml, hfl, hsig, htoy, htk, hitf, hlook, hif, hfo, hsel, ⟨file, hfile, hpool⟩, hres, hfields⟩ := made_gen hkd hname hmade hO lf5_1 lf5_2 lf5_3 hx
  have hkn : k.name = "AcousticCamera$$Lambda" := by
    obtain ⟨dk', k', ok, tk', file', cf', object, iface', t', lay, methods, target, found', hd', hk', -, -, -, -, -, -, -, -, -, -, -, hrec, -⟩ := Lambda.isMade_spec hmade
    cases hkd.symm.trans hd'
    cases hk.symm.trans hk'
    rw [hrec.1, hname]
    rfl
  obtain ⟨g0, hg0, hp0⟩ := Option.map_eq_some_iff.mp lf5_F0.2.2.2
  simp only [Prod.mk.injEq] at hp0
  have e1 : SH5.implItf = false := rfl
  rw [e1] at hitf
  have hds : SH5.implDesc.toString = "(LAcousticCamera$State;I)Z" := by decide +kernel
  rw [hds] at hlook
  have hready : U.vm.methodReady c 23 t := ⟨k, hk, hres 23 _ (Lambda.resolvedOf_method lf5_M.1 lf5_M.2.1 htoy htk lf5_M.2.2 hlook)⟩
  have hcr : U.vm.classReady c 19 toy := ⟨k, hk, hres 19 _ (Lambda.resolvedOf_class lf5_C.1 lf5_C.2.2 lf5_C.2.1 htoy)⟩
  refine ⟨k, tk, methk, ck, toy, iface, t, found, file, g0, hk, hkind, hty.trans lf5_t, State.plainMethod.of_name (fun k' hk' => by cases hk.symm.trans hk'; rw [hkn]; decide), hmk, hck, hcc.trans (ByteArray.ext fc.1), hml.trans fc.2, ?_, hfl.trans ff.1, by rw [hsig]; exact ff.2, htoy, htk, hitf, hlook, hif, hfo, hsel, hfile, by rw [hpool]; exact lf5_M.1, by rw [hpool]; exact lf5_M.2.2, hcr, hready, ⟨k, 0, k, hk, hres 15 _ (Lambda.resolvedOf_field lf5_F0.1 lf5_F0.2.1 lf5_F0.2.2.1), hk, hfields 0 _ hg0⟩, hp0.1, hp0.2⟩
  simp [Method.locks, Method.isSynchronized, hfl, ff.1, hasFlag, Acc.synchronized]
set_option maxHeartbeats 2000000 in
theorem vv_lam5 {K : C_} {y : MethodName} {cc : ByteArray} {nL : Nat} {ret : Option FieldType} {rm : Room} {D : DD} {A : Nat → Prop} {H : Heap} {cells slots : Nat} {Q : State → Prop} {pc : Nat} {lv : List (Nat × Value)} {st stk : List Value} {idx cnt a : Nat} {v0 : Nat} {i : Int32} {rm2 : Room} {P : Heap → Prop} {A2 : Nat → Prop} {Q2 : Option Value → Heap → Heap → Prop} (X : Fx K y cc nL ret rm D) (hM : Ct (kL K) yX1_lambda_peaks_0 cX1_lambda_peaks_0 2 (some FieldType.boolean) rm2 D [.ref v0, .int i] P A2 Q2) (hLO : LO D H a 5 [.ref v0]) (q1 : Cond.methodLink y.cls idx ⟨"AcousticCamera$Choice", "takes", "(I)Z"⟩ ∈ lw_all) (hR : rm2.frames + 2 ≤ rm.frames ∧ 42 + rm2.locals ≤ rm.locals) (d : decode cc pc = .ok (.invokeinterface idx cnt, 5)) (hstk : stk = .int i :: .ref a :: st) (hw : (st.map fun v => v.category).sum ≤ 8) (hP : P H) (hA : ∀ q, A2 q → kF K A q) (hc : cells + rm2.cells ≤ rm.cells ∧ slots + rm2.slots ≤ rm.slots) (hQ : ∀ v H H1, Q2 v H H1 → ∃ r : Int32, v = some (.int r) ∧ narrow FieldType.boolean (.int r) = .int r)
    (kk : ∀ (v : Option Value) (H1 : Heap), Q2 v H H1 → H.size ≤ H1.size → (∀ q : Nat, q < H.size → ¬ A2 q → H1[q]? = H[q]?) → V K nL A H1 (cells + rm2.cells) (slots + rm2.slots) Q (pc + 5) lv (v.toList ++ st)) : V K nL A H cells slots Q pc lv stk := by
  subst hstk
  refine vv_after5 (mc := rm2.cells) (ms := rm2.slots) (as := [.ref v0, .int i].toArray) (A2 := A2) (Q2 := Q2) (st := st) (fun L ls h0 T hT XX => ?_) hA kk
  have hmem : (⟨"AcousticCamera$Choice", "takes", "(I)Z"⟩ : MethodName) ∈ IFL := by decide +kernel
  have hIF := X.ge.2.2.2.2.2.1 _ hmem
  have hLS := X.ge.2.2.2.1 5 _ rfl
  obtain ⟨r0, r, hn, hrm, hstR, hsigR⟩ := Cond.declares_spec (va_any (A' := kA K) rfl hIF.1)
  obtain ⟨cL, kL', r1, hcL, hkL, hiL, hfoundL, hn1⟩ := Cond.interfaceMethod_spec (va_any (A' := kA K) rfl hIF.2)
  cases hn.symm.trans hn1
  have hr0cls : r0.cls = cL := Option.some.inj ((findClass_of_methodNamed hn).symm.trans hcL)
  obtain ⟨hnameR, hdescR⟩ := name_of_methodNamed hn hrm
  obtain ⟨k, tk, methk, ck, toy, iface, t, found, file, f0, hk, hkind, hty, hpl, hmk, hck, hcc, hml, hlk, hfl, hretk, htoy, htk, hitf, hlook, hif, hfo, hsel, hfile, hcp, hnt, hcr, hready, hf0, hfs0, hfn0⟩ := lam_site5 hLS X.ge.2.2.1
  obtain ⟨-, -, -, -, -, -, -, -, -, -, -, -, hcall, -⟩ := hLS
  obtain ⟨i2, hi2, hasg, hway⟩ := State.lambdaCallable_spec hcall
  have e1 : SH5.iface = "AcousticCamera$Choice" := rfl
  have e2 : SH5.sam.toString = "(I)Z" := by decide +kernel
  have e3 : SH5.name = "takes" := rfl
  rw [e1] at hi2
  rw [e2, e3] at hway
  rw [e2] at hfo
  cases hcL.symm.trans hi2
  cases hcL.symm.trans hif
  have hfr : found = r0 := by
    have h1 : (kS K).methodFound? "AcousticCamera$Choice" "takes" "(I)Z" = some r0 := hfoundL
    simp only [State.methodFound?, hcL, hkL, hiL, Option.bind_eq_bind, Option.bind_some] at h1
    rw [hfo] at h1
    exact Option.some.inj h1
  subst hfr
  have hselP : selectMethod (kE K).platform (kS K).vm (D.2.1 105) found = .method ⟨D.2.1 105, 1⟩ := by rw [Launch.admits_selectMethod XX.admits]; exact hsel
  obtain ⟨vm₁, X₁, hstep₁⟩ := XX.invokeinterface X.exec X.own (X.words _ q1) hn hrm hstR (by rw [hr0cls]; exact hkL) hiL (by decide) (a := a) (cell := { cls := D.2.1 105, slots := [.ref v0].toArray, vm := .none }) (kcell := k) (by rw [hT]; exact hLO) (fun z h => by cases h) hk (by rw [hr0cls]; exact hasg) hselP hmk (by rw [hnameR, hdescR]; exact hway) (by rw [hfl]; decide) (by simp [Method.isAbstract, hfl, hasFlag, Acc.abstract]) (g := F0 (kM K) pc ls (.int i :: .ref a :: st)) rfl (argsL := [.int i]) (rest := st) (by
      have h9 := hsigR
      rw [show parseMethodDescriptor "(I)Z" = some ⟨[.int], some FieldType.boolean⟩ from by decide +kernel] at h9
      rw [← Option.some.inj h9]
      rfl) rfl (by rw [X.code]; exact d)
  have hLS1 : LSt _ (D.2.1 105) (D.2.2 605) (T.setVm vm₁) := (X.ge.2.2.2.1 5 _ rfl).warm X₁.warmed
  have hO1 : ObN (T.setVm vm₁) := X.ge.2.2.1.moved X₁.warmed.alike
  clear hk hkind hty hpl hmk hck hcc hml hlk hfl hretk htoy htk hitf hlook hif hfo hsel hfile hcp hnt hcr hready hselP hf0 hfs0 hfn0
  obtain ⟨k, tk, methk, ck, toy, iface, t, found2, file, f0, hk, hkind, hty, hpl, hmk, hck, hcc, hml, hlk, hfl, hretk, htoy, htk, hitf, hlook, hif, hfo, hsel, hfile, hcp, hnt, hcr, hready, hf0, hfs0, hfn0⟩ := lam_site5 hLS1 hO1
  have hwd : ∀ w ∈ lw_all, ∀ (a' : Array Value) (U : State), (T.setVm vm₁).WarmedH U.vm → w.before a' U = true := fun w hw a' U hW => pay_in X.words lw_self w hw a' U (State.WarmedH.trans X₁.warmed hW)
  have hwT : ∀ w ∈ lw_all, w.before #[] (T.setVm vm₁) = true := fun w hw => hwd w hw _ _ (State.WarmedH.refl _)
  obtain ⟨tkS, methB, hpr, htkS, hmB, hsp, hsB, hiB, hlB, hnB⟩ := lam_static (e := kE K) (n := 2) (y := yX1_lambda_peaks_0) (sig := SH5.implDesc) hk hfile hcp hnt hready hcr htoy htk hlook (by decide) (hwT _ q2029) (hwT _ q2028) (hwT _ q137) (by decide +kernel) rfl
  have hheap1 : (T.setVm vm₁).heap = H := hT
  obtain ⟨v, st₀, t9, T', L9, h1, X9, hL9, hth, htv, hq9, hstep⟩ := lam_runi (As := [.ref v0, .int i]) (a := a) (i := i) (P := 5) X₁ X.exec (g := F0 (kM K) pc ls st) rfl (by rw [X.maxL]; exact h0.1) (by rw [X.code]; exact d) hmk hck hml hlk hpl hretk (hM H.size) PcT_blind rfl rfl (by rw [X.room]; exact hR.1) (by rw [X.room]; show 2 * 0 + (st.map fun v => v.category).sum + 13 + _ ≤ _; omega) (fun w hw a' U hW => (lw_meth q2029 w hw).1 |> fun h => hwd w h a' U hW) List.mem_cons_self (fun a' U hW => hwd _ q137 a' U hW) hnB (by rw [X.room]; exact hc.1) (by rw [X.room]; exact hc.2) (fun U hU hW => ⟨rfl, by rw [hU, hheap1], by rw [hU, hheap1]; exact hP, X.gk.warm (State.WarmedH.trans X₁.warmed hW)⟩)
    (fun R' s' args' U Y hvm hheap hnm target hrest => by
      have hs : U.topJava?.isSome := Y.here.top
      have hcl : U.heap[a]? = some { cls := D.2.1 105, slots := [.ref v0].toArray, vm := .none } := by rw [hheap, hheap1]; exact hLO
      jvm_step Y.here [X.exec, hcc, dl5_0, Value.isRef]
      jvm_step Y.here [X.exec, hcc, dl5_1, getfield.wp_ready (e := kE K) (s := U) (c := D.2.1 105) (field := f0) (a := a) (rest := []) (cell := { cls := D.2.1 105, slots := [.ref v0].toArray, vm := .none }) (v := .ref v0) (f := frL (D.2.1 105) 1 a i [.ref a]) hs (by rw [hvm]; exact hf0) hfs0 rfl hcl (fun z => by cases z) (by rw [hfn0]; rfl)]
      jvm_step Y.here [X.exec, hcc, dl5_4]
      jvm_step Y.here [X.exec, hcc, dl5_5, invokestatic.wp_ready (e := kE K) (s := U) (m := t) (k := tkS) (meth := methB) (args := [.ref v0, .int i]) (rest := []) (f := frL (D.2.1 105) 5 a i [.int i, .ref v0]) hs (by unfold plainRef at hpr ⊢; rw [hvm]; exact hpr) (by rw [hvm]; exact hready) (by rw [hvm]; exact htkS) (by rw [hvm]; exact hmB) hsp hsB hiB hlB rfl]
      intro acts'
      exact hrest acts')
    (by rw [hcc]; exact dl5_5) (by rw [hcc]; exact dl5_8) (fun st o t h => by
      obtain ⟨v, rfl, hq, -⟩ := h
      obtain ⟨r, rfl, hn⟩ := hQ _ _ _ hq
      exact ⟨r, rfl, hn⟩)
  refine ⟨v, st₀, t9, T', L9, h1.trans hheap1, X9, hL9, hth, htv, hq9, fun target htg => ?_⟩
  exact hstep₁ _ fun acts => (hstep acts).trans htg
def LD6 : ClassFile := (SH6.file "AcousticCamera$State").getD { minorVersion := 0, majorVersion := 0, constantPool := #[], accessFlags := 0, thisClass := 0, superClass := 0, interfaces := #[], fields := #[], methods := #[], attributes := #[] }
def LW6 : Method := ((layoutMethods LD6).bind (·[1]?)).getD default
def LL6 : Array Field × Array FieldType × Array FieldType := (layoutFields LD6 0).getD (#[], #[], #[])
def LB6 : ByteArray := ⟨#[0x2a, 0xb4, 0x00, 0x0f, 0x1b, 0xb6, 0x00, 0x16, 0xac]⟩
theorem lf6_1 : SH6.file "AcousticCamera$State" = some LD6 := by
  have h : (SH6.file "AcousticCamera$State").isSome = true := by decide +kernel
  obtain ⟨x, hx⟩ := Option.isSome_iff_exists.mp h
  simp [LD6, hx]
theorem lf6_2 : ∀ ms, layoutMethods LD6 = some ms → ms[1]? = some LW6 := by
  intro ms hms
  have h : ((layoutMethods LD6).bind (·[1]?)).isSome = true := by decide +kernel
  obtain ⟨x, hx⟩ := Option.isSome_iff_exists.mp h
  have hf : LW6 = x := by simp [LW6, hx]
  rw [hms] at hx
  rw [hf]
  exact hx
theorem lf6_3 : layoutFields LD6 0 = some LL6 := by
  have h : (layoutFields LD6 0).isSome = true := by decide +kernel
  obtain ⟨x, hx⟩ := Option.isSome_iff_exists.mp h
  simp [LL6, hx]
theorem lf6_c : (LW6.code.map fun c => (c.code.data, c.maxLocals)) = some (LB6.data, 2) := by decide +kernel
theorem lf6_f : (LW6.accessFlags, LW6.sig.returnType) = (0x0001, some FieldType.boolean) := by decide +kernel
theorem lf6_t : LL6.2.1 = #[(.object "AcousticCamera$State")] := by decide +kernel
theorem lf6_M : LD6.constantPool[22]? = some (.methodref 19 21) ∧ LD6.constantPool.className? 19 = some "AcousticCamera$State" ∧ LD6.constantPool.nameAndType? 21 = some ("lambda$peaks$2", "(I)Z") := by decide +kernel
theorem lf6_C : LD6.constantPool[19]? = some (.class_ 18) ∧ LD6.constantPool.string? 18 = some "AcousticCamera$State" ∧ 19 ≠ LD6.thisClass := by decide +kernel
theorem lf6_F0 : LD6.constantPool[15]? = some (.fieldref 2 14) ∧ LD6.constantPool.nameAndType? 14 = some ("arg$1", "LAcousticCamera$State;") ∧ LL6.1.findIdx? (·.name == "arg$1") = some 0 ∧ (LL6.1[0]?).map (fun f => (f.isStatic, f.slot)) = some (false, 0) := by decide +kernel
theorem dl6_0 : decode LB6 0 = .ok (.aload_n 0, 1) := by decide +kernel
theorem dl6_1 : decode LB6 1 = .ok (.getfield 15, 3) := by decide +kernel
theorem dl6_4 : decode LB6 4 = .ok (.iload_n 1, 1) := by decide +kernel
theorem dl6_5 : decode LB6 5 = .ok (.invokevirtual 22, 3) := by decide +kernel
theorem dl6_8 : decode LB6 8 = .ok (.ireturn, 1) := by decide +kernel
theorem lam_site6 {U : State} {c : ClassId} {one : Nat} (h : LSt (({ cls := "AcousticCamera$State", name := "peaks", desc := "()Ljava/util/LinkedList;" } : MethodName), 8, 260, SH6) c one U) (hO : ObN U) : ∃ (k tk : Class) (methk : Method) (ck : Code) (toy iface : ClassId) (t found : MethodId) (file : ClassFile) (f0 : Field), U.vm.classes[c]? = some k ∧ k.kind = .ordinary ∧ k.instanceTypes = #[(.object "AcousticCamera$State")] ∧ U.plainMethod ⟨c, 1⟩ ∧ U.vm.method? ⟨c, 1⟩ = some methk ∧ methk.code = some ck ∧ ck.code = LB6 ∧ ck.maxLocals = 2 ∧ methk.locks = false ∧ methk.accessFlags = 1 ∧ methk.sig.returnType = some FieldType.boolean ∧ U.vm.findClass "AcousticCamera$State" = some toy ∧ U.vm.classes[toy]? = some tk ∧ tk.isInterface = false ∧ ((methodIn toy "lambda$peaks$2" "(I)Z" tk.isInterface none).ask { classPath := fun _ => none } U.vm).1 = .ok t ∧ U.vm.findClass "AcousticCamera$Choice" = some iface ∧ ((methodIn iface "takes" SH6.sam.toString true none).ask { classPath := fun _ => none } U.vm).1 = .ok found ∧ selectMethod {} U.vm c found = .method ⟨c, 1⟩ ∧ k.cf = some file ∧ file.constantPool[22]? = some (.methodref 19 21) ∧ file.constantPool.nameAndType? 21 = some ("lambda$peaks$2", "(I)Z") ∧ U.vm.classReady c 19 toy ∧ U.vm.methodReady c 22 t ∧ U.vm.fieldReady c 15 c f0 ∧ f0.isStatic = false ∧ f0.slot = 0 := by
  obtain ⟨m, kd, cf, i0, p0, lk, hm, hkd, hcf, hsh, hfind, hmade, hcall, hl⟩ := h
  obtain ⟨kd', hkd', hname⟩ := className_of_methodNamed hm
  cases hkd.symm.trans hkd'
  cases hx : LW6.code with
  | none => exact absurd lf6_c (by rw [hx]; exact fun z => by cases z)
  | some x =>
  have fc := lf6_c
  rw [hx] at fc
  simp only [Option.map_some, Option.some.injEq, Prod.mk.injEq] at fc
  have ff := lf6_f
  simp only [Prod.mk.injEq] at ff
  obtain ⟨k, tk, methk, ck, toy, iface, t, found, hk, hkind, hty, hmk, hck, hcc, hml, hfl, hsig, htoy, htk, hitf, hlook, hif, hfo, hsel, ⟨file, hfile, hpool⟩, hres, hfields⟩ := made_gen hkd hname hmade hO lf6_1 lf6_2 lf6_3 hx
  have hkn : k.name = "AcousticCamera$State$$Lambda" := by
    obtain ⟨dk', k', ok, tk', file', cf', object, iface', t', lay, methods, target, found', hd', hk', -, -, -, -, -, -, -, -, -, -, -, hrec, -⟩ := Lambda.isMade_spec hmade
    cases hkd.symm.trans hd'
    cases hk.symm.trans hk'
    rw [hrec.1, hname]
    rfl
  obtain ⟨g0, hg0, hp0⟩ := Option.map_eq_some_iff.mp lf6_F0.2.2.2
  simp only [Prod.mk.injEq] at hp0
  have e1 : SH6.implItf = false := rfl
  rw [e1] at hitf
  have hds : SH6.implDesc.toString = "(I)Z" := by decide +kernel
  rw [hds] at hlook
  have hready : U.vm.methodReady c 22 t := ⟨k, hk, hres 22 _ (Lambda.resolvedOf_method lf6_M.1 lf6_M.2.1 htoy htk lf6_M.2.2 hlook)⟩
  have hcr : U.vm.classReady c 19 toy := ⟨k, hk, hres 19 _ (Lambda.resolvedOf_class lf6_C.1 lf6_C.2.2 lf6_C.2.1 htoy)⟩
  refine ⟨k, tk, methk, ck, toy, iface, t, found, file, g0, hk, hkind, hty.trans lf6_t, State.plainMethod.of_name (fun k' hk' => by cases hk.symm.trans hk'; rw [hkn]; decide), hmk, hck, hcc.trans (ByteArray.ext fc.1), hml.trans fc.2, ?_, hfl.trans ff.1, by rw [hsig]; exact ff.2, htoy, htk, hitf, hlook, hif, hfo, hsel, hfile, by rw [hpool]; exact lf6_M.1, by rw [hpool]; exact lf6_M.2.2, hcr, hready, ⟨k, 0, k, hk, hres 15 _ (Lambda.resolvedOf_field lf6_F0.1 lf6_F0.2.1 lf6_F0.2.2.1), hk, hfields 0 _ hg0⟩, hp0.1, hp0.2⟩
  simp [Method.locks, Method.isSynchronized, hfl, ff.1, hasFlag, Acc.synchronized]
set_option maxHeartbeats 2000000 in
theorem vv_lam6 {K : C_} {y : MethodName} {cc : ByteArray} {nL : Nat} {ret : Option FieldType} {rm : Room} {D : DD} {A : Nat → Prop} {H : Heap} {cells slots : Nat} {Q : State → Prop} {pc : Nat} {lv : List (Nat × Value)} {st stk : List Value} {idx cnt a : Nat} {v0 : Nat} {i : Int32} {rm2 : Room} {P : Heap → Prop} {A2 : Nat → Prop} {Q2 : Option Value → Heap → Heap → Prop} (X : Fx K y cc nL ret rm D) (hM : Ct (kL K) yX3_lambda_peaks_2 cX3_lambda_peaks_2 2 (some FieldType.boolean) rm2 D [.ref v0, .int i] P A2 Q2) (hLO : LO D H a 6 [.ref v0]) (hrcv : ∃ cell : Cell, H[v0]? = some cell ∧ cell.vm.isStatics = false ∧ (kS K).vm.findClass "AcousticCamera$State" = some cell.cls) (q1 : Cond.methodLink y.cls idx ⟨"AcousticCamera$Choice", "takes", "(I)Z"⟩ ∈ lw_all) (hR : rm2.frames + 2 ≤ rm.frames ∧ 42 + rm2.locals ≤ rm.locals) (d : decode cc pc = .ok (.invokeinterface idx cnt, 5)) (hstk : stk = .int i :: .ref a :: st) (hw : (st.map fun v => v.category).sum ≤ 8) (hP : P H) (hA : ∀ q, A2 q → kF K A q) (hc : cells + rm2.cells ≤ rm.cells ∧ slots + rm2.slots ≤ rm.slots) (hQ : ∀ v H H1, Q2 v H H1 → ∃ r : Int32, v = some (.int r) ∧ narrow FieldType.boolean (.int r) = .int r)
    (kk : ∀ (v : Option Value) (H1 : Heap), Q2 v H H1 → H.size ≤ H1.size → (∀ q : Nat, q < H.size → ¬ A2 q → H1[q]? = H[q]?) → V K nL A H1 (cells + rm2.cells) (slots + rm2.slots) Q (pc + 5) lv (v.toList ++ st)) : V K nL A H cells slots Q pc lv stk := by
  subst hstk
  refine vv_after5 (mc := rm2.cells) (ms := rm2.slots) (as := [.ref v0, .int i].toArray) (A2 := A2) (Q2 := Q2) (st := st) (fun L ls h0 T hT XX => ?_) hA kk
  have hmem : (⟨"AcousticCamera$Choice", "takes", "(I)Z"⟩ : MethodName) ∈ IFL := by decide +kernel
  have hIF := X.ge.2.2.2.2.2.1 _ hmem
  have hLS := X.ge.2.2.2.1 6 _ rfl
  obtain ⟨r0, r, hn, hrm, hstR, hsigR⟩ := Cond.declares_spec (va_any (A' := kA K) rfl hIF.1)
  obtain ⟨cL, kL', r1, hcL, hkL, hiL, hfoundL, hn1⟩ := Cond.interfaceMethod_spec (va_any (A' := kA K) rfl hIF.2)
  cases hn.symm.trans hn1
  have hr0cls : r0.cls = cL := Option.some.inj ((findClass_of_methodNamed hn).symm.trans hcL)
  obtain ⟨hnameR, hdescR⟩ := name_of_methodNamed hn hrm
  obtain ⟨k, tk, methk, ck, toy, iface, t, found, file, f0, hk, hkind, hty, hpl, hmk, hck, hcc, hml, hlk, hfl, hretk, htoy, htk, hitf, hlook, hif, hfo, hsel, hfile, hcp, hnt, hcr, hready, hf0, hfs0, hfn0⟩ := lam_site6 hLS X.ge.2.2.1
  obtain ⟨-, -, -, -, -, -, -, -, -, -, -, -, hcall, -⟩ := hLS
  obtain ⟨i2, hi2, hasg, hway⟩ := State.lambdaCallable_spec hcall
  have e1 : SH6.iface = "AcousticCamera$Choice" := rfl
  have e2 : SH6.sam.toString = "(I)Z" := by decide +kernel
  have e3 : SH6.name = "takes" := rfl
  rw [e1] at hi2
  rw [e2, e3] at hway
  rw [e2] at hfo
  cases hcL.symm.trans hi2
  cases hcL.symm.trans hif
  have hfr : found = r0 := by
    have h1 : (kS K).methodFound? "AcousticCamera$Choice" "takes" "(I)Z" = some r0 := hfoundL
    simp only [State.methodFound?, hcL, hkL, hiL, Option.bind_eq_bind, Option.bind_some] at h1
    rw [hfo] at h1
    exact Option.some.inj h1
  subst hfr
  have hselP : selectMethod (kE K).platform (kS K).vm (D.2.1 106) found = .method ⟨D.2.1 106, 1⟩ := by rw [Launch.admits_selectMethod XX.admits]; exact hsel
  obtain ⟨vm₁, X₁, hstep₁⟩ := XX.invokeinterface X.exec X.own (X.words _ q1) hn hrm hstR (by rw [hr0cls]; exact hkL) hiL (by decide) (a := a) (cell := { cls := D.2.1 106, slots := [.ref v0].toArray, vm := .none }) (kcell := k) (by rw [hT]; exact hLO) (fun z h => by cases h) hk (by rw [hr0cls]; exact hasg) hselP hmk (by rw [hnameR, hdescR]; exact hway) (by rw [hfl]; decide) (by simp [Method.isAbstract, hfl, hasFlag, Acc.abstract]) (g := F0 (kM K) pc ls (.int i :: .ref a :: st)) rfl (argsL := [.int i]) (rest := st) (by
      have h9 := hsigR
      rw [show parseMethodDescriptor "(I)Z" = some ⟨[.int], some FieldType.boolean⟩ from by decide +kernel] at h9
      rw [← Option.some.inj h9]
      rfl) rfl (by rw [X.code]; exact d)
  have hLS1 : LSt _ (D.2.1 106) (D.2.2 606) (T.setVm vm₁) := (X.ge.2.2.2.1 6 _ rfl).warm X₁.warmed
  have hO1 : ObN (T.setVm vm₁) := X.ge.2.2.1.moved X₁.warmed.alike
  clear hk hkind hty hpl hmk hck hcc hml hlk hfl hretk htoy htk hitf hlook hif hfo hsel hfile hcp hnt hcr hready hselP hf0 hfs0 hfn0
  obtain ⟨k, tk, methk, ck, toy, iface, t, found2, file, f0, hk, hkind, hty, hpl, hmk, hck, hcc, hml, hlk, hfl, hretk, htoy, htk, hitf, hlook, hif, hfo, hsel, hfile, hcp, hnt, hcr, hready, hf0, hfs0, hfn0⟩ := lam_site6 hLS1 hO1
  have hwd : ∀ w ∈ lw_all, ∀ (a' : Array Value) (U : State), (T.setVm vm₁).WarmedH U.vm → w.before a' U = true := fun w hw a' U hW => pay_in X.words lw_self w hw a' U (State.WarmedH.trans X₁.warmed hW)
  have hwT : ∀ w ∈ lw_all, w.before #[] (T.setVm vm₁) = true := fun w hw => hwd w hw _ _ (State.WarmedH.refl _)
  obtain ⟨kT, kP2, methB, hnC, hkT, hmB, hsp, hsB, hlB, hsl, hab, hkP2, hkPi, hnB⟩ := lam_virtual XX.admits (n := 1) (y := yX3_lambda_peaks_2) (sig := SH6.implDesc) hk hfile hcp hcr htoy htk hitf hlook (by decide) (hwT _ q2054) (hwT _ q2053) (hwT _ qs42) (by decide +kernel) rfl
  have hheap1 : (T.setVm vm₁).heap = H := hT
  have hrecv : ∃ cB : Cell, H[v0]? = some cB ∧ cB.vm.isStatics = false ∧ ∀ toy, (T.setVm vm₁).vm.findClass "AcousticCamera$State" = some toy → cB.cls = toy := by
    obtain ⟨cell, g1, g2, g3⟩ := hrcv
    exact ⟨cell, g1, g2, fun toy h => by rw [X₁.warmed.alike.findClass] at h; exact Option.some.inj (g3.symm.trans h)⟩
  obtain ⟨v, st₀, t9, T', L9, h1, X9, hL9, hth, htv, hq9, hstep⟩ := lam_runi (As := [.ref v0, .int i]) (a := a) (i := i) (P := 5) X₁ X.exec (g := F0 (kM K) pc ls st) rfl (by rw [X.maxL]; exact h0.1) (by rw [X.code]; exact d) hmk hck hml hlk hpl hretk (hM H.size) PcT_blind rfl rfl (by rw [X.room]; exact hR.1) (by rw [X.room]; show 2 * 0 + (st.map fun v => v.category).sum + 13 + _ ≤ _; omega) (fun w hw a' U hW => (lw_meth q2054 w hw).1 |> fun h => hwd w h a' U hW) List.mem_cons_self (fun a' U hW => hwd _ q150 a' U hW) hnB (by rw [X.room]; exact hc.1) (by rw [X.room]; exact hc.2) (fun U hU hW => ⟨rfl, by rw [hU, hheap1], by rw [hU, hheap1]; exact hP, X.gk.warm (State.WarmedH.trans X₁.warmed hW)⟩)
    (fun R' s' args' U Y hvm hheap hnm target hrest => by
      have hs : U.topJava?.isSome := Y.here.top
      have hcl : U.heap[a]? = some { cls := D.2.1 106, slots := [.ref v0].toArray, vm := .none } := by rw [hheap, hheap1]; exact hLO
      jvm_step Y.here [X.exec, hcc, dl6_0, Value.isRef]
      jvm_step Y.here [X.exec, hcc, dl6_1, getfield.wp_ready (e := kE K) (s := U) (c := D.2.1 106) (field := f0) (a := a) (rest := []) (cell := { cls := D.2.1 106, slots := [.ref v0].toArray, vm := .none }) (v := .ref v0) (f := frL (D.2.1 106) 1 a i [.ref a]) hs (by rw [hvm]; exact hf0) hfs0 rfl hcl (fun z => by cases z) (by rw [hfn0]; rfl)]
      jvm_step Y.here [X.exec, hcc, dl6_4]
      obtain ⟨cB, hcB, hvB, hclB⟩ := hrecv
      jvm_step Y.here [X.exec, hcc, dl6_5, invokevirtual.wp_ready (e := kE K) (s := U) (r := t) (m := t) (k := kT) (mk := kP2) (rmeth := methB) (meth := methB) (a := v0) (args := [.int i]) (rest := []) (cell := cB) (f := frL (D.2.1 106) 5 a i [.int i, .ref v0]) hs (by unfold namesAClass at hnC ⊢; rw [hvm]; exact hnC) (by rw [hvm]; exact hready) (by rw [hvm]; exact hkT) (by rw [hvm]; exact hmB) hsp hsB hlB rfl (by rw [hheap, hheap1]; exact hcB) (fun z h => by rw [h] at hvB; cases hvB) (by rw [hvm, hclB toy htoy]; exact hsl) (by rw [hvm]; exact hmB) hab (by rw [hvm]; exact hkP2) hkPi]
      intro acts'
      exact hrest acts')
    (by rw [hcc]; exact dl6_5) (by rw [hcc]; exact dl6_8) (fun st o t h => by
      obtain ⟨v, rfl, hq, -⟩ := h
      obtain ⟨r, rfl, hn⟩ := hQ _ _ _ hq
      exact ⟨r, rfl, hn⟩)
  refine ⟨v, st₀, t9, T', L9, h1.trans hheap1, X9, hL9, hth, htv, hq9, fun target htg => ?_⟩
  exact hstep₁ _ fun acts => (hstep acts).trans htg
def LD7 : ClassFile := (SH7.file "AcousticCamera$State").getD { minorVersion := 0, majorVersion := 0, constantPool := #[], accessFlags := 0, thisClass := 0, superClass := 0, interfaces := #[], fields := #[], methods := #[], attributes := #[] }
def LW7 : Method := ((layoutMethods LD7).bind (·[1]?)).getD default
def LL7 : Array Field × Array FieldType × Array FieldType := (layoutFields LD7 0).getD (#[], #[], #[])
def LB7 : ByteArray := ⟨#[0x2a, 0xb4, 0x00, 0x0f, 0x1b, 0xb8, 0x00, 0x17, 0xad]⟩
theorem lf7_1 : SH7.file "AcousticCamera$State" = some LD7 := by
  have h : (SH7.file "AcousticCamera$State").isSome = true := by decide +kernel
  obtain ⟨x, hx⟩ := Option.isSome_iff_exists.mp h
  simp [LD7, hx]
theorem lf7_2 : ∀ ms, layoutMethods LD7 = some ms → ms[1]? = some LW7 := by
  intro ms hms
  have h : ((layoutMethods LD7).bind (·[1]?)).isSome = true := by decide +kernel
  obtain ⟨x, hx⟩ := Option.isSome_iff_exists.mp h
  have hf : LW7 = x := by simp [LW7, hx]
  rw [hms] at hx
  rw [hf]
  exact hx
theorem lf7_3 : layoutFields LD7 0 = some LL7 := by
  have h : (layoutFields LD7 0).isSome = true := by decide +kernel
  obtain ⟨x, hx⟩ := Option.isSome_iff_exists.mp h
  simp [LL7, hx]
theorem lf7_c : (LW7.code.map fun c => (c.code.data, c.maxLocals)) = some (LB7.data, 2) := by decide +kernel
theorem lf7_f : (LW7.accessFlags, LW7.sig.returnType) = (0x0001, some FieldType.long) := by decide +kernel
theorem lf7_t : LL7.2.1 = #[(.array .long)] := by decide +kernel
theorem lf7_M : LD7.constantPool[23]? = some (.methodref 19 22) ∧ LD7.constantPool.className? 19 = some "AcousticCamera$State" ∧ LD7.constantPool.nameAndType? 22 = some ("lambda$peaks$3", "([JI)J") := by decide +kernel
theorem lf7_C : LD7.constantPool[19]? = some (.class_ 18) ∧ LD7.constantPool.string? 18 = some "AcousticCamera$State" ∧ 19 ≠ LD7.thisClass := by decide +kernel
theorem lf7_F0 : LD7.constantPool[15]? = some (.fieldref 2 14) ∧ LD7.constantPool.nameAndType? 14 = some ("arg$1", "[J") ∧ LL7.1.findIdx? (·.name == "arg$1") = some 0 ∧ (LL7.1[0]?).map (fun f => (f.isStatic, f.slot)) = some (false, 0) := by decide +kernel
theorem dl7_0 : decode LB7 0 = .ok (.aload_n 0, 1) := by decide +kernel
theorem dl7_1 : decode LB7 1 = .ok (.getfield 15, 3) := by decide +kernel
theorem dl7_4 : decode LB7 4 = .ok (.iload_n 1, 1) := by decide +kernel
theorem dl7_5 : decode LB7 5 = .ok (.invokestatic 23, 3) := by decide +kernel
theorem dl7_8 : decode LB7 8 = .ok (.lreturn, 1) := by decide +kernel
theorem lam_site7 {U : State} {c : ClassId} {one : Nat} (h : LSt (({ cls := "AcousticCamera$State", name := "peaks", desc := "()Ljava/util/LinkedList;" } : MethodName), 14, 264, SH7) c one U) (hO : ObN U) : ∃ (k tk : Class) (methk : Method) (ck : Code) (toy iface : ClassId) (t found : MethodId) (file : ClassFile) (f0 : Field), U.vm.classes[c]? = some k ∧ k.kind = .ordinary ∧ k.instanceTypes = #[(.array .long)] ∧ U.plainMethod ⟨c, 1⟩ ∧ U.vm.method? ⟨c, 1⟩ = some methk ∧ methk.code = some ck ∧ ck.code = LB7 ∧ ck.maxLocals = 2 ∧ methk.locks = false ∧ methk.accessFlags = 1 ∧ methk.sig.returnType = some FieldType.long ∧ U.vm.findClass "AcousticCamera$State" = some toy ∧ U.vm.classes[toy]? = some tk ∧ tk.isInterface = false ∧ ((methodIn toy "lambda$peaks$3" "([JI)J" tk.isInterface none).ask { classPath := fun _ => none } U.vm).1 = .ok t ∧ U.vm.findClass "AcousticCamera$Score" = some iface ∧ ((methodIn iface "of" SH7.sam.toString true none).ask { classPath := fun _ => none } U.vm).1 = .ok found ∧ selectMethod {} U.vm c found = .method ⟨c, 1⟩ ∧ k.cf = some file ∧ file.constantPool[23]? = some (.methodref 19 22) ∧ file.constantPool.nameAndType? 22 = some ("lambda$peaks$3", "([JI)J") ∧ U.vm.classReady c 19 toy ∧ U.vm.methodReady c 23 t ∧ U.vm.fieldReady c 15 c f0 ∧ f0.isStatic = false ∧ f0.slot = 0 := by
  obtain ⟨m, kd, cf, i0, p0, lk, hm, hkd, hcf, hsh, hfind, hmade, hcall, hl⟩ := h
  obtain ⟨kd', hkd', hname⟩ := className_of_methodNamed hm
  cases hkd.symm.trans hkd'
  cases hx : LW7.code with
  | none => exact absurd lf7_c (by rw [hx]; exact fun z => by cases z)
  | some x =>
  have fc := lf7_c
  rw [hx] at fc
  simp only [Option.map_some, Option.some.injEq, Prod.mk.injEq] at fc
  have ff := lf7_f
  simp only [Prod.mk.injEq] at ff
  obtain ⟨k, tk, methk, ck, toy, iface, t, found, hk, hkind, hty, hmk, hck, hcc, hml, hfl, hsig, htoy, htk, hitf, hlook, hif, hfo, hsel, ⟨file, hfile, hpool⟩, hres, hfields⟩ := made_gen hkd hname hmade hO lf7_1 lf7_2 lf7_3 hx
  have hkn : k.name = "AcousticCamera$State$$Lambda" := by
    obtain ⟨dk', k', ok, tk', file', cf', object, iface', t', lay, methods, target, found', hd', hk', -, -, -, -, -, -, -, -, -, -, -, hrec, -⟩ := Lambda.isMade_spec hmade
    cases hkd.symm.trans hd'
    cases hk.symm.trans hk'
    rw [hrec.1, hname]
    rfl
  obtain ⟨g0, hg0, hp0⟩ := Option.map_eq_some_iff.mp lf7_F0.2.2.2
  simp only [Prod.mk.injEq] at hp0
  have e1 : SH7.implItf = false := rfl
  rw [e1] at hitf
  have hds : SH7.implDesc.toString = "([JI)J" := by decide +kernel
  rw [hds] at hlook
  have hready : U.vm.methodReady c 23 t := ⟨k, hk, hres 23 _ (Lambda.resolvedOf_method lf7_M.1 lf7_M.2.1 htoy htk lf7_M.2.2 hlook)⟩
  have hcr : U.vm.classReady c 19 toy := ⟨k, hk, hres 19 _ (Lambda.resolvedOf_class lf7_C.1 lf7_C.2.2 lf7_C.2.1 htoy)⟩
  refine ⟨k, tk, methk, ck, toy, iface, t, found, file, g0, hk, hkind, hty.trans lf7_t, State.plainMethod.of_name (fun k' hk' => by cases hk.symm.trans hk'; rw [hkn]; decide), hmk, hck, hcc.trans (ByteArray.ext fc.1), hml.trans fc.2, ?_, hfl.trans ff.1, by rw [hsig]; exact ff.2, htoy, htk, hitf, hlook, hif, hfo, hsel, hfile, by rw [hpool]; exact lf7_M.1, by rw [hpool]; exact lf7_M.2.2, hcr, hready, ⟨k, 0, k, hk, hres 15 _ (Lambda.resolvedOf_field lf7_F0.1 lf7_F0.2.1 lf7_F0.2.2.1), hk, hfields 0 _ hg0⟩, hp0.1, hp0.2⟩
  simp [Method.locks, Method.isSynchronized, hfl, ff.1, hasFlag, Acc.synchronized]
set_option maxHeartbeats 2000000 in
theorem vv_lam7 {K : C_} {y : MethodName} {cc : ByteArray} {nL : Nat} {ret : Option FieldType} {rm : Room} {D : DD} {A : Nat → Prop} {H : Heap} {cells slots : Nat} {Q : State → Prop} {pc : Nat} {lv : List (Nat × Value)} {st stk : List Value} {idx cnt a : Nat} {v0 : Nat} {i : Int32} {rm2 : Room} {P : Heap → Prop} {A2 : Nat → Prop} {Q2 : Option Value → Heap → Heap → Prop} (X : Fx K y cc nL ret rm D) (hM : Ct (kL K) yX3_lambda_peaks_3 cX3_lambda_peaks_3 2 (some FieldType.long) rm2 D [.ref v0, .int i] P A2 Q2) (hLO : LO D H a 7 [.ref v0]) (q1 : Cond.methodLink y.cls idx ⟨"AcousticCamera$Score", "of", "(I)J"⟩ ∈ lw_all) (hR : rm2.frames + 2 ≤ rm.frames ∧ 42 + rm2.locals ≤ rm.locals) (d : decode cc pc = .ok (.invokeinterface idx cnt, 5)) (hstk : stk = .int i :: .ref a :: st) (hw : (st.map fun v => v.category).sum ≤ 8) (hP : P H) (hA : ∀ q, A2 q → kF K A q) (hc : cells + rm2.cells ≤ rm.cells ∧ slots + rm2.slots ≤ rm.slots) (hQ : ∀ v H H1, Q2 v H H1 → ∃ r : Int64, v = some (.long r))
    (kk : ∀ (v : Option Value) (H1 : Heap), Q2 v H H1 → H.size ≤ H1.size → (∀ q : Nat, q < H.size → ¬ A2 q → H1[q]? = H[q]?) → V K nL A H1 (cells + rm2.cells) (slots + rm2.slots) Q (pc + 5) lv (v.toList ++ st)) : V K nL A H cells slots Q pc lv stk := by
  subst hstk
  refine vv_after5 (mc := rm2.cells) (ms := rm2.slots) (as := [.ref v0, .int i].toArray) (A2 := A2) (Q2 := Q2) (st := st) (fun L ls h0 T hT XX => ?_) hA kk
  have hmem : (⟨"AcousticCamera$Score", "of", "(I)J"⟩ : MethodName) ∈ IFL := by decide +kernel
  have hIF := X.ge.2.2.2.2.2.1 _ hmem
  have hLS := X.ge.2.2.2.1 7 _ rfl
  obtain ⟨r0, r, hn, hrm, hstR, hsigR⟩ := Cond.declares_spec (va_any (A' := kA K) rfl hIF.1)
  obtain ⟨cL, kL', r1, hcL, hkL, hiL, hfoundL, hn1⟩ := Cond.interfaceMethod_spec (va_any (A' := kA K) rfl hIF.2)
  cases hn.symm.trans hn1
  have hr0cls : r0.cls = cL := Option.some.inj ((findClass_of_methodNamed hn).symm.trans hcL)
  obtain ⟨hnameR, hdescR⟩ := name_of_methodNamed hn hrm
  obtain ⟨k, tk, methk, ck, toy, iface, t, found, file, f0, hk, hkind, hty, hpl, hmk, hck, hcc, hml, hlk, hfl, hretk, htoy, htk, hitf, hlook, hif, hfo, hsel, hfile, hcp, hnt, hcr, hready, hf0, hfs0, hfn0⟩ := lam_site7 hLS X.ge.2.2.1
  obtain ⟨-, -, -, -, -, -, -, -, -, -, -, -, hcall, -⟩ := hLS
  obtain ⟨i2, hi2, hasg, hway⟩ := State.lambdaCallable_spec hcall
  have e1 : SH7.iface = "AcousticCamera$Score" := rfl
  have e2 : SH7.sam.toString = "(I)J" := by decide +kernel
  have e3 : SH7.name = "of" := rfl
  rw [e1] at hi2
  rw [e2, e3] at hway
  rw [e2] at hfo
  cases hcL.symm.trans hi2
  cases hcL.symm.trans hif
  have hfr : found = r0 := by
    have h1 : (kS K).methodFound? "AcousticCamera$Score" "of" "(I)J" = some r0 := hfoundL
    simp only [State.methodFound?, hcL, hkL, hiL, Option.bind_eq_bind, Option.bind_some] at h1
    rw [hfo] at h1
    exact Option.some.inj h1
  subst hfr
  have hselP : selectMethod (kE K).platform (kS K).vm (D.2.1 107) found = .method ⟨D.2.1 107, 1⟩ := by rw [Launch.admits_selectMethod XX.admits]; exact hsel
  obtain ⟨vm₁, X₁, hstep₁⟩ := XX.invokeinterface X.exec X.own (X.words _ q1) hn hrm hstR (by rw [hr0cls]; exact hkL) hiL (by decide) (a := a) (cell := { cls := D.2.1 107, slots := [.ref v0].toArray, vm := .none }) (kcell := k) (by rw [hT]; exact hLO) (fun z h => by cases h) hk (by rw [hr0cls]; exact hasg) hselP hmk (by rw [hnameR, hdescR]; exact hway) (by rw [hfl]; decide) (by simp [Method.isAbstract, hfl, hasFlag, Acc.abstract]) (g := F0 (kM K) pc ls (.int i :: .ref a :: st)) rfl (argsL := [.int i]) (rest := st) (by
      have h9 := hsigR
      rw [show parseMethodDescriptor "(I)J" = some ⟨[.int], some FieldType.long⟩ from by decide +kernel] at h9
      rw [← Option.some.inj h9]
      rfl) rfl (by rw [X.code]; exact d)
  have hLS1 : LSt _ (D.2.1 107) (D.2.2 607) (T.setVm vm₁) := (X.ge.2.2.2.1 7 _ rfl).warm X₁.warmed
  have hO1 : ObN (T.setVm vm₁) := X.ge.2.2.1.moved X₁.warmed.alike
  clear hk hkind hty hpl hmk hck hcc hml hlk hfl hretk htoy htk hitf hlook hif hfo hsel hfile hcp hnt hcr hready hselP hf0 hfs0 hfn0
  obtain ⟨k, tk, methk, ck, toy, iface, t, found2, file, f0, hk, hkind, hty, hpl, hmk, hck, hcc, hml, hlk, hfl, hretk, htoy, htk, hitf, hlook, hif, hfo, hsel, hfile, hcp, hnt, hcr, hready, hf0, hfs0, hfn0⟩ := lam_site7 hLS1 hO1
  have hwd : ∀ w ∈ lw_all, ∀ (a' : Array Value) (U : State), (T.setVm vm₁).WarmedH U.vm → w.before a' U = true := fun w hw a' U hW => pay_in X.words lw_self w hw a' U (State.WarmedH.trans X₁.warmed hW)
  have hwT : ∀ w ∈ lw_all, w.before #[] (T.setVm vm₁) = true := fun w hw => hwd w hw _ _ (State.WarmedH.refl _)
  obtain ⟨tkS, methB, hpr, htkS, hmB, hsp, hsB, hiB, hlB, hnB⟩ := lam_static (e := kE K) (n := 2) (y := yX3_lambda_peaks_3) (sig := SH7.implDesc) hk hfile hcp hnt hready hcr htoy htk hlook (by decide) (hwT _ q2057) (hwT _ q2056) (hwT _ q150) (by decide +kernel) rfl
  have hheap1 : (T.setVm vm₁).heap = H := hT
  obtain ⟨v, st₀, t9, T', L9, h1, X9, hL9, hth, htv, hq9, hstep⟩ := lam_runl (As := [.ref v0, .int i]) (a := a) (i := i) (P := 5) X₁ X.exec (g := F0 (kM K) pc ls st) rfl (by rw [X.maxL]; exact h0.1) (by rw [X.code]; exact d) hmk hck hml hlk hpl hretk (hM H.size) PcT_blind rfl rfl (by rw [X.room]; exact hR.1) (by rw [X.room]; show 2 * 0 + (st.map fun v => v.category).sum + 13 + _ ≤ _; omega) (fun w hw a' U hW => (lw_meth q2057 w hw).1 |> fun h => hwd w h a' U hW) List.mem_cons_self (fun a' U hW => hwd _ q150 a' U hW) hnB (by rw [X.room]; exact hc.1) (by rw [X.room]; exact hc.2) (fun U hU hW => ⟨rfl, by rw [hU, hheap1], by rw [hU, hheap1]; exact hP, X.gk.warm (State.WarmedH.trans X₁.warmed hW)⟩)
    (fun R' s' args' U Y hvm hheap hnm target hrest => by
      have hs : U.topJava?.isSome := Y.here.top
      have hcl : U.heap[a]? = some { cls := D.2.1 107, slots := [.ref v0].toArray, vm := .none } := by rw [hheap, hheap1]; exact hLO
      jvm_step Y.here [X.exec, hcc, dl7_0, Value.isRef]
      jvm_step Y.here [X.exec, hcc, dl7_1, getfield.wp_ready (e := kE K) (s := U) (c := D.2.1 107) (field := f0) (a := a) (rest := []) (cell := { cls := D.2.1 107, slots := [.ref v0].toArray, vm := .none }) (v := .ref v0) (f := frL (D.2.1 107) 1 a i [.ref a]) hs (by rw [hvm]; exact hf0) hfs0 rfl hcl (fun z => by cases z) (by rw [hfn0]; rfl)]
      jvm_step Y.here [X.exec, hcc, dl7_4]
      jvm_step Y.here [X.exec, hcc, dl7_5, invokestatic.wp_ready (e := kE K) (s := U) (m := t) (k := tkS) (meth := methB) (args := [.ref v0, .int i]) (rest := []) (f := frL (D.2.1 107) 5 a i [.int i, .ref v0]) hs (by unfold plainRef at hpr ⊢; rw [hvm]; exact hpr) (by rw [hvm]; exact hready) (by rw [hvm]; exact htkS) (by rw [hvm]; exact hmB) hsp hsB hiB hlB rfl]
      intro acts'
      exact hrest acts')
    (by rw [hcc]; exact dl7_5) (by rw [hcc]; exact dl7_8) (fun st o t h => by
      obtain ⟨v, rfl, hq, -⟩ := h
      obtain ⟨r, rfl⟩ := hQ _ _ _ hq
      exact ⟨r, rfl⟩)
  refine ⟨v, st₀, t9, T', L9, h1.trans hheap1, X9, hL9, hth, htv, hq9, fun target htg => ?_⟩
  exact hstep₁ _ fun acts => (hstep acts).trans htg
def LD8 : ClassFile := (SH8.file "AcousticCamera").getD { minorVersion := 0, majorVersion := 0, constantPool := #[], accessFlags := 0, thisClass := 0, superClass := 0, interfaces := #[], fields := #[], methods := #[], attributes := #[] }
def LW8 : Method := ((layoutMethods LD8).bind (·[1]?)).getD default
def LL8 : Array Field × Array FieldType × Array FieldType := (layoutFields LD8 0).getD (#[], #[], #[])
def LB8 : ByteArray := ⟨#[0x2a, 0xb4, 0x00, 0x13, 0x2a, 0xb4, 0x00, 0x15, 0x2a, 0xb4, 0x00, 0x17, 0x1b, 0xb8, 0x00, 0x1f, 0xad]⟩
theorem lf8_1 : SH8.file "AcousticCamera" = some LD8 := by
  have h : (SH8.file "AcousticCamera").isSome = true := by decide +kernel
  obtain ⟨x, hx⟩ := Option.isSome_iff_exists.mp h
  simp [LD8, hx]
theorem lf8_2 : ∀ ms, layoutMethods LD8 = some ms → ms[1]? = some LW8 := by
  intro ms hms
  have h : ((layoutMethods LD8).bind (·[1]?)).isSome = true := by decide +kernel
  obtain ⟨x, hx⟩ := Option.isSome_iff_exists.mp h
  have hf : LW8 = x := by simp [LW8, hx]
  rw [hms] at hx
  rw [hf]
  exact hx
theorem lf8_3 : layoutFields LD8 0 = some LL8 := by
  have h : (layoutFields LD8 0).isSome = true := by decide +kernel
  obtain ⟨x, hx⟩ := Option.isSome_iff_exists.mp h
  simp [LL8, hx]
theorem lf8_c : (LW8.code.map fun c => (c.code.data, c.maxLocals)) = some (LB8.data, 2) := by decide +kernel
theorem lf8_f : (LW8.accessFlags, LW8.sig.returnType) = (0x0001, some FieldType.long) := by decide +kernel
theorem lf8_t : LL8.2.1 = #[(.object "AcousticCamera$State"), .int, (.array .long)] := by decide +kernel
theorem lf8_M : LD8.constantPool[31]? = some (.methodref 27 30) ∧ LD8.constantPool.className? 27 = some "AcousticCamera" ∧ LD8.constantPool.nameAndType? 30 = some ("lambda$zoneBest$1", "(LAcousticCamera$State;I[JI)J") := by decide +kernel
theorem lf8_C : LD8.constantPool[27]? = some (.class_ 26) ∧ LD8.constantPool.string? 26 = some "AcousticCamera" ∧ 27 ≠ LD8.thisClass := by decide +kernel
theorem lf8_F0 : LD8.constantPool[19]? = some (.fieldref 2 18) ∧ LD8.constantPool.nameAndType? 18 = some ("arg$1", "LAcousticCamera$State;") ∧ LL8.1.findIdx? (·.name == "arg$1") = some 0 ∧ (LL8.1[0]?).map (fun f => (f.isStatic, f.slot)) = some (false, 0) := by decide +kernel
theorem lf8_F1 : LD8.constantPool[21]? = some (.fieldref 2 20) ∧ LD8.constantPool.nameAndType? 20 = some ("arg$2", "I") ∧ LL8.1.findIdx? (·.name == "arg$2") = some 1 ∧ (LL8.1[1]?).map (fun f => (f.isStatic, f.slot)) = some (false, 1) := by decide +kernel
theorem lf8_F2 : LD8.constantPool[23]? = some (.fieldref 2 22) ∧ LD8.constantPool.nameAndType? 22 = some ("arg$3", "[J") ∧ LL8.1.findIdx? (·.name == "arg$3") = some 2 ∧ (LL8.1[2]?).map (fun f => (f.isStatic, f.slot)) = some (false, 2) := by decide +kernel
theorem dl8_0 : decode LB8 0 = .ok (.aload_n 0, 1) := by decide +kernel
theorem dl8_1 : decode LB8 1 = .ok (.getfield 19, 3) := by decide +kernel
theorem dl8_4 : decode LB8 4 = .ok (.aload_n 0, 1) := by decide +kernel
theorem dl8_5 : decode LB8 5 = .ok (.getfield 21, 3) := by decide +kernel
theorem dl8_8 : decode LB8 8 = .ok (.aload_n 0, 1) := by decide +kernel
theorem dl8_9 : decode LB8 9 = .ok (.getfield 23, 3) := by decide +kernel
theorem dl8_12 : decode LB8 12 = .ok (.iload_n 1, 1) := by decide +kernel
theorem dl8_13 : decode LB8 13 = .ok (.invokestatic 31, 3) := by decide +kernel
theorem dl8_16 : decode LB8 16 = .ok (.lreturn, 1) := by decide +kernel
theorem lam_site8 {U : State} {c : ClassId} {one : Nat} (h : LSt (({ cls := "AcousticCamera", name := "zoneBest", desc := "(I)I" } : MethodName), 16, 309, SH8) c one U) (hO : ObN U) : ∃ (k tk : Class) (methk : Method) (ck : Code) (toy iface : ClassId) (t found : MethodId) (file : ClassFile) (f0 : Field) (f1 : Field) (f2 : Field), U.vm.classes[c]? = some k ∧ k.kind = .ordinary ∧ k.instanceTypes = #[(.object "AcousticCamera$State"), .int, (.array .long)] ∧ U.plainMethod ⟨c, 1⟩ ∧ U.vm.method? ⟨c, 1⟩ = some methk ∧ methk.code = some ck ∧ ck.code = LB8 ∧ ck.maxLocals = 2 ∧ methk.locks = false ∧ methk.accessFlags = 1 ∧ methk.sig.returnType = some FieldType.long ∧ U.vm.findClass "AcousticCamera" = some toy ∧ U.vm.classes[toy]? = some tk ∧ tk.isInterface = false ∧ ((methodIn toy "lambda$zoneBest$1" "(LAcousticCamera$State;I[JI)J" tk.isInterface none).ask { classPath := fun _ => none } U.vm).1 = .ok t ∧ U.vm.findClass "AcousticCamera$Score" = some iface ∧ ((methodIn iface "of" SH8.sam.toString true none).ask { classPath := fun _ => none } U.vm).1 = .ok found ∧ selectMethod {} U.vm c found = .method ⟨c, 1⟩ ∧ k.cf = some file ∧ file.constantPool[31]? = some (.methodref 27 30) ∧ file.constantPool.nameAndType? 30 = some ("lambda$zoneBest$1", "(LAcousticCamera$State;I[JI)J") ∧ U.vm.classReady c 27 toy ∧ U.vm.methodReady c 31 t ∧ U.vm.fieldReady c 19 c f0 ∧ f0.isStatic = false ∧ f0.slot = 0 ∧ U.vm.fieldReady c 21 c f1 ∧ f1.isStatic = false ∧ f1.slot = 1 ∧ U.vm.fieldReady c 23 c f2 ∧ f2.isStatic = false ∧ f2.slot = 2 := by
  obtain ⟨m, kd, cf, i0, p0, lk, hm, hkd, hcf, hsh, hfind, hmade, hcall, hl⟩ := h
  obtain ⟨kd', hkd', hname⟩ := className_of_methodNamed hm
  cases hkd.symm.trans hkd'
  cases hx : LW8.code with
  | none => exact absurd lf8_c (by rw [hx]; exact fun z => by cases z)
  | some x =>
  have fc := lf8_c
  rw [hx] at fc
  simp only [Option.map_some, Option.some.injEq, Prod.mk.injEq] at fc
  have ff := lf8_f
  simp only [Prod.mk.injEq] at ff
  obtain ⟨k, tk, methk, ck, toy, iface, t, found, hk, hkind, hty, hmk, hck, hcc, hml, hfl, hsig, htoy, htk, hitf, hlook, hif, hfo, hsel, ⟨file, hfile, hpool⟩, hres, hfields⟩ := made_gen hkd hname hmade hO lf8_1 lf8_2 lf8_3 hx
  have hkn : k.name = "AcousticCamera$$Lambda" := by
    obtain ⟨dk', k', ok, tk', file', cf', object, iface', t', lay, methods, target, found', hd', hk', -, -, -, -, -, -, -, -, -, -, -, hrec, -⟩ := Lambda.isMade_spec hmade
    cases hkd.symm.trans hd'
    cases hk.symm.trans hk'
    rw [hrec.1, hname]
    rfl
  obtain ⟨g0, hg0, hp0⟩ := Option.map_eq_some_iff.mp lf8_F0.2.2.2
  simp only [Prod.mk.injEq] at hp0
  obtain ⟨g1, hg1, hp1⟩ := Option.map_eq_some_iff.mp lf8_F1.2.2.2
  simp only [Prod.mk.injEq] at hp1
  obtain ⟨g2, hg2, hp2⟩ := Option.map_eq_some_iff.mp lf8_F2.2.2.2
  simp only [Prod.mk.injEq] at hp2
  have e1 : SH8.implItf = false := rfl
  rw [e1] at hitf
  have hds : SH8.implDesc.toString = "(LAcousticCamera$State;I[JI)J" := by decide +kernel
  rw [hds] at hlook
  have hready : U.vm.methodReady c 31 t := ⟨k, hk, hres 31 _ (Lambda.resolvedOf_method lf8_M.1 lf8_M.2.1 htoy htk lf8_M.2.2 hlook)⟩
  have hcr : U.vm.classReady c 27 toy := ⟨k, hk, hres 27 _ (Lambda.resolvedOf_class lf8_C.1 lf8_C.2.2 lf8_C.2.1 htoy)⟩
  refine ⟨k, tk, methk, ck, toy, iface, t, found, file, g0, g1, g2, hk, hkind, hty.trans lf8_t, State.plainMethod.of_name (fun k' hk' => by cases hk.symm.trans hk'; rw [hkn]; decide), hmk, hck, hcc.trans (ByteArray.ext fc.1), hml.trans fc.2, ?_, hfl.trans ff.1, by rw [hsig]; exact ff.2, htoy, htk, hitf, hlook, hif, hfo, hsel, hfile, by rw [hpool]; exact lf8_M.1, by rw [hpool]; exact lf8_M.2.2, hcr, hready, ⟨k, 0, k, hk, hres 19 _ (Lambda.resolvedOf_field lf8_F0.1 lf8_F0.2.1 lf8_F0.2.2.1), hk, hfields 0 _ hg0⟩, hp0.1, hp0.2, ⟨k, 1, k, hk, hres 21 _ (Lambda.resolvedOf_field lf8_F1.1 lf8_F1.2.1 lf8_F1.2.2.1), hk, hfields 1 _ hg1⟩, hp1.1, hp1.2, ⟨k, 2, k, hk, hres 23 _ (Lambda.resolvedOf_field lf8_F2.1 lf8_F2.2.1 lf8_F2.2.2.1), hk, hfields 2 _ hg2⟩, hp2.1, hp2.2⟩
  simp [Method.locks, Method.isSynchronized, hfl, ff.1, hasFlag, Acc.synchronized]
set_option maxHeartbeats 2000000 in
theorem vv_lam8 {K : C_} {y : MethodName} {cc : ByteArray} {nL : Nat} {ret : Option FieldType} {rm : Room} {D : DD} {A : Nat → Prop} {H : Heap} {cells slots : Nat} {Q : State → Prop} {pc : Nat} {lv : List (Nat × Value)} {st stk : List Value} {idx cnt a : Nat} {v0 : Nat} {v1 : Int32} {v2 : Nat} {i : Int32} {rm2 : Room} {P : Heap → Prop} {A2 : Nat → Prop} {Q2 : Option Value → Heap → Heap → Prop} (X : Fx K y cc nL ret rm D) (hM : Ct (kL K) yX1_lambda_zoneBest_1 cX1_lambda_zoneBest_1 4 (some FieldType.long) rm2 D [.ref v0, .int v1, .ref v2, .int i] P A2 Q2) (hLO : LO D H a 8 [.ref v0, .int v1, .ref v2]) (q1 : Cond.methodLink y.cls idx ⟨"AcousticCamera$Score", "of", "(I)J"⟩ ∈ lw_all) (hR : rm2.frames + 2 ≤ rm.frames ∧ 44 + rm2.locals ≤ rm.locals) (d : decode cc pc = .ok (.invokeinterface idx cnt, 5)) (hstk : stk = .int i :: .ref a :: st) (hw : (st.map fun v => v.category).sum ≤ 8) (hP : P H) (hA : ∀ q, A2 q → kF K A q) (hc : cells + rm2.cells ≤ rm.cells ∧ slots + rm2.slots ≤ rm.slots) (hQ : ∀ v H H1, Q2 v H H1 → ∃ r : Int64, v = some (.long r))
    (kk : ∀ (v : Option Value) (H1 : Heap), Q2 v H H1 → H.size ≤ H1.size → (∀ q : Nat, q < H.size → ¬ A2 q → H1[q]? = H[q]?) → V K nL A H1 (cells + rm2.cells) (slots + rm2.slots) Q (pc + 5) lv (v.toList ++ st)) : V K nL A H cells slots Q pc lv stk := by
  subst hstk
  refine vv_after5 (mc := rm2.cells) (ms := rm2.slots) (as := [.ref v0, .int v1, .ref v2, .int i].toArray) (A2 := A2) (Q2 := Q2) (st := st) (fun L ls h0 T hT XX => ?_) hA kk
  have hmem : (⟨"AcousticCamera$Score", "of", "(I)J"⟩ : MethodName) ∈ IFL := by decide +kernel
  have hIF := X.ge.2.2.2.2.2.1 _ hmem
  have hLS := X.ge.2.2.2.1 8 _ rfl
  obtain ⟨r0, r, hn, hrm, hstR, hsigR⟩ := Cond.declares_spec (va_any (A' := kA K) rfl hIF.1)
  obtain ⟨cL, kL', r1, hcL, hkL, hiL, hfoundL, hn1⟩ := Cond.interfaceMethod_spec (va_any (A' := kA K) rfl hIF.2)
  cases hn.symm.trans hn1
  have hr0cls : r0.cls = cL := Option.some.inj ((findClass_of_methodNamed hn).symm.trans hcL)
  obtain ⟨hnameR, hdescR⟩ := name_of_methodNamed hn hrm
  obtain ⟨k, tk, methk, ck, toy, iface, t, found, file, f0, f1, f2, hk, hkind, hty, hpl, hmk, hck, hcc, hml, hlk, hfl, hretk, htoy, htk, hitf, hlook, hif, hfo, hsel, hfile, hcp, hnt, hcr, hready, hf0, hfs0, hfn0, hf1, hfs1, hfn1, hf2, hfs2, hfn2⟩ := lam_site8 hLS X.ge.2.2.1
  obtain ⟨-, -, -, -, -, -, -, -, -, -, -, -, hcall, -⟩ := hLS
  obtain ⟨i2, hi2, hasg, hway⟩ := State.lambdaCallable_spec hcall
  have e1 : SH8.iface = "AcousticCamera$Score" := rfl
  have e2 : SH8.sam.toString = "(I)J" := by decide +kernel
  have e3 : SH8.name = "of" := rfl
  rw [e1] at hi2
  rw [e2, e3] at hway
  rw [e2] at hfo
  cases hcL.symm.trans hi2
  cases hcL.symm.trans hif
  have hfr : found = r0 := by
    have h1 : (kS K).methodFound? "AcousticCamera$Score" "of" "(I)J" = some r0 := hfoundL
    simp only [State.methodFound?, hcL, hkL, hiL, Option.bind_eq_bind, Option.bind_some] at h1
    rw [hfo] at h1
    exact Option.some.inj h1
  subst hfr
  have hselP : selectMethod (kE K).platform (kS K).vm (D.2.1 108) found = .method ⟨D.2.1 108, 1⟩ := by rw [Launch.admits_selectMethod XX.admits]; exact hsel
  obtain ⟨vm₁, X₁, hstep₁⟩ := XX.invokeinterface X.exec X.own (X.words _ q1) hn hrm hstR (by rw [hr0cls]; exact hkL) hiL (by decide) (a := a) (cell := { cls := D.2.1 108, slots := [.ref v0, .int v1, .ref v2].toArray, vm := .none }) (kcell := k) (by rw [hT]; exact hLO) (fun z h => by cases h) hk (by rw [hr0cls]; exact hasg) hselP hmk (by rw [hnameR, hdescR]; exact hway) (by rw [hfl]; decide) (by simp [Method.isAbstract, hfl, hasFlag, Acc.abstract]) (g := F0 (kM K) pc ls (.int i :: .ref a :: st)) rfl (argsL := [.int i]) (rest := st) (by
      have h9 := hsigR
      rw [show parseMethodDescriptor "(I)J" = some ⟨[.int], some FieldType.long⟩ from by decide +kernel] at h9
      rw [← Option.some.inj h9]
      rfl) rfl (by rw [X.code]; exact d)
  have hLS1 : LSt _ (D.2.1 108) (D.2.2 608) (T.setVm vm₁) := (X.ge.2.2.2.1 8 _ rfl).warm X₁.warmed
  have hO1 : ObN (T.setVm vm₁) := X.ge.2.2.1.moved X₁.warmed.alike
  clear hk hkind hty hpl hmk hck hcc hml hlk hfl hretk htoy htk hitf hlook hif hfo hsel hfile hcp hnt hcr hready hselP hf0 hfs0 hfn0 hf1 hfs1 hfn1 hf2 hfs2 hfn2
  obtain ⟨k, tk, methk, ck, toy, iface, t, found2, file, f0, f1, f2, hk, hkind, hty, hpl, hmk, hck, hcc, hml, hlk, hfl, hretk, htoy, htk, hitf, hlook, hif, hfo, hsel, hfile, hcp, hnt, hcr, hready, hf0, hfs0, hfn0, hf1, hfs1, hfn1, hf2, hfs2, hfn2⟩ := lam_site8 hLS1 hO1
  have hwd : ∀ w ∈ lw_all, ∀ (a' : Array Value) (U : State), (T.setVm vm₁).WarmedH U.vm → w.before a' U = true := fun w hw a' U hW => pay_in X.words lw_self w hw a' U (State.WarmedH.trans X₁.warmed hW)
  have hwT : ∀ w ∈ lw_all, w.before #[] (T.setVm vm₁) = true := fun w hw => hwd w hw _ _ (State.WarmedH.refl _)
  obtain ⟨tkS, methB, hpr, htkS, hmB, hsp, hsB, hiB, hlB, hnB⟩ := lam_static (e := kE K) (n := 4) (y := yX1_lambda_zoneBest_1) (sig := SH8.implDesc) hk hfile hcp hnt hready hcr htoy htk hlook (by decide) (hwT _ q2367) (hwT _ q2366) (hwT _ q137) (by decide +kernel) rfl
  have hheap1 : (T.setVm vm₁).heap = H := hT
  obtain ⟨v, st₀, t9, T', L9, h1, X9, hL9, hth, htv, hq9, hstep⟩ := lam_runl (As := [.ref v0, .int v1, .ref v2, .int i]) (a := a) (i := i) (P := 13) X₁ X.exec (g := F0 (kM K) pc ls st) rfl (by rw [X.maxL]; exact h0.1) (by rw [X.code]; exact d) hmk hck hml hlk hpl hretk (hM H.size) PcT_blind rfl rfl (by rw [X.room]; exact hR.1) (by rw [X.room]; show 2 * 0 + (st.map fun v => v.category).sum + 13 + _ ≤ _; omega) (fun w hw a' U hW => (lw_meth q2367 w hw).1 |> fun h => hwd w h a' U hW) List.mem_cons_self (fun a' U hW => hwd _ q137 a' U hW) hnB (by rw [X.room]; exact hc.1) (by rw [X.room]; exact hc.2) (fun U hU hW => ⟨rfl, by rw [hU, hheap1], by rw [hU, hheap1]; exact hP, X.gk.warm (State.WarmedH.trans X₁.warmed hW)⟩)
    (fun R' s' args' U Y hvm hheap hnm target hrest => by
      have hs : U.topJava?.isSome := Y.here.top
      have hcl : U.heap[a]? = some { cls := D.2.1 108, slots := [.ref v0, .int v1, .ref v2].toArray, vm := .none } := by rw [hheap, hheap1]; exact hLO
      jvm_step Y.here [X.exec, hcc, dl8_0, Value.isRef]
      jvm_step Y.here [X.exec, hcc, dl8_1, getfield.wp_ready (e := kE K) (s := U) (c := D.2.1 108) (field := f0) (a := a) (rest := []) (cell := { cls := D.2.1 108, slots := [.ref v0, .int v1, .ref v2].toArray, vm := .none }) (v := .ref v0) (f := frL (D.2.1 108) 1 a i [.ref a]) hs (by rw [hvm]; exact hf0) hfs0 rfl hcl (fun z => by cases z) (by rw [hfn0]; rfl)]
      jvm_step Y.here [X.exec, hcc, dl8_4, Value.isRef]
      jvm_step Y.here [X.exec, hcc, dl8_5, getfield.wp_ready (e := kE K) (s := U) (c := D.2.1 108) (field := f1) (a := a) (rest := [.ref v0]) (cell := { cls := D.2.1 108, slots := [.ref v0, .int v1, .ref v2].toArray, vm := .none }) (v := .int v1) (f := frL (D.2.1 108) 5 a i [.ref a, .ref v0]) hs (by rw [hvm]; exact hf1) hfs1 rfl hcl (fun z => by cases z) (by rw [hfn1]; rfl)]
      jvm_step Y.here [X.exec, hcc, dl8_8, Value.isRef]
      jvm_step Y.here [X.exec, hcc, dl8_9, getfield.wp_ready (e := kE K) (s := U) (c := D.2.1 108) (field := f2) (a := a) (rest := [.int v1, .ref v0]) (cell := { cls := D.2.1 108, slots := [.ref v0, .int v1, .ref v2].toArray, vm := .none }) (v := .ref v2) (f := frL (D.2.1 108) 9 a i [.ref a, .int v1, .ref v0]) hs (by rw [hvm]; exact hf2) hfs2 rfl hcl (fun z => by cases z) (by rw [hfn2]; rfl)]
      jvm_step Y.here [X.exec, hcc, dl8_12]
      jvm_step Y.here [X.exec, hcc, dl8_13, invokestatic.wp_ready (e := kE K) (s := U) (m := t) (k := tkS) (meth := methB) (args := [.ref v0, .int v1, .ref v2, .int i]) (rest := []) (f := frL (D.2.1 108) 13 a i [.int i, .ref v2, .int v1, .ref v0]) hs (by unfold plainRef at hpr ⊢; rw [hvm]; exact hpr) (by rw [hvm]; exact hready) (by rw [hvm]; exact htkS) (by rw [hvm]; exact hmB) hsp hsB hiB hlB rfl]
      intro acts'
      exact hrest acts')
    (by rw [hcc]; exact dl8_13) (by rw [hcc]; exact dl8_16) (fun st o t h => by
      obtain ⟨v, rfl, hq, -⟩ := h
      obtain ⟨r, rfl⟩ := hQ _ _ _ hq
      exact ⟨r, rfl⟩)
  refine ⟨v, st₀, t9, T', L9, h1.trans hheap1, X9, hL9, hth, htv, hq9, fun target htg => ?_⟩
  exact hstep₁ _ fun acts => (hstep acts).trans htg
