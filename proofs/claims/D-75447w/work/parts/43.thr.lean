/-! new exceptions at V -/
set_option maxRecDepth 100000
section THR
variable {K : C_} {y : MethodName} {cc : ByteArray} {nL : Nat} {ret : Option FieldType} {rm : Room} {D : DD} {A : Nat → Prop} {H : Heap} {cells slots : Nat} {Q : State → Prop} {pc : Nat} {lv : List (Nat × Value)} {rest : List Value}
/-- what a throw asks of Throwable's two statics -/
theorem zq_of {s : State} {D : DD} (hG : GK D s) (hK : KH D s.heap) (j : Nat) (h10 : 10 ≤ j) (hj : j < 12) {q : String × String × String} (hq : STL[j]? = some q) : vx_Zq q.1 q.2.1 q.2.2 (fun _ => False) s s.heap := by
  obtain ⟨cf, kf, fi, f, h1, h2, h3, h4, h5⟩ := hG.2.2.2.2.2.1 j q hq
  obtain ⟨kf', fi', f', g1, g2, g3⟩ := hG.2.2.2.2.2.2.2.2.2.2.1 j q h10 hq
  have e := h1.symm.trans g1
  simp only [Option.some.injEq, Prod.mk.injEq] at e
  obtain ⟨rfl, rfl, rfl, rfl⟩ := e
  obtain ⟨cell, c1, c2, c3, c4⟩ := hK.2.1 j hj
  have hv : svl D j = .ref (D.2.2 (400 + j)) := by
    unfold svl
    rw [if_neg (by omega), if_neg (by omega)]
  rw [hv] at c3
  have hlt : f.slot < cell.slots.size := by rw [h5]; exact (Array.getElem?_eq_some_iff.mp c3).1
  exact ⟨Or.inr ⟨D.2.2 (400 + j), _, _, _, _, _, cell, h1, h2, h3, h4, c1, c2, by rw [h5]; exact c3, fun z => z⟩, _, _, _, _, _, cell, g2, h1, h2, h4, c1, c2, c4 h10, hlt, g3, fun z => z⟩
/-- new E(): the object goes on the stack -/
theorem vv_make0 (X : Fx K y cc nL ret rm D) (hK : KH D H) (hl : (kL K).stackTraces = false) {cls : String} {names : List String} {ik ic : Nat} (hcls : Bundle.fit cls = true) (hnames : ∀ n ∈ names, Bundle.fit n = true)
    (hk : Cond.classLink y.cls ik cls ∈ lw_all) (hini : Cond.initialized cls ∈ lw_all) (hat : ∀ w ∈ vx_at0 y.cls ic cls names, w ∈ lw_all ∨ (w ∈ lw_tbl ∧ nwq w = true)) (hgood : ∀ w ∈ Cond.classLink y.cls ik cls :: Cond.initialized cls :: vx_at0 y.cls ic cls names, vx_ot w = true)
    (d0 : decode cc pc = .ok (.new ik, 3)) (d3 : decode cc (pc + 3) = .ok (.dup, 1)) (d4 : decode cc (pc + 4) = .ok (.invokespecial ic, 3))
    (hRf : names.length + 3 < rm.frames) (hRl : (rest.map fun v => v.category).sum + (13 * (names.length + 1) + 42) ≤ rm.locals) (hc : cells + 1 ≤ rm.cells) (hs : slots + 6 ≤ rm.slots)
    (kk : ∀ H1 : Heap, H.size < H1.size → (∀ q : Nat, q < H.size → H1[q]? = H[q]?) → XO K H1 cls H.size → V K nL A H1 (cells + 1) (slots + 6) Q (pc + 7) lv (.ref H.size :: rest)) : V K nL A H cells slots Q pc lv rest := by
  intro L ls hS h0 T hT XX
  have htr : (kE K).platform.stackTraces = false := (show (kE K).platform.stackTraces = (kL K).stackTraces by rw [XX.admits.platform]).trans hl
  have Y := vx_rebase XX (R' := { frames := (kR K).frames, locals := (kR K).locals, cells := 1, slots := 6 }) (Nat.le_refl _) (Nat.le_refl _) (by rw [X.room]; exact hc) (by rw [X.room]; exact hs)
  obtain ⟨s', hA'⟩ : ∃ z, z = (T.setVm (kS K).vm).setFrames (.invoking (kM K) (kA K) :: (kB K)) := ⟨_, rfl⟩
  rw [← hA'] at Y
  have hvm : s'.vm = (kS K).vm := by rw [hA']; rfl
  have hhp : s'.heap = T.heap := by rw [hA']; rfl
  have hW0 : (kS K).WarmedH s'.vm := by rw [hvm]; exact State.WarmedH.refl _
  have hG' : GK D s' := X.gk.warm hW0
  have hK' : KH D s'.heap := by rw [hhp, hT]; exact hK
  have hwd : ∀ w ∈ lw_all, w.before (kA K) s' = true → w.before (kA K) s' = true := fun _ _ h => h
  have hat' : ∀ w ∈ vx_at0 y.cls ic cls names, w.before (kA K) s' = true := fun w hw => vx_ot_at hW0 hvm.symm (hgood w (List.mem_cons_of_mem _ (List.mem_cons_of_mem _ hw))) ((hat w hw).elim (fun h => X.words _ h) (fun h => va_Nw.use (nwq_on h.2) (X.nest h.1 h.2)))
  have hk' : (Cond.classLink y.cls ik cls).before (kA K) s' = true := vx_ot_at hW0 hvm.symm (hgood _ List.mem_cons_self) (X.words _ hk)
  have hini' : (Cond.initialized cls).before (kA K) s' = true := vx_ot_at hW0 hvm.symm (hgood _ (List.mem_cons_of_mem _ List.mem_cons_self)) (X.words _ hini)
  have hU' := zq_of hG' hK' 10 (by decide) (by decide) rfl
  have hN' := zq_of hG' hK' 11 (by decide) (by decide) rfl
  have h : ∀ w ∈ Bundle.ownAtoms0 y.cls ic cls names, w.before (kA K) s' = true := vx_own hat' (vx_isRefq hU'.1) (vx_isRefq hN'.1) hU'.2.word hN'.2.word
  have hown' : s'.vm.findClass y.cls = some (kM K).cls := by rw [hvm]; exact X.own
  have hins : (Cond.instantiable cls 6).before (kA K) s' = true := h _ (by simp [Bundle.ownAtoms0])
  obtain ⟨vm₁, cX, kX, hfX, hkX, -, -, X₁, st1⟩ := Y.newCold X.exec (own := y.cls) (C := cls) (index := ik) (n := 6) hown' hk' hins hini'
    (g := F0 (kM K) pc ls rest) rfl (by rw [X.code]; exact d0) (Nat.le_refl _) (Nat.le_refl _)
  generalize hT1 : (T.setVm vm₁).pushCell { cls := cX, slots := kX.instanceTypes.map defaultValue, vm := .none } = T1 at X₁ st1
  have hcat : (Value.ref T.heap.size).category = 1 := rfl
  have hcellA : T1.heap[T.heap.size]? = some (freshCell cX kX) := by rw [← hT1]; exact State.heap_pushCell_size _ _
  have d3' : decode (kC K).code (pc + 3) = .ok (.dup, 1) := by rw [X.code]; exact d3
  obtain ⟨V1, ce, L1, Z, hL, hlt, hcl9, hvm9, st⟩ := vx_ctorMade0 X₁ X.exec htr (own := y.cls) (cls := cls) (names := names) (ic := ic) hown' hcls hnames h (fun x hx => nomatch hx) hfX hkX hcellA (by rw [hhp]; exact Nat.le_refl _)
    (g := { method := (kM K), pc := pc + 4, locals := ls, stack := .ref T.heap.size :: .ref T.heap.size :: rest, locked := none }) rfl (by rw [X.maxL]; exact h0.1) (rest := rest) rfl
    (by rw [X.code]; exact d4) (by rw [X.room]; exact hRf) (by rw [X.room]; simp only [List.map_cons, List.sum_cons, hcat]; omega)
  have Z0 := Stand.forget (locs := []) Z (fun y hy => by rw [hL y hy, hhp]; exact Nat.le_refl _)
  obtain ⟨f1, f2⟩ := vx_frame Z0.same
  rw [hhp] at f1 f2
  have hh : (V1.setCell T.heap.size ce).heap[T.heap.size]? = some ce := heapAt_setCell_self (s := V1) ce hlt
  have hsz : T.heap.size < (V1.setCell T.heap.size ce).heap.size := (Array.getElem?_eq_some_iff.mp hh).1
  subst hA'
  have X5 := vx_back9 XX Y Z0
  have X6 : Stand (kP K) (kL K) (kE K) (kR K) (kS K) (kM K) (kA K) (kB K) (kT K) (kC K) (V1.setCell T.heap.size ce) L (cells + 1) (slots + 6) := { X5 with same := X5.same.mono (by omega) (by omega) }
  subst hT
  have f3 : ∀ q : Nat, q < T.heap.size → (V1.setCell T.heap.size ce).heap[q]? = T.heap[q]? := fun q hq => f2 q hq (fun z hz => nomatch hz)
  obtain ⟨t, a1, b1⟩ := kk (V1.setCell T.heap.size ce).heap hsz f3 ⟨ce, hh, hvm9, by rw [hcl9]; rw [hvm] at hfX; exact hfX⟩ L ls ⟨Nat.le_trans hS.1 f1, fun q h1 h2 => (f3 q (Nat.lt_of_lt_of_le h1 hS.1)).trans (hS.2.1 q h1 h2), hS.2.2⟩ h0 _ rfl X6
  refine ⟨t, st1 _ ?_, b1⟩
  show Steps (kP K).tables (kE K) (kB K) (T1.setTop { method := (kM K), pc := pc + 3, locals := ls, stack := .ref T.heap.size :: rest, locked := none }) _
  jvm_step X₁.here [X₁.here.top, X.exec, d3', Value.category]
  exact st _ a1
/-- throw new E() -/
theorem vv_throw0 (X : Fx K y cc nL ret rm D) (hK : KH D H) (hl : (kL K).stackTraces = false) {cls : String} {names : List String} {ik ic : Nat} (hcls : Bundle.fit cls = true) (hnames : ∀ n ∈ names, Bundle.fit n = true)
    (hk : Cond.classLink y.cls ik cls ∈ lw_all) (hini : Cond.initialized cls ∈ lw_all) (hat : ∀ w ∈ vx_at0 y.cls ic cls names, w ∈ lw_all ∨ (w ∈ lw_tbl ∧ nwq w = true)) (hgood : ∀ w ∈ Cond.classLink y.cls ik cls :: Cond.initialized cls :: vx_at0 y.cls ic cls names, vx_ot w = true)
    (d0 : decode cc pc = .ok (.new ik, 3)) (d3 : decode cc (pc + 3) = .ok (.dup, 1)) (d4 : decode cc (pc + 4) = .ok (.invokespecial ic, 3)) (d7 : decode cc (pc + 7) = .ok (.athrow, 1))
    (hRf : names.length + 3 < rm.frames) (hRl : (rest.map fun v => v.category).sum + (13 * (names.length + 1) + 42) ≤ rm.locals) (hc : cells + 1 ≤ rm.cells) (hs : slots + 6 ≤ rm.slots)
    (kk : ∀ H1 : Heap, H.size < H1.size → (∀ q : Nat, q < H.size → H1[q]? = H[q]?) → XO K H1 cls H.size → VT K nL A H1 (cells + 1) (slots + 6) Q (pc + 7) lv H.size) : V K nL A H cells slots Q pc lv rest :=
  vv_make0 X hK hl hcls hnames hk hini hat hgood d0 d3 d4 hRf hRl hc hs (fun H1 a b c => vv_athrow X d7 (kk H1 a b c))
end THR
