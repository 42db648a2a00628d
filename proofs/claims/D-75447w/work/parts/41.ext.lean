/-! MORE AT V: contracts that may throw (Cx), calls of all kinds, arrays of references, natives -/
set_option maxRecDepth 100000
section EXT
def QcX (A : Nat → Prop) (sz : Nat) (E : String → Nat → Heap → Heap → Prop) : String → Nat → State → State → Prop := fun X q st t => E X q st.heap t.heap ∧ va_F (fun q => A q ∨ sz ≤ q) st t
/-- THE CONTRACT of a method that returns (Q) or throws (E: the class, where it lies, the heaps) -/
def Cx (l : Launch) (y : MethodName) (bytes : ByteArray) (nL : Nat) (ret : Option FieldType) (rm : Room) (D : DD) (av : List Value) (P : Heap → Prop) (A : Nat → Prop) (Q : Option Value → Heap → Heap → Prop) (E : String → Nat → Heap → Heap → Prop) : Prop :=
  ∀ sz : Nat, vx_Met l y (ws_ y bytes nL ret) rm (PcT D av sz P) (QcT A sz Q) (QcX A sz E) rm.cells rm.slots (fun q => A q ∨ sz ≤ q)
/-- .. of a method with handlers -/
def Cxh (l : Launch) (y : MethodName) (bytes : ByteArray) (nL : Nat) (ret : Option FieldType) (hh : List (Nat × Nat × Nat × Nat)) (rm : Room) (D : DD) (av : List Value) (P : Heap → Prop) (A : Nat → Prop) (Q : Option Value → Heap → Heap → Prop) (E : String → Nat → Heap → Heap → Prop) : Prop :=
  ∀ sz : Nat, vx_Met l y (wsW_ y bytes nL ret hh) rm (PcT D av sz P) (QcT A sz Q) (QcX A sz E) rm.cells rm.slots (fun q => A q ∨ sz ≤ q)
/-- .. of one with handlers that catches all -/
def Cth (l : Launch) (y : MethodName) (bytes : ByteArray) (nL : Nat) (ret : Option FieldType) (hh : List (Nat × Nat × Nat × Nat)) (rm : Room) (D : DD) (av : List Value) (P : Heap → Prop) (A : Nat → Prop) (Q : Option Value → Heap → Heap → Prop) : Prop :=
  ∀ sz : Nat, Met l y (wsW_ y bytes nL ret hh) rm (PcT D av sz P) (QcT A sz Q) rm.cells rm.slots (fun q => A q ∨ sz ≤ q)
def QX (K : C_) (rm : Room) (A : Nat → Prop) (Q : Option Value → Heap → Heap → Prop) (E : String → Nat → Heap → Heap → Prop) : State → Prop := vx_MQ (kB K) (QcT A (kS K).heap.size Q) (QcX A (kS K).heap.size E) (kA K) (kS K) rm.cells rm.slots (kF K A)
theorem Cx.of {l : Launch} {y : MethodName} {bytes : ByteArray} {nL : Nat} {ret : Option FieldType} {rm : Room} {D : DD} {av : List Value} {P : Heap → Prop} {A : Nat → Prop} {Q : Option Value → Heap → Heap → Prop} {E : String → Nat → Heap → Heap → Prop} (hy : plainName y.cls = true) (hL : (lg_sl av).length ≤ nL)
    (body : ∀ (K : C_) (Qf : State → Prop), kL K = l → Fx K y bytes nL ret rm D → (∀ x ∈ (kC K).exceptionTable.toList, False) → P (kS K).heap → QX K rm A Q E = Qf → V K nL A (kS K).heap 0 0 Qf 0 (lv_args 0 av) []) : Cx l y bytes nL ret rm D av P A Q E := by
  intro sz
  refine vx_ofW (cc := bytes) (maxL := nL) (ret := ret) hy rfl ?_
  intro p e s m args below meth c s₁ B hml ht hv
  obtain ⟨rfl, hsz, hP, hG⟩ := hv
  subst hsz
  have hts := atoms_spec (ws := ws_ y bytes nL ret) B.pre
  have X : Fx (p, l, e, rm, s, m, av.toArray, below, meth, c) y bytes nL ret rm D := ⟨B.exec, B.bytes, hml, findClass_of_methodNamed B.named, fun w h => hts w (List.mem_cons_of_mem _ h), hG, B.returns, B.notSynchronized, rfl, (name_of_methodNamed B.named B.method).1, B.named⟩
  rw [lg_entry_eq]
  exact body _ _ rfl X ht hP rfl [] _ va_S.rf (lv_entry av hL)
theorem Cxh.of {l : Launch} {y : MethodName} {bytes : ByteArray} {nL : Nat} {ret : Option FieldType} {hh : List (Nat × Nat × Nat × Nat)} {rm : Room} {D : DD} {av : List Value} {P : Heap → Prop} {A : Nat → Prop} {Q : Option Value → Heap → Heap → Prop} {E : String → Nat → Heap → Heap → Prop} (hy : plainName y.cls = true) (hL : (lg_sl av).length ≤ nL)
    (body : ∀ (K : C_) (Qf : State → Prop), kL K = l → Fx K y bytes nL ret rm D → (kC K).exceptionTable.toList = tableOf hh → P (kS K).heap → QX K rm A Q E = Qf → V K nL A (kS K).heap 0 0 Qf 0 (lv_args 0 av) []) : Cxh l y bytes nL ret hh rm D av P A Q E := by
  intro sz
  refine vx_ofWH (cc := bytes) (maxL := nL) (ret := ret) (hh := hh) hy rfl ?_
  intro p e s m args below meth c s₁ B hml hv
  obtain ⟨rfl, hsz, hP, hG⟩ := hv
  subst hsz
  have hts := atoms_spec (ws := wsW_ y bytes nL ret hh) B.pre
  have ht := vx_table (x := y) B (hts _ List.mem_cons_self)
  have X : Fx (p, l, e, rm, s, m, av.toArray, below, meth, c) y bytes nL ret rm D := ⟨B.exec, B.bytes, hml, findClass_of_methodNamed B.named, fun w h => hts w (List.mem_cons_of_mem _ h), hG, B.returns, B.notSynchronized, rfl, (name_of_methodNamed B.named B.method).1, B.named⟩
  rw [lg_entry_eq]
  exact body _ _ rfl X ht hP rfl [] _ va_S.rf (lv_entry av hL)
theorem Cth.of {l : Launch} {y : MethodName} {bytes : ByteArray} {nL : Nat} {ret : Option FieldType} {hh : List (Nat × Nat × Nat × Nat)} {rm : Room} {D : DD} {av : List Value} {P : Heap → Prop} {A : Nat → Prop} {Q : Option Value → Heap → Heap → Prop} (hy : plainName y.cls = true) (hL : (lg_sl av).length ≤ nL)
    (body : ∀ (K : C_) (Qf : State → Prop), kL K = l → Fx K y bytes nL ret rm D → (kC K).exceptionTable.toList = tableOf hh → P (kS K).heap → QM K rm A Q = Qf → V K nL A (kS K).heap 0 0 Qf 0 (lv_args 0 av) []) : Cth l y bytes nL ret hh rm D av P A Q := by
  intro sz
  refine va_MetW (cc := bytes) (maxL := nL) (ret := ret) (hh := hh) hy rfl ?_
  intro p e s m args below meth c s₁ B hml hv
  obtain ⟨rfl, hsz, hP, hG⟩ := hv
  subst hsz
  have hts := atoms_spec (ws := wsW_ y bytes nL ret hh) B.pre
  have ht := vx_table (x := y) B (hts _ List.mem_cons_self)
  have X : Fx (p, l, e, rm, s, m, av.toArray, below, meth, c) y bytes nL ret rm D := ⟨B.exec, B.bytes, hml, findClass_of_methodNamed B.named, fun w h => hts w (List.mem_cons_of_mem _ h), hG, B.returns, B.notSynchronized, rfl, (name_of_methodNamed B.named B.method).1, B.named⟩
  rw [lg_entry_eq]
  exact body _ _ rfl X ht hP rfl [] _ va_S.rf (lv_entry av hL)
/-- an exception of class X lies at q -/
def XO (K : C_) (H : Heap) (X : String) (q : Nat) : Prop := ∃ ce : Cell, H[q]? = some ce ∧ ce.vm = .none ∧ (kS K).vm.findClass X = some ce.cls
theorem XO.kept {K : C_} {H H1 : Heap} {X : String} {q : Nat} (h : XO K H X q) (hk : H1[q]? = H[q]?) : XO K H1 X q := by
  obtain ⟨ce, h1, h2, h3⟩ := h
  exact ⟨ce, by rw [hk]; exact h1, h2, h3⟩
/-- THE JUDGEMENT: at pc, with q of class X thrown -/
def VT (K : C_) (nL : Nat) (A : Nat → Prop) (H : Heap) (cells slots : Nat) (Q : State → Prop) (pc : Nat) (lv : List (Nat × Value)) (q : Nat) : Prop :=
  ∀ (L : List Loc) (ls : Array Slot) (rest : List Value), va_S (kF K A) (kS K).heap H L → lv_has ls nL lv → vx_W (kP K) (kL K) (kE K) (kR K) (kS K) (kM K) (kA K) (kB K) (kT K) (kC K) H L cells slots Q (F0 (kM K) pc ls rest) q
section ROWS
variable {K : C_} {y : MethodName} {cc : ByteArray} {nL : Nat} {ret : Option FieldType} {rm : Room} {D : DD} {A : Nat → Prop} {H : Heap} {cells slots : Nat} {Q : State → Prop} {pc : Nat} {lv : List (Nat × Value)} {rest : List Value} {q : Nat} {Xn : String}
theorem vv_eqv {v v' : Value} (h : v = v') (kk : V K nL A H cells slots Q pc lv (v' :: rest)) : V K nL A H cells slots Q pc lv (v :: rest) := h ▸ kk
theorem vv_rx {QQ : Option Value → Heap → Heap → Prop} {E : String → Nat → Heap → Heap → Prop} {Qf : State → Prop} (hQ : QX K rm A QQ E = Qf) (kk : V K nL A H cells slots (QM K rm A QQ) pc lv rest) : V K nL A H cells slots Qf pc lv rest := by
  subst hQ
  intro L ls hS h0
  exact vx_ret (kk L ls hS h0)
theorem vt_widen {k n : Nat} (h1 : cells ≤ k) (h2 : slots ≤ n) (kk : VT K nL A H k n Q pc lv q) : VT K nL A H cells slots Q pc lv q := fun L ls rest hS h0 => vx_widen h1 h2 (kk L ls rest hS h0)
theorem vt_out {QQ : Option Value → Heap → Heap → Prop} {E : String → Nat → Heap → Heap → Prop} {Qf : State → Prop} (X : Fx K y cc nL ret rm D) (ht : ∀ x ∈ (kC K).exceptionTable.toList, covers x pc = false) (hQ : QX K rm A QQ E = Qf) (hx : XO K H Xn q) (hc : cells ≤ rm.cells) (hs : slots ≤ rm.slots) (hE : E Xn q (kS K).heap H) : VT K nL A H cells slots Qf pc lv q := by
  subst hQ
  obtain ⟨ce, h1, h2, h3⟩ := hx
  intro L ls rest hS h0
  exact vx_out ht X.locks h1 h2 h3 (fun t ht hA => ⟨by rw [ht]; exact hE, hS.F ht⟩) hS.2.2 hc hs
theorem vt_catch {name : String} (X : Fx K y cc nL ret rm D) (pre : List ExceptionTableEntry) (x : ExceptionTableEntry) (suf : List ExceptionTableEntry) (hsplit : (kC K).exceptionTable.toList = pre ++ x :: suf)
    (hpass : ∀ z ∈ pre, covers z pc = false ∨ (z.catchType ≠ 0 ∧ ∃ nm : String, Cond.classLink y.cls z.catchType nm ∈ lw_all ∧ va_Nc Xn nm (kS K))) (hcv : covers x pc = true) (h0 : x.catchType ≠ 0)
    (hlink : Cond.classLink y.cls x.catchType name ∈ lw_all) (hcast : Cond.castable Xn name ∈ lw_tbl) (hx : XO K H Xn q)
    (kk : V K nL A H cells slots Q x.handlerPc lv [.ref q]) : VT K nL A H cells slots Q pc lv q := by
  obtain ⟨ce, h1, h2, h3⟩ := hx
  intro L ls rest hS hl
  exact vx_catch X.own pre x suf hsplit (fun z hz => (hpass z hz).imp id (fun ⟨a, nm, b, c⟩ => ⟨a, nm, X.words _ b, c⟩)) hcv h0 (X.words _ hlink) (va_Nw.use rfl (X.nest hcast rfl)) h1 h2 h3 (kk L ls hS hl)
theorem vv_athrow (X : Fx K y cc nL ret rm D) (d : decode cc pc = .ok (.athrow, 1)) (kk : VT K nL A H cells slots Q pc lv q) : V K nL A H cells slots Q pc lv (.ref q :: rest) := fun L ls hS h0 => vx_athrow X.exec X.code d (kk L ls rest hS h0)
/-- behind a call that may throw -/
theorem vx_after {mc ms : Nat} {A2 : Nat → Prop} {Q2 : Option Value → Heap → Heap → Prop} {E2 : String → Nat → Heap → Heap → Prop} {as : Array Value} {stk st : List Value}
    (hr : ∀ (L : List Loc) (ls : Array Slot), lv_has ls nL lv → vx_Run (kP K) (kL K) (kE K) (kR K) (kS K) (kM K) (kA K) (kB K) (kT K) (kC K) H L cells slots mc ms (F0 (kM K) pc ls stk) st (QcT A2 H.size Q2 as) (QcX A2 H.size E2) (fun q => A2 q ∨ H.size ≤ q))
    (hA : ∀ q, A2 q → kF K A q)
    (kk : ∀ (v : Option Value) (H1 : Heap), Q2 v H H1 → H.size ≤ H1.size → (∀ q : Nat, q < H.size → ¬ A2 q → H1[q]? = H[q]?) → V K nL A H1 (cells + mc) (slots + ms) Q (pc + 3) lv (v.toList ++ st))
    (kx : ∀ (Xn : String) (q : Nat) (H1 : Heap), E2 Xn q H H1 → H.size ≤ H1.size → (∀ q : Nat, q < H.size → ¬ A2 q → H1[q]? = H[q]?) → XO K H1 Xn q → VT K nL A H1 (cells + mc) (slots + ms) Q pc lv q) : V K nL A H cells slots Q pc lv stk := by
  intro L ls hS h0 T hT XX
  have key : ∀ (t T' : State) (L' : List Loc), T'.heap = t.heap → H.size ≤ t.heap.size → (∀ q : Nat, q < H.size → ¬ A2 q → t.heap[q]? = H[q]?) → (∀ q ∈ L', (fun q => A2 q ∨ H.size ≤ q) q.base) → va_S (kF K A) (kS K).heap t.heap (L ++ L') := fun t T' L' e1 hz hk' hL =>
    ⟨Nat.le_trans hS.1 hz, fun q h1 h2 => (hk' q (Nat.lt_of_lt_of_le h1 hS.1) (fun z => h2 (hA q z))).trans (hS.2.1 q h1 h2), fun q hq => by
      rcases List.mem_append.mp hq with h | h
      · exact hS.2.2 q h
      · rcases hL q h with z | z
        · exact hA _ z
        · exact Or.inr (Nat.le_trans hS.1 z)⟩
  rcases hr L ls h0 T hT XX with ⟨v, st₀, t, T', L', hst, X', hL, e1, e2, ⟨v', hv, hq, hz, hk⟩, hgo⟩ | ⟨q, st₀, t, T', L', En, ce, hst, X', hL, e1, e2, ⟨hE, hz, hk⟩, hce, hcv, hcl, hgo⟩
  · cases hv
    rw [hst] at hq hz hk
    have hk' : ∀ q : Nat, q < H.size → ¬ A2 q → t.heap[q]? = H[q]? := fun q h1 h2 => hk q h1 (fun z => z.elim h2 (fun z => absurd h1 (Nat.not_lt.mpr z)))
    obtain ⟨t2, a1, b1⟩ := kk v t.heap hq hz hk' (L ++ L') ls (key t T' L' e1 hz hk' hL) h0 T' e1 X'
    exact ⟨t2, hgo t2 a1, b1⟩
  · rw [hst] at hE hz hk
    have hk' : ∀ q : Nat, q < H.size → ¬ A2 q → t.heap[q]? = H[q]? := fun q h1 h2 => hk q h1 (fun z => z.elim h2 (fun z => absurd h1 (Nat.not_lt.mpr z)))
    obtain ⟨t2, a1, b1⟩ := kx En q t.heap hE hz hk' ⟨ce, hce, hcv, hcl⟩ (L ++ L') ls st (key t T' L' e1 hz hk' hL) h0 T' e1 X'
    exact ⟨t2, hgo.trans a1, b1⟩
variable {y2 : MethodName} {b2 : ByteArray} {nL2 idx b : Nat} {ret2 : Option FieldType} {rm2 : Room} {As st stk : List Value} {P : Heap → Prop} {A2 : Nat → Prop} {Q2 : Option Value → Heap → Heap → Prop} {E2 : String → Nat → Heap → Heap → Prop}
theorem vx_cV (X : Fx K y cc nL ret rm D) (hM : Cx (kL K) y2 b2 nL2 ret2 rm2 D (.ref b :: As) P A2 Q2 E2) (q1 : Cond.methodLink y.cls idx y2 ∈ lw_all) (q2 : Cond.instanceMethod y2 ∈ lw_all) (q3 : Cond.selects y2.cls y2 y2 ∈ lw_all) (q4 : Cond.initialized y2.cls ∈ lw_all) (q5 : Cond.code y2 b2 nL2 ret2 ∈ lw_all) (hd : notMH y2 As.length) (hR : rm2.frames + 1 ≤ rm.frames ∧ 8 + (nL2 + 11) + rm2.locals ≤ rm.locals)
    (d : decode cc pc = .ok (.invokevirtual idx, 3)) (hstk : stk = As.reverse ++ .ref b :: st) (hw : (st.map fun v => v.category).sum ≤ 8) (ho : ∃ cell : Cell, H[b]? = some cell ∧ cell.vm.isStatics = false ∧ (kS K).vm.findClass y2.cls = some cell.cls) (hP : P H) (hA : ∀ q, A2 q → kF K A q) (hc : cells + rm2.cells ≤ rm.cells ∧ slots + rm2.slots ≤ rm.slots)
    (kx : ∀ (Xn : String) (q : Nat) (H1 : Heap), E2 Xn q H H1 → H.size ≤ H1.size → (∀ q : Nat, q < H.size → ¬ A2 q → H1[q]? = H[q]?) → XO K H1 Xn q → VT K nL A H1 (cells + rm2.cells) (slots + rm2.slots) Q pc lv q)
    (kk : ∀ (v : Option Value) (H1 : Heap), Q2 v H H1 → H.size ≤ H1.size → (∀ q : Nat, q < H.size → ¬ A2 q → H1[q]? = H[q]?) → V K nL A H1 (cells + rm2.cells) (slots + rm2.slots) Q (pc + 3) lv (v.toList ++ st)) : V K nL A H cells slots Q pc lv stk := by
  subst hstk
  exact vx_after (fun L ls h0 => vx_runV (As := As) (rest := st) ⟨X.exec, X.code, X.maxL, X.own, X.words⟩ (hM H.size) (cwV As.length X.words (lw_V q1 q2 q3 q4 q5) rfl rfl rfl ⟨rfl, hd⟩ (by rw [X.room]; exact hR)) ⟨PcT_blind, ho, fun U hU hW => ⟨rfl, by rw [hU], by rw [hU]; exact hP, X.gk.warm hW⟩⟩ rfl rfl h0.1 rfl (lv_room hw) d (by rw [X.room]; exact hc)) hA kk kx
theorem vx_cS (X : Fx K y cc nL ret rm D) (hM : Cx (kL K) y2 b2 nL2 ret2 rm2 D As P A2 Q2 E2) (q1 : Cond.methodLink y.cls idx y2 ∈ lw_all) (q2 : Cond.static y2 ∈ lw_all) (q4 : Cond.initialized y2.cls ∈ lw_all) (q5 : Cond.code y2 b2 nL2 ret2 ∈ lw_all) (hd : notMH y2 As.length) (hR : rm2.frames + 1 ≤ rm.frames ∧ 8 + (nL2 + 11) + rm2.locals ≤ rm.locals)
    (d : decode cc pc = .ok (.invokestatic idx, 3)) (hstk : stk = As.reverse ++ st) (hw : (st.map fun v => v.category).sum ≤ 8) (hP : P H) (hA : ∀ q, A2 q → kF K A q) (hc : cells + rm2.cells ≤ rm.cells ∧ slots + rm2.slots ≤ rm.slots)
    (kx : ∀ (Xn : String) (q : Nat) (H1 : Heap), E2 Xn q H H1 → H.size ≤ H1.size → (∀ q : Nat, q < H.size → ¬ A2 q → H1[q]? = H[q]?) → XO K H1 Xn q → VT K nL A H1 (cells + rm2.cells) (slots + rm2.slots) Q pc lv q)
    (kk : ∀ (v : Option Value) (H1 : Heap), Q2 v H H1 → H.size ≤ H1.size → (∀ q : Nat, q < H.size → ¬ A2 q → H1[q]? = H[q]?) → V K nL A H1 (cells + rm2.cells) (slots + rm2.slots) Q (pc + 3) lv (v.toList ++ st)) : V K nL A H cells slots Q pc lv stk := by
  subst hstk
  exact vx_after (fun L ls h0 => vx_runS (As := As) (rest := st) ⟨X.exec, X.code, X.maxL, X.own, X.words⟩ (hM H.size) (va_cwS As.length X.words (lw_S q1 q2 q4 q5) rfl rfl rfl hd (by rw [X.room]; exact hR)) ⟨PcT_blind, fun U hU hW => ⟨rfl, by rw [hU], by rw [hU]; exact hP, X.gk.warm hW⟩⟩ rfl rfl h0.1 rfl (lv_room hw) d (by rw [X.room]; exact hc)) hA kk kx
theorem vx_cVh {hh : List (Nat × Nat × Nat × Nat)} (X : Fx K y cc nL ret rm D) (hM : Cxh (kL K) y2 b2 nL2 ret2 hh rm2 D (.ref b :: As) P A2 Q2 E2) (q1 : Cond.methodLink y.cls idx y2 ∈ lw_all) (q2 : Cond.instanceMethod y2 ∈ lw_all) (q3 : Cond.selects y2.cls y2 y2 ∈ lw_all) (q4 : Cond.initialized y2.cls ∈ lw_all) (q5 : Cond.codeWith y2 b2 nL2 ret2 hh ∈ lw_all) (hd : notMH y2 As.length) (hR : rm2.frames + 1 ≤ rm.frames ∧ 8 + (nL2 + 11) + rm2.locals ≤ rm.locals)
    (d : decode cc pc = .ok (.invokevirtual idx, 3)) (hstk : stk = As.reverse ++ .ref b :: st) (hw : (st.map fun v => v.category).sum ≤ 8) (ho : ∃ cell : Cell, H[b]? = some cell ∧ cell.vm.isStatics = false ∧ (kS K).vm.findClass y2.cls = some cell.cls) (hP : P H) (hA : ∀ q, A2 q → kF K A q) (hc : cells + rm2.cells ≤ rm.cells ∧ slots + rm2.slots ≤ rm.slots)
    (kx : ∀ (Xn : String) (q : Nat) (H1 : Heap), E2 Xn q H H1 → H.size ≤ H1.size → (∀ q : Nat, q < H.size → ¬ A2 q → H1[q]? = H[q]?) → XO K H1 Xn q → VT K nL A H1 (cells + rm2.cells) (slots + rm2.slots) Q pc lv q)
    (kk : ∀ (v : Option Value) (H1 : Heap), Q2 v H H1 → H.size ≤ H1.size → (∀ q : Nat, q < H.size → ¬ A2 q → H1[q]? = H[q]?) → V K nL A H1 (cells + rm2.cells) (slots + rm2.slots) Q (pc + 3) lv (v.toList ++ st)) : V K nL A H cells slots Q pc lv stk := by
  subst hstk
  exact vx_after (fun L ls h0 => vx_runVX (As := As) (rest := st) (hh := hh) ⟨X.exec, X.code, X.maxL, X.own, X.words⟩ (hM H.size) (vx_cwVW As.length X.words (lw_VW q1 q2 q3 q4 q5) rfl rfl rfl ⟨rfl, hd⟩ (by rw [X.room]; exact hR)) ⟨PcT_blind, ho, fun U hU hW => ⟨rfl, by rw [hU], by rw [hU]; exact hP, X.gk.warm hW⟩⟩ rfl rfl h0.1 rfl (lv_room hw) d (by rw [X.room]; exact hc)) hA kk kx
/-- a static method with handlers that catches all -/
theorem vv_callSh {hh : List (Nat × Nat × Nat × Nat)} (X : Fx K y cc nL ret rm D) (hM : Cth (kL K) y2 b2 nL2 ret2 hh rm2 D As P A2 Q2) (q1 : Cond.methodLink y.cls idx y2 ∈ lw_all) (q2 : Cond.static y2 ∈ lw_all) (q4 : Cond.initialized y2.cls ∈ lw_all) (q5 : Cond.codeWith y2 b2 nL2 ret2 hh ∈ lw_all) (hd : notMH y2 As.length) (hR : rm2.frames + 1 ≤ rm.frames ∧ 8 + (nL2 + 11) + rm2.locals ≤ rm.locals)
    (d : decode cc pc = .ok (.invokestatic idx, 3)) (hstk : stk = As.reverse ++ st) (hw : (st.map fun v => v.category).sum ≤ 8) (hP : P H) (hA : ∀ q, A2 q → kF K A q) (hc : cells + rm2.cells ≤ rm.cells ∧ slots + rm2.slots ≤ rm.slots)
    (kk : ∀ (v : Option Value) (H1 : Heap), Q2 v H H1 → H.size ≤ H1.size → (∀ q : Nat, q < H.size → ¬ A2 q → H1[q]? = H[q]?) → V K nL A H1 (cells + rm2.cells) (slots + rm2.slots) Q (pc + 3) lv (v.toList ++ st)) : V K nL A H cells slots Q pc lv stk := by
  subst hstk
  exact vv_after (fun L ls h0 => vx_runSW (As := As) (rest := st) (hh := hh) ⟨X.exec, X.code, X.maxL, X.own, X.words⟩ (hM H.size) (vx_cwSW As.length X.words (lw_SW q1 q2 q4 q5) rfl rfl rfl hd (by rw [X.room]; exact hR)) ⟨PcT_blind, fun U hU hW => ⟨rfl, by rw [hU], by rw [hU]; exact hP, X.gk.warm hW⟩⟩ rfl rfl h0.1 rfl (lv_room hw) d (by rw [X.room]; exact hc)) hA kk
end ROWS
/-! calls through interfaces, inherited methods, super, nest mates -/
theorem lw_F {own : String} {idx : Nat} {C : String} {x y : MethodName} {b : ByteArray} {L : Nat} {r : Option FieldType} (h1 : Cond.methodLink own idx x ∈ lw_all) (h2 : Cond.selects C x y ∈ lw_all) (h3 : Cond.instanceMethod y ∈ lw_all) (h4 : Cond.initialized y.cls ∈ lw_all) (h5 : Cond.code y b L r ∈ lw_all) : GoodIn lw_all (va_wsF own idx C x y (ws_ y b L r)) := by
  refine lw_app ?_ (lw_meth h5)
  intro w hw
  simp only [List.mem_cons, List.not_mem_nil, or_false] at hw
  rcases hw with e | e | e | e
  · rw [e]; exact h1
  · rw [e]; exact h2
  · rw [e]; exact h3
  · rw [e]; exact h4
theorem lw_U {own : String} {idx : Nat} {C owner : String} {x y : MethodName} {b : ByteArray} {L : Nat} {r : Option FieldType} (h1 : Cond.methodLink own idx x ∈ lw_all) (h0 : Cond.sameMethod x.cls owner x.name x.desc ∈ lw_all) (h2 : Cond.selects C x y ∈ lw_all) (h3 : Cond.instanceMethod y ∈ lw_all) (h4 : Cond.initialized y.cls ∈ lw_all) (h5 : Cond.code y b L r ∈ lw_all) : GoodIn lw_all (va_wsU own idx C owner x y (ws_ y b L r)) := by
  refine lw_app ?_ (lw_meth h5)
  intro w hw
  simp only [List.mem_cons, List.not_mem_nil, or_false] at hw
  rcases hw with e | e | e | e | e
  · rw [e]; exact h1
  · rw [e]; exact h0
  · rw [e]; exact h2
  · rw [e]; exact h3
  · rw [e]; exact h4
theorem lw_SU {own : String} {idx : Nat} {y : MethodName} {b : ByteArray} {L : Nat} {r : Option FieldType} (h1 : Cond.methodLink own idx y ∈ lw_all) (h0 : Cond.sameMethod y.cls y.cls y.name y.desc ∈ lw_all) (h2 : Cond.superclass own y.cls ∈ lw_all) (h3 : Cond.instanceMethod y ∈ lw_all) (h4 : Cond.initialized y.cls ∈ lw_all) (h5 : Cond.code y b L r ∈ lw_all) : GoodIn lw_all (va_wsSU own idx y (ws_ y b L r)) := by
  refine lw_app ?_ (lw_meth h5)
  intro w hw
  simp only [List.mem_cons, List.not_mem_nil, or_false] at hw
  rcases hw with e | e | e | e | e
  · rw [e]; exact h1
  · rw [e]; exact h0
  · rw [e]; exact h2
  · rw [e]; exact h3
  · rw [e]; exact h4
section ROWS2
variable {K : C_} {y : MethodName} {cc : ByteArray} {nL : Nat} {ret : Option FieldType} {rm : Room} {D : DD} {A : Nat → Prop} {H : Heap} {cells slots : Nat} {Q : State → Prop} {pc : Nat} {lv : List (Nat × Value)} {rest : List Value}
variable {x y2 : MethodName} {b2 : ByteArray} {nL2 idx b count : Nat} {ret2 : Option FieldType} {rm2 : Room} {As st stk : List Value} {P : Heap → Prop} {A2 : Nat → Prop} {Q2 : Option Value → Heap → Heap → Prop} {C owner host : String} {T : u_T} {N ci : Nat} {fs : List Value}
theorem vv_after5 {mc ms : Nat} {A2 : Nat → Prop} {Q2 : Option Value → Heap → Heap → Prop} {as : Array Value} {stk st : List Value}
    (hr : ∀ (L : List Loc) (ls : Array Slot), lv_has ls nL lv → va_Run5 (kP K) (kL K) (kE K) (kR K) (kS K) (kM K) (kA K) (kB K) (kT K) (kC K) H L cells slots mc ms (F0 (kM K) pc ls stk) st (QcT A2 H.size Q2 as) (fun q => A2 q ∨ H.size ≤ q))
    (hA : ∀ q, A2 q → kF K A q)
    (kk : ∀ (v : Option Value) (H1 : Heap), Q2 v H H1 → H.size ≤ H1.size → (∀ q : Nat, q < H.size → ¬ A2 q → H1[q]? = H[q]?) → V K nL A H1 (cells + mc) (slots + ms) Q (pc + 5) lv (v.toList ++ st)) : V K nL A H cells slots Q pc lv stk := by
  intro L ls hS h0 T hT XX
  obtain ⟨v, st₀, t, T', L', hst, X', hL, e1, e2, ⟨v', hv, hq, hz, hk⟩, hgo⟩ := hr L ls h0 T hT XX
  cases hv
  rw [hst] at hq hz hk
  have hk' : ∀ q : Nat, q < H.size → ¬ A2 q → t.heap[q]? = H[q]? := fun q h1 h2 => hk q h1 (fun z => z.elim h2 (fun z => absurd h1 (Nat.not_lt.mpr z)))
  obtain ⟨t2, a1, b1⟩ := kk v t.heap hq hz hk' (L ++ L') ls ⟨Nat.le_trans hS.1 hz, fun q h1 h2 => (hk' q (Nat.lt_of_lt_of_le h1 hS.1) (fun z => h2 (hA q z))).trans (hS.2.1 q h1 h2), fun q hq => by
      rcases List.mem_append.mp hq with h | h
      · exact hS.2.2 q h
      · rcases hL q h with z | z
        · exact hA _ z
        · exact Or.inr (Nat.le_trans hS.1 z)⟩ h0 T' e1 X'
  exact ⟨t2, hgo t2 a1, b1⟩
/-- by an interface -/
theorem vv_callF (X : Fx K y cc nL ret rm D) (hM : Ct (kL K) y2 b2 nL2 ret2 rm2 D (.ref b :: As) P A2 Q2) (hF : (C, x, y2) ∈ FWL) (q1 : Cond.methodLink y.cls idx x ∈ lw_all) (q2 : Cond.instanceMethod y2 ∈ lw_all) (q3 : Cond.selects C x y2 ∈ lw_all) (q4 : Cond.initialized y2.cls ∈ lw_all) (q5 : Cond.code y2 b2 nL2 ret2 ∈ lw_all) (hd : notMH x As.length) (hR : rm2.frames + 1 ≤ rm.frames ∧ 8 + (nL2 + 11) + rm2.locals ≤ rm.locals)
    (d : decode cc pc = .ok (.invokeinterface idx count, 5)) (hstk : stk = As.reverse ++ .ref b :: st) (hw : (st.map fun v => v.category).sum ≤ 8) (ho : oB D H b ci fs) (hcl : CL[ci]? = some (C, T, N)) (hP : P H) (hA : ∀ q, A2 q → kF K A q) (hc : cells + rm2.cells ≤ rm.cells ∧ slots + rm2.slots ≤ rm.slots)
    (kk : ∀ (v : Option Value) (H1 : Heap), Q2 v H H1 → H.size ≤ H1.size → (∀ q : Nat, q < H.size → ¬ A2 q → H1[q]? = H[q]?) → V K nL A H1 (cells + rm2.cells) (slots + rm2.slots) Q (pc + 5) lv (v.toList ++ st)) : V K nL A H cells slots Q pc lv stk := by
  subst hstk
  exact vv_after5 (fun L ls h0 => va_runF (As := As) (rest := st) (X.kk.1 ci _ hcl).2 ⟨X.exec, X.code, X.maxL, X.own, X.words⟩ (hM H.size) (va_cwF As.length X.words (lw_F q1 q3 q2 q4 q5) rfl rfl rfl (X.gk.2.2.1 _ hF) hd (by rw [X.room]; exact hR)) ⟨PcT_blind, recv X ho hcl, fun U hU hW => ⟨rfl, by rw [hU], by rw [hU]; exact hP, X.gk.warm hW⟩⟩ rfl rfl h0.1 rfl (lv_room hw) d (by rw [X.room]; exact hc)) hA kk
/-- an inherited method: the class's own name x stands for owner's -/
theorem vv_callU (X : Fx K y cc nL ret rm D) (hM : Ct (kL K) y2 b2 nL2 ret2 rm2 D (.ref b :: As) P A2 Q2) (q1 : Cond.methodLink y.cls idx x ∈ lw_all) (q0 : Cond.sameMethod x.cls owner x.name x.desc ∈ lw_all) (q2 : Cond.instanceMethod y2 ∈ lw_all) (q3 : Cond.selects C x y2 ∈ lw_all) (q4 : Cond.initialized y2.cls ∈ lw_all) (q5 : Cond.code y2 b2 nL2 ret2 ∈ lw_all) (hyx : y2 = ⟨owner, x.name, x.desc⟩) (hd : owner ≠ "java/lang/invoke/MethodHandle" ∧ owner ≠ "java/lang/invoke/VarHandle" ∧ (parseMethodDescriptor x.desc).map (fun d => d.parameters.length) = some As.length) (hR : rm2.frames + 1 ≤ rm.frames ∧ 8 + (nL2 + 11) + rm2.locals ≤ rm.locals)
    (d : decode cc pc = .ok (.invokevirtual idx, 3)) (hstk : stk = As.reverse ++ .ref b :: st) (hw : (st.map fun v => v.category).sum ≤ 8) (ho : oB D H b ci fs) (hcl : CL[ci]? = some (C, T, N)) (hP : P H) (hA : ∀ q, A2 q → kF K A q) (hc : cells + rm2.cells ≤ rm.cells ∧ slots + rm2.slots ≤ rm.slots)
    (kk : ∀ (v : Option Value) (H1 : Heap), Q2 v H H1 → H.size ≤ H1.size → (∀ q : Nat, q < H.size → ¬ A2 q → H1[q]? = H[q]?) → V K nL A H1 (cells + rm2.cells) (slots + rm2.slots) Q (pc + 3) lv (v.toList ++ st)) : V K nL A H cells slots Q pc lv stk := by
  subst hstk
  exact vv_after (fun L ls h0 => va_runU (As := As) (rest := st) ⟨X.exec, X.code, X.maxL, X.own, X.words⟩ (hM H.size) (va_cwU As.length X.words (lw_U q1 q0 q3 q2 q4 q5) rfl rfl rfl hyx hd (by rw [X.room]; exact hR)) ⟨PcT_blind, recv X ho hcl, fun U hU hW => ⟨rfl, by rw [hU], by rw [hU]; exact hP, X.gk.warm hW⟩⟩ rfl rfl h0.1 rfl (lv_room hw) d (by rw [X.room]; exact hc)) hA kk
/-- super.m(..) -/
theorem vv_callSU (X : Fx K y cc nL ret rm D) (hM : Ct (kL K) y2 b2 nL2 ret2 rm2 D (.ref b :: As) P A2 Q2) (q1 : Cond.methodLink y.cls idx y2 ∈ lw_all) (q0 : Cond.sameMethod y2.cls y2.cls y2.name y2.desc ∈ lw_all) (qs : Cond.superclass y.cls y2.cls ∈ lw_all) (q2 : Cond.instanceMethod y2 ∈ lw_all) (q4 : Cond.initialized y2.cls ∈ lw_all) (q5 : Cond.code y2 b2 nL2 ret2 ∈ lw_all) (hd : y2.name ≠ "<init>" ∧ (parseMethodDescriptor y2.desc).map (fun d => d.parameters.length) = some As.length) (hR : rm2.frames + 1 ≤ rm.frames ∧ 8 + (nL2 + 11) + rm2.locals ≤ rm.locals)
    (d : decode cc pc = .ok (.invokespecial idx, 3)) (hstk : stk = As.reverse ++ .ref b :: st) (hw : (st.map fun v => v.category).sum ≤ 8) (ho : oB D H b ci fs) (hcl : CL[ci]? = some (C, T, N)) (hP : P H) (hA : ∀ q, A2 q → kF K A q) (hc : cells + rm2.cells ≤ rm.cells ∧ slots + rm2.slots ≤ rm.slots)
    (kk : ∀ (v : Option Value) (H1 : Heap), Q2 v H H1 → H.size ≤ H1.size → (∀ q : Nat, q < H.size → ¬ A2 q → H1[q]? = H[q]?) → V K nL A H1 (cells + rm2.cells) (slots + rm2.slots) Q (pc + 3) lv (v.toList ++ st)) : V K nL A H cells slots Q pc lv stk := by
  subst hstk
  exact vv_after (fun L ls h0 => va_runSU (As := As) (rest := st) (X.kk.1 ci _ hcl).2 ⟨X.exec, X.code, X.maxL, X.own, X.words⟩ (hM H.size) (va_cwSU As.length X.words (lw_SU q1 q0 qs q2 q4 q5) rfl rfl rfl hd (by rw [X.room]; exact hR)) ⟨PcT_blind, recv X ho hcl, fun U hU hW => ⟨rfl, by rw [hU], by rw [hU]; exact hP, X.gk.warm hW⟩⟩ rfl rfl h0.1 rfl (lv_room hw) d (by rw [X.room]; exact hc)) hA kk
/-- a private method of a nest mate -/
theorem vv_callVN (X : Fx K y cc nL ret rm D) (hM : Ct (kL K) y2 b2 nL2 ret2 rm2 D (.ref b :: As) P A2 Q2) (q1 : Cond.methodLinkNest y.cls idx y2 host ∈ lw_tbl) (q2 : Cond.instanceMethod y2 ∈ lw_all) (q3 : Cond.selects y2.cls y2 y2 ∈ lw_all) (q4 : Cond.initialized y2.cls ∈ lw_all) (q5 : Cond.code y2 b2 nL2 ret2 ∈ lw_all) (hd : notMH y2 As.length) (hR : rm2.frames + 1 ≤ rm.frames ∧ 8 + (nL2 + 11) + rm2.locals ≤ rm.locals)
    (d : decode cc pc = .ok (.invokevirtual idx, 3)) (hstk : stk = As.reverse ++ .ref b :: st) (hw : (st.map fun v => v.category).sum ≤ 8) (ho : ∃ cell : Cell, H[b]? = some cell ∧ cell.vm.isStatics = false ∧ (kS K).vm.findClass y2.cls = some cell.cls) (hP : P H) (hA : ∀ q, A2 q → kF K A q) (hc : cells + rm2.cells ≤ rm.cells ∧ slots + rm2.slots ≤ rm.slots)
    (kk : ∀ (v : Option Value) (H1 : Heap), Q2 v H H1 → H.size ≤ H1.size → (∀ q : Nat, q < H.size → ¬ A2 q → H1[q]? = H[q]?) → V K nL A H1 (cells + rm2.cells) (slots + rm2.slots) Q (pc + 3) lv (v.toList ++ st)) : V K nL A H cells slots Q pc lv stk := by
  subst hstk
  exact vv_after (fun L ls h0 => va_runVN (As := As) (rest := st) ⟨X.exec, X.code, X.maxL, X.own, X.words⟩ (hM H.size) ⟨va_cnB As.length X.words (lw_meth q5) rfl rfl rfl (X.nest q1 rfl) (X.words _ q4) hd (by rw [X.room]; exact hR), X.words _ q2, X.words _ q3⟩ ⟨PcT_blind, ho, fun U hU hW => ⟨rfl, by rw [hU], by rw [hU]; exact hP, X.gk.warm hW⟩⟩ rfl rfl h0.1 rfl (lv_room hw) d (by rw [X.room]; exact hc)) hA kk
theorem vv_callSN (X : Fx K y cc nL ret rm D) (hM : Ct (kL K) y2 b2 nL2 ret2 rm2 D As P A2 Q2) (q1 : Cond.methodLinkNest y.cls idx y2 host ∈ lw_tbl) (q2 : Cond.static y2 ∈ lw_all) (q4 : Cond.initialized y2.cls ∈ lw_all) (q5 : Cond.code y2 b2 nL2 ret2 ∈ lw_all) (hd : notMH y2 As.length) (hR : rm2.frames + 1 ≤ rm.frames ∧ 8 + (nL2 + 11) + rm2.locals ≤ rm.locals)
    (d : decode cc pc = .ok (.invokestatic idx, 3)) (hstk : stk = As.reverse ++ st) (hw : (st.map fun v => v.category).sum ≤ 8) (hP : P H) (hA : ∀ q, A2 q → kF K A q) (hc : cells + rm2.cells ≤ rm.cells ∧ slots + rm2.slots ≤ rm.slots)
    (kk : ∀ (v : Option Value) (H1 : Heap), Q2 v H H1 → H.size ≤ H1.size → (∀ q : Nat, q < H.size → ¬ A2 q → H1[q]? = H[q]?) → V K nL A H1 (cells + rm2.cells) (slots + rm2.slots) Q (pc + 3) lv (v.toList ++ st)) : V K nL A H cells slots Q pc lv stk := by
  subst hstk
  exact vv_after (fun L ls h0 => va_runSN (As := As) (rest := st) ⟨X.exec, X.code, X.maxL, X.own, X.words⟩ (hM H.size) ⟨va_cnB As.length X.words (lw_meth q5) rfl rfl rfl (X.nest q1 rfl) (X.words _ q4) hd (by rw [X.room]; exact hR), X.words _ q2, trivial⟩ ⟨PcT_blind, fun U hU hW => ⟨rfl, by rw [hU], by rw [hU]; exact hP, X.gk.warm hW⟩⟩ rfl rfl h0.1 rfl (lv_room hw) d (by rw [X.room]; exact hc)) hA kk
/-- fields of nest mates -/
theorem vv_getfN {ref : String} {a : Nat} (X : Fx K y cc nL ret rm D) (ho : oB D H a ci fs) (hin : ∀ w ∈ u_ws C T N, w ∈ lw_all) (hcl : CL[ci]? = some (C, T, N)) (j : Nat) (hj : j < N) (hlink : Cond.fieldLinkNest y.cls idx ref (T j).2.1 (T j).2.2.1 host ∈ lw_tbl) (hsame : ref = (T j).1) {v : Value} (hv : fs[j]? = some v) (d : decode cc pc = .ok (.getfield idx, 3))
    (kk : V K nL A H cells slots Q (pc + 3) lv (v :: rest)) : V K nL A H cells slots Q pc lv (.ref a :: rest) := fun L ls hS h0 => va_getN X.exec X.code X.words hin X.own X.kk (one ho) 0 rfl hcl j hj (va_Nw.use rfl (X.nest hlink rfl)) (fun x h => by rw [hsame]; exact h) hv d (kk L ls hS h0)
end ROWS2
end EXT
