/-! arrays of references, new arrays, copies, casts at V -/
set_option maxRecDepth 100000
theorem arrV_congr (cI : ClassId) {N : Nat} {f g : Nat → Value} (h : ∀ j, j < N → f j = g j) : arrV cI N f = arrV cI N g := by
  unfold arrV
  congr 1
  apply Array.ext
  · simp
  · intro i h1 h2
    simp at h1 ⊢
    exact h i h1
theorem va_selfasg {vm : Vm} {c : ClassId} : vm.assignable c c = true := by
  unfold Vm.assignable
  rw [show (256 : Nat) = 255 + 1 from rfl, Vm.assignableAux]
  simp only [beq_self_eq_true, Bool.true_or]
section ARR
variable {K : C_} {y : MethodName} {cc : ByteArray} {nL : Nat} {ret : Option FieldType} {rm : Room} {D : DD} {A : Nat → Prop} {H : Heap} {cells slots : Nat} {Q : State → Prop} {pc : Nat} {lv : List (Nat × Value)} {rest : List Value}
variable {C ref host : String} {T : u_T} {N ci idx a n ty : Nat} {fs : List Value}
theorem aCls (X : Fx K y cc nL ret rm D) {c : ClassId} {t : FieldType} (ht : (tysOf D)[ty]? = some (c, t)) : (kS K).vm.findClass ("[" ++ t.toString) = some c := by
  have h := (X.kk.2 ty _ ht).2
  cases t with
  | object C => obtain ⟨_, _, _, _, _, h⟩ := h; exact h
  | _ => exact h
theorem vv_putfN (X : Fx K y cc nL ret rm D) (ho : oB D H a ci fs) (hin : ∀ w ∈ u_ws C T N, w ∈ lw_all) (hc : CL[ci]? = some (C, T, N)) (ty0 : Nat → FieldType) (hty : ∀ k, k < N → parseFieldDescriptor (T k).2.2.1 = some (ty0 k)) (hnm : ∀ a, a < N → ∀ b, b < N → a ≠ b → (T a).2.1 ≠ (T b).2.1) (j : Nat) (hj : j < N) (hlink : Cond.fieldLinkNest y.cls idx ref (T j).2.1 (T j).2.2.1 host ∈ lw_tbl) (hsame : ref = (T j).1) (hfin : (T j).2.2.2 = false) {v : Value} (hn : narrow (ty0 j) v = v) (hfit : fits (ty0 j) v = true) (hl : j < fs.length) (hA : kF K A a) (d : decode cc pc = .ok (.putfield idx, 3))
    (kk : ∀ H1 : Heap, Ch a H H1 → oB D H1 a ci (fs.set j v) → V K nL A H1 cells slots Q (pc + 3) lv rest) : V K nL A H cells slots Q pc lv (v :: .ref a :: rest) := by
  intro L ls hS h0
  have hap := va_apart (own := y.cls) X.words hin ty0 hty hnm X.kk hc
  obtain ⟨r, h1, cell, q1, q2, q3, q4⟩ := ho
  have hr : r = (C, T, N) := Option.some.inj (h1.symm.trans hc)
  subst hr
  obtain ⟨hSl, hfc, kC, hkC, hkind⟩ := X.kk.1 ci _ hc
  obtain ⟨cf, kf, fi, f, hi, hsl⟩ := hSl j hj
  have hlay := X.words _ (hin _ (u_in_lay hj))
  unfold u_lay at hlay
  rw [if_neg (by rw [hfin]; decide)] at hlay
  have hst := (u_facts hfc hkC (u_lays X.words hin hj) hi).1
  have h6 := u_store hfc hkC hkind hlay hi (hty j hj) hn hfit
  refine va_WputK X.exec X.code (f := f) X.own (va_Nw.use rfl (X.nest hlink rfl)) (by rw [hsame]; exact hi) hst (by rw [q2]; exact h6) q1 q3 (by rw [hsl]; exact k2_hasslot (q4 j hj)) rfl rfl d fun H' e1 e2 e3 => ?_
  rw [hsl] at e1 ⊢
  exact kk H' ⟨e2, e3⟩ ⟨_, hc, t_OB.to (V := updV (vp_V fs) j v) ⟨_, e1, q2, q3, t_set q4 hap hj v⟩ (fun i _ => vp_updV_set hl v i)⟩ _ ls (hS.put e2 e3 hA) h0
/-- aaload, of any element type -/
theorem vv_aald (X : Fx K y cc nL ret rm D) {f : Nat → Option Nat} (ha : qA D H a ty n f) {t : FieldType} (ht : (tysOf D)[ty]? = some (D.2.1 ty, t)) (href : t.isReference = true) {i : Int32} (k : Nat) (hk : k < n) (hn : n < 2 ^ 31) (e : i = nI k) (d : decode cc pc = .ok (.aaload, 1)) {v : Value} (hv : va_rf (f k) = v) (kk : V K nL A H cells slots Q (pc + 1) lv (v :: rest)) : V K nL A H cells slots Q pc lv (.int i :: .ref a :: rest) := by
  subst e
  subst hv
  intro L ls hS h0
  exact W.aald (v := va_rf (f k)) (ty := t) X.exec X.code ha ((X.kk.2 ty _ ht).1 n (fun j => va_rf (f j))) href (fun q => by cases q) (by show ¬ (nI k < 0 ∨ (arrV _ _ _).slots.size ≤ _); rw [arrV_size]; exact nI_in hk hn) (by show (arrV _ _ _).slots[_]? = _; rw [nI_clamp (by omega), arrV_read _ _ hk]) rfl rfl d (kk L ls hS h0)
/-- aastore of an object whose class is castable to the elements' -/
theorem vv_aast (X : Fx K y cc nL ret rm D) {f : Nat → Option Nat} (ha : qA D H a ty n f) {C Cv : String} (ht : (tysOf D)[ty]? = some (D.2.1 ty, .object C)) {i : Int32} {v : Nat} (k : Nat) (hk : k < n) (hn : n < 2 ^ 31) (e : i = nI k) (hv : ∃ cv : Cell, H[v]? = some cv ∧ cv.vm.isStatics = false ∧ (kS K).vm.findClass Cv = some cv.cls) (hcast : Cv = C ∨ Cond.castable Cv C ∈ lw_tbl) (hA : kF K A a) (d : decode cc pc = .ok (.aastore, 1)) (kk : ∀ H1 : Heap, Ch a H H1 → qA D H1 a ty n (va_up f k (some v)) → V K nL A H1 cells slots Q (pc + 1) lv rest) : V K nL A H cells slots Q pc lv (.ref v :: .int i :: .ref a :: rest) := by
  subst e
  intro L ls hS h0
  obtain ⟨cv, g1, g2, g3⟩ := hv
  obtain ⟨kq, comp, k1, k2, k3, -⟩ := (X.kk.2 ty _ ht).2
  obtain ⟨kcomp, hkcomp, -⟩ := Vm.findClass_spec k3
  obtain ⟨kv, hkv, -⟩ := Vm.findClass_spec g3
  have hinst : (kS K).vm.assignable cv.cls comp = true := by
    rcases hcast with rfl | hc
    · cases g3.symm.trans k3
      exact va_selfasg
    · obtain ⟨c0, t0, f1, f2, f3⟩ := Cond.castable_spec (va_Nw.use (A := kA K) rfl (X.nest hc rfl))
      cases g3.symm.trans f1
      cases k3.symm.trans f2
      exact f3
  refine W.aast X.exec X.code ha (fun q h => by cases h) (fun h => by cases h) k1 k2 rfl hkcomp ⟨nI_pos (Nat.lt_trans hk hn), by show _ < (arrV _ _ _).slots.size; rw [arrV_size, nI_clamp (by omega)]; exact hk⟩ g1 (fun q h => by rw [h] at g2; cases g2) hkv hinst rfl rfl d fun H1 e z oq => ?_
  refine kk H1 ⟨z, oq⟩ ?_ _ ls (hS.put z oq hA) h0
  show H1[a]? = some (vp_cell _ _)
  rw [e, vp_cell_q, vp_cell_q, arrV_store, nI_clamp (by omega)]
  congr 2
  funext q
  by_cases hq : q = k
  · subst hq
    simp [updV, va_up, va_rf]
  · simp [updV, va_up, hq]
theorem vv_aastN (X : Fx K y cc nL ret rm D) {f : Nat → Option Nat} (ha : qA D H a ty n f) {C : String} (ht : (tysOf D)[ty]? = some (D.2.1 ty, .object C)) {i : Int32} (k : Nat) (hk : k < n) (hn : n < 2 ^ 31) (e : i = nI k) (hA : kF K A a) (d : decode cc pc = .ok (.aastore, 1)) (kk : ∀ H1 : Heap, Ch a H H1 → qA D H1 a ty n (va_up f k none) → V K nL A H1 cells slots Q (pc + 1) lv rest) : V K nL A H cells slots Q pc lv (.null :: .int i :: .ref a :: rest) := by
  subst e
  intro L ls hS h0
  refine va_WaastN (C := C) X.exec X.code ha ((X.kk.2 ty _ ht).1 n (fun j => va_rf (f j))) (fun h => by cases h) (by show ¬ (nI k < 0 ∨ (arrV _ _ _).slots.size ≤ _); rw [arrV_size]; exact nI_in hk hn) rfl rfl d fun H1 e z oq => ?_
  refine kk H1 ⟨z, oq⟩ ?_ _ ls (hS.put z oq hA) h0
  show H1[a]? = some (vp_cell _ _)
  rw [e, vp_cell_q, vp_cell_q, arrV_store, nI_clamp (by omega)]
  congr 2
  funext q
  by_cases hq : q = k
  · subst hq
    simp [updV, va_up, va_rf]
  · simp [updV, va_up, hq]
/-- aastore of an array of ints (longs) -/
theorem vv_aastA (X : Fx K y cc nL ret rm D) {f : Nat → Option Nat} {t : FieldType} (ht : (tysOf D)[ty]? = some (D.2.1 ty, .array t)) (ha : qA D H a ty n f) (hO : AOA t (kS K)) {tz : Nat} {x : vp_A} {i : Int32} {v : Nat} (hz : (tysOf D)[tz]? = some (D.2.1 tz, t)) (hts : (FieldType.array t).toString = "[" ++ t.toString) (hv : aR D H v tz x) (k : Nat) (hk : k < n) (hn : n < 2 ^ 31) (e : i = nI k) (hA : kF K A a) (d : decode cc pc = .ok (.aastore, 1)) (kk : ∀ H1 : Heap, Ch a H H1 → qA D H1 a ty n (va_up f k (some v)) → V K nL A H1 cells slots Q (pc + 1) lv rest) : V K nL A H cells slots Q pc lv (.ref v :: .int i :: .ref a :: rest) := by
  subst e
  intro L ls hS h0
  obtain ⟨comp, cA, kq, hcomp, hidx, hkA, hkindA, hnameA⟩ := arrayOverA_spec (args := kA K) (first := kS K) (s := kS K) (o := none) (idx := []) hO
  have e1 : cA = D.2.1 ty := Option.some.inj (hnameA.symm.trans (aCls X ht))
  have e2 : comp = D.2.1 tz := by
    rw [hts] at hcomp
    exact Option.some.inj (hcomp.symm.trans (aCls X hz))
  subst e1
  subst e2
  obtain ⟨kcomp, hkcomp, -⟩ := Vm.findClass_spec hcomp
  have hcl : (vp_cell (D.2.1 tz) x).cls = D.2.1 tz := by obtain ⟨n, f | f | f | f | f⟩ := x <;> rfl
  have hvm : (vp_cell (D.2.1 tz) x).vm = .none := by obtain ⟨n, f | f | f | f | f⟩ := x <;> rfl
  have hinst : (kS K).vm.assignable (vp_cell (D.2.1 tz) x).cls (D.2.1 tz) = true := by
    rw [hcl]
    exact va_selfasg
  refine W.aast X.exec X.code ha (fun q h => by cases h) (fun h => by cases h) hkA hkindA rfl hkcomp ⟨nI_pos (Nat.lt_trans hk hn), by show _ < (arrV _ _ _).slots.size; rw [arrV_size, nI_clamp (by omega)]; exact hk⟩ hv (fun q h => by rw [hvm] at h; cases h) (by rw [hcl]; exact hkcomp) hinst rfl rfl d fun H1 e z oq => ?_
  refine kk H1 ⟨z, oq⟩ ?_ _ ls (hS.put z oq hA) h0
  show H1[a]? = some (vp_cell _ _)
  rw [e, vp_cell_q, vp_cell_q, arrV_store, nI_clamp (by omega)]
  congr 2
  funext q
  by_cases hq : q = k
  · subst hq
    simp [updV, va_up, va_rf]
  · simp [updV, va_up, hq]
theorem Ex.va {H0 H1 : Heap} {L : List Loc} (hS : va_S A H0 H L) (hx : Ex H H1) : va_S A H0 H1 L := ⟨Nat.le_trans hS.1 (by have := hx.1; omega), fun q h1 h2 => (hx.2 q (Nat.lt_of_lt_of_le h1 hS.1)).trans (hS.2.1 q h1 h2), hS.2.2⟩
/-- new arrays of numbers; M bounds the length -/
theorem vv_newa (X : Fx K y cc nL ret rm D) {atype : ArrayType} {x : vp_A} {N M : Nat} (harr : Cond.arrayClass (newarray.typeOf atype) ∈ lw_all) (ht : (tysOf D)[ty]? = some (D.2.1 ty, newarray.typeOf atype)) (hx : ∀ c : ClassId, vp_cell c x = arrV c N (fun _ => defaultValue (newarray.typeOf atype))) (hM : N ≤ M) (hb : M * componentBytes (newarray.typeOf atype) ≤ 536870912) (hM2 : M < 2 ^ 31) (hc : cells + 1 ≤ rm.cells) (hs : slots + M ≤ rm.slots) {i : Int32} (e : i = nI N) (d : decode cc pc = .ok (.newarray atype, 2))
    (kk : ∀ H1 : Heap, Ex H H1 → aR D H1 H.size ty x → V K nL A H1 (cells + 1) (slots + M) Q (pc + 2) lv (.ref H.size :: rest)) : V K nL A H cells slots Q pc lv (.int i :: rest) := by
  subst e
  intro L ls hS h0
  have hcl : (nI N).toNatClampNeg = N := nI_clamp (by omega)
  refine W.newa X.exec X.code (X.words _ harr) rfl d rfl (nI_pos (by omega)) (by rw [hcl]; exact Nat.le_trans (Nat.mul_le_mul_right _ hM) hb) (by rw [X.room]; exact hc) (by rw [X.room, hcl]; omega) fun cA kA comp f1 f2 f3 => ?_
  have e1 : cA = D.2.1 ty := Option.some.inj (f1.symm.trans (aCls X ht))
  subst e1
  refine W.widen (Nat.le_refl _) (show slots + (nI N).toNatClampNeg ≤ slots + M by rw [hcl]; omega) ?_
  generalize hH1 : H.push ({ cls := D.2.1 ty, slots := Array.replicate (nI N).toNatClampNeg (defaultValue (newarray.typeOf atype)), vm := .none } : Cell) = H1
  have hex : Ex H H1 := ⟨by rw [← hH1, Array.size_push], fun q hq => by rw [← hH1, Array.getElem?_push, if_neg (Nat.ne_of_lt hq)]⟩
  exact kk H1 hex (by
    show H1[H.size]? = some (vp_cell _ _)
    rw [hx, ← hH1, Array.getElem?_push_size, ← arrV_new, hcl]) L ls (hex.va hS) h0
theorem vv_newi (X : Fx K y cc nL ret rm D) {N M : Nat} (hM : N ≤ M) (hM2 : M ≤ 2 ^ 20) (hc : cells + 1 ≤ rm.cells) (hs : slots + M ≤ rm.slots) {i : Int32} (e : i = nI N) (d : decode cc pc = .ok (.newarray .int, 2)) (kk : ∀ H1 : Heap, Ex H H1 → iA D H1 H.size N (fun _ => 0) → V K nL A H1 (cells + 1) (slots + M) Q (pc + 2) lv (.ref H.size :: rest)) : V K nL A H cells slots Q pc lv (.int i :: rest) :=
  vv_newa (atype := .int) (ty := 0) X q284 rfl (fun _ => rfl) hM (by show M * 4 ≤ _; omega) (by omega) hc hs e d kk
theorem vv_newl (X : Fx K y cc nL ret rm D) {N M : Nat} (hM : N ≤ M) (hM2 : M ≤ 2 ^ 20) (hc : cells + 1 ≤ rm.cells) (hs : slots + M ≤ rm.slots) {i : Int32} (e : i = nI N) (d : decode cc pc = .ok (.newarray .long, 2)) (kk : ∀ H1 : Heap, Ex H H1 → lA D H1 H.size N (fun _ => 0) → V K nL A H1 (cells + 1) (slots + M) Q (pc + 2) lv (.ref H.size :: rest)) : V K nL A H cells slots Q pc lv (.int i :: rest) :=
  vv_newa (atype := .long) (ty := 1) X q769 rfl (fun _ => rfl) hM (by show M * 8 ≤ _; omega) (by omega) hc hs e d kk
theorem vv_newb (X : Fx K y cc nL ret rm D) {N M : Nat} (hM : N ≤ M) (hM2 : M ≤ 2 ^ 20) (hc : cells + 1 ≤ rm.cells) (hs : slots + M ≤ rm.slots) {i : Int32} (e : i = nI N) (d : decode cc pc = .ok (.newarray .byte, 2)) (kk : ∀ H1 : Heap, Ex H H1 → bA D H1 H.size N (fun _ => 0) → V K nL A H1 (cells + 1) (slots + M) Q (pc + 2) lv (.ref H.size :: rest)) : V K nL A H cells slots Q pc lv (.int i :: rest) :=
  vv_newa (atype := .byte) (ty := 2) X q220 rfl (fun _ => rfl) hM (by show M * 1 ≤ _; omega) (by omega) hc hs e d kk
theorem vv_newd (X : Fx K y cc nL ret rm D) {N M : Nat} (hM : N ≤ M) (hM2 : M ≤ 2 ^ 20) (hc : cells + 1 ≤ rm.cells) (hs : slots + M ≤ rm.slots) {i : Int32} (e : i = nI N) (d : decode cc pc = .ok (.newarray .double, 2)) (kk : ∀ H1 : Heap, Ex H H1 → dA D H1 H.size N (fun _ => 0) → V K nL A H1 (cells + 1) (slots + M) Q (pc + 2) lv (.ref H.size :: rest)) : V K nL A H cells slots Q pc lv (.int i :: rest) :=
  vv_newa (atype := .double) (ty := 4) X q3641 rfl (fun _ => rfl) hM (by show M * 8 ≤ _; omega) (by omega) hc hs e d kk
theorem vv_newz (X : Fx K y cc nL ret rm D) {N M : Nat} (hM : N ≤ M) (hM2 : M ≤ 2 ^ 20) (hc : cells + 1 ≤ rm.cells) (hs : slots + M ≤ rm.slots) {i : Int32} (e : i = nI N) (d : decode cc pc = .ok (.newarray .boolean, 2)) (kk : ∀ H1 : Heap, Ex H H1 → zA D H1 H.size N (fun _ => 0) → V K nL A H1 (cells + 1) (slots + M) Q (pc + 2) lv (.ref H.size :: rest)) : V K nL A H cells slots Q pc lv (.int i :: rest) :=
  vv_newa (atype := .boolean) (ty := 3) X q3002 rfl (fun _ => rfl) hM (by show M * 1 ≤ _; omega) (by omega) hc hs e d kk
/-- new arrays of objects -/
theorem vv_newq (X : Fx K y cc nL ret rm D) {C : String} {N M : Nat} (hcl : Cond.classLink y.cls idx C ∈ lw_all) (hC : C ∈ AOL) (ht : (tysOf D)[ty]? = some (D.2.1 ty, .object C)) (hM : N ≤ M) (hM2 : M ≤ 2 ^ 20) (hc : cells + 1 ≤ rm.cells) (hs : slots + M ≤ rm.slots) {i : Int32} (e : i = nI N) (d : decode cc pc = .ok (.anewarray idx, 3))
    (kk : ∀ H1 : Heap, Ex H H1 → qA D H1 H.size ty N (fun _ => none) → V K nL A H1 (cells + 1) (slots + M) Q (pc + 3) lv (.ref H.size :: rest)) : V K nL A H cells slots Q pc lv (.int i :: rest) := by
  subst e
  intro L ls hS h0
  have hcn : (nI N).toNatClampNeg = N := nI_clamp (by omega)
  refine W.anew X.exec X.code X.own (X.words _ hcl) (va_AO.use (X.gk.2.2.2.1 C hC)) rfl d rfl (nI_pos (by omega)) (by rw [hcn]; omega) (by rw [X.room]; exact hc) (by rw [X.room, hcn]; omega) fun cA kA comp f1 f2 f3 f4 => ?_
  have e1 : cA = D.2.1 ty := Option.some.inj (f1.symm.trans (aCls X ht))
  subst e1
  refine W.widen (Nat.le_refl _) (show slots + (nI N).toNatClampNeg ≤ slots + M by rw [hcn]; omega) ?_
  generalize hH1 : H.push ({ cls := D.2.1 ty, slots := Array.replicate (nI N).toNatClampNeg .null, vm := .none } : Cell) = H1
  have hex : Ex H H1 := ⟨by rw [← hH1, Array.size_push], fun q hq => by rw [← hH1, Array.getElem?_push, if_neg (Nat.ne_of_lt hq)]⟩
  exact kk H1 hex (by
    show H1[H.size]? = some (vp_cell _ _)
    rw [vp_cell_q, ← hH1, Array.getElem?_push_size, hcn]
    exact congrArg some (arrV_new _ _ _)) L ls (hex.va hS) h0
/-- new arrays of arrays of ints (longs): the outer one at H.size, the inner ones behind it -/
def Mx (D : DD) (H H1 : Heap) (ty n : Nat) (rows : Nat → Prop) : Prop := H1.size = H.size + 1 + n ∧ (∀ q : Nat, q < H.size → H1[q]? = H[q]?) ∧ qA D H1 H.size ty n (fun j => some (H.size + 1 + j)) ∧ ∀ j, j < n → rows (H.size + 1 + j)
theorem outerE (cA : ClassId) (N h0 : Nat) : ∀ i, i ≤ N → Jvm.Free.Multi.outerC cA N h0 i = arrV cA N (fun j => if j < i then .ref (h0 + 1 + j) else .null) := by
  intro i
  induction i with
  | zero =>
    intro _
    rw [show (fun j => if j < 0 then Value.ref (h0 + 1 + j) else .null) = fun _ => .null from by funext j; exact if_neg (Nat.not_lt_zero j)]
    exact arrV_new _ _ _
  | succ i ih =>
    intro hi
    show (Jvm.Free.Multi.outerC cA N h0 i).setSlot i (.ref (h0 + 1 + i)) = _
    rw [ih (by omega), arrV_store]
    congr 1
    funext j
    unfold updV
    by_cases h : j = i
    · rw [if_pos h, if_pos (by omega), h]
    · rw [if_neg h]
      by_cases h2 : j < i
      · exact (if_pos h2).trans (if_pos (by omega)).symm
      · exact (if_neg h2).trans (if_neg (by omega)).symm
theorem vv_mnew (X : Fx K y cc nL ret rm D) {t : FieldType} {tz N k M : Nat} {x : vp_A} (hcl : Cond.classLink y.cls idx ("[" ++ (FieldType.array t).toString) ∈ lw_all) (hO : AOA t (kS K)) (harr : Cond.arrayClass t ∈ lw_all) (ht : (tysOf D)[ty]? = some (D.2.1 ty, .array t)) (hz : (tysOf D)[tz]? = some (D.2.1 tz, t)) (hts : (FieldType.array t).toString = "[" ++ t.toString) (hx : ∀ c : ClassId, vp_cell c x = arrV c k (fun _ => defaultValue t)) (hN : N ≤ 2 ^ 10) (hk : k ≤ 2 ^ 10) (hcb : componentBytes t ≤ 8) (hdf : fits t (defaultValue t) = true) (hdd : (defaultValue t).isDefault = true) {Mc : Nat} (hMc : N ≤ Mc) (hM : N + N * k ≤ M) (hc : cells + 1 + Mc ≤ rm.cells) (hs : slots + M ≤ rm.slots) {i j : Int32} (e : i = nI N) (e2 : j = nI k) (d : decode cc pc = .ok (.multianewarray idx 2, 4))
    (kk : ∀ H1 : Heap, Mx D H H1 ty N (fun q => aR D H1 q tz x) → V K nL A H1 (cells + 1 + Mc) (slots + M) Q (pc + 4) lv (.ref H.size :: rest)) : V K nL A H cells slots Q pc lv (.int j :: .int i :: rest) := by
  subst e
  subst e2
  intro L ls hS h0 T hT XX
  have hcn : (nI N).toNatClampNeg = N := nI_clamp (by omega)
  have hck : (nI k).toNatClampNeg = k := nI_clamp (by omega)
  have hb2 : k * componentBytes t ≤ 536870912 := Nat.le_trans (Nat.mul_le_mul_left _ hcb) (by omega)
  obtain ⟨vm₁, cA, comp, hW, hfA, hfC, hO1, hI1, X1, step⟩ := XX.multianewarray2F X.exec (own := y.cls) (index := idx) (ty := t) X.own (X.words _ hcl) hO (X.words _ harr) (g := F0 (kM K) pc ls (.int (nI k) :: .int (nI N) :: rest)) rfl (by rw [X.code]; exact d) (n := nI N) (k := nI k) (rest := rest) rfl (nI_pos (by omega)) (nI_pos (by omega)) (by rw [hcn]; omega) (by rw [hck]; exact hb2) (by rw [hck]; omega) hdf hdd (by rw [hcn, X.room]; omega) (by rw [hcn, hck, X.room]; omega)
  rw [hcn, hck] at X1 step
  have e1 : cA = D.2.1 ty := Option.some.inj (hfA.symm.trans (aCls X ht))
  have e3 : comp = D.2.1 tz := by
    rw [hts] at hfC
    exact Option.some.inj (hfC.symm.trans (aCls X hz))
  subst e1
  subst e3
  obtain ⟨f1, f2, f3⟩ := Jvm.Free.Multi.fill_facts (T.setVm vm₁) (D.2.1 ty) (D.2.1 tz) N k (defaultValue t) N
  have hTs : (T.setVm vm₁).heap = H := hT
  rw [hTs] at f1 f2
  generalize hU : Jvm.Free.Multi.fill (T.setVm vm₁) (D.2.1 ty) (D.2.1 tz) N k (defaultValue t) N = U at X1 step f1 f2 f3
  have ho : ∀ q : Nat, q < H.size → U.heap[q]? = H[q]? := fun q hq => by
    have := Jvm.Free.Multi.fill_old (T.setVm vm₁) (D.2.1 ty) (D.2.1 tz) N k (defaultValue t) (a := q) (by rw [hTs]; exact hq) N
    rw [hU, hTs] at this
    exact this
  have hi : ∀ j, j < N → U.heap[H.size + 1 + j]? = some (Jvm.Free.Multi.innerC (D.2.1 tz) k (defaultValue t)) := fun j hj => by
    have := Jvm.Free.Multi.fill_inner (T.setVm vm₁) (D.2.1 ty) (D.2.1 tz) N k (defaultValue t) N j hj
    rw [hU, hTs] at this
    exact this
  obtain ⟨t', a1, b1⟩ := kk U.heap ⟨f1, ho, by
      show U.heap[H.size]? = some (vp_cell _ _)
      rw [f2, vp_cell_q, outerE _ _ _ N (Nat.le_refl _)]
      exact congrArg some (arrV_congr _ (fun j hj => if_pos hj)), fun j hj => by
      show U.heap[H.size + 1 + j]? = some (vp_cell _ _)
      rw [hi j hj, hx]
      exact congrArg some (arrV_new _ _ _)⟩ L ls ⟨Nat.le_trans hS.1 (by omega), fun q h1 h2 => (ho q (Nat.lt_of_lt_of_le h1 hS.1)).trans (hS.2.1 q h1 h2), hS.2.2⟩ h0 U rfl (stand_widen X1 (by omega) (by omega))
  refine ⟨t', step t' ?_, b1⟩
  rw [hT]
  exact a1
/-- array.clone() -/
theorem vv_clone (X : Fx K y cc nL ret rm D) {ad : String} {x : vp_A} {t : FieldType} {M : Nat} (ha : aR D H a ty x) (ht : (tysOf D)[ty]? = some (D.2.1 ty, t)) (had : ad = "[" ++ t.toString) (q1 : Cond.methodLink y.cls idx ⟨ad, "clone", "()Ljava/lang/Object;"⟩ ∈ lw_all) (q2 : Cond.sameMethod ad "java/lang/Object" "clone" "()Ljava/lang/Object;" ∈ lw_all) (q3 : Cond.native ⟨"java/lang/Object", "clone", "()Ljava/lang/Object;"⟩ ∈ lw_all) (q4 : Cond.instanceMethod ⟨"java/lang/Object", "clone", "()Ljava/lang/Object;"⟩ ∈ lw_all) (q5 : Cond.selects ad ⟨ad, "clone", "()Ljava/lang/Object;"⟩ ⟨"java/lang/Object", "clone", "()Ljava/lang/Object;"⟩ ∈ lw_all) (q6 : Cond.castable ad "java/lang/Cloneable" ∈ lw_tbl)
    (hfit : ∀ (i : Nat) (v : Value), (vp_cell (D.2.1 ty) x).slots[i]? = some v → fits t v = true) (hM : x.1 ≤ M) (hf : 1 ≤ rm.frames) (hlo : (rest.map fun v => v.category).sum + 14 ≤ rm.locals) (hc : cells + 1 ≤ rm.cells) (hs : slots + M ≤ rm.slots) (d : decode cc pc = .ok (.invokevirtual idx, 3))
    (kk : ∀ H1 : Heap, Ex H H1 → aR D H1 H.size ty x → V K nL A H1 (cells + 1) (slots + M) Q (pc + 3) lv (.ref H.size :: rest)) : V K nL A H cells slots Q pc lv (.ref a :: rest) := by
  intro L ls hS h0
  have hnm : (kS K).vm.findClass ad = some (D.2.1 ty) := by rw [had]; exact aCls X ht
  have hsz : (vp_cell (D.2.1 ty) x).slots.size = x.1 := by
    obtain ⟨n, f | f | f | f | f⟩ := x <;> exact arrV_size _ _ _
  have hvm0 : (vp_cell (D.2.1 ty) x).vm = .none := by
    obtain ⟨n, f | f | f | f | f⟩ := x <;> rfl
  have hcl0 : (vp_cell (D.2.1 ty) x).cls = D.2.1 ty := by
    obtain ⟨n, f | f | f | f | f⟩ := x <;> rfl
  have hcellE : ({ cls := (vp_cell (D.2.1 ty) x).cls, slots := (vp_cell (D.2.1 ty) x).slots } : Cell) = vp_cell (D.2.1 ty) x := by
    obtain ⟨n, f | f | f | f | f⟩ := x <;> rfl
  obtain ⟨c0, t0', f1, f2, f3⟩ := Cond.castable_spec (va_Nw.use (A := kA K) rfl (X.nest q6 rfl))
  cases hnm.symm.trans f1
  intro T hT XX
  have hcellT : T.heap[a]? = some (vp_cell (D.2.1 ty) x) := by rw [hT]; exact ha
  obtain ⟨-, kA', hkA, comp, hkind⟩ := State.isArrayOf_alike XX.warmed.alike ((X.kk.2 ty _ ht).1 0 (fun _ => .null))
  obtain ⟨-, kS', hkS, compS, hkindS⟩ := (X.kk.2 ty _ ht).1 0 (fun _ => .null)
  obtain ⟨vm', X', st⟩ := XX.cloneArray X.exec X.own (X.words _ q1) (X.words _ q2) (X.words _ q3) (X.words _ q4) (X.words _ q5) (a := a) (cell := vp_cell (D.2.1 ty) x) hcellT (fun k h => by rw [hvm0] at h; cases h) (by rw [hvm0]; exact fun h => by cases h) (by rw [hcl0]; exact hnm) f2 (by rw [hcl0]; exact f3)
    (fun i v hv => by
      rw [hcl0]
      have hk' : T.vm.classes[D.2.1 ty]? = some kA' := hkA
      simpa [State.fitsSlot, State.slotType?, hk', hkind] using hfit i v hv)
    (g := F0 (kM K) pc ls (.ref a :: rest)) rfl (by rw [X.maxL]; exact h0.1) rfl (by rw [X.code]; exact d) (by rw [X.room]; exact hf) (by rw [X.room]; show 2 * 0 + _ + 14 ≤ _; omega) (by rw [X.room]; exact hc) (by rw [hsz, X.room]; omega) (hloader := by rw [hcl0]; exact Vm.clonesLoader_of_array hkS hkindS)
  rw [hcellE, hsz] at X'
  generalize hH1 : H.push (vp_cell (D.2.1 ty) x) = H1
  have hex : Ex H H1 := ⟨by rw [← hH1, Array.size_push], fun q hq => by rw [← hH1, Array.getElem?_push, if_neg (Nat.ne_of_lt hq)]⟩
  obtain ⟨t, b1, b2⟩ := kk H1 hex (show H1[H.size]? = some (vp_cell _ _) by rw [← hH1, Array.getElem?_push_size]) L ls (hex.va hS) h0 ((T.setVm vm').pushCell (vp_cell (D.2.1 ty) x)) (by rw [← hH1, ← hT]; rfl) (stand_widen X' (Nat.le_refl _) (by omega))
  refine ⟨t, st t ?_, b2⟩
  rw [hcellE, hT]
  exact b1
/-- System.arraycopy of ints, and of references -/
theorem cp_nn : ∀ z : Int32, ¬ z < 0 → z.toInt = (z.toNatClampNeg : Int) := by
  intro z hz
  have hz0 : (0 : Int) ≤ z.toInt := by
    have := Int32.not_lt.mp hz
    simpa using Int32.le_iff_toInt_le.mp this
  show z.toInt = ((z.toInt.toNat : Nat) : Int)
  omega
theorem cp_end {c1 : ClassId} {x : vp_A} {L : List Loc} {k n : Nat} (hl : a < H.size) (hA : kF K A a) (hS : va_S (kF K A) (kS K).heap H L) : Ch a H (H.setIfInBounds a (vp_cell c1 x)) ∧ (H.setIfInBounds a (vp_cell c1 x))[a]? = some (vp_cell c1 x) ∧ va_S (kF K A) (kS K).heap (H.setIfInBounds a (vp_cell c1 x)) (L ++ (List.range n).map fun i => (⟨a, k + i⟩ : Loc)) := by
  have oq : ∀ q : Nat, q ≠ a → (H.setIfInBounds a (vp_cell c1 x))[q]? = H[q]? := fun q hq => by simp [Array.getElem?_setIfInBounds, Ne.symm hq]
  refine ⟨⟨by simp, oq⟩, by simp [Array.getElem?_setIfInBounds, hl], by simp; exact hS.1, fun q g1 g2 => ?_, fun q hq => ?_⟩
  · rw [oq q (fun e => g2 (by rw [e]; exact hA))]
    exact hS.2.1 q g1 g2
  · rcases List.mem_append.mp hq with h | h
    · exact hS.2.2 q h
    · obtain ⟨z, -, hz⟩ := List.mem_map.mp h
      rw [← hz]
      exact hA
theorem vv_copyi (X : Fx K y cc nL ret rm D) {a0 n0 n1 ty : Nat} {f g : Nat → Int32} {t : FieldType} (h0' : aR D H a0 ty (n0, .inl f)) (h1' : aR D H a ty (n1, .inl g)) (ht : (tysOf D)[ty]? = some (D.2.1 ty, t)) (hprim : refKind t = false) (q1 : Cond.methodLink y.cls idx arraycopyName ∈ lw_all) (q2 : Cond.native arraycopyName ∈ lw_all) (q3 : Cond.static arraycopyName ∈ lw_all) (q4 : Cond.initialized "java/lang/System" ∈ lw_all) {sp dp n : Nat} (hn0 : n0 < 2 ^ 31) (hn1 : n1 < 2 ^ 31) (h4 : sp + n ≤ n0) (h5 : dp + n ≤ n1) (hfit : ∀ i, i < n → fits t (.int (f (sp + i))) = true)
    (hf : 1 ≤ rm.frames) (hlo : (rest.map fun v => v.category).sum + (nativeFrameWords "java/lang/System" "arraycopy" 5 + 11) ≤ rm.locals) (hA : kF K A a) {i1 i2 i3 : Int32} (e1 : i1 = nI n) (e2 : i2 = nI dp) (e3 : i3 = nI sp) (d : decode cc pc = .ok (.invokestatic idx, 3))
    (kk : ∀ H1 : Heap, Ch a H H1 → aR D H1 a ty (n1, .inl (va_cpy f g sp dp n)) → V K nL A H1 cells slots Q (pc + 3) lv rest) : V K nL A H cells slots Q pc lv (.int i1 :: .int i2 :: .ref a :: .int i3 :: .ref a0 :: rest) := by
  subst e1
  subst e2
  subst e3
  intro L ls hS h0 T hT XX
  have cn : (nI n).toNatClampNeg = n := nI_clamp (by omega)
  have cd : (nI dp).toNatClampNeg = dp := nI_clamp (by omega)
  have cs : (nI sp).toNatClampNeg = sp := nI_clamp (by omega)
  obtain ⟨-, k0, hk0, cm0, hkk0⟩ := (X.kk.2 ty _ ht).1 n0 (fun j => .int (f j))
  obtain ⟨-, k1, hk1, cm1, hkk1⟩ := (X.kk.2 ty _ ht).1 n1 (fun j => .int (g j))
  obtain ⟨vm', X', step⟩ := XX.arraycopy X.exec X.own (X.words _ q1) (X.words _ q2) (X.words _ q3) (X.words _ q4) (src := a0) (dst := a) (cs := vp_cell (D.2.1 ty) (n0, .inl f)) (cd := vp_cell (D.2.1 ty) (n1, .inl g)) (srcPos := nI sp) (destPos := nI dp) (n := nI n) (by rw [hT]; exact h0') (by rw [hT]; exact h1')
    (fun _ h => by cases h) (fun _ h => by cases h) (fun h => by cases h) (fun h => by cases h) hk0 hk1 hkk0 hkk1 (by simp [hprim]) (nI_pos (by omega)) (nI_pos (by omega)) (nI_pos (by omega))
    (by rw [cp_nn _ (nI_pos (by omega)), cp_nn _ (nI_pos (by omega)), cn, cs]; show ¬ _ > ((arrV (D.2.1 ty) n0 (fun j => .int (f j))).slots.size : Int); rw [arrV_size]; omega)
    (by rw [cp_nn _ (nI_pos (by omega)), cp_nn _ (nI_pos (by omega)), cn, cd]; show ¬ _ > ((arrV (D.2.1 ty) n1 (fun j => .int (g j))).slots.size : Int); rw [arrV_size]; omega)
    (fun vm₁ _ i hi => by
      rw [cn] at hi
      rw [cs]
      have e : (vp_cell (D.2.1 ty) (n0, .inl f)).slots.getD (sp + i) .null = .int (f (sp + i)) := by
        show (arrV (D.2.1 ty) n0 (fun j => .int (f j))).slots.getD _ _ = _
        rw [Array.getD_eq_getD_getElem?, arrV_read _ _ (by omega)]
        rfl
      refine ⟨?_, ?_⟩
      · rw [e]
        exact hfit i hi
      · rw [e]
        exact trivial)
    (g := F0 (kM K) pc ls (.int (nI n) :: .int (nI dp) :: .ref a :: .int (nI sp) :: .ref a0 :: rest)) rfl (by rw [X.maxL]; exact h0.1) (rest := rest) rfl (by rw [X.code]; exact d) (by rw [X.room]; exact hf) (by rw [X.room]; show 2 * 0 + _ + _ ≤ _; omega)
  have e1 : copied (vp_cell (D.2.1 ty) (n0, .inl f)) (vp_cell (D.2.1 ty) (n1, .inl g)) (nI sp) (nI dp) (nI n) = vp_cell (D.2.1 ty) (n1, .inl (va_cpy f g sp dp n)) := by
    have := va_copied (fun z => Value.int z) (D.2.1 ty) (D.2.1 ty) (n0 := n0) (n1 := n1) (sp := sp) (dp := dp) (n := n) f g h4
    unfold copied
    rw [cn, cd, cs]
    exact this
  rw [e1] at X' step
  have hl : a < H.size := (Array.getElem?_eq_some_iff.mp h1').1
  have hheap : ((T.setVm vm').setCell a (vp_cell (D.2.1 ty) (n1, .inl (va_cpy f g sp dp n)))).heap = H.setIfInBounds a (vp_cell (D.2.1 ty) (n1, .inl (va_cpy f g sp dp n))) := by rw [← hT]; rfl
  obtain ⟨hch, hat, -⟩ := cp_end (c1 := D.2.1 ty) (x := (n1, .inl (va_cpy f g sp dp n))) (k := 0) (n := 0) hl hA hS
  obtain ⟨t, a1, b1⟩ := kk _ hch hat _ ls ⟨by simp; exact hS.1, fun q g1 g2 => by
      rw [hch.2 q (fun e => g2 (by rw [e]; exact hA))]
      exact hS.2.1 q g1 g2, fun q hq => by
      rcases List.mem_append.mp hq with h | h
      · exact hS.2.2 q h
      · obtain ⟨z, -, hz⟩ := List.mem_map.mp h
        rw [← hz]
        exact hA⟩ h0 _ hheap X'
  exact ⟨t, step t a1, b1⟩
theorem vv_copyq (X : Fx K y cc nL ret rm D) {a0 n0 n1 ty : Nat} {f g : Nat → Option Nat} {C Cv : String} (h0' : qA D H a0 ty n0 f) (h1' : qA D H a ty n1 g) (ht : (tysOf D)[ty]? = some (D.2.1 ty, .object C)) (q1 : Cond.methodLink y.cls idx arraycopyName ∈ lw_all) (q2 : Cond.native arraycopyName ∈ lw_all) (q3 : Cond.static arraycopyName ∈ lw_all) (q4 : Cond.initialized "java/lang/System" ∈ lw_all) {sp dp n : Nat} (hn0 : n0 < 2 ^ 31) (hn1 : n1 < 2 ^ 31) (h4 : sp + n ≤ n0) (h5 : dp + n ≤ n1) (hel : ∀ i : Nat, i < n → ∀ y : Nat, f (sp + i) = some y → ∃ cellV : Cell, H[y]? = some cellV ∧ cellV.vm.isStatics = false ∧ (kS K).vm.findClass Cv = some cellV.cls) (hcast : Cv = C ∨ Cond.castable Cv C ∈ lw_tbl)
    (hf : 1 ≤ rm.frames) (hlo : (rest.map fun v => v.category).sum + (nativeFrameWords "java/lang/System" "arraycopy" 5 + 11) ≤ rm.locals) (hA : kF K A a) {i1 i2 i3 : Int32} (e1 : i1 = nI n) (e2 : i2 = nI dp) (e3 : i3 = nI sp) (d : decode cc pc = .ok (.invokestatic idx, 3))
    (kk : ∀ H1 : Heap, Ch a H H1 → qA D H1 a ty n1 (va_cpy f g sp dp n) → V K nL A H1 cells slots Q (pc + 3) lv rest) : V K nL A H cells slots Q pc lv (.int i1 :: .int i2 :: .ref a :: .int i3 :: .ref a0 :: rest) := by
  subst e1
  subst e2
  subst e3
  intro L ls hS h0 T hT XX
  have cn : (nI n).toNatClampNeg = n := nI_clamp (by omega)
  have cd : (nI dp).toNatClampNeg = dp := nI_clamp (by omega)
  have cs : (nI sp).toNatClampNeg = sp := nI_clamp (by omega)
  have hasg : ∀ comp c0 : ClassId, (kS K).vm.findClass C = some comp → (kS K).vm.findClass Cv = some c0 → (kS K).vm.assignable c0 comp = true := fun comp c0 g1 g2 => by
    rcases hcast with rfl | hc
    · cases g1.symm.trans g2
      exact va_selfasg
    · obtain ⟨c9, t9, f1, f2, f3⟩ := Cond.castable_spec (va_Nw.use (A := kA K) rfl (X.nest hc rfl))
      cases g2.symm.trans f1
      cases g1.symm.trans f2
      exact f3
  obtain ⟨-, k0, hk0, cm0, hkk0⟩ := (X.kk.2 ty _ ht).1 n0 (fun j => va_rf (f j))
  obtain ⟨-, k1, hk1, cm1, hkk1⟩ := (X.kk.2 ty _ ht).1 n1 (fun j => va_rf (g j))
  obtain ⟨vm', X', step⟩ := XX.arraycopy X.exec X.own (X.words _ q1) (X.words _ q2) (X.words _ q3) (X.words _ q4) (src := a0) (dst := a) (cs := vp_cell (D.2.1 ty) (n0, .inr (.inr (.inr (.inr f))))) (cd := vp_cell (D.2.1 ty) (n1, .inr (.inr (.inr (.inr g))))) (srcPos := nI sp) (destPos := nI dp) (n := nI n) (by rw [hT]; exact h0') (by rw [hT]; exact h1')
    (fun _ h => by cases h) (fun _ h => by cases h) (fun h => by cases h) (fun h => by cases h) hk0 hk1 hkk0 hkk1 rfl (nI_pos (by omega)) (nI_pos (by omega)) (nI_pos (by omega))
    (by rw [cp_nn _ (nI_pos (by omega)), cp_nn _ (nI_pos (by omega)), cn, cs]; show ¬ _ > ((arrV (D.2.1 ty) n0 (fun j => va_rf (f j))).slots.size : Int); rw [arrV_size]; omega)
    (by rw [cp_nn _ (nI_pos (by omega)), cp_nn _ (nI_pos (by omega)), cn, cd]; show ¬ _ > ((arrV (D.2.1 ty) n1 (fun j => va_rf (g j))).slots.size : Int); rw [arrV_size]; omega)
    (fun vm₁ hal i hi => by
      rw [cn] at hi
      rw [cs]
      have e : (vp_cell (D.2.1 ty) (n0, .inr (.inr (.inr (.inr f))))).slots.getD (sp + i) .null = va_rf (f (sp + i)) := by
        show (arrV (D.2.1 ty) n0 (fun j => va_rf (f j))).slots.getD _ _ = _
        rw [Array.getD_eq_getD_getElem?, arrV_read _ _ (by omega)]
        rfl
      rw [e]
      cases hy : f (sp + i) with
      | none => exact ⟨rfl, trivial⟩
      | some y =>
        obtain ⟨cellV, g1, g2, g3⟩ := hel i hi y hy
        obtain ⟨kq, comp, r1, r2, r3, -⟩ := (X.kk.2 ty _ ht).2
        cases hk1.symm.trans r1
        cases hkk1.symm.trans r2
        obtain ⟨kC, hkC, -⟩ := Vm.findClass_spec g3
        obtain ⟨kE, hkE, -⟩ := Vm.findClass_spec r3
        obtain ⟨kC', hkC', -⟩ := hal.2.2 _ _ hkC
        obtain ⟨kE', hkE', -⟩ := hal.2.2 _ _ hkE
        refine ⟨rfl, cellV, (show T.heap[y]? = some cellV by rw [hT]; exact g1), (fun q h => by rw [h] at g2; cases g2), ⟨kC', hkC'⟩, ?_, ?_⟩
        · exact ⟨kE', hkE'⟩
        · show vm₁.assignable _ _ = true
          rw [hal.assignable]
          exact hasg _ _ r3 g3)
    (g := F0 (kM K) pc ls (.int (nI n) :: .int (nI dp) :: .ref a :: .int (nI sp) :: .ref a0 :: rest)) rfl (by rw [X.maxL]; exact h0.1) (rest := rest) rfl (by rw [X.code]; exact d) (by rw [X.room]; exact hf) (by rw [X.room]; show 2 * 0 + _ + _ ≤ _; omega)
  have e1 : copied (vp_cell (D.2.1 ty) (n0, .inr (.inr (.inr (.inr f))))) (vp_cell (D.2.1 ty) (n1, .inr (.inr (.inr (.inr g))))) (nI sp) (nI dp) (nI n) = vp_cell (D.2.1 ty) (n1, .inr (.inr (.inr (.inr (va_cpy f g sp dp n))))) := by
    have := va_copied (fun z => va_rf z) (D.2.1 ty) (D.2.1 ty) (n0 := n0) (n1 := n1) (sp := sp) (dp := dp) (n := n) f g h4
    unfold copied
    rw [cn, cd, cs, vp_cell_q, vp_cell_q, vp_cell_q]
    exact this
  rw [e1] at X' step
  have hl : a < H.size := (Array.getElem?_eq_some_iff.mp h1').1
  have hheap : ((T.setVm vm').setCell a (vp_cell (D.2.1 ty) (n1, .inr (.inr (.inr (.inr (va_cpy f g sp dp n))))))).heap = H.setIfInBounds a (vp_cell (D.2.1 ty) (n1, .inr (.inr (.inr (.inr (va_cpy f g sp dp n)))))) := by rw [← hT]; rfl
  obtain ⟨hch, hat, -⟩ := cp_end (c1 := D.2.1 ty) (x := (n1, .inr (.inr (.inr (.inr (va_cpy f g sp dp n)))))) (k := 0) (n := 0) hl hA hS
  obtain ⟨t, a1, b1⟩ := kk _ hch hat _ ls ⟨by simp; exact hS.1, fun q g1 g2 => by
      rw [hch.2 q (fun e => g2 (by rw [e]; exact hA))]
      exact hS.2.1 q g1 g2, fun q hq => by
      rcases List.mem_append.mp hq with h | h
      · exact hS.2.2 q h
      · obtain ⟨z, -, hz⟩ := List.mem_map.mp h
        rw [← hz]
        exact hA⟩ h0 _ hheap X'
  exact ⟨t, step t a1, b1⟩
/-- checkcast of an object of a known class -/
theorem vv_castO (X : Fx K y cc nL ret rm D) {nm : String} (ho : oB D H a ci fs) (hc : CL[ci]? = some (C, T, N)) (q1 : Cond.classLink y.cls idx nm ∈ lw_all) (hcast : Cond.castable C nm ∈ lw_tbl) (d : decode cc pc = .ok (.checkcast idx, 3)) (kk : V K nL A H cells slots Q (pc + 3) lv (.ref a :: rest)) : V K nL A H cells slots Q pc lv (.ref a :: rest) :=
  fun L ls hS h0 => va_castY X.exec X.code X.own (X.words _ q1) (X.nest hcast rfl) (recv X ho hc) d (kk L ls hS h0)
theorem vv_castS (X : Fx K y cc nL ret rm D) (ho : oB D H a ci fs) (hc : CL[ci]? = some (C, T, N)) (q1 : Cond.classLink y.cls idx C ∈ lw_all) (d : decode cc pc = .ok (.checkcast idx, 3)) (kk : V K nL A H cells slots Q (pc + 3) lv (.ref a :: rest)) : V K nL A H cells slots Q pc lv (.ref a :: rest) :=
  fun L ls hS h0 => va_castS X.exec X.code X.own (X.words _ q1) (X.kk.1 ci _ hc).2 (recv X ho hc) d (kk L ls hS h0)
theorem vv_instO (X : Fx K y cc nL ret rm D) {nm : String} (ho : oB D H a ci fs) (hc : CL[ci]? = some (C, T, N)) (q1 : Cond.classLink y.cls idx nm ∈ lw_all) (hcast : Cond.castable C nm ∈ lw_tbl) (d : decode cc pc = .ok (.instanceof idx, 3)) (kk : V K nL A H cells slots Q (pc + 3) lv (.int 1 :: rest)) : V K nL A H cells slots Q pc lv (.ref a :: rest) :=
  fun L ls hS h0 => va_instY X.exec X.code X.own (X.words _ q1) (X.nest hcast rfl) (recv X ho hc) d (kk L ls hS h0)
theorem vv_instS (X : Fx K y cc nL ret rm D) (ho : oB D H a ci fs) (hc : CL[ci]? = some (C, T, N)) (q1 : Cond.classLink y.cls idx C ∈ lw_all) (d : decode cc pc = .ok (.instanceof idx, 3)) (kk : V K nL A H cells slots Q (pc + 3) lv (.int 1 :: rest)) : V K nL A H cells slots Q pc lv (.ref a :: rest) :=
  fun L ls hS h0 => va_instS X.exec X.code X.own (X.words _ q1) (X.kk.1 ci _ hc).2 (recv X ho hc) d (kk L ls hS h0)
/-- Object's constructor -/
theorem vv_obj (X : Fx K y cc nL ret rm D) (q1 : Cond.methodLink y.cls idx Lib.objectInit ∈ lw_all) (q2 : Cond.instanceMethod Lib.objectInit ∈ lw_all) (q3 : Cond.code Lib.objectInit ⟨#[0xb1]⟩ 1 none ∈ lw_all) (hf : 1 ≤ rm.frames) (hlo : (rest.map fun v => v.category).sum + 13 ≤ rm.locals) (d : decode cc pc = .ok (.invokespecial idx, 3)) (kk : V K nL A H cells slots Q (pc + 3) lv rest) : V K nL A H cells slots Q pc lv (.ref a :: rest) :=
  fun L ls hS h0 => W.objInit X.exec X.code X.own (X.words _ q1) (X.words _ q2) (X.words _ q3) rfl (by rw [X.maxL]; exact h0.1) rfl d (by rw [X.room]; exact hf) (by rw [X.room]; show 2 * 0 + _ + _ ≤ _; omega) (kk L ls hS h0)
end ARR
