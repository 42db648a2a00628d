/-! what lies where: cells of different kinds are apart; the constant heap through changes -/
set_option maxRecDepth 100000
section CWK
variable {K : C_} {y : MethodName} {cc : ByteArray} {nL : Nat} {ret : Option FieldType} {rm : Room} {D : DD} {H H1 : Heap} {a b ci cj ty tz : Nat} {fs gs : List Value} {x z : vp_A}
theorem fc_inj {vm : Vm} {n m : String} {c : ClassId} (h1 : vm.findClass n = some c) (h2 : vm.findClass m = some c) : n = m := by
  obtain ⟨k, hk, e⟩ := Vm.findClass_spec h1
  obtain ⟨k', hk', e'⟩ := Vm.findClass_spec h2
  cases hk.symm.trans hk'
  exact e.symm.trans e'
theorem Fx.oo (X : Fx K y cc nL ret rm D) (ha : oB D H a ci fs) (hb : oB D H b cj gs) {r1 r2 : vw_C} (h1 : CL[ci]? = some r1) (h2 : CL[cj]? = some r2) (h : r1.1 ≠ r2.1) : a ≠ b := by
  intro e
  subst e
  obtain ⟨q1, g1, cell, c1, c2, -⟩ := ha
  obtain ⟨q2, g2, cell', c1', c2', -⟩ := hb
  cases c1.symm.trans c1'
  have k1 := (X.kk.1 ci _ h1).2.1
  have k2 := (X.kk.1 cj _ h2).2.1
  rw [← c2] at k1
  rw [← c2'] at k2
  exact h (fc_inj k1 k2)
theorem vpc_cls (c : ClassId) (x : vp_A) : (vp_cell c x).cls = c := by obtain ⟨n, f | f | f | f | f⟩ := x <;> rfl
theorem Fx.oa (X : Fx K y cc nL ret rm D) (ha : oB D H a ci fs) (hb : aR D H b ty x) {r1 : vw_C} (h1 : CL[ci]? = some r1) {t : FieldType} (ht : (tysOf D)[ty]? = some (D.2.1 ty, t)) : a ≠ b := by
  intro e
  subst e
  obtain ⟨q1, g1, cell, c1, c2, -⟩ := ha
  have hb : H[a]? = some (vp_cell (D.2.1 ty) x) := hb
  cases c1.symm.trans hb
  obtain ⟨-, kC, hkC, hkind⟩ := (X.kk.1 ci _ h1).2
  obtain ⟨-, kq, hkq, comp, hkind'⟩ := (X.kk.2 ty _ ht).1 0 (fun _ => .null)
  rw [vpc_cls] at c2
  rw [← c2] at hkC
  have hkq : (kS K).vm.classes[D.2.1 ty]? = some kq := hkq
  cases hkC.symm.trans hkq
  rw [hkind] at hkind'
  cases hkind'
theorem Fx.ao (X : Fx K y cc nL ret rm D) (hb : aR D H b ty x) (ha : oB D H a ci fs) {r1 : vw_C} (h1 : CL[ci]? = some r1) {t : FieldType} (ht : (tysOf D)[ty]? = some (D.2.1 ty, t)) : b ≠ a := fun e => X.oa ha hb h1 ht e.symm
theorem Fx.aa (X : Fx K y cc nL ret rm D) (ha : aR D H a ty x) (hb : aR D H b tz z) {t t' : FieldType} (ht : (tysOf D)[ty]? = some (D.2.1 ty, t)) (hz : (tysOf D)[tz]? = some (D.2.1 tz, t')) (h : "[" ++ t.toString ≠ "[" ++ t'.toString) : a ≠ b := by
  intro e
  subst e
  have ha : H[a]? = some (vp_cell (D.2.1 ty) x) := ha
  have hb : H[a]? = some (vp_cell (D.2.1 tz) z) := hb
  have e := Option.some.inj (ha.symm.trans hb)
  have e2 : D.2.1 ty = D.2.1 tz := by
    have := congrArg Cell.cls e
    rw [vpc_cls, vpc_cls] at this
    exact this
  have k1 := aCls X ht
  have k2 := aCls X hz
  rw [e2] at k1
  exact h (fc_inj k1 k2)
/-- the constants' cells that are used -/
def KU (i : Nat) : Prop := i < 45 ∨ (100 ≤ i ∧ i < 145) ∨ (200 ≤ i ∧ i < 212) ∨ i = 404 ∨ i = 405 ∨ i = 407 ∨ i = 408 ∨ i = 616 ∨ (1000 ≤ i ∧ i < 1256)
theorem KH.lt {D : DD} {H : Heap} (h : KH D H) {i : Nat} (hi : KU i) : D.2.2 i < H.size := by
  obtain ⟨h1, h2, h3, h4, ⟨f, h5, -⟩, h6, h7, h8⟩ := h
  rcases hi with q | ⟨q, q'⟩ | ⟨q, q'⟩ | q | q | q | q | q | ⟨q, q'⟩
  · exact (h1 i q).1.lt
  · have := (h1 (i - 100) (by omega)).2.lt
    rw [show 100 + (i - 100) = i by omega] at this
    exact this
  · obtain ⟨cell, c1, -⟩ := h2 (i - 200) (by omega)
    rw [show 200 + (i - 200) = i by omega] at c1
    exact (Array.getElem?_eq_some_iff.mp c1).1
  · rw [q]; exact h3.lt
  · rw [q]; exact h5.lt
  · rw [q]; exact h6.lt
  · rw [q]; exact h7.lt
  · rw [q]; exact (Array.getElem?_eq_some_iff.mp h8).1
  · have := (h4 (i - 1000) (by omega)).lt
    rw [show 1000 + (i - 1000) = i by omega] at this
    exact this
/-- the constants stay where their cells stay -/
theorem KH.stay {D : DD} {H H1 : Heap} (h : KH D H) (hk : ∀ i, KU i → H1[D.2.2 i]? = H[D.2.2 i]?) : KH D H1 := by
  obtain ⟨h1, h2, h3, h4, ⟨f, h5, h5'⟩, h6, h7, h8⟩ := h
  refine ⟨fun i hi => ⟨(h1 i hi).1.kept (hk _ (Or.inl hi)), (h1 i hi).2.kept (hk _ (Or.inr (Or.inl (by omega))))⟩, fun j hj => ?_, h3.kept (hk _ (by unfold KU; omega)), fun k hk' => (h4 k hk').kept (hk _ (by unfold KU; omega)), ⟨f, h5.kept (hk _ (by unfold KU; omega)), h5'⟩, h6.kept (hk _ (by unfold KU; omega)), h7.kept (hk _ (by unfold KU; omega)), (hk _ (by unfold KU; omega)).trans h8⟩
  obtain ⟨cell, c1, c2, c3, c4⟩ := h2 j hj
  exact ⟨cell, by rw [hk _ (by unfold KU; omega)]; exact c1, c2, c3, c4⟩
/-- a is none of them -/
def KN (D : DD) (a : Nat) : Prop := ∀ i, KU i → D.2.2 i ≠ a
theorem KH.ch {D : DD} {H H1 : Heap} {a : Nat} (h : KH D H) (hc : Ch a H H1) (hn : KN D a) : KH D H1 := h.stay (fun i hi => hc.2 _ (hn i hi))
theorem KH.ex {D : DD} {H H1 : Heap} (h : KH D H) (hx : Ex H H1) : KH D H1 := h.stay (fun i hi => hx.2 _ (h.lt hi))
theorem KH.to {D : DD} {H H1 : Heap} {A : Nat → Prop} (h : KH D H) (hk : ∀ q : Nat, q < H.size → ¬ A q → H1[q]? = H[q]?) (hA : ∀ q, A q → KN D q) : KH D H1 := h.stay (fun i hi => hk _ (h.lt hi) (fun z => hA _ z i hi rfl))
theorem KN.new {D : DD} {H : Heap} {a : Nat} (h : KH D H) (ha : H.size ≤ a) : KN D a := fun i hi e => by
  have := h.lt hi
  omega
/-- what is unchanged but at A -/
theorem Ch.va {K : C_} {A : Nat → Prop} {L : List Loc} {a : Nat} (hc : Ch a H H1) (hA : kF K A a) (h : ∀ q : Nat, q < (kS K).heap.size → ¬ A q → H[q]? = (kS K).heap[q]?) : ∀ q : Nat, q < (kS K).heap.size → ¬ A q → H1[q]? = (kS K).heap[q]? := fun q h1 h2 => by
  rw [hc.2 q (fun e => by subst e; exact hA.elim h2 (fun z => by omega))]
  exact h q h1 h2
theorem lo_o (X : Fx K y cc nL ret rm D) {vals : List Value} {j : Nat} (hl : LO D H a j vals) (hb : oB D H b ci fs) {r1 : vw_C} (h1 : CL[ci]? = some r1) (hlam : ∀ (k : Class), (kS K).vm.classes[D.2.1 (100 + j)]? = some k → k.name ≠ r1.1) : a ≠ b := by
  intro e
  subst e
  obtain ⟨q1, g1, cell, c1, c2, -⟩ := hb
  unfold LO at hl
  cases hl.symm.trans c1
  have k1 := (X.kk.1 ci _ h1).2.1
  obtain ⟨k, hk, e⟩ := Vm.findClass_spec k1
  rw [← c2] at hk
  exact hlam k hk e
end CWK
