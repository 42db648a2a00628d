/-! which cells are apart by what lies there: lambda objects; the constants -/
set_option maxRecDepth 100000
theorem LSt.nm {q : SQ} {c : ClassId} {one : Nat} {U : State} (h : LSt q c one U) : ∀ k : Class, U.vm.classes[c]? = some k → ∃ s : String, k.name = s ++ "$$Lambda" := by
  obtain ⟨m, k, cf, i0, p0, lk, -, -, -, -, -, hmade, -⟩ := h
  obtain ⟨dk', k', ok, tk', file', cf', object, iface', t', lay, methods, target, found', hd', hk', -, -, -, -, -, -, -, -, -, -, -, hrec, -⟩ := Lambda.isMade_spec hmade
  intro k2 h2
  cases hk'.symm.trans h2
  exact ⟨_, hrec.1⟩
theorem CL_nol : ∀ (i : Nat) (r : vw_C), CL[i]? = some r → ∀ s : String, r.1 ≠ s ++ "$$Lambda" := by
  intro i r h s e
  have hm := List.mem_of_getElem? h
  have key : ∀ r ∈ CL, r.1.toList.reverse.take 2 ≠ ['a', 'd'] := by decide +kernel
  refine key r hm ?_
  rw [e, String.toList_append, List.reverse_append]
  exact rfl
section KNW
variable {K : C_} {y : MethodName} {cc : ByteArray} {nL : Nat} {ret : Option FieldType} {rm : Room} {D : DD} {H : Heap} {a b ci ty j : Nat} {fs vals : List Value} {x : vp_A}
theorem GE.sit {U : State} (h : GE D U) : ∀ (j : Nat) (q : SQ), SIL[j]? = some q → LSt q (D.2.1 (100 + j)) (D.2.2 (600 + j)) U := h.2.2.2.1
theorem Fx.lo (X : Fx K y cc nL ret rm D) (hj : j < 18) (hl : LO D H a j vals) (hb : oB D H b ci fs) : a ≠ b := by
  have hc := hb
  obtain ⟨r, g1, -⟩ := hc
  have hs : ∃ q, SIL[j]? = some q := ⟨SIL[j]'(by exact hj), List.getElem?_eq_getElem _⟩
  obtain ⟨q, hq⟩ := hs
  refine lo_o X hl hb g1 (fun k hk e => ?_)
  obtain ⟨s, e2⟩ := (GE.sit X.ge j q hq).nm k hk
  exact CL_nol ci r g1 s (e.symm.trans e2)
theorem Fx.ol (X : Fx K y cc nL ret rm D) (hb : oB D H b ci fs) (hj : j < 18) (hl : LO D H a j vals) : b ≠ a := fun e => X.lo hj hl hb e.symm
theorem Fx.la (X : Fx K y cc nL ret rm D) (hj : j < 18) (hl : LO D H a j vals) (hb : aR D H b ty x) {t : FieldType} (ht : (tysOf D)[ty]? = some (D.2.1 ty, t)) : a ≠ b := by
  intro e
  subst e
  have hb : H[a]? = some (vp_cell (D.2.1 ty) x) := hb
  unfold LO at hl
  have hs : ∃ q, SIL[j]? = some q := ⟨SIL[j]'(by exact hj), List.getElem?_eq_getElem _⟩
  obtain ⟨q, hq⟩ := hs
  obtain ⟨m, k0, cf, i0, p0, lk, -, -, -, -, -, hmade, -⟩ := GE.sit X.ge j q hq
  obtain ⟨dk', k', ok, tk', file', cf', object, iface', t', lay, methods, target, found', hd', hk', -, -, -, -, -, -, -, -, -, -, -, hrec, -⟩ := Lambda.isMade_spec hmade
  obtain ⟨-, kq, hkq, comp, hkind'⟩ := (X.kk.2 ty _ ht).1 0 (fun _ => .null)
  have hkq : (kS K).vm.classes[D.2.1 ty]? = some kq := hkq
  have e : D.2.1 (100 + j) = D.2.1 ty := by
    have := congrArg Cell.cls (Option.some.inj (hl.symm.trans hb))
    rw [vpc_cls] at this
    exact this
  rw [e] at hk'
  cases hk'.symm.trans hkq
  rw [hrec.2.1] at hkind'
  cases hkind'
theorem Fx.al (X : Fx K y cc nL ret rm D) (hb : aR D H b ty x) {t : FieldType} (ht : (tysOf D)[ty]? = some (D.2.1 ty, t)) (hj : j < 18) (hl : LO D H a j vals) : b ≠ a := fun e => X.la hj hl hb ht e.symm
/-- an object that is no constant -/
theorem Fx.ko (X : Fx K y cc nL ret rm D) (h : KH D H) (hb : oB D H b ci fs) {r1 : vw_C} (h1 : CL[ci]? = some r1) (hn : r1.1 ≠ "java/lang/String") (hn2 : r1.1 ≠ "java/lang/Integer") : KN D b := by
  obtain ⟨k1, k2, k3, k4, ⟨f, k5, -⟩, k6, k7, k8⟩ := h
  intro i hi
  rcases hi with q | ⟨q, q'⟩ | ⟨q, q'⟩ | q | q | q | q | q | ⟨q, q'⟩
  · exact X.oo (k1 i q).1 hb CL_J4 h1 (fun e => hn e.symm)
  · have := X.ao (k1 (i - 100) (by omega)).2 hb h1 (rfl : (tysOf D)[2]? = some (D.2.1 2, _))
    rw [show 100 + (i - 100) = i by omega] at this
    exact this
  · obtain ⟨cell, c1, c2, -⟩ := k2 (i - 200) (by omega)
    rw [show 200 + (i - 200) = i by omega] at c1
    intro e
    rw [e] at c1
    obtain ⟨q1, g1, cell', d1, d2, d3, -⟩ := hb
    cases c1.symm.trans d1
    rw [d3] at c2
    cases c2
  · rw [q]; exact X.ao k3 hb h1 (rfl : (tysOf D)[10]? = some (D.2.1 10, _))
  · rw [q]; exact X.ao k5 hb h1 (rfl : (tysOf D)[2]? = some (D.2.1 2, _))
  · rw [q]; exact X.ao k6 hb h1 (rfl : (tysOf D)[9]? = some (D.2.1 9, _))
  · rw [q]; exact X.ao k7 hb h1 (rfl : (tysOf D)[9]? = some (D.2.1 9, _))
  · rw [q]; exact X.lo (j := 16) (vals := []) (by decide) k8 hb
  · have := X.oo (k4 (i - 1000) (by omega)) hb CL_J20 h1 (fun e => hn2 e.symm)
    rw [show 1000 + (i - 1000) = i by omega] at this
    exact this
/-- an array that is no constant -/
theorem Fx.ka (X : Fx K y cc nL ret rm D) (h : KH D H) (hb : aR D H b ty x) {t : FieldType} (ht : (tysOf D)[ty]? = some (D.2.1 ty, t)) (hn : "[" ++ t.toString ≠ "[B") (hn2 : "[" ++ t.toString ≠ "[Ljava/lang/Object;") (hn3 : "[" ++ t.toString ≠ "[Ljava/lang/Integer;") : KN D b := by
  obtain ⟨k1, k2, k3, k4, ⟨f, k5, -⟩, k6, k7, k8⟩ := h
  intro i hi
  rcases hi with q | ⟨q, q'⟩ | ⟨q, q'⟩ | q | q | q | q | q | ⟨q, q'⟩
  · exact X.oa (k1 i q).1 hb CL_J4 ht
  · have := X.aa (k1 (i - 100) (by omega)).2 hb (rfl : (tysOf D)[2]? = some (D.2.1 2, _)) ht (fun e => hn (e.symm.trans (by decide +kernel)))
    rw [show 100 + (i - 100) = i by omega] at this
    exact this
  · obtain ⟨cell, c1, c2, -⟩ := k2 (i - 200) (by omega)
    rw [show 200 + (i - 200) = i by omega] at c1
    intro e
    rw [e] at c1
    have hb : H[b]? = some (vp_cell (D.2.1 ty) x) := hb
    cases c1.symm.trans hb
    obtain ⟨n, f | f | f | f | f⟩ := x <;> cases c2
  · rw [q]; exact X.aa k3 hb (rfl : (tysOf D)[10]? = some (D.2.1 10, _)) ht (fun e => hn3 (e.symm.trans (by decide +kernel)))
  · rw [q]; exact X.aa k5 hb (rfl : (tysOf D)[2]? = some (D.2.1 2, _)) ht (fun e => hn (e.symm.trans (by decide +kernel)))
  · rw [q]; exact X.aa k6 hb (rfl : (tysOf D)[9]? = some (D.2.1 9, _)) ht (fun e => hn2 (e.symm.trans (by decide +kernel)))
  · rw [q]; exact X.aa k7 hb (rfl : (tysOf D)[9]? = some (D.2.1 9, _)) ht (fun e => hn2 (e.symm.trans (by decide +kernel)))
  · rw [q]; exact X.la (j := 16) (vals := []) (by decide) k8 hb ht
  · have := X.oa (k4 (i - 1000) (by omega)) hb CL_J20 ht
    rw [show 1000 + (i - 1000) = i by omega] at this
    exact this
end KNW
