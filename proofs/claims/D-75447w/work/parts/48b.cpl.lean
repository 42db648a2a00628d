/-! arraycopy of longs -/
set_option maxRecDepth 100000
section CPL
variable {K : C_} {y : MethodName} {cc : ByteArray} {nL : Nat} {ret : Option FieldType} {rm : Room} {D : DD} {A : Nat → Prop} {H : Heap} {cells slots : Nat} {Q : State → Prop} {pc : Nat} {lv : List (Nat × Value)} {rest : List Value} {idx a : Nat}
theorem vv_copyl (X : Fx K y cc nL ret rm D) {a0 n0 n1 ty : Nat} {f g : Nat → Int64} {t : FieldType} (h0' : aR D H a0 ty (n0, .inr (.inl f))) (h1' : aR D H a ty (n1, .inr (.inl g))) (ht : (tysOf D)[ty]? = some (D.2.1 ty, t)) (hprim : refKind t = false) (q1 : Cond.methodLink y.cls idx arraycopyName ∈ lw_all) (q2 : Cond.native arraycopyName ∈ lw_all) (q3 : Cond.static arraycopyName ∈ lw_all) (q4 : Cond.initialized "java/lang/System" ∈ lw_all) {sp dp n : Nat} (hn0 : n0 < 2 ^ 31) (hn1 : n1 < 2 ^ 31) (h4 : sp + n ≤ n0) (h5 : dp + n ≤ n1) (hfit : ∀ i, i < n → fits t (.long (f (sp + i))) = true)
    (hf : 1 ≤ rm.frames) (hlo : (rest.map fun v => v.category).sum + (nativeFrameWords "java/lang/System" "arraycopy" 5 + 11) ≤ rm.locals) (hA : kF K A a) {i1 i2 i3 : Int32} (e1 : i1 = nI n) (e2 : i2 = nI dp) (e3 : i3 = nI sp) (d : decode cc pc = .ok (.invokestatic idx, 3))
    (kk : ∀ H1 : Heap, Ch a H H1 → aR D H1 a ty (n1, .inr (.inl (va_cpy f g sp dp n))) → V K nL A H1 cells slots Q (pc + 3) lv rest) : V K nL A H cells slots Q pc lv (.int i1 :: .int i2 :: .ref a :: .int i3 :: .ref a0 :: rest) := by
  subst e1
  subst e2
  subst e3
  intro L ls hS h0 T hT XX
  have cn : (nI n).toNatClampNeg = n := nI_clamp (by omega)
  have cd : (nI dp).toNatClampNeg = dp := nI_clamp (by omega)
  have cs : (nI sp).toNatClampNeg = sp := nI_clamp (by omega)
  obtain ⟨-, k0, hk0, cm0, hkk0⟩ := (X.kk.2 ty _ ht).1 n0 (fun j => .long (f j))
  obtain ⟨-, k1, hk1, cm1, hkk1⟩ := (X.kk.2 ty _ ht).1 n1 (fun j => .long (g j))
  obtain ⟨vm', X', step⟩ := XX.arraycopy X.exec X.own (X.words _ q1) (X.words _ q2) (X.words _ q3) (X.words _ q4) (src := a0) (dst := a) (cs := vp_cell (D.2.1 ty) (n0, .inr (.inl f))) (cd := vp_cell (D.2.1 ty) (n1, .inr (.inl g))) (srcPos := nI sp) (destPos := nI dp) (n := nI n) (by rw [hT]; exact h0') (by rw [hT]; exact h1')
    (fun _ h => by cases h) (fun _ h => by cases h) (fun h => by cases h) (fun h => by cases h) hk0 hk1 hkk0 hkk1 (by simp [hprim]) (nI_pos (by omega)) (nI_pos (by omega)) (nI_pos (by omega))
    (by rw [cp_nn _ (nI_pos (by omega)), cp_nn _ (nI_pos (by omega)), cn, cs]; show ¬ _ > ((arrV (D.2.1 ty) n0 (fun j => .long (f j))).slots.size : Int); rw [arrV_size]; omega)
    (by rw [cp_nn _ (nI_pos (by omega)), cp_nn _ (nI_pos (by omega)), cn, cd]; show ¬ _ > ((arrV (D.2.1 ty) n1 (fun j => .long (g j))).slots.size : Int); rw [arrV_size]; omega)
    (fun vm₁ _ i hi => by
      rw [cn] at hi
      rw [cs]
      have e : (vp_cell (D.2.1 ty) (n0, .inr (.inl f))).slots.getD (sp + i) .null = .long (f (sp + i)) := by
        show (arrV (D.2.1 ty) n0 (fun j => .long (f j))).slots.getD _ _ = _
        rw [Array.getD_eq_getD_getElem?, arrV_read _ _ (by omega)]
        rfl
      refine ⟨?_, ?_⟩
      · rw [e]
        exact hfit i hi
      · rw [e]
        exact trivial)
    (g := F0 (kM K) pc ls (.int (nI n) :: .int (nI dp) :: .ref a :: .int (nI sp) :: .ref a0 :: rest)) rfl (by rw [X.maxL]; exact h0.1) (rest := rest) rfl (by rw [X.code]; exact d) (by rw [X.room]; exact hf) (by rw [X.room]; show 2 * 0 + _ + _ ≤ _; omega)
  have e1 : copied (vp_cell (D.2.1 ty) (n0, .inr (.inl f))) (vp_cell (D.2.1 ty) (n1, .inr (.inl g))) (nI sp) (nI dp) (nI n) = vp_cell (D.2.1 ty) (n1, .inr (.inl (va_cpy f g sp dp n))) := by
    have := va_copied (fun z => Value.long z) (D.2.1 ty) (D.2.1 ty) (n0 := n0) (n1 := n1) (sp := sp) (dp := dp) (n := n) f g h4
    unfold copied
    rw [cn, cd, cs]
    exact this
  rw [e1] at X' step
  have hl : a < H.size := (Array.getElem?_eq_some_iff.mp h1').1
  have hheap : ((T.setVm vm').setCell a (vp_cell (D.2.1 ty) (n1, .inr (.inl (va_cpy f g sp dp n))))).heap = H.setIfInBounds a (vp_cell (D.2.1 ty) (n1, .inr (.inl (va_cpy f g sp dp n)))) := by rw [← hT]; rfl
  obtain ⟨hch, hat, -⟩ := cp_end (c1 := D.2.1 ty) (x := (n1, .inr (.inl (va_cpy f g sp dp n)))) (k := 0) (n := 0) hl hA hS
  obtain ⟨t, a1, b1⟩ := kk _ hch hat _ ls ⟨by simp; exact hS.1, fun q g1 g2 => by
      rw [hch.2 q (fun e => g2 (by rw [e]; exact hA))]
      exact hS.2.1 q g1 g2, fun q hq => by
      rcases List.mem_append.mp hq with h | h
      · exact hS.2.2 q h
      · obtain ⟨z, -, hz⟩ := List.mem_map.mp h
        rw [← hz]
        exact hA⟩ h0 _ hheap X'
  exact ⟨t, step t a1, b1⟩
end CPL
