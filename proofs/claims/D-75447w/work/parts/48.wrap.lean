/-! rows of new cells with a name for the address; default values; families of cells -/
set_option maxRecDepth 100000
section WRP
variable {K : C_} {y : MethodName} {cc : ByteArray} {nL : Nat} {ret : Option FieldType} {rm : Room} {D : DD} {A : Nat → Prop} {H : Heap} {cells slots : Nat} {Q : State → Prop} {pc : Nat} {lv : List (Nat × Value)} {rest : List Value} {C : String} {T : u_T} {N M ci idx ty : Nat} {fs : List Value}
theorem vv_newA (X : Fx K y cc nL ret rm D) (hin : ∀ w ∈ u_ws C T N, w ∈ lw_all) (hc : CL[ci]? = some (C, T, N)) (ty : Nat → FieldType) (hty : ∀ k, k < N → parseFieldDescriptor (T k).2.2.1 = some (ty k)) (hcl : Cond.classLink y.cls idx C ∈ lw_all) (hinst : Cond.instantiable C N ∈ lw_all) (hini : Cond.initialized C ∈ lw_all) (hfs : ∀ j, j < N → defaultValue (ty j) = vp_V fs j) (hcells : cells + 1 ≤ rm.cells) (hslots : slots + N ≤ rm.slots) (d : decode cc pc = .ok (.new idx, 3))
    (kk : ∀ (a : Nat) (H1 : Heap), a = H.size → Ex H H1 → oB D H1 a ci fs → V K nL A H1 (cells + 1) (slots + N) Q (pc + 3) lv (.ref a :: rest)) : V K nL A H cells slots Q pc lv rest :=
  vv_new X hin hc ty hty hcl hinst hini hfs hcells hslots d (fun H1 hx ho => kk _ H1 rfl hx ho)
theorem vv_newiA (X : Fx K y cc nL ret rm D) (hM : N ≤ M) (hM2 : M ≤ 2 ^ 20) (hc : cells + 1 ≤ rm.cells) (hs : slots + M ≤ rm.slots) {i : Int32} (e : i = nI N) (d : decode cc pc = .ok (.newarray .int, 2)) (kk : ∀ (a : Nat) (H1 : Heap), a = H.size → Ex H H1 → iA D H1 a N (fun _ => 0) → V K nL A H1 (cells + 1) (slots + M) Q (pc + 2) lv (.ref a :: rest)) : V K nL A H cells slots Q pc lv (.int i :: rest) :=
  vv_newi X hM hM2 hc hs e d (fun H1 hx ho => kk _ H1 rfl hx ho)
theorem vv_newlA (X : Fx K y cc nL ret rm D) (hM : N ≤ M) (hM2 : M ≤ 2 ^ 20) (hc : cells + 1 ≤ rm.cells) (hs : slots + M ≤ rm.slots) {i : Int32} (e : i = nI N) (d : decode cc pc = .ok (.newarray .long, 2)) (kk : ∀ (a : Nat) (H1 : Heap), a = H.size → Ex H H1 → lA D H1 a N (fun _ => 0) → V K nL A H1 (cells + 1) (slots + M) Q (pc + 2) lv (.ref a :: rest)) : V K nL A H cells slots Q pc lv (.int i :: rest) :=
  vv_newl X hM hM2 hc hs e d (fun H1 hx ho => kk _ H1 rfl hx ho)
theorem vv_newbA (X : Fx K y cc nL ret rm D) (hM : N ≤ M) (hM2 : M ≤ 2 ^ 20) (hc : cells + 1 ≤ rm.cells) (hs : slots + M ≤ rm.slots) {i : Int32} (e : i = nI N) (d : decode cc pc = .ok (.newarray .byte, 2)) (kk : ∀ (a : Nat) (H1 : Heap), a = H.size → Ex H H1 → bA D H1 a N (fun _ => 0) → V K nL A H1 (cells + 1) (slots + M) Q (pc + 2) lv (.ref a :: rest)) : V K nL A H cells slots Q pc lv (.int i :: rest) :=
  vv_newb X hM hM2 hc hs e d (fun H1 hx ho => kk _ H1 rfl hx ho)
theorem vv_newdA (X : Fx K y cc nL ret rm D) (hM : N ≤ M) (hM2 : M ≤ 2 ^ 20) (hc : cells + 1 ≤ rm.cells) (hs : slots + M ≤ rm.slots) {i : Int32} (e : i = nI N) (d : decode cc pc = .ok (.newarray .double, 2)) (kk : ∀ (a : Nat) (H1 : Heap), a = H.size → Ex H H1 → dA D H1 a N (fun _ => 0) → V K nL A H1 (cells + 1) (slots + M) Q (pc + 2) lv (.ref a :: rest)) : V K nL A H cells slots Q pc lv (.int i :: rest) :=
  vv_newd X hM hM2 hc hs e d (fun H1 hx ho => kk _ H1 rfl hx ho)
theorem vv_newzA (X : Fx K y cc nL ret rm D) (hM : N ≤ M) (hM2 : M ≤ 2 ^ 20) (hc : cells + 1 ≤ rm.cells) (hs : slots + M ≤ rm.slots) {i : Int32} (e : i = nI N) (d : decode cc pc = .ok (.newarray .boolean, 2)) (kk : ∀ (a : Nat) (H1 : Heap), a = H.size → Ex H H1 → zA D H1 a N (fun _ => 0) → V K nL A H1 (cells + 1) (slots + M) Q (pc + 2) lv (.ref a :: rest)) : V K nL A H cells slots Q pc lv (.int i :: rest) :=
  vv_newz X hM hM2 hc hs e d (fun H1 hx ho => kk _ H1 rfl hx ho)
theorem vv_newqA (X : Fx K y cc nL ret rm D) (hcl : Cond.classLink y.cls idx C ∈ lw_all) (hC : C ∈ AOL) (ht : (tysOf D)[ty]? = some (D.2.1 ty, .object C)) (hM : N ≤ M) (hM2 : M ≤ 2 ^ 20) (hc : cells + 1 ≤ rm.cells) (hs : slots + M ≤ rm.slots) {i : Int32} (e : i = nI N) (d : decode cc pc = .ok (.anewarray idx, 3))
    (kk : ∀ (a : Nat) (H1 : Heap), a = H.size → Ex H H1 → qA D H1 a ty N (fun _ => none) → V K nL A H1 (cells + 1) (slots + M) Q (pc + 3) lv (.ref a :: rest)) : V K nL A H cells slots Q pc lv (.int i :: rest) :=
  vv_newq X hcl hC ht hM hM2 hc hs e d (fun H1 hx ho => kk _ H1 rfl hx ho)
end WRP
section CGR
variable {D : DD} {H : Heap} {a n ty : Nat}
theorem iA_cg {f g : Nat → Int32} (h : iA D H a n f) (e : ∀ j, j < n → f j = g j) : iA D H a n g := by
  have h : H[a]? = some (vp_cell _ _) := h
  show H[a]? = some (vp_cell _ _)
  rw [h, vp_cell_i, vp_cell_i, arrV_congr _ (fun j hj => by rw [e j hj])]
theorem bA_cg {f g : Nat → Int32} (h : bA D H a n f) (e : ∀ j, j < n → f j = g j) : bA D H a n g := by
  have h : H[a]? = some (vp_cell _ _) := h
  show H[a]? = some (vp_cell _ _)
  rw [h, vp_cell_i, vp_cell_i, arrV_congr _ (fun j hj => by rw [e j hj])]
theorem lA_cg {f g : Nat → Int64} (h : lA D H a n f) (e : ∀ j, j < n → f j = g j) : lA D H a n g := by
  have h : H[a]? = some (vp_cell _ _) := h
  show H[a]? = some (vp_cell _ _)
  rw [h, vp_cell_l, vp_cell_l, arrV_congr _ (fun j hj => by rw [e j hj])]
theorem qA_cg {f g : Nat → Option Nat} (h : qA D H a ty n f) (e : ∀ j, j < n → f j = g j) : qA D H a ty n g := by
  have h : H[a]? = some (vp_cell _ _) := h
  show H[a]? = some (vp_cell _ _)
  rw [h, vp_cell_q, vp_cell_q, arrV_congr _ (fun j hj => by rw [e j hj])]
theorem pqa {v r : Value} {H : Heap} (h : v = r) : some v = some r ∧ H = H := ⟨by rw [h], rfl⟩
end CGR
theorem b2_fit (p : Prop) [Decidable p] : fits .boolean (.int (b2 p)) = true := by
  by_cases z : p
  · rw [b2_t z]; rfl
  · rw [b2_f z]; rfl
theorem tyX1_d : ∀ j, j < 8 → defaultValue (tyX1 j) = vp_V [.null, .int (nI 0), .int (nI 0), .int (nI 0), .null, .null, .null, .null] j := by
  intro j hj
  rcases (show j = 0 ∨ j = 1 ∨ j = 2 ∨ j = 3 ∨ j = 4 ∨ j = 5 ∨ j = 6 ∨ j = 7 by omega) with e | e | e | e | e | e | e | e <;> (subst e; exact rfl)
theorem tyX2_d : ∀ j, j < 30 → defaultValue (tyX2 j) = vp_V [.int (nI 0), .null, .int (nI 0), .int (nI 0), .int (nI 0), .int (nI 0), .int (nI 0), .int (nI 0), .int (nI 0), .int (nI 0), .null, .null, .null, .null, .null, .null, .null, .null, .null, .int (nI 0), .int (nI 0), .int (nI 0), .int (nI 0), .null, .null, .null, .null, .null, .int (nI 0), .null] j := by
  intro j hj
  rcases (show j = 0 ∨ j = 1 ∨ j = 2 ∨ j = 3 ∨ j = 4 ∨ j = 5 ∨ j = 6 ∨ j = 7 ∨ j = 8 ∨ j = 9 ∨ j = 10 ∨ j = 11 ∨ j = 12 ∨ j = 13 ∨ j = 14 ∨ j = 15 ∨ j = 16 ∨ j = 17 ∨ j = 18 ∨ j = 19 ∨ j = 20 ∨ j = 21 ∨ j = 22 ∨ j = 23 ∨ j = 24 ∨ j = 25 ∨ j = 26 ∨ j = 27 ∨ j = 28 ∨ j = 29 by omega) with e | e | e | e | e | e | e | e | e | e | e | e | e | e | e | e | e | e | e | e | e | e | e | e | e | e | e | e | e | e <;> (subst e; exact rfl)
theorem tyX3_d : ∀ j, j < 8 → defaultValue (tyX3 j) = vp_V [.null, .null, .null, .null, .null, .null, .int (nI 0), .null] j := by
  intro j hj
  rcases (show j = 0 ∨ j = 1 ∨ j = 2 ∨ j = 3 ∨ j = 4 ∨ j = 5 ∨ j = 6 ∨ j = 7 by omega) with e | e | e | e | e | e | e | e <;> (subst e; exact rfl)
theorem tyX4_d : ∀ j, j < 7 → defaultValue (tyX4 j) = vp_V [.null, .int (nI 0), .int (nI 0), .int (nI 0), .int (nI 0), .null, .null] j := by
  intro j hj
  rcases (show j = 0 ∨ j = 1 ∨ j = 2 ∨ j = 3 ∨ j = 4 ∨ j = 5 ∨ j = 6 by omega) with e | e | e | e | e | e | e <;> (subst e; exact rfl)
theorem tyX5_d : ∀ j, j < 19 → defaultValue (tyX5 j) = vp_V [.null, .null, .null, .null, .null, .null, .null, .null, .int (nI 0), .int (nI 0), .int (nI 0), .int (nI 0), .int (nI 0), .int (nI 0), .int (nI 0), .int (nI 0), .int (nI 0), .int (nI 0), .null] j := by
  intro j hj
  rcases (show j = 0 ∨ j = 1 ∨ j = 2 ∨ j = 3 ∨ j = 4 ∨ j = 5 ∨ j = 6 ∨ j = 7 ∨ j = 8 ∨ j = 9 ∨ j = 10 ∨ j = 11 ∨ j = 12 ∨ j = 13 ∨ j = 14 ∨ j = 15 ∨ j = 16 ∨ j = 17 ∨ j = 18 by omega) with e | e | e | e | e | e | e | e | e | e | e | e | e | e | e | e | e | e | e <;> (subst e; exact rfl)
theorem tyX6_d : ∀ j, j < 8 → defaultValue (tyX6 j) = vp_V [.null, .null, .null, .null, .null, .int (nI 0), .int (nI 0), .int (nI 0)] j := by
  intro j hj
  rcases (show j = 0 ∨ j = 1 ∨ j = 2 ∨ j = 3 ∨ j = 4 ∨ j = 5 ∨ j = 6 ∨ j = 7 by omega) with e | e | e | e | e | e | e | e <;> (subst e; exact rfl)
theorem tyX7_d : ∀ j, j < 3 → defaultValue (tyX7 j) = vp_V [.int (nI 0), .int (nI 0), .int (nI 0)] j := by
  intro j hj
  rcases (show j = 0 ∨ j = 1 ∨ j = 2 by omega) with e | e | e <;> (subst e; exact rfl)
theorem tyX8_d : ∀ j, j < 6 → defaultValue (tyX8 j) = vp_V [.null, .int (nI 0), .int (nI 0), .int (nI 0), .int (nI 0), .int (nI 0)] j := by
  intro j hj
  rcases (show j = 0 ∨ j = 1 ∨ j = 2 ∨ j = 3 ∨ j = 4 ∨ j = 5 by omega) with e | e | e | e | e | e <;> (subst e; exact rfl)
theorem tyX10_d : ∀ j, j < 2 → defaultValue (tyX10 j) = vp_V [.int (nI 0), .int (nI 0)] j := by
  intro j hj
  rcases (show j = 0 ∨ j = 1 by omega) with e | e <;> (subst e; exact rfl)
theorem tyX11_d : ∀ j, j < 4 → defaultValue (tyX11 j) = vp_V [.int (nI 0), .int (nI 0), .int (nI 0), .int (nI 0)] j := by
  intro j hj
  rcases (show j = 0 ∨ j = 1 ∨ j = 2 ∨ j = 3 by omega) with e | e | e | e <;> (subst e; exact rfl)
theorem tyJ1_d : ∀ j, j < 3 → defaultValue (tyJ1 j) = vp_V [.null, .int (nI 0), .int (nI 0)] j := by
  intro j hj
  rcases (show j = 0 ∨ j = 1 ∨ j = 2 by omega) with e | e | e <;> (subst e; exact rfl)
theorem tyJ3_d : ∀ j, j < 4 → defaultValue (tyJ3 j) = vp_V [.null, .int (nI 0), .int (nI 0), .int (nI 0)] j := by
  intro j hj
  rcases (show j = 0 ∨ j = 1 ∨ j = 2 ∨ j = 3 by omega) with e | e | e | e <;> (subst e; exact rfl)
theorem tyJ4_d : ∀ j, j < 4 → defaultValue (tyJ4 j) = vp_V [.null, .int (nI 0), .int (nI 0), .int (nI 0)] j := by
  intro j hj
  rcases (show j = 0 ∨ j = 1 ∨ j = 2 ∨ j = 3 by omega) with e | e | e | e <;> (subst e; exact rfl)
theorem tyJ6_d : ∀ j, j < 5 → defaultValue (tyJ6 j) = vp_V [.null, .null, .null, .null, .null] j := by
  intro j hj
  rcases (show j = 0 ∨ j = 1 ∨ j = 2 ∨ j = 3 ∨ j = 4 by omega) with e | e | e | e | e <;> (subst e; exact rfl)
theorem tyJ9_d : ∀ j, j < 6 → defaultValue (tyJ9 j) = vp_V [.null, .null, .null, .null, .null, .int (nI 0)] j := by
  intro j hj
  rcases (show j = 0 ∨ j = 1 ∨ j = 2 ∨ j = 3 ∨ j = 4 ∨ j = 5 by omega) with e | e | e | e | e | e <;> (subst e; exact rfl)
theorem tyJ10_d : ∀ j, j < 6 → defaultValue (tyJ10 j) = vp_V [.null, .null, .null, .null, .int (nI 0), .null] j := by
  intro j hj
  rcases (show j = 0 ∨ j = 1 ∨ j = 2 ∨ j = 3 ∨ j = 4 ∨ j = 5 by omega) with e | e | e | e | e | e <;> (subst e; exact rfl)
theorem tyJ12_d : ∀ j, j < 3 → defaultValue (tyJ12 j) = vp_V [.int (nI 0), .null, .int (nI 0)] j := by
  intro j hj
  rcases (show j = 0 ∨ j = 1 ∨ j = 2 by omega) with e | e | e <;> (subst e; exact rfl)
theorem tyJ13_d : ∀ j, j < 6 → defaultValue (tyJ13 j) = vp_V [.null, .null, .null, .null, .null, .int (nI 0)] j := by
  intro j hj
  rcases (show j = 0 ∨ j = 1 ∨ j = 2 ∨ j = 3 ∨ j = 4 ∨ j = 5 by omega) with e | e | e | e | e | e <;> (subst e; exact rfl)
theorem tyJ20_d : ∀ j, j < 1 → defaultValue (tyJ20 j) = vp_V [.int (nI 0)] j := by
  intro j hj
  rcases (show j = 0 by omega) with e <;> (subst e; exact rfl)
theorem tyJ21_d : ∀ j, j < 3 → defaultValue (tyJ21 j) = vp_V [.null, .int (nI 0), .int (nI 0)] j := by
  intro j hj
  rcases (show j = 0 ∨ j = 1 ∨ j = 2 by omega) with e | e | e <;> (subst e; exact rfl)
theorem tyJ23_d : ∀ j, j < 3 → defaultValue (tyJ23 j) = vp_V [.null, .null, .null] j := by
  intro j hj
  rcases (show j = 0 ∨ j = 1 ∨ j = 2 by omega) with e | e | e <;> (subst e; exact rfl)
theorem tyJ28_d : ∀ j, j < 2 → defaultValue (tyJ28 j) = vp_V [.null, .null] j := by
  intro j hj
  rcases (show j = 0 ∨ j = 1 by omega) with e | e <;> (subst e; exact rfl)
theorem tyJ29_d : ∀ j, j < 2 → defaultValue (tyJ29 j) = vp_V [.null, .int (nI 0)] j := by
  intro j hj
  rcases (show j = 0 ∨ j = 1 by omega) with e | e <;> (subst e; exact rfl)
theorem tyJ31_d : ∀ j, j < 6 → defaultValue (tyJ31 j) = vp_V [.null, .null, .null, .null, .null, .int (nI 0)] j := by
  intro j hj
  rcases (show j = 0 ∨ j = 1 ∨ j = 2 ∨ j = 3 ∨ j = 4 ∨ j = 5 by omega) with e | e | e | e | e | e <;> (subst e; exact rfl)
theorem tyJ33_d : ∀ j, j < 4 → defaultValue (tyJ33 j) = vp_V [.int (nI 0), .int (nI 0), .null, .null] j := by
  intro j hj
  rcases (show j = 0 ∨ j = 1 ∨ j = 2 ∨ j = 3 by omega) with e | e | e | e <;> (subst e; exact rfl)
theorem tyJ36_d : ∀ j, j < 5 → defaultValue (tyJ36 j) = vp_V [.int (nI 0), .int (nI 0), .int (nI 0), .null, .null] j := by
  intro j hj
  rcases (show j = 0 ∨ j = 1 ∨ j = 2 ∨ j = 3 ∨ j = 4 by omega) with e | e | e | e | e <;> (subst e; exact rfl)
theorem tyJ37_d : ∀ j, j < 5 → defaultValue (tyJ37 j) = vp_V [.null, .null, .int (nI 0), .int (nI 0), .null] j := by
  intro j hj
  rcases (show j = 0 ∨ j = 1 ∨ j = 2 ∨ j = 3 ∨ j = 4 by omega) with e | e | e | e | e <;> (subst e; exact rfl)
theorem tyJ38_d : ∀ j, j < 6 → defaultValue (tyJ38 j) = vp_V [.null, .null, .null, .null, .null, .int (nI 0)] j := by
  intro j hj
  rcases (show j = 0 ∨ j = 1 ∨ j = 2 ∨ j = 3 ∨ j = 4 ∨ j = 5 by omega) with e | e | e | e | e | e <;> (subst e; exact rfl)
theorem tyJ39_d : ∀ j, j < 6 → defaultValue (tyJ39 j) = vp_V [.null, .null, .null, .null, .int (nI 0), .null] j := by
  intro j hj
  rcases (show j = 0 ∨ j = 1 ∨ j = 2 ∨ j = 3 ∨ j = 4 ∨ j = 5 by omega) with e | e | e | e | e | e <;> (subst e; exact rfl)
