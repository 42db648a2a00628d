/-! THE CONSTANT HEAP: string literals -/
set_option maxRecDepth 100000
/-- the literals' bytes; their hash codes -/
def SRB : List (List Int32) := [[99, 97, 109, 101, 114, 97], [100, 105, 115, 116, 97, 110, 99, 101], [115, 116, 101, 112], [115, 97, 109, 112, 108, 101, 115], [108, 105, 109, 105, 116], [119, 97, 108, 108], [102, 97, 100, 101], [102, 105, 108, 116, 101, 114], [99, 108, 111, 99, 107], [122, 111, 110, 101], [115, 104, 97, 100, 101], [111, 102, 102], [109, 105, 99], [109, 97, 112], [115, 111, 117, 114, 99, 101], [115, 113, 117, 97, 114, 101], [116, 114, 105, 97, 110, 103, 108, 101], [112, 117, 108, 115, 101], [110, 111, 105, 115, 101], [102, 114, 111, 109], [], [63], [35], [59], [45], [99, 97, 109, 101, 114, 97], [100, 105, 115, 116, 97, 110, 99, 101], [115, 116, 101, 112], [115, 97, 109, 112, 108, 101, 115], [108, 105, 109, 105, 116], [109, 105, 99], [109, 97, 112], [115, 111, 117, 114, 99, 101], [119, 97, 108, 108], [102, 97, 100, 101], [102, 105, 108, 116, 101, 114], [99, 108, 111, 99, 107], [115, 104, 97, 100, 101], [111, 102, 102], [122, 111, 110, 101], [115, 113, 117, 97, 114, 101], [116, 114, 105, 97, 110, 103, 108, 101], [112, 117, 108, 115, 101], [110, 111, 105, 115, 101], [102, 114, 111, 109]]
def SRH : List Int32 := [(-1367751899), 288459765, 3540684, 1864843273, 102976443, 3641802, 3135100, (-1274492040), 94755854, 3744684, 109399597, 109935, 108103, 107868, (-896505829), (-894674659), 1497762312, 107027353, 104998682, 3151786, 0, 63, 35, 59, 45, (-1367751899), 288459765, 3540684, 1864843273, 102976443, 108103, 107868, (-896505829), 3641802, 3135100, (-1274492040), 94755854, 109399597, 109935, 3744684, (-894674659), 1497762312, 107027353, 104998682, 3151786]
def sby (i k : Nat) : Int32 := (SRB.getD i []).getD k 0
def sln (i : Nat) : Nat := (SRB.getD i []).length
def shs (i : Nat) : Int32 := SRH.getD i 0
/-- the statics' values -/
def svl (D : DD) (j : Nat) : Value := if j < 3 then .int 1 else if j = 3 then .int 127 else .ref (D.2.2 (400 + j))
def KH (D : DD) (H : Heap) : Prop := (∀ i, i < 45 → oB D H (D.2.2 i) 12 [.ref (D.2.2 (100 + i)), .int 0, .int (shs i), .int (if sln i = 0 then 1 else 0)] ∧ bA D H (D.2.2 (100 + i)) (sln i) (sby i)) ∧
  (∀ j, j < 12 → ∃ cell : Cell, H[D.2.2 (200 + j)]? = some cell ∧ cell.vm.isStatics = true ∧ cell.slots[D.2.2 (300 + j)]? = some (svl D j) ∧ (10 ≤ j → cell.cls = D.2.1 (200 + j))) ∧
  qA D H (D.2.2 404) 10 256 (fun k => some (D.2.2 (1000 + k))) ∧ (∀ k, k < 256 → oB D H (D.2.2 (1000 + k)) 18 [.int (nI k - nI 128)]) ∧
  (∃ f : Nat → Int32, bA D H (D.2.2 405) 100 f ∧ ∀ k, k < 100 → f k = nI (48 + k % 10)) ∧ qA D H (D.2.2 407) 9 0 (fun _ => none) ∧ qA D H (D.2.2 408) 9 0 (fun _ => none) ∧ H[D.2.2 616]? = some ({ cls := D.2.1 116, slots := #[], vm := .none } : Cell)
/-- they lie apart from what is written -/
def KA (D : DD) (A : Nat → Prop) : Prop := ∀ i, i < 2000 → ¬ A (D.2.2 i)
theorem KH.keep {D : DD} {A : Nat → Prop} {H H1 : Heap} (h : KH D H) (ha : KA D A) (hk : ∀ q : Nat, q < H.size → ¬ A q → H1[q]? = H[q]?) : KH D H1 := by
  obtain ⟨h1, h2, h3, h4, ⟨f, h5, h5'⟩, h6, h7, h8⟩ := h
  refine ⟨fun i hi => ⟨(h1 i hi).1.kept (hk _ (h1 i hi).1.lt (ha i (by omega))), (h1 i hi).2.kept (hk _ (h1 i hi).2.lt (ha (100 + i) (by omega)))⟩, fun j hj => ?_, h3.kept (hk _ h3.lt (ha 404 (by omega))), fun k hk' => (h4 k hk').kept (hk _ (h4 k hk').lt (ha (1000 + k) (by omega))), ⟨f, h5.kept (hk _ h5.lt (ha 405 (by omega))), h5'⟩, h6.kept (hk _ h6.lt (ha 407 (by omega))), h7.kept (hk _ h7.lt (ha 408 (by omega))), (hk _ (Array.getElem?_eq_some_iff.mp h8).1 (ha 616 (by omega))).trans h8⟩
  obtain ⟨cell, c1, c2, c3, c4⟩ := h2 j hj
  exact ⟨cell, by rw [hk _ (Array.getElem?_eq_some_iff.mp c1).1 (ha (200 + j) (by omega))]; exact c1, c2, c3, c4⟩
section LDC
variable {K : C_} {y : MethodName} {cc : ByteArray} {nL : Nat} {ret : Option FieldType} {rm : Room} {D : DD} {A : Nat → Prop} {H : Heap} {cells slots : Nat} {Q : State → Prop} {pc : Nat} {lv : List (Nat × Value)} {rest : List Value} {idx : Nat}
theorem vv_ldcS (X : Fx K y cc nL ret rm D) {tx : String} (i : Nat) (h : SRL[i]? = some (y.cls, idx, tx)) (d : decode cc pc = .ok (.ldc idx, 2)) (kk : V K nL A H cells slots Q (pc + 2) lv (.ref (D.2.2 i) :: rest)) : V K nL A H cells slots Q pc lv rest :=
  fun L ls hS h0 => va_ldcS X.exec X.code X.own (X.str h) d (kk L ls hS h0)
/-- getstatic -/
theorem vv_gets (X : Fx K y cc nL ret rm D) (hK : KH D H) {C n t ref : String} (j : Nat) (hj : j < 12) (h : STL[j]? = some (C, n, t)) (q1 : Cond.fieldLink y.cls idx ref n t ∈ lw_all) (hsame : ∀ x, (kS K).fieldFound? C n t = some x → (kS K).fieldFound? ref n t = some x) (d : decode cc pc = .ok (.getstatic idx, 3)) (kk : V K nL A H cells slots Q (pc + 3) lv (svl D j :: rest)) : V K nL A H cells slots Q pc lv rest := by
  intro L ls hS h0
  obtain ⟨cf, kf, fi, f, h1, h2, h3, h4, h5⟩ := X.stat h
  obtain ⟨cell, c1, c2, c3, -⟩ := hK.2.1 j hj
  exact W.gets X.exec X.code X.own (X.words _ q1) (hsame _ h1) h2 h3 h4 c1 (fun e => by rw [e] at c2; cases c2) (by rw [h5]; exact c3) rfl d (kk L ls hS h0)
end LDC
