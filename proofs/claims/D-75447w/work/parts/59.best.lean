/-! lambda sites, best, count: printed by gen/s6.py -/
set_option maxRecDepth 100000
theorem vv_indyA0 {K : C_} {y : MethodName} {cc : ByteArray} {nL : Nat} {ret : Option FieldType} {rm : Room} {D : DD} {A : Nat → Prop} {H : Heap} {cells slots : Nat} {Q : State → Prop} {lv : List (Nat × Value)} {st stk : List Value} {v0 : Int32} {v1 : Int32} {v2 : Int32} (X : Fx K y cc nL ret rm D) (hy : y = ({ cls := "AcousticCamera$Waves", name := "square", desc := "(III)LAcousticCamera$Wave;" } : MethodName)) (d : decode cc 3 = .ok (.invokedynamic 7, 5)) (hstk : stk = .int v2 :: .int v1 :: .int v0 :: st) (hw : (stk.map fun v => v.category).sum + 3072 ≤ rm.locals) (hc : cells + 1 ≤ rm.cells) (hs : slots + 3 ≤ rm.slots) (kk : ∀ (a : Nat) (H1 : Heap), a = H.size → Ex H H1 → LO D H1 a 0 [.int v0, .int v1, .int v2] → V K nL A H1 (cells + 1) (slots + 3) Q 8 lv (.ref a :: st)) : V K nL A H cells slots Q 3 lv stk :=
  vv_indy0 X hy d hstk hw hc hs (fun H1 hx hl => kk _ H1 rfl hx hl)
theorem vv_indyA1 {K : C_} {y : MethodName} {cc : ByteArray} {nL : Nat} {ret : Option FieldType} {rm : Room} {D : DD} {A : Nat → Prop} {H : Heap} {cells slots : Nat} {Q : State → Prop} {lv : List (Nat × Value)} {st stk : List Value} {v0 : Int32} {v1 : Int32} {v2 : Int32} (X : Fx K y cc nL ret rm D) (hy : y = ({ cls := "AcousticCamera$Waves", name := "triangle", desc := "(III)LAcousticCamera$Wave;" } : MethodName)) (d : decode cc 3 = .ok (.invokedynamic 11, 5)) (hstk : stk = .int v2 :: .int v1 :: .int v0 :: st) (hw : (stk.map fun v => v.category).sum + 3072 ≤ rm.locals) (hc : cells + 1 ≤ rm.cells) (hs : slots + 3 ≤ rm.slots) (kk : ∀ (a : Nat) (H1 : Heap), a = H.size → Ex H H1 → LO D H1 a 1 [.int v0, .int v1, .int v2] → V K nL A H1 (cells + 1) (slots + 3) Q 8 lv (.ref a :: st)) : V K nL A H cells slots Q 3 lv stk :=
  vv_indy1 X hy d hstk hw hc hs (fun H1 hx hl => kk _ H1 rfl hx hl)
theorem vv_indyA2 {K : C_} {y : MethodName} {cc : ByteArray} {nL : Nat} {ret : Option FieldType} {rm : Room} {D : DD} {A : Nat → Prop} {H : Heap} {cells slots : Nat} {Q : State → Prop} {lv : List (Nat × Value)} {st stk : List Value} {v0 : Int32} {v1 : Int32} {v2 : Int32} (X : Fx K y cc nL ret rm D) (hy : y = ({ cls := "AcousticCamera$Waves", name := "pulse", desc := "(III)LAcousticCamera$Wave;" } : MethodName)) (d : decode cc 3 = .ok (.invokedynamic 12, 5)) (hstk : stk = .int v2 :: .int v1 :: .int v0 :: st) (hw : (stk.map fun v => v.category).sum + 3072 ≤ rm.locals) (hc : cells + 1 ≤ rm.cells) (hs : slots + 3 ≤ rm.slots) (kk : ∀ (a : Nat) (H1 : Heap), a = H.size → Ex H H1 → LO D H1 a 2 [.int v0, .int v1, .int v2] → V K nL A H1 (cells + 1) (slots + 3) Q 8 lv (.ref a :: st)) : V K nL A H cells slots Q 3 lv stk :=
  vv_indy2 X hy d hstk hw hc hs (fun H1 hx hl => kk _ H1 rfl hx hl)
theorem vv_indyA3 {K : C_} {y : MethodName} {cc : ByteArray} {nL : Nat} {ret : Option FieldType} {rm : Room} {D : DD} {A : Nat → Prop} {H : Heap} {cells slots : Nat} {Q : State → Prop} {lv : List (Nat × Value)} {st stk : List Value} {v0 : Int32} {v1 : Int32} (X : Fx K y cc nL ret rm D) (hy : y = ({ cls := "AcousticCamera$Waves", name := "noise", desc := "(II)LAcousticCamera$Wave;" } : MethodName)) (d : decode cc 2 = .ok (.invokedynamic 13, 5)) (hstk : stk = .int v1 :: .int v0 :: st) (hw : (stk.map fun v => v.category).sum + 3072 ≤ rm.locals) (hc : cells + 1 ≤ rm.cells) (hs : slots + 2 ≤ rm.slots) (kk : ∀ (a : Nat) (H1 : Heap), a = H.size → Ex H H1 → LO D H1 a 3 [.int v0, .int v1] → V K nL A H1 (cells + 1) (slots + 2) Q 7 lv (.ref a :: st)) : V K nL A H cells slots Q 2 lv stk :=
  vv_indy3 X hy d hstk hw hc hs (fun H1 hx hl => kk _ H1 rfl hx hl)
theorem vv_indyA4 {K : C_} {y : MethodName} {cc : ByteArray} {nL : Nat} {ret : Option FieldType} {rm : Room} {D : DD} {A : Nat → Prop} {H : Heap} {cells slots : Nat} {Q : State → Prop} {lv : List (Nat × Value)} {st stk : List Value} {v0 : Nat} (X : Fx K y cc nL ret rm D) (hy : y = ({ cls := "AcousticCamera$State", name := "best", desc := "()I" } : MethodName)) (d : decode cc 8 = .ok (.invokedynamic 209, 5)) (hstk : stk = .ref v0 :: st) (hw : (stk.map fun v => v.category).sum + 3072 ≤ rm.locals) (hc : cells + 1 ≤ rm.cells) (hs : slots + 1 ≤ rm.slots) (kk : ∀ (a : Nat) (H1 : Heap), a = H.size → Ex H H1 → LO D H1 a 4 [.ref v0] → V K nL A H1 (cells + 1) (slots + 1) Q 13 lv (.ref a :: st)) : V K nL A H cells slots Q 8 lv stk :=
  vv_indy4 X hy d hstk hw hc hs (fun H1 hx hl => kk _ H1 rfl hx hl)
theorem vv_indyA5 {K : C_} {y : MethodName} {cc : ByteArray} {nL : Nat} {ret : Option FieldType} {rm : Room} {D : DD} {A : Nat → Prop} {H : Heap} {cells slots : Nat} {Q : State → Prop} {lv : List (Nat × Value)} {st stk : List Value} {v0 : Nat} (X : Fx K y cc nL ret rm D) (hy : y = ({ cls := "AcousticCamera", name := "peaks", desc := "()I" } : MethodName)) (d : decode cc 13 = .ok (.invokedynamic 284, 5)) (hstk : stk = .ref v0 :: st) (hw : (stk.map fun v => v.category).sum + 3072 ≤ rm.locals) (hc : cells + 1 ≤ rm.cells) (hs : slots + 1 ≤ rm.slots) (kk : ∀ (a : Nat) (H1 : Heap), a = H.size → Ex H H1 → LO D H1 a 5 [.ref v0] → V K nL A H1 (cells + 1) (slots + 1) Q 18 lv (.ref a :: st)) : V K nL A H cells slots Q 13 lv stk :=
  vv_indy5 X hy d hstk hw hc hs (fun H1 hx hl => kk _ H1 rfl hx hl)
theorem vv_indyA6 {K : C_} {y : MethodName} {cc : ByteArray} {nL : Nat} {ret : Option FieldType} {rm : Room} {D : DD} {A : Nat → Prop} {H : Heap} {cells slots : Nat} {Q : State → Prop} {lv : List (Nat × Value)} {st stk : List Value} {v0 : Nat} (X : Fx K y cc nL ret rm D) (hy : y = ({ cls := "AcousticCamera$State", name := "peaks", desc := "()Ljava/util/LinkedList;" } : MethodName)) (d : decode cc 8 = .ok (.invokedynamic 260, 5)) (hstk : stk = .ref v0 :: st) (hw : (stk.map fun v => v.category).sum + 3072 ≤ rm.locals) (hc : cells + 1 ≤ rm.cells) (hs : slots + 1 ≤ rm.slots) (kk : ∀ (a : Nat) (H1 : Heap), a = H.size → Ex H H1 → LO D H1 a 6 [.ref v0] → V K nL A H1 (cells + 1) (slots + 1) Q 13 lv (.ref a :: st)) : V K nL A H cells slots Q 8 lv stk :=
  vv_indy6 X hy d hstk hw hc hs (fun H1 hx hl => kk _ H1 rfl hx hl)
theorem vv_indyA7 {K : C_} {y : MethodName} {cc : ByteArray} {nL : Nat} {ret : Option FieldType} {rm : Room} {D : DD} {A : Nat → Prop} {H : Heap} {cells slots : Nat} {Q : State → Prop} {lv : List (Nat × Value)} {st stk : List Value} {v0 : Nat} (X : Fx K y cc nL ret rm D) (hy : y = ({ cls := "AcousticCamera$State", name := "peaks", desc := "()Ljava/util/LinkedList;" } : MethodName)) (d : decode cc 14 = .ok (.invokedynamic 264, 5)) (hstk : stk = .ref v0 :: st) (hw : (stk.map fun v => v.category).sum + 3072 ≤ rm.locals) (hc : cells + 1 ≤ rm.cells) (hs : slots + 1 ≤ rm.slots) (kk : ∀ (a : Nat) (H1 : Heap), a = H.size → Ex H H1 → LO D H1 a 7 [.ref v0] → V K nL A H1 (cells + 1) (slots + 1) Q 19 lv (.ref a :: st)) : V K nL A H cells slots Q 14 lv stk :=
  vv_indy7 X hy d hstk hw hc hs (fun H1 hx hl => kk _ H1 rfl hx hl)
theorem vv_indyA8 {K : C_} {y : MethodName} {cc : ByteArray} {nL : Nat} {ret : Option FieldType} {rm : Room} {D : DD} {A : Nat → Prop} {H : Heap} {cells slots : Nat} {Q : State → Prop} {lv : List (Nat × Value)} {st stk : List Value} {v0 : Nat} {v1 : Int32} {v2 : Nat} (X : Fx K y cc nL ret rm D) (hy : y = ({ cls := "AcousticCamera", name := "zoneBest", desc := "(I)I" } : MethodName)) (d : decode cc 16 = .ok (.invokedynamic 309, 5)) (hstk : stk = .ref v2 :: .int v1 :: .ref v0 :: st) (hw : (stk.map fun v => v.category).sum + 3072 ≤ rm.locals) (hc : cells + 1 ≤ rm.cells) (hs : slots + 3 ≤ rm.slots) (kk : ∀ (a : Nat) (H1 : Heap), a = H.size → Ex H H1 → LO D H1 a 8 [.ref v0, .int v1, .ref v2] → V K nL A H1 (cells + 1) (slots + 3) Q 21 lv (.ref a :: st)) : V K nL A H cells slots Q 16 lv stk :=
  vv_indy8 X hy d hstk hw hc hs (fun H1 hx hl => kk _ H1 rfl hx hl)
theorem vv_indyA9 {K : C_} {y : MethodName} {cc : ByteArray} {nL : Nat} {ret : Option FieldType} {rm : Room} {D : DD} {A : Nat → Prop} {H : Heap} {cells slots : Nat} {Q : State → Prop} {lv : List (Nat × Value)} {st stk : List Value} {v0 : Int32} {v1 : Nat} (X : Fx K y cc nL ret rm D) (hy : y = ({ cls := "AcousticCamera", name := "contrast", desc := "()F" } : MethodName)) (d : decode cc 28 = .ok (.invokedynamic 315, 5)) (hstk : stk = .ref v1 :: .int v0 :: st) (hw : (stk.map fun v => v.category).sum + 3072 ≤ rm.locals) (hc : cells + 1 ≤ rm.cells) (hs : slots + 2 ≤ rm.slots) (kk : ∀ (a : Nat) (H1 : Heap), a = H.size → Ex H H1 → LO D H1 a 9 [.int v0, .ref v1] → V K nL A H1 (cells + 1) (slots + 2) Q 33 lv (.ref a :: st)) : V K nL A H cells slots Q 28 lv stk :=
  vv_indy9 X hy d hstk hw hc hs (fun H1 hx hl => kk _ H1 rfl hx hl)
theorem vv_indyA10 {K : C_} {y : MethodName} {cc : ByteArray} {nL : Nat} {ret : Option FieldType} {rm : Room} {D : DD} {A : Nat → Prop} {H : Heap} {cells slots : Nat} {Q : State → Prop} {lv : List (Nat × Value)} {st stk : List Value} {v0 : Nat} {v1 : Int32} {v2 : Int32} (X : Fx K y cc nL ret rm D) (hy : y = ({ cls := "AcousticCamera", name := "aliases", desc := "(II)I" } : MethodName)) (d : decode cc 20 = .ok (.invokedynamic 337, 5)) (hstk : stk = .int v2 :: .int v1 :: .ref v0 :: st) (hw : (stk.map fun v => v.category).sum + 3072 ≤ rm.locals) (hc : cells + 1 ≤ rm.cells) (hs : slots + 3 ≤ rm.slots) (kk : ∀ (a : Nat) (H1 : Heap), a = H.size → Ex H H1 → LO D H1 a 10 [.ref v0, .int v1, .int v2] → V K nL A H1 (cells + 1) (slots + 3) Q 25 lv (.ref a :: st)) : V K nL A H cells slots Q 20 lv stk :=
  vv_indy10 X hy d hstk hw hc hs (fun H1 hx hl => kk _ H1 rfl hx hl)
theorem vv_indyA11 {K : C_} {y : MethodName} {cc : ByteArray} {nL : Nat} {ret : Option FieldType} {rm : Room} {D : DD} {A : Nat → Prop} {H : Heap} {cells slots : Nat} {Q : State → Prop} {lv : List (Nat × Value)} {st stk : List Value} {v0 : Nat} {v1 : Int32} {v2 : Int32} (X : Fx K y cc nL ret rm D) (hy : y = ({ cls := "AcousticCamera$State", name := "blockBest", desc := "(II)I" } : MethodName)) (d : decode cc 10 = .ok (.invokedynamic 227, 5)) (hstk : stk = .int v2 :: .int v1 :: .ref v0 :: st) (hw : (stk.map fun v => v.category).sum + 3072 ≤ rm.locals) (hc : cells + 1 ≤ rm.cells) (hs : slots + 3 ≤ rm.slots) (kk : ∀ (a : Nat) (H1 : Heap), a = H.size → Ex H H1 → LO D H1 a 11 [.ref v0, .int v1, .int v2] → V K nL A H1 (cells + 1) (slots + 3) Q 15 lv (.ref a :: st)) : V K nL A H cells slots Q 10 lv stk :=
  vv_indy11 X hy d hstk hw hc hs (fun H1 hx hl => kk _ H1 rfl hx hl)
theorem vv_indyA12 {K : C_} {y : MethodName} {cc : ByteArray} {nL : Nat} {ret : Option FieldType} {rm : Room} {D : DD} {A : Nat → Prop} {H : Heap} {cells slots : Nat} {Q : State → Prop} {lv : List (Nat × Value)} {st stk : List Value} {v0 : Nat} (X : Fx K y cc nL ret rm D) (hy : y = ({ cls := "AcousticCamera", name := "trackScore", desc := "(I)J" } : MethodName)) (d : decode cc 20 = .ok (.invokedynamic 360, 5)) (hstk : stk = .ref v0 :: st) (hw : (stk.map fun v => v.category).sum + 3072 ≤ rm.locals) (hc : cells + 1 ≤ rm.cells) (hs : slots + 1 ≤ rm.slots) (kk : ∀ (a : Nat) (H1 : Heap), a = H.size → Ex H H1 → LO D H1 a 12 [.ref v0] → V K nL A H1 (cells + 1) (slots + 1) Q 25 lv (.ref a :: st)) : V K nL A H cells slots Q 20 lv stk :=
  vv_indy12 X hy d hstk hw hc hs (fun H1 hx hl => kk _ H1 rfl hx hl)
theorem vv_indyA13 {K : C_} {y : MethodName} {cc : ByteArray} {nL : Nat} {ret : Option FieldType} {rm : Room} {D : DD} {A : Nat → Prop} {H : Heap} {cells slots : Nat} {Q : State → Prop} {lv : List (Nat × Value)} {st stk : List Value} {v0 : Nat} (X : Fx K y cc nL ret rm D) (hy : y = ({ cls := "AcousticCamera", name := "trackCell", desc := "(II)I" } : MethodName)) (d : decode cc 35 = .ok (.invokedynamic 363, 5)) (hstk : stk = .ref v0 :: st) (hw : (stk.map fun v => v.category).sum + 3072 ≤ rm.locals) (hc : cells + 1 ≤ rm.cells) (hs : slots + 1 ≤ rm.slots) (kk : ∀ (a : Nat) (H1 : Heap), a = H.size → Ex H H1 → LO D H1 a 13 [.ref v0] → V K nL A H1 (cells + 1) (slots + 1) Q 40 lv (.ref a :: st)) : V K nL A H cells slots Q 35 lv stk :=
  vv_indy13 X hy d hstk hw hc hs (fun H1 hx hl => kk _ H1 rfl hx hl)
theorem vv_indyA14 {K : C_} {y : MethodName} {cc : ByteArray} {nL : Nat} {ret : Option FieldType} {rm : Room} {D : DD} {A : Nat → Prop} {H : Heap} {cells slots : Nat} {Q : State → Prop} {lv : List (Nat × Value)} {st stk : List Value} {v0 : Nat} {v1 : Int32} {v2 : Int32} {v3 : Int32} {v4 : Int32} (X : Fx K y cc nL ret rm D) (hy : y = ({ cls := "AcousticCamera", name := "bestVelocity", desc := "(III)I" } : MethodName)) (d : decode cc 58 = .ok (.invokedynamic 376, 5)) (hstk : stk = .int v4 :: .int v3 :: .int v2 :: .int v1 :: .ref v0 :: st) (hw : (stk.map fun v => v.category).sum + 3072 ≤ rm.locals) (hc : cells + 1 ≤ rm.cells) (hs : slots + 5 ≤ rm.slots) (kk : ∀ (a : Nat) (H1 : Heap), a = H.size → Ex H H1 → LO D H1 a 14 [.ref v0, .int v1, .int v2, .int v3, .int v4] → V K nL A H1 (cells + 1) (slots + 5) Q 63 lv (.ref a :: st)) : V K nL A H cells slots Q 58 lv stk :=
  vv_indy14 X hy d hstk hw hc hs (fun H1 hx hl => kk _ H1 rfl hx hl)
theorem vv_indyA15 {K : C_} {y : MethodName} {cc : ByteArray} {nL : Nat} {ret : Option FieldType} {rm : Room} {D : DD} {A : Nat → Prop} {H : Heap} {cells slots : Nat} {Q : State → Prop} {lv : List (Nat × Value)} {st stk : List Value} {v0 : Nat} {v1 : Int32} {v2 : Int32} (X : Fx K y cc nL ret rm D) (hy : y = ({ cls := "AcousticCamera", name := "bestLag", desc := "(III)I" } : MethodName)) (d : decode cc 23 = .ok (.invokedynamic 385, 5)) (hstk : stk = .int v2 :: .int v1 :: .ref v0 :: st) (hw : (stk.map fun v => v.category).sum + 3072 ≤ rm.locals) (hc : cells + 1 ≤ rm.cells) (hs : slots + 3 ≤ rm.slots) (kk : ∀ (a : Nat) (H1 : Heap), a = H.size → Ex H H1 → LO D H1 a 15 [.ref v0, .int v1, .int v2] → V K nL A H1 (cells + 1) (slots + 3) Q 28 lv (.ref a :: st)) : V K nL A H cells slots Q 23 lv stk :=
  vv_indy15 X hy d hstk hw hc hs (fun H1 hx hl => kk _ H1 rfl hx hl)
theorem vv_indyA17 {K : C_} {y : MethodName} {cc : ByteArray} {nL : Nat} {ret : Option FieldType} {rm : Room} {D : DD} {A : Nat → Prop} {H : Heap} {cells slots : Nat} {Q : State → Prop} {lv : List (Nat × Value)} {st stk : List Value} {v0 : Nat} (X : Fx K y cc nL ret rm D) (hy : y = ({ cls := "AcousticCamera", name := "loudest", desc := "(I)I" } : MethodName)) (d : decode cc 17 = .ok (.invokedynamic 394, 5)) (hstk : stk = .ref v0 :: st) (hw : (stk.map fun v => v.category).sum + 3072 ≤ rm.locals) (hc : cells + 1 ≤ rm.cells) (hs : slots + 1 ≤ rm.slots) (kk : ∀ (a : Nat) (H1 : Heap), a = H.size → Ex H H1 → LO D H1 a 17 [.ref v0] → V K nL A H1 (cells + 1) (slots + 1) Q 22 lv (.ref a :: st)) : V K nL A H cells slots Q 17 lv stk :=
  vv_indy17 X hy d hstk hw hc hs (fun H1 hx hl => kk _ H1 rfl hx hl)
/-- calls of a score's object: k < n answers sc k -/
def SCO (l : Launch) (D : DD) (a : Nat) (rm2 : Room) (Inv : Heap → Prop) (A2 : Nat → Prop) (n : Nat) (sc : Nat → Int64) : Prop :=
  ∀ {K : C_} {y : MethodName} {cc : ByteArray} {nL : Nat} {ret : Option FieldType} {rm : Room} {A : Nat → Prop} {H : Heap} {cells slots : Nat} {Q : State → Prop} {pc : Nat} {lv : List (Nat × Value)} {st : List Value} {idx cnt k : Nat}, k < n → Fx K y cc nL ret rm D → kL K = l → Cond.methodLink y.cls idx ⟨"AcousticCamera$Score", "of", "(I)J"⟩ ∈ lw_all → (rm2.frames + 2 ≤ rm.frames ∧ 60 + rm2.locals ≤ rm.locals) → decode cc pc = .ok (.invokeinterface idx cnt, 5) → (st.map fun v => v.category).sum ≤ 8 → Inv H → (∀ q, A2 q → kF K A q) → (cells + rm2.cells ≤ rm.cells ∧ slots + rm2.slots ≤ rm.slots) →
    (∀ H1 : Heap, Inv H1 → H.size ≤ H1.size → (∀ q : Nat, q < H.size → ¬ A2 q → H1[q]? = H[q]?) → V K nL A H1 (cells + rm2.cells) (slots + rm2.slots) Q (pc + 5) lv (.long (sc k) :: st)) → V K nL A H cells slots Q pc lv (.int (nI k) :: .ref a :: st)
def CHO (l : Launch) (D : DD) (a : Nat) (rm2 : Room) (Inv : Heap → Prop) (A2 : Nat → Prop) (n : Nat) (p : Nat → Bool) : Prop :=
  ∀ {K : C_} {y : MethodName} {cc : ByteArray} {nL : Nat} {ret : Option FieldType} {rm : Room} {A : Nat → Prop} {H : Heap} {cells slots : Nat} {Q : State → Prop} {pc : Nat} {lv : List (Nat × Value)} {st : List Value} {idx cnt k : Nat}, k < n → Fx K y cc nL ret rm D → kL K = l → Cond.methodLink y.cls idx ⟨"AcousticCamera$Choice", "takes", "(I)Z"⟩ ∈ lw_all → (rm2.frames + 2 ≤ rm.frames ∧ 60 + rm2.locals ≤ rm.locals) → decode cc pc = .ok (.invokeinterface idx cnt, 5) → (st.map fun v => v.category).sum ≤ 8 → Inv H → (∀ q, A2 q → kF K A q) → (cells + rm2.cells ≤ rm.cells ∧ slots + rm2.slots ≤ rm.slots) →
    (∀ H1 : Heap, Inv H1 → H.size ≤ H1.size → (∀ q : Nat, q < H.size → ¬ A2 q → H1[q]? = H[q]?) → V K nL A H1 (cells + rm2.cells) (slots + rm2.slots) Q (pc + 5) lv (.int (b2 (p k = true)) :: st)) → V K nL A H cells slots Q pc lv (.int (nI k) :: .ref a :: st)
def cnt (p : Nat → Bool) (n : Nat) : Nat := fo (fun k a => a + (if p k = true then 1 else 0)) n 0
theorem cnt_le (p : Nat → Bool) : ∀ n, cnt p n ≤ n := by
  intro n
  induction n with
  | zero => exact Nat.le_refl _
  | succ n ih =>
    show cnt p n + (if p n = true then 1 else 0) ≤ n + 1
    split <;> omega
theorem nX1_count : notMH yX1_count 2 := by decide +kernel
set_option maxHeartbeats 800000 in
theorem mX1_count (l : Launch) (D : DD) (a n : Nat) (rm2 : Room) (Inv : Heap → Prop) (A2 : Nat → Prop) (p : Nat → Bool) (hn : n ≤ 1000) (hS : CHO l D a rm2 Inv A2 n p) : Ct l yX1_count cX1_count 4 (some .int) { frames := rm2.frames + 2, cells := n * rm2.cells, slots := n * rm2.slots, locals := 60 + rm2.locals } D [.int (nI n), .ref a] (fun H => Inv H) A2 (fun r H H1 => r = some (.int (nI (cnt p n))) ∧ Inv H1) := by
  refine Ct.of (by decide +kernel) (Nat.le_of_ble_eq_true rfl) (fun K Qf hkl X hM hQ => ?_)
  subst hkl
  have hI := hM
  have hz : (kS K).heap.size ≤ (kS K).heap.size := Nat.le_refl _
  have hcc : ∀ i, i < n → i * rm2.cells + rm2.cells ≤ n * rm2.cells := fun i hi => by rw [← Nat.succ_mul]; exact Nat.mul_le_mul_right _ hi
  have hss : ∀ i, i < n → i * rm2.slots + rm2.slots ≤ n * rm2.slots := fun i hi => by rw [← Nat.succ_mul]; exact Nat.mul_le_mul_right _ hi
  have hr1 : rm2.frames + 2 ≤ rm2.frames + 2 := Nat.le_refl _
  have hr2 : 60 + rm2.locals ≤ 60 + rm2.locals := Nat.le_refl _
  refine vv_sub (lv' := [(0, .int (nI n)), (1, .ref a)]) [0, 1] rfl ?_
  refine vv_iconst (v := nI 0) X dX1_count_0 (by decide) ?_
  refine vv_istore_n (lv' := [(2, .int (nI 0)), (0, .int (nI n)), (1, .ref a)]) X dX1_count_1 rfl (by decide) rfl ?_
  refine vv_iconst (v := nI 0) X dX1_count_2 (by decide) ?_
  refine vv_istore_n (lv' := [(3, .int (nI 0)), (2, .int (nI 0)), (0, .int (nI n)), (1, .ref a)]) X dX1_count_3 rfl (by decide) rfl ?_
  have hx_1 : ∀ (H : Heap) (c : Nat) (hI : Inv H) (hc : c = cnt p n), V K 4 A2 H (n * rm2.cells) (n * rm2.slots) Qf 33 [(0, .int (nI n)), (1, .ref a), (2, .int (nI c)), (3, .int (nI n))] [] := by
    intro H c hI hc
    refine vv_iload_n X dX1_count_33 rfl 2 rfl ?_
    exact vv_iret X hQ dX1_count_34 (Nat.le_refl _) (Nat.le_refl _) (⟨by rw [hc], hI⟩)
  have hl_2 : ∀ (n_i i : Nat) (H : Heap) (c : Nat), i + n_i = n → (Inv H) → (c = cnt p i) → V K 4 A2 H (i * rm2.cells) (i * rm2.slots) Qf 4 [(0, .int (nI n)), (1, .ref a), (2, .int (nI c)), (3, .int (nI i))] [] := by
    intro n_i
    induction n_i with
    | zero =>
      intro i H c hi hI hc
      obtain rfl : n = i := by omega
      have hcl := cnt_le p n
      refine vv_iload_n X dX1_count_4 rfl 3 rfl ?_
      refine vv_iload_n X dX1_count_5 rfl 0 rfl ?_
      refine vn_ge (tgt := 33) X (by omega) (by omega) dX1_count_6 (by decide) (fun c_6 => ?_) (fun c_6 => ?_)
      · exact hx_1 H c hI hc
      · exact absurd c_6 (by omega)
    | succ n_i ihi =>
      intro i H c hi hI hc
      have hcl := cnt_le p i
      refine vv_iload_n X dX1_count_4 rfl 3 rfl ?_
      refine vv_iload_n X dX1_count_5 rfl 0 rfl ?_
      refine vn_ge (tgt := 33) X (by omega) (by omega) dX1_count_6 (by decide) (fun c_6 => ?_) (fun c_6 => ?_)
      · exact absurd hi (by omega)
      · refine vv_iload_n X dX1_count_9 rfl 2 rfl ?_
        refine vv_aload_n X dX1_count_10 rfl 1 rfl ?_
        refine vv_iload_n X dX1_count_11 rfl 3 rfl ?_
        refine hS (k := i) (by omega) X rfl q2038 ⟨hr1, hr2⟩ dX1_count_12 (Nat.le_of_ble_eq_true rfl) hI (fun _ z => Or.inl z) ⟨hcc i (by omega), hss i (by omega)⟩ (fun H hI2 hz_ hk => ?_)
        clear hI hk hz_
        have hI := hI2
        clear hI2
        refine vb_eq (tgt := 24) X dX1_count_17 (by decide) (fun c_17 => ?_) (fun c_17 => ?_)
        · refine vv_iconst (v := nI 0) X dX1_count_24 (by decide) ?_
          refine vn_add X dX1_count_25 ?_
          refine vv_istore_n (lv' := [(2, .int (nI (c + 0))), (0, .int (nI n)), (1, .ref a), (3, .int (nI i))]) X dX1_count_26 rfl (by decide) rfl ?_
          refine vv_iinc (v := nI (i + 1)) (lv' := [(3, .int (nI (i + 1))), (2, .int (nI (c + 0))), (0, .int (nI n)), (1, .ref a)]) X dX1_count_27 (k := 3) rfl (nI_add _ 1) (by decide) rfl ?_
          refine vv_goto (tgt := 4) X dX1_count_30 (by decide) ?_
          refine vv_sub [2, 3, 1, 0] rfl ?_
          refine vv_widen (k := (i + 1) * rm2.cells) (n := (i + 1) * rm2.slots) (Nat.le_of_eq (Nat.succ_mul i rm2.cells).symm) (Nat.le_of_eq (Nat.succ_mul i rm2.slots).symm) ?_
          exact ihi (i + 1) H (c + 0) (by omega) (hI) (by rw [hc]; show _ = cnt p i + (if p i = true then 1 else 0); rw [if_neg c_17])
        · refine vv_iconst (v := nI 1) X dX1_count_20 (by decide) ?_
          refine vv_goto (tgt := 25) X dX1_count_21 (by decide) ?_
          refine vn_add X dX1_count_25 ?_
          refine vv_istore_n (lv' := [(2, .int (nI (c + 1))), (0, .int (nI n)), (1, .ref a), (3, .int (nI i))]) X dX1_count_26 rfl (by decide) rfl ?_
          refine vv_iinc (v := nI (i + 1)) (lv' := [(3, .int (nI (i + 1))), (2, .int (nI (c + 1))), (0, .int (nI n)), (1, .ref a)]) X dX1_count_27 (k := 3) rfl (nI_add _ 1) (by decide) rfl ?_
          refine vv_goto (tgt := 4) X dX1_count_30 (by decide) ?_
          refine vv_sub [2, 3, 1, 0] rfl ?_
          refine vv_widen (k := (i + 1) * rm2.cells) (n := (i + 1) * rm2.slots) (Nat.le_of_eq (Nat.succ_mul i rm2.cells).symm) (Nat.le_of_eq (Nat.succ_mul i rm2.slots).symm) ?_
          exact ihi (i + 1) H (c + 1) (by omega) (hI) (by rw [hc]; show _ = cnt p i + (if p i = true then 1 else 0); rw [if_pos c_17])
  refine vv_sub [2, 3, 1, 0] rfl ?_
  refine vv_widen (k := 0 * rm2.cells) (n := 0 * rm2.slots) (Nat.zero_le _) (Nat.zero_le _) ?_
  exact hl_2 (n) 0 ((kS K).heap) 0 (by first | omega | assumption) (hI) (rfl)
theorem nX1_best_2 : notMH yX1_best_2 2 := by decide +kernel
set_option maxHeartbeats 800000 in
theorem mX1_best_2 (l : Launch) (D : DD) (a n : Nat) (rm2 : Room) (Inv : Heap → Prop) (A2 : Nat → Prop) (sc : Nat → Int64) (hn : n ≤ 1000) (hn1 : 0 < n) (hS : SCO l D a rm2 Inv A2 n sc) : Ct l yX1_best_2 cX1_best_2 8 (some .int) { frames := rm2.frames + 2, cells := n * rm2.cells, slots := n * rm2.slots, locals := 60 + rm2.locals } D [.int (nI n), .ref a] (fun H => Inv H) A2 (fun r H H1 => r = some (.int (nI (bsN sc n))) ∧ Inv H1) := by
  refine Ct.of (by decide +kernel) (Nat.le_of_ble_eq_true rfl) (fun K Qf hkl X hM hQ => ?_)
  subst hkl
  have hI := hM
  have hz : (kS K).heap.size ≤ (kS K).heap.size := Nat.le_refl _
  have hcc : ∀ i, i < n → i * rm2.cells + rm2.cells ≤ n * rm2.cells := fun i hi => by rw [← Nat.succ_mul]; exact Nat.mul_le_mul_right _ hi
  have hss : ∀ i, i < n → i * rm2.slots + rm2.slots ≤ n * rm2.slots := fun i hi => by rw [← Nat.succ_mul]; exact Nat.mul_le_mul_right _ hi
  have hr1 : rm2.frames + 2 ≤ rm2.frames + 2 := Nat.le_refl _
  have hr2 : 60 + rm2.locals ≤ 60 + rm2.locals := Nat.le_refl _
  have hbn := @bsN_lt sc n hn1
  refine vv_sub (lv' := [(0, .int (nI n)), (1, .ref a)]) [0, 1] rfl ?_
  refine vv_iconst (v := nI 0) X dX1_best_2_0 (by decide) ?_
  refine vv_istore_n (lv' := [(2, .int (nI 0)), (0, .int (nI n)), (1, .ref a)]) X dX1_best_2_1 rfl (by decide) rfl ?_
  refine vv_aload_n X dX1_best_2_2 rfl 2 rfl ?_
  refine vv_iconst (v := nI 0) X dX1_best_2_3 (by decide) ?_
  refine hS (k := 0) (hn1) X rfl q2004 ⟨hr1, hr2⟩ dX1_best_2_4 (Nat.le_of_ble_eq_true rfl) hI (fun _ z => Or.inl z) ⟨by have := hcc 0 hn1; show 0 + rm2.cells ≤ n * rm2.cells; omega, by have := hss 0 hn1; show 0 + rm2.slots ≤ n * rm2.slots; omega⟩ (fun H hI2 hz_ hk => ?_)
  clear hI hk hz_
  have hI := hI2
  clear hI2
  refine vv_lstore_n (lv' := [(3, .long (sc 0)), (2, .int (nI 0)), (0, .int (nI n)), (1, .ref a)]) X dX1_best_2_9 rfl (by decide) rfl ?_
  refine vv_iconst (v := nI 1) X dX1_best_2_10 (by decide) ?_
  refine vv_istore (lv' := [(5, .int (nI 1)), (3, .long (sc 0)), (2, .int (nI 0)), (0, .int (nI n)), (1, .ref a)]) X dX1_best_2_11 (by decide) rfl ?_
  have hx_1 : ∀ (H : Heap) (b : Nat) (m : Int64) (hI : Inv H) (hb : b = fo (bs1 sc) (n - 1) 0) (hm : m = sc b), V K 8 A2 H (((n - 1) + 1) * rm2.cells) (((n - 1) + 1) * rm2.slots) Qf 51 [(0, .int (nI n)), (1, .ref a), (2, .int (nI b)), (3, .long (m)), (5, .int (nI ((n - 1) + 1)))] [] := by
    intro H b m hI hb hm
    refine vv_iload_n X dX1_best_2_51 rfl 2 rfl ?_
    exact vv_iret X hQ dX1_best_2_52 (by show (n - 1 + 1) * rm2.cells ≤ n * rm2.cells; rw [Nat.sub_add_cancel hn1]; exact Nat.le_refl _) (by show (n - 1 + 1) * rm2.slots ≤ n * rm2.slots; rw [Nat.sub_add_cancel hn1]; exact Nat.le_refl _) (⟨by rw [hb]; rfl, hI⟩)
  have hl_2 : ∀ (n_i i : Nat) (H : Heap) (b : Nat) (m : Int64), i + n_i = n - 1 → (Inv H) → (b = fo (bs1 sc) i 0) → (m = sc b) → V K 8 A2 H ((i + 1) * rm2.cells) ((i + 1) * rm2.slots) Qf 13 [(0, .int (nI n)), (1, .ref a), (2, .int (nI b)), (3, .long (m)), (5, .int (nI (i + 1)))] [] := by
    intro n_i
    induction n_i with
    | zero =>
      intro i H b m hi hI hb hm
      obtain rfl : i = n - 1 := by omega
      refine vv_iload X dX1_best_2_13 4 rfl ?_
      refine vv_iload_n X dX1_best_2_15 rfl 0 rfl ?_
      refine vn_ge (tgt := 51) X (by omega) (by omega) dX1_best_2_16 (by decide) (fun c_16 => ?_) (fun c_16 => ?_)
      · exact hx_1 H b m hI hb hm
      · exact absurd c_16 (by omega)
    | succ n_i ihi =>
      intro i H b m hi hI hb hm
      refine vv_iload X dX1_best_2_13 4 rfl ?_
      refine vv_iload_n X dX1_best_2_15 rfl 0 rfl ?_
      refine vn_ge (tgt := 51) X (by omega) (by omega) dX1_best_2_16 (by decide) (fun c_16 => ?_) (fun c_16 => ?_)
      · exact absurd hi (by omega)
      · refine vv_aload_n X dX1_best_2_19 rfl 1 rfl ?_
        refine vv_iload X dX1_best_2_20 4 rfl ?_
        refine hS (k := i + 1) (by omega) X rfl q2004 ⟨hr1, hr2⟩ dX1_best_2_22 (Nat.le_of_ble_eq_true rfl) hI (fun _ z => Or.inl z) ⟨hcc (i + 1) (by omega), hss (i + 1) (by omega)⟩ (fun H hI2 hz_ hk => ?_)
        clear hI hk hz_
        have hI := hI2
        clear hI2
        refine vv_lstore (lv' := [(6, .long (sc (i + 1))), (0, .int (nI n)), (1, .ref a), (2, .int (nI b)), (3, .long (m)), (5, .int (nI (i + 1)))]) X dX1_best_2_27 (by decide) rfl ?_
        refine vv_lload X dX1_best_2_29 0 rfl ?_
        refine vv_lload_n X dX1_best_2_31 rfl 4 rfl ?_
        refine vv_lcmp X dX1_best_2_32 ?_
        refine vz_gt (tgt := 39) X dX1_best_2_33 (by decide) (fun c_33 => ?_) (fun c_33 => ?_)
        · refine vv_iload X dX1_best_2_39 5 rfl ?_
          refine vv_istore_n (lv' := [(2, .int (nI (i + 1))), (6, .long (sc (i + 1))), (0, .int (nI n)), (1, .ref a), (3, .long (m)), (5, .int (nI (i + 1)))]) X dX1_best_2_41 rfl (by decide) rfl ?_
          refine vv_lload X dX1_best_2_42 1 rfl ?_
          refine vv_lstore_n (lv' := [(3, .long (sc (i + 1))), (2, .int (nI (i + 1))), (6, .long (sc (i + 1))), (0, .int (nI n)), (1, .ref a), (5, .int (nI (i + 1)))]) X dX1_best_2_44 rfl (by decide) rfl ?_
          refine vv_iinc (v := nI ((i + 1) + 1)) (lv' := [(5, .int (nI ((i + 1) + 1))), (3, .long (sc (i + 1))), (2, .int (nI (i + 1))), (6, .long (sc (i + 1))), (0, .int (nI n)), (1, .ref a)]) X dX1_best_2_45 (k := 5) rfl (nI_add _ 1) (by decide) rfl ?_
          refine vv_goto (tgt := 13) X dX1_best_2_48 (by decide) ?_
          refine vv_sub [4, 5, 2, 1, 0] rfl ?_
          refine vv_widen (k := (i + 1 + 1) * rm2.cells) (n := (i + 1 + 1) * rm2.slots) (Nat.le_of_eq (Nat.succ_mul (i + 1) rm2.cells).symm) (Nat.le_of_eq (Nat.succ_mul (i + 1) rm2.slots).symm) ?_
          exact ihi (i + 1) H (i + 1) (sc (i + 1)) (by omega) (hI) (by rw [hm] at c_33; subst hb; exact (if_pos c_33).symm) (rfl)
        · refine vv_goto (tgt := 45) X dX1_best_2_36 (by decide) ?_
          refine vv_iinc (v := nI ((i + 1) + 1)) (lv' := [(5, .int (nI ((i + 1) + 1))), (6, .long (sc (i + 1))), (0, .int (nI n)), (1, .ref a), (2, .int (nI b)), (3, .long (m))]) X dX1_best_2_45 (k := 5) rfl (nI_add _ 1) (by decide) rfl ?_
          refine vv_goto (tgt := 13) X dX1_best_2_48 (by decide) ?_
          refine vv_sub [2, 3, 4, 5, 0] rfl ?_
          refine vv_widen (k := (i + 1 + 1) * rm2.cells) (n := (i + 1 + 1) * rm2.slots) (Nat.le_of_eq (Nat.succ_mul (i + 1) rm2.cells).symm) (Nat.le_of_eq (Nat.succ_mul (i + 1) rm2.slots).symm) ?_
          exact ihi (i + 1) H b m (by omega) (hI) (by rw [hm] at c_33; subst hb; exact (if_neg (Int64.not_lt.mpr c_33)).symm) (hm)
  refine vv_sub [3, 4, 2, 1, 0] rfl ?_
  refine vv_widen (k := (0 + 1) * rm2.cells) (n := (0 + 1) * rm2.slots) (by omega) (by omega) ?_
  exact hl_2 (n - 1) 0 H 0 (sc 0) (by first | omega | assumption) (hI) (rfl) (rfl)
