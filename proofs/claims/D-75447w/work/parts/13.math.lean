/-! Math at V; folds; small lemmas -/
set_option maxRecDepth 100000
section MTH
variable {K : C_} {y : MethodName} {cc : ByteArray} {nL : Nat} {ret : Option FieldType} {rm : Room} {D : DD} {A : Nat → Prop} {H : Heap} {cells slots : Nat} {Q : State → Prop} {pc : Nat} {lv : List (Nat × Value)} {rest : List Value} {idx : Nat}
theorem vv_mmax (X : Fx K y cc nL ret rm D) (q1 : Cond.methodLink y.cls idx ⟨"java/lang/Math", "max", "(II)I"⟩ ∈ lw_all) (hf : 1 ≤ rm.frames) (hl : (rest.map fun v => v.category).sum + 13 ≤ rm.locals) (hc : cells ≤ rm.cells) (hs : slots ≤ rm.slots) {x z : Int32} (d : decode cc pc = .ok (.invokestatic idx, 3)) (kk : V K nL A H cells slots Q (pc + 3) lv (.int (if x < z then z else x) :: rest)) : V K nL A H cells slots Q pc lv (.int z :: .int x :: rest) :=
  fun L ls hS h0 => va_mmax X.exec X.code (X.maxL.trans h0.1.symm) X.own (X.words _ q1) (X.words _ q534) (X.words _ q157) (X.words _ q535) (by rw [X.room]; exact hf) (by rw [X.room]; exact hl) (by rw [X.room]; exact hc) (by rw [X.room]; exact hs) d (kk L ls hS h0)
theorem vv_mmin (X : Fx K y cc nL ret rm D) (q1 : Cond.methodLink y.cls idx ⟨"java/lang/Math", "min", "(II)I"⟩ ∈ lw_all) (hf : 1 ≤ rm.frames) (hl : (rest.map fun v => v.category).sum + 13 ≤ rm.locals) (hc : cells ≤ rm.cells) (hs : slots ≤ rm.slots) {x z : Int32} (d : decode cc pc = .ok (.invokestatic idx, 3)) (kk : V K nL A H cells slots Q (pc + 3) lv (.int (if z < x then z else x) :: rest)) : V K nL A H cells slots Q pc lv (.int z :: .int x :: rest) :=
  fun L ls hS h0 => va_mmin X.exec X.code (X.maxL.trans h0.1.symm) X.own (X.words _ q1) (X.words _ q552) (X.words _ q157) (X.words _ q553) (by rw [X.room]; exact hf) (by rw [X.room]; exact hl) (by rw [X.room]; exact hc) (by rw [X.room]; exact hs) d (kk L ls hS h0)
theorem vv_mabs (X : Fx K y cc nL ret rm D) (q1 : Cond.methodLink y.cls idx ⟨"java/lang/Math", "abs", "(I)I"⟩ ∈ lw_all) (hf : 1 ≤ rm.frames) (hl : (rest.map fun v => v.category).sum + 13 ≤ rm.locals) (hc : cells ≤ rm.cells) (hs : slots ≤ rm.slots) {x : Int32} (d : decode cc pc = .ok (.invokestatic idx, 3)) (kk : V K nL A H cells slots Q (pc + 3) lv (.int (if 0 ≤ x then x else 0 - x) :: rest)) : V K nL A H cells slots Q pc lv (.int x :: rest) :=
  fun L ls hS h0 => va_mabs X.exec X.code (X.maxL.trans h0.1.symm) X.own (X.words _ q1) (X.words _ q1378) (X.words _ q157) (X.words _ q1379) (by rw [X.room]; exact hf) (by rw [X.room]; exact hl) (by rw [X.room]; exact hc) (by rw [X.room]; exact hs) d (kk L ls hS h0)
theorem nI_max {a b : Nat} (ha : a < 2 ^ 31) (hb : b < 2 ^ 31) : (if nI a < nI b then nI b else nI a) = nI (max a b) := by
  by_cases h : a < b
  · rw [if_pos (nI_lt h hb), Nat.max_eq_right (Nat.le_of_lt h)]
  · rw [if_neg (nI_nlt (by omega) ha), Nat.max_eq_left (by omega)]
theorem nI_min {a b : Nat} (ha : a < 2 ^ 31) (hb : b < 2 ^ 31) : (if nI b < nI a then nI b else nI a) = nI (min a b) := by
  by_cases h : b < a
  · rw [if_pos (nI_lt h ha), Nat.min_eq_right (Nat.le_of_lt h)]
  · rw [if_neg (nI_nlt (by omega) hb), Nat.min_eq_left (by omega)]
theorem nI_max0 {a b : Nat} (ha : a < 2 ^ 31) (hb : b < 2 ^ 31) : (if nI 0 < nI a - nI b then nI a - nI b else nI 0) = nI (a - b) := by
  by_cases h : b ≤ a
  · rw [pk_sub h]
    by_cases h0 : 0 < a - b
    · rw [if_pos (nI_lt h0 (by omega))]
    · rw [if_neg (nI_nlt (by omega) (by omega)), show a - b = 0 by omega]
  · rw [if_neg, show a - b = 0 by omega]
    rw [Int32.lt_iff_toInt_lt, nI_toInt (by omega)]
    have : (nI a - nI b).toInt = (a : Int) - b := by
      rw [Int32.toInt_sub, nI_toInt ha, nI_toInt hb]
      exact Int.bmod_eq_of_le (by omega) (by omega)
    omega
theorem vn_max (X : Fx K y cc nL ret rm D) (q1 : Cond.methodLink y.cls idx ⟨"java/lang/Math", "max", "(II)I"⟩ ∈ lw_all) (hf : 1 ≤ rm.frames) (hl : (rest.map fun v => v.category).sum + 13 ≤ rm.locals) (hc : cells ≤ rm.cells) (hs : slots ≤ rm.slots) {a b : Nat} (ha : a < 2 ^ 31) (hb : b < 2 ^ 31) (d : decode cc pc = .ok (.invokestatic idx, 3)) (kk : V K nL A H cells slots Q (pc + 3) lv (.int (nI (max a b)) :: rest)) : V K nL A H cells slots Q pc lv (.int (nI b) :: .int (nI a) :: rest) :=
  vv_mmax X q1 hf hl hc hs d (by rw [nI_max ha hb]; exact kk)
theorem vn_min (X : Fx K y cc nL ret rm D) (q1 : Cond.methodLink y.cls idx ⟨"java/lang/Math", "min", "(II)I"⟩ ∈ lw_all) (hf : 1 ≤ rm.frames) (hl : (rest.map fun v => v.category).sum + 13 ≤ rm.locals) (hc : cells ≤ rm.cells) (hs : slots ≤ rm.slots) {a b : Nat} (ha : a < 2 ^ 31) (hb : b < 2 ^ 31) (d : decode cc pc = .ok (.invokestatic idx, 3)) (kk : V K nL A H cells slots Q (pc + 3) lv (.int (nI (min a b)) :: rest)) : V K nL A H cells slots Q pc lv (.int (nI b) :: .int (nI a) :: rest) :=
  vv_mmin X q1 hf hl hc hs d (by rw [nI_min ha hb]; exact kk)
/-- max(0, a - b) -/
theorem vn_max0 (X : Fx K y cc nL ret rm D) (q1 : Cond.methodLink y.cls idx ⟨"java/lang/Math", "max", "(II)I"⟩ ∈ lw_all) (hf : 1 ≤ rm.frames) (hl : (rest.map fun v => v.category).sum + 13 ≤ rm.locals) (hc : cells ≤ rm.cells) (hs : slots ≤ rm.slots) {a b : Nat} (ha : a < 2 ^ 31) (hb : b < 2 ^ 31) (d : decode cc pc = .ok (.invokestatic idx, 3)) (kk : V K nL A H cells slots Q (pc + 3) lv (.int (nI (a - b)) :: rest)) : V K nL A H cells slots Q pc lv (.int (nI a - nI b) :: .int (nI 0) :: rest) :=
  vv_mmax X q1 hf hl hc hs d (by rw [nI_max0 ha hb]; exact kk)
end MTH
/-- from 0 to n - 1 -/
def fo {α : Type} (f : Nat → α → α) : Nat → α → α
  | 0, a => a
  | n + 1, a => f n (fo f n a)
theorem pq {v r : Int32} {H : Heap} (h : v = r) : some (Value.int v) = some (Value.int r) ∧ H = H := ⟨by rw [h], rfl⟩
theorem pql {v r : Int64} {H : Heap} (h : v = r) : some (Value.long v) = some (Value.long r) ∧ H = H := ⟨by rw [h], rfl⟩
/-- n places from a on hold g, the others f -/
def rng {α : Type} (f g : Nat → α) (a n : Nat) : Nat → α := fun i => if a ≤ i ∧ i < a + n then g i else f i
theorem rng_0 {α : Type} (f g : Nat → α) (a : Nat) : rng f g a 0 = f := by funext i; unfold rng; rw [if_neg (by omega)]
theorem rng_s {α : Type} (f g : Nat → α) (a n : Nat) {v : α} (h : v = g (a + n)) : va_up (rng f g a n) (a + n) v = rng f g a (n + 1) := by
  funext i
  subst h
  unfold va_up rng
  by_cases h : i = a + n
  · subst h; rw [if_pos rfl, if_pos (by omega)]
  · rw [if_neg h]
    by_cases h2 : a ≤ i ∧ i < a + n
    · rw [if_pos h2, if_pos (by omega)]
    · rw [if_neg h2, if_neg (by omega)]
theorem rng_in {α : Type} {f g : Nat → α} {a n i : Nat} (h : a ≤ i) (h2 : i < a + n) : rng f g a n i = g i := if_pos ⟨h, h2⟩
theorem rng_out {α : Type} {f g : Nat → α} {a n i : Nat} (h : i < a ∨ a + n ≤ i) : rng f g a n i = f i := if_neg (by omega)
theorem up_same {α : Type} (f : Nat → α) (k : Nat) : va_up f k (f k) = f := by funext j; unfold va_up; split <;> simp_all
theorem up_up {α : Type} (f : Nat → α) (k : Nat) (a b : α) : va_up (va_up f k a) k b = va_up f k b := by funext j; unfold va_up; split <;> rfl
theorem up_ne {α : Type} {f : Nat → α} {k j : Nat} {a : α} (h : j ≠ k) : va_up f k a j = f j := if_neg h
/-- a range check, whole -/
theorem inR {v : Int32} {N : Nat} (hN : N < 2 ^ 31) (h : (0 : Int32) ≤ v ∧ v ≤ nI N - 1) : ∃ j, j < N ∧ v = nI j := by
  obtain ⟨h1, h2⟩ := h
  rcases Nat.eq_zero_or_pos N with z | z
  · subst z
    have h3 : (0 : Int32) ≤ nI 0 - 1 := Int32.le_trans h1 h2
    exact absurd h3 (by decide)
  · have e : nI N - 1 = nI (N - 1) := by
      have := pk_sub (a := N) (b := 1) z
      exact this
    rw [e] at h2
    obtain ⟨j, hj, rfl⟩ := nI_of (x := v) (fun q => absurd h1 (by rw [Int32.not_le]; exact q))
    exact ⟨j, by have := (nI_leI hj (by omega)).mp h2; omega, rfl⟩
theorem inR_of {j N : Nat} (hN : N < 2 ^ 31) (h : j < N) : (0 : Int32) ≤ nI j ∧ nI j ≤ nI N - 1 := by
  have e : nI N - 1 = nI (N - 1) := pk_sub (a := N) (b := 1) (by omega)
  rw [e]
  exact ⟨nI_pos' (by omega), nI_le (by omega) (by omega)⟩
/-! longs compared -/
theorem lc_le {x z : Int64} : lg_cmp x z ≤ 0 ↔ x ≤ z := by
  unfold lg_cmp
  by_cases h1 : z < x
  · rw [if_pos h1]; exact ⟨fun q => absurd q (by decide), fun q => absurd h1 (Int64.not_lt.mpr q)⟩
  · rw [if_neg h1]
    by_cases h2 : x = z
    · rw [if_pos h2]; exact ⟨fun _ => Int64.not_lt.mp h1, fun _ => by decide⟩
    · rw [if_neg h2]; exact ⟨fun _ => Int64.not_lt.mp h1, fun _ => by decide⟩
theorem lc_ge {x z : Int64} : (0 : Int32) ≤ lg_cmp x z ↔ z ≤ x := by
  unfold lg_cmp
  by_cases h1 : z < x
  · rw [if_pos h1]; exact ⟨fun _ => Int64.le_of_lt h1, fun _ => by decide⟩
  · rw [if_neg h1]
    by_cases h2 : x = z
    · rw [if_pos h2]; exact ⟨fun _ => by rw [h2]; exact Int64.le_refl z, fun _ => by decide⟩
    · rw [if_neg h2]; exact ⟨fun q => absurd q (by decide), fun q => absurd (Int64.le_antisymm (Int64.not_lt.mp h1) q) h2⟩
theorem lc_eq {x z : Int64} : lg_cmp x z = 0 ↔ x = z := by
  unfold lg_cmp
  by_cases h1 : z < x
  · rw [if_pos h1]; exact ⟨fun q => absurd q (by decide), fun q => absurd h1 (by rw [q]; exact Int64.lt_irrefl)⟩
  · rw [if_neg h1]
    by_cases h2 : x = z
    · rw [if_pos h2]; exact ⟨fun _ => h2, fun _ => rfl⟩
    · rw [if_neg h2]; exact ⟨fun q => absurd q (by decide), fun q => absurd q h2⟩
section LCR
variable {K : C_} {y : MethodName} {cc : ByteArray} {nL : Nat} {ret : Option FieldType} {rm : Room} {D : DD} {A : Nat → Prop} {H : Heap} {cells slots : Nat} {Q : State → Prop} {pc : Nat} {lv : List (Nat × Value)} {rest : List Value} {off : Int} {tgt : Nat} {x z : Int64}
theorem vv_lcmp (X : Fx K y cc nL ret rm D) (d : decode cc pc = .ok (.lcmp, 1)) (kk : V K nL A H cells slots Q (pc + 1) lv (.int (lg_cmp x z) :: rest)) : V K nL A H cells slots Q pc lv (.long z :: .long x :: rest) := fun L ls hS h0 => W.lcmp X.exec X.code d (kk L ls hS h0)
theorem vz_le (X : Fx K y cc nL ret rm D) (d : decode cc pc = .ok (.ifCond .le off, 3)) (ht : (pc : Int) + off = (tgt : Int)) (kt : x ≤ z → V K nL A H cells slots Q tgt lv rest) (kf : z < x → V K nL A H cells slots Q (pc + 3) lv rest) : V K nL A H cells slots Q pc lv (.int (lg_cmp x z) :: rest) :=
  vv_if_le X d ht (fun c => kt (lc_le.mp c)) (fun c => kf (Int64.not_le.mp fun q => c (lc_le.mpr q)))
theorem vz_gt (X : Fx K y cc nL ret rm D) (d : decode cc pc = .ok (.ifCond .gt off, 3)) (ht : (pc : Int) + off = (tgt : Int)) (kt : z < x → V K nL A H cells slots Q tgt lv rest) (kf : x ≤ z → V K nL A H cells slots Q (pc + 3) lv rest) : V K nL A H cells slots Q pc lv (.int (lg_cmp x z) :: rest) :=
  vv_if_gt X d ht (fun c => kt (Int64.not_le.mp fun q => absurd (lc_le.mpr q) (Int32.not_le.mpr c))) (fun c => kf (lc_le.mp (Int32.not_lt.mp c)))
theorem vz_ge (X : Fx K y cc nL ret rm D) (d : decode cc pc = .ok (.ifCond .ge off, 3)) (ht : (pc : Int) + off = (tgt : Int)) (kt : z ≤ x → V K nL A H cells slots Q tgt lv rest) (kf : x < z → V K nL A H cells slots Q (pc + 3) lv rest) : V K nL A H cells slots Q pc lv (.int (lg_cmp x z) :: rest) :=
  vv_if_ge X d ht (fun c => kt (lc_ge.mp c)) (fun c => kf (Int64.not_le.mp fun q => c (lc_ge.mpr q)))
theorem vz_lt (X : Fx K y cc nL ret rm D) (d : decode cc pc = .ok (.ifCond .lt off, 3)) (ht : (pc : Int) + off = (tgt : Int)) (kt : x < z → V K nL A H cells slots Q tgt lv rest) (kf : z ≤ x → V K nL A H cells slots Q (pc + 3) lv rest) : V K nL A H cells slots Q pc lv (.int (lg_cmp x z) :: rest) :=
  vv_if_lt X d ht (fun c => kt (Int64.not_le.mp fun q => absurd (lc_ge.mpr q) (Int32.not_le.mpr c))) (fun c => kf (lc_ge.mp (Int32.not_lt.mp c)))
theorem vz_eq (X : Fx K y cc nL ret rm D) (d : decode cc pc = .ok (.ifCond .eq off, 3)) (ht : (pc : Int) + off = (tgt : Int)) (kt : x = z → V K nL A H cells slots Q tgt lv rest) (kf : ¬ x = z → V K nL A H cells slots Q (pc + 3) lv rest) : V K nL A H cells slots Q pc lv (.int (lg_cmp x z) :: rest) :=
  vv_if_eq X d ht (fun c => kt (lc_eq.mp c)) (fun c => kf fun q => c (lc_eq.mpr q))
theorem vz_ne (X : Fx K y cc nL ret rm D) (d : decode cc pc = .ok (.ifCond .ne off, 3)) (ht : (pc : Int) + off = (tgt : Int)) (kt : ¬ x = z → V K nL A H cells slots Q tgt lv rest) (kf : x = z → V K nL A H cells slots Q (pc + 3) lv rest) : V K nL A H cells slots Q pc lv (.int (lg_cmp x z) :: rest) :=
  vv_if_ne X d ht (fun c => kt fun q => c (lc_eq.mpr q)) (fun c => kf (lc_eq.mp c))
end LCR
section LNR
variable {K : C_} {y : MethodName} {cc : ByteArray} {nL : Nat} {ret : Option FieldType} {rm : Room} {D : DD} {A : Nat → Prop} {H : Heap} {cells slots : Nat} {Q : State → Prop} {pc : Nat} {lv : List (Nat × Value)} {rest : List Value} {off : Int} {tgt a b : Nat}
theorem vl_mul (X : Fx K y cc nL ret rm D) (d : decode cc pc = .ok (.lmul, 1)) (kk : V K nL A H cells slots Q (pc + 1) lv (.long (lN (a * b)) :: rest)) : V K nL A H cells slots Q pc lv (.long (lN b) :: .long (lN a) :: rest) := vv_lmul X d (by rw [lN_mul]; exact kk)
theorem vl_add (X : Fx K y cc nL ret rm D) (d : decode cc pc = .ok (.ladd, 1)) (kk : V K nL A H cells slots Q (pc + 1) lv (.long (lN (a + b)) :: rest)) : V K nL A H cells slots Q pc lv (.long (lN b) :: .long (lN a) :: rest) := vv_ladd X d (by rw [lN_add]; exact kk)
theorem vcn_le (X : Fx K y cc nL ret rm D) (ha : a < 2 ^ 63) (hb : b < 2 ^ 63) (d : decode cc pc = .ok (.ifCond .le off, 3)) (ht : (pc : Int) + off = (tgt : Int)) (kt : a ≤ b → V K nL A H cells slots Q tgt lv rest) (kf : b < a → V K nL A H cells slots Q (pc + 3) lv rest) : V K nL A H cells slots Q pc lv (.int (lg_cmp (lN a) (lN b)) :: rest) :=
  vz_le X d ht (fun c => kt ((pk_lLE ha hb).mp c)) (fun c => kf ((pk_lLT hb ha).mp c))
theorem vcn_gt (X : Fx K y cc nL ret rm D) (ha : a < 2 ^ 63) (hb : b < 2 ^ 63) (d : decode cc pc = .ok (.ifCond .gt off, 3)) (ht : (pc : Int) + off = (tgt : Int)) (kt : b < a → V K nL A H cells slots Q tgt lv rest) (kf : a ≤ b → V K nL A H cells slots Q (pc + 3) lv rest) : V K nL A H cells slots Q pc lv (.int (lg_cmp (lN a) (lN b)) :: rest) :=
  vz_gt X d ht (fun c => kt ((pk_lLT hb ha).mp c)) (fun c => kf ((pk_lLE ha hb).mp c))
theorem vcn_lt (X : Fx K y cc nL ret rm D) (ha : a < 2 ^ 63) (hb : b < 2 ^ 63) (d : decode cc pc = .ok (.ifCond .lt off, 3)) (ht : (pc : Int) + off = (tgt : Int)) (kt : a < b → V K nL A H cells slots Q tgt lv rest) (kf : b ≤ a → V K nL A H cells slots Q (pc + 3) lv rest) : V K nL A H cells slots Q pc lv (.int (lg_cmp (lN a) (lN b)) :: rest) :=
  vz_lt X d ht (fun c => kt ((pk_lLT ha hb).mp c)) (fun c => kf ((pk_lLE hb ha).mp c))
theorem vcn_ge (X : Fx K y cc nL ret rm D) (ha : a < 2 ^ 63) (hb : b < 2 ^ 63) (d : decode cc pc = .ok (.ifCond .ge off, 3)) (ht : (pc : Int) + off = (tgt : Int)) (kt : b ≤ a → V K nL A H cells slots Q tgt lv rest) (kf : a < b → V K nL A H cells slots Q (pc + 3) lv rest) : V K nL A H cells slots Q pc lv (.int (lg_cmp (lN a) (lN b)) :: rest) :=
  vz_ge X d ht (fun c => kt ((pk_lLE hb ha).mp c)) (fun c => kf ((pk_lLT ha hb).mp c))
end LNR
section LNS
variable {K : C_} {y : MethodName} {cc : ByteArray} {nL : Nat} {ret : Option FieldType} {rm : Room} {D : DD} {A : Nat → Prop} {H : Heap} {cells slots : Nat} {Q : State → Prop} {pc : Nat} {lv : List (Nat × Value)} {rest : List Value} {off : Int} {tgt a b : Nat}
theorem vn_if_ge (X : Fx K y cc nL ret rm D) (ha : a < 2 ^ 31) (d : decode cc pc = .ok (.ifCond .ge off, 3)) (ht : (pc : Int) + off = (tgt : Int)) (kt : V K nL A H cells slots Q tgt lv rest) : V K nL A H cells slots Q pc lv (.int (nI a) :: rest) := vv_if_ge X d ht (fun _ => kt) (fun c => absurd (nI_pos' ha) c)
theorem vn_if_lt (X : Fx K y cc nL ret rm D) (ha : a < 2 ^ 31) (d : decode cc pc = .ok (.ifCond .lt off, 3)) (ht : (pc : Int) + off = (tgt : Int)) (kf : V K nL A H cells slots Q (pc + 3) lv rest) : V K nL A H cells slots Q pc lv (.int (nI a) :: rest) := vv_if_lt X d ht (fun c => absurd c (nI_pos ha)) (fun _ => kf)
theorem vn_if_gt (X : Fx K y cc nL ret rm D) (ha : a < 2 ^ 31) (d : decode cc pc = .ok (.ifCond .gt off, 3)) (ht : (pc : Int) + off = (tgt : Int)) (kt : 0 < a → V K nL A H cells slots Q tgt lv rest) (kf : a = 0 → V K nL A H cells slots Q (pc + 3) lv rest) : V K nL A H cells slots Q pc lv (.int (nI a) :: rest) :=
  vv_if_gt X d ht (fun c => kt (Nat.pos_of_ne_zero fun z => by rw [z, nI_0] at c; exact absurd c (by decide))) (fun c => kf (Nat.eq_zero_of_le_zero (Nat.not_lt.mp fun z => c (by rw [← nI_0]; exact nI_lt z ha))))
end LNS
