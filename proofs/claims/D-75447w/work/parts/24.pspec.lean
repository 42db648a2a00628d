/-! THE PARSER, mathematically: the state is the model's own numbers x (3 end, 4 next, 5 code, 6 place, 7 token, 8 start, 9 value), the new plan and the draft -/
set_option maxRecDepth 100000
def byt (f : Nat → Int32) (e k : Nat) : Int32 := if k < e then f k else -1
/-- onward while q -/
def rn (q : Int32 → Bool) (f : Nat → Int32) (e : Nat) : Nat → Nat → Nat
  | 0, p => p
  | n + 1, p => if q (byt f e p) = true then rn q f e n (p + 1) else p
def run (q : Int32 → Bool) (f : Nat → Int32) (e p : Nat) : Nat := rn q f e (e - p) p
theorem run_y {q : Int32 → Bool} {f : Nat → Int32} {e p : Nat} (hp : p < e) (h : q (byt f e p) = true) : run q f e p = run q f e (p + 1) := by
  unfold run
  obtain ⟨k, hk⟩ : ∃ k, e - p = k + 1 := ⟨e - p - 1, by omega⟩
  rw [hk, show e - (p + 1) = k by omega]
  show (if q (byt f e p) = true then rn q f e k (p + 1) else p) = _
  rw [if_pos h]
theorem run_n {q : Int32 → Bool} {f : Nat → Int32} {e p : Nat} (h : ¬ q (byt f e p) = true) : run q f e p = p := by
  unfold run
  cases e - p with
  | zero => rfl
  | succ k =>
    show (if q (byt f e p) = true then rn q f e k (p + 1) else p) = p
    rw [if_neg h]
theorem run_le {q : Int32 → Bool} {f : Nat → Int32} {e p : Nat} (hp : p ≤ e) : p ≤ run q f e p ∧ run q f e p ≤ e := by
  have key : ∀ n p, p + n = e → p ≤ rn q f e n p ∧ rn q f e n p ≤ e := by
    intro n
    induction n with
    | zero => intro p h; show p ≤ p ∧ p ≤ e; omega
    | succ n ih =>
      intro p h
      show p ≤ (if q (byt f e p) = true then rn q f e n (p + 1) else p) ∧ (if q (byt f e p) = true then rn q f e n (p + 1) else p) ≤ e
      have := ih (p + 1) (by omega)
      split <;> omega
  exact key (e - p) p (by omega)
abbrev isSp : Int32 → Bool := fun c => decide (c = nI 32)
abbrev isLe : Int32 → Bool := fun c => decide (nI 97 ≤ c ∧ c ≤ nI 122)
abbrev isDi : Int32 → Bool := fun c => decide (nI 48 ≤ c ∧ c ≤ nI 57)
abbrev sgn (c : Int32) : Prop := c = nI 59 ∨ c = nI 40 ∨ c = nI 41 ∨ c = nI 43 ∨ c = nI 45 ∨ c = nI 42 ∨ c = nI 47
/-- the token at s: where it ends, its kind, its value -/
def tkN (f : Nat → Int32) (e s : Nat) : Nat := if s = e then s else if isLe (byt f e s) = true then run isLe f e s else if isDi (byt f e s) = true then run isDi f e s else s + 1
def tkK (f : Nat → Int32) (e s : Nat) : Nat := if s = e then 1 else if isLe (byt f e s) = true then (if run isLe f e s - s ≤ 8 then 2 else 0) else if isDi (byt f e s) = true then (if run isDi f e s - s ≤ 4 then 3 else 0) else if sgn (byt f e s) then 4 else 0
def dgv (f : Nat → Int32) (e s n : Nat) : Int32 := fo (fun i v => nI 10 * v + byt f e (s + i) - nI 48) n (nI 0)
def tkV (f : Nat → Int32) (e s : Nat) (v : Int32) : Int32 := if s = e then v else if isLe (byt f e s) = true then v else if isDi (byt f e s) = true then dgv f e s (min 4 (run isDi f e s - s)) else byt f e s
def tkX (f : Nat → Int32) (e s : Nat) (x : Nat → Int32) : Nat → Int32 := va_up (va_up (va_up (va_up x 4 (nI (tkN f e s))) 8 (nI s)) 9 (tkV f e s (x 9))) 7 (nI (tkK f e s))
/-- the next token -/
def nxt (f : Nat → Int32) (e : Nat) (x : Nat → Int32) : Nat → Int32 := if 0 < x 5 then x else tkX f e (run isSp f e (cl (x 4))) x
/-- a fault -/
def fau (k : Nat) (x : Nat → Int32) : Nat → Int32 := if 0 < x 5 then x else va_up (va_up x 5 (nI k)) 6 (x 8)
/-- the parser's numbers -/
def PX (e : Nat) (x : Nat → Int32) : Prop := x 3 = nI e ∧ e ≤ 1000 ∧ (∃ p, p ≤ e ∧ x 4 = nI p) ∧ (∃ c, c ≤ 5 ∧ x 5 = nI c) ∧ (∃ k, k ≤ 4 ∧ x 7 = nI k)
theorem tkN_le {f : Nat → Int32} {e s : Nat} (hs : s ≤ e) : s ≤ tkN f e s ∧ tkN f e s ≤ e := by
  have h1 := run_le (q := isLe) (f := f) hs
  have h2 := run_le (q := isDi) (f := f) hs
  unfold tkN
  split
  · omega
  · split
    · exact h1
    · split
      · exact h2
      · omega
theorem tkK_le {f : Nat → Int32} {e s : Nat} : tkK f e s ≤ 4 := by
  unfold tkK
  repeat' split
  all_goals decide
theorem PX_nxt {f : Nat → Int32} {e : Nat} {x : Nat → Int32} (h : PX e x) : PX e (nxt f e x) := by
  obtain ⟨h3, he, ⟨p, hp, h4⟩, h5, h7⟩ := h
  unfold nxt
  split
  · exact ⟨h3, he, ⟨p, hp, h4⟩, h5, h7⟩
  · have e4 : cl (x 4) = p := by rw [h4]; exact cl_I (by omega)
    rw [e4]
    have hs := run_le (q := isSp) (f := f) hp
    exact ⟨h3, he, ⟨_, (tkN_le hs.2).2, rfl⟩, h5, ⟨_, tkK_le, rfl⟩⟩
theorem PX_fau {e k : Nat} {x : Nat → Int32} (h : PX e x) (hk : k ≤ 5) : PX e (fau k x) := by
  obtain ⟨h3, he, h4, h5, h7⟩ := h
  unfold fau
  split
  · exact ⟨h3, he, h4, h5, h7⟩
  · exact ⟨h3, he, h4, ⟨k, hk, rfl⟩, h7⟩
theorem nxt_5 {f : Nat → Int32} {e : Nat} {x : Nat → Int32} : nxt f e x 5 = x 5 := by unfold nxt; split <;> rfl
theorem nxt_0 {f : Nat → Int32} {e : Nat} {x : Nat → Int32} (h : ¬ 0 < x 5) : nxt f e x = tkX f e (run isSp f e (cl (x 4))) x := if_neg h
theorem nxt_s {f : Nat → Int32} {e : Nat} {x : Nat → Int32} (h : 0 < x 5) : nxt f e x = x := if_pos h
theorem fau_s {k : Nat} {x : Nat → Int32} (h : 0 < x 5) : fau k x = x := if_pos h
theorem fau_0 {k : Nat} {x : Nat → Int32} (h : ¬ 0 < x 5) : fau k x = va_up (va_up x 5 (nI k)) 6 (x 8) := if_neg h
/-- a sign is here; a number, looked at -/
abbrev sgh (c : Int32) (x : Nat → Int32) : Prop := x 5 = 0 ∧ x 7 = nI 4 ∧ x 9 = c
def lok (lo hi : Int32) (x : Nat → Int32) : Nat → Int32 := if 0 < x 5 then x else if x 7 = nI 3 then (if lo ≤ x 9 ∧ x 9 ≤ hi then x else fau 2 x) else fau 1 x
def lov (lo hi : Int32) (x : Nat → Int32) : Int32 := if 0 < lok lo hi x 5 then lo else x 9
def num (f : Nat → Int32) (e : Nat) (lo hi : Int32) (x : Nat → Int32) : Nat → Int32 := nxt f e (lok lo hi x)
def sgd (f : Nat → Int32) (e : Nat) (lo hi : Int32) (x : Nat → Int32) : Nat → Int32 := if sgh (nI 45) x then num f e (-hi) (-lo) (nxt f e x) else num f e lo hi x
def sgv (f : Nat → Int32) (e : Nat) (lo hi : Int32) (x : Nat → Int32) : Int32 := if sgh (nI 45) x then -(lov (-hi) (-lo) (nxt f e x)) else lov lo hi x
theorem PX_lok {e : Nat} {lo hi : Int32} {x : Nat → Int32} (h : PX e x) : PX e (lok lo hi x) := by
  unfold lok
  split
  · exact h
  · split
    · split
      · exact h
      · exact PX_fau h (by decide)
    · exact PX_fau h (by decide)
theorem PX_num {f : Nat → Int32} {e : Nat} {lo hi : Int32} {x : Nat → Int32} (h : PX e x) : PX e (num f e lo hi x) := PX_nxt (PX_lok h)
theorem PX_sgd {f : Nat → Int32} {e : Nat} {lo hi : Int32} {x : Nat → Int32} (h : PX e x) : PX e (sgd f e lo hi x) := by
  unfold sgd
  split
  · exact PX_num (PX_nxt h)
  · exact PX_num h
/-- the word w is here -/
def wrd (f : Nat → Int32) (w : List Int32) (x : Nat → Int32) : Prop := x 5 = 0 ∧ x 7 = nI 2 ∧ cl (x 4) - cl (x 8) = w.length ∧ ∀ k, k < w.length → f (cl (x 8) + k) = w.getD k 0
theorem run_in {q : Int32 → Bool} {f : Nat → Int32} {e p i : Nat} (h1 : p ≤ i) (h2 : i < run q f e p) (he : p ≤ e) : q (byt f e i) = true := by
  have key : ∀ n p, p + n = e → p ≤ i → i < rn q f e n p → q (byt f e i) = true := by
    intro n
    induction n with
    | zero => intro p _ h1 h2; have h2 : i < p := h2; omega
    | succ n ih =>
      intro p h h1 h2
      have h2 : i < (if q (byt f e p) = true then rn q f e n (p + 1) else p) := h2
      by_cases hq : q (byt f e p) = true
      · rw [if_pos hq] at h2
        by_cases hi : i = p
        · rw [hi]; exact hq
        · exact ih (p + 1) (by omega) (by omega) h2
      · rw [if_neg hq] at h2; omega
  exact key (e - p) p (by omega) h1 h2
theorem run_out {q : Int32 → Bool} {f : Nat → Int32} {e p : Nat} (he : p ≤ e) (hq : q (-1) = false) : ¬ q (byt f e (run q f e p)) = true := by
  have key : ∀ n p, p + n = e → ¬ q (byt f e (rn q f e n p)) = true := by
    intro n
    induction n with
    | zero =>
      intro p h
      show ¬ q (byt f e p) = true
      unfold byt
      rw [if_neg (by omega), hq]
      decide
    | succ n ih =>
      intro p h
      show ¬ q (byt f e (if q (byt f e p) = true then rn q f e n (p + 1) else p)) = true
      by_cases hp : q (byt f e p) = true
      · rw [if_pos hp]; exact ih (p + 1) (by omega)
      · rw [if_neg hp]; exact hp
  exact key (e - p) p (by omega)
theorem tkX_e {f : Nat → Int32} {e s : Nat} {x : Nat → Int32} (h : s = e) : tkX f e s x = va_up (va_up (va_up x 4 (nI s)) 8 (nI s)) 7 (nI 1) := by
  unfold tkX tkN tkK tkV
  rw [if_pos h, if_pos h, if_pos h]
  show va_up (va_up (va_up (va_up x 4 (nI s)) 8 (nI s)) 9 (va_up (va_up x 4 (nI s)) 8 (nI s) 9)) 7 (nI 1) = _
  rw [up_same]
theorem tkX_w {f : Nat → Int32} {e s : Nat} {x : Nat → Int32} (h : ¬ s = e) (hl : isLe (byt f e s) = true) : tkX f e s x = va_up (va_up (va_up x 4 (nI (run isLe f e s))) 8 (nI s)) 7 (nI (if run isLe f e s - s ≤ 8 then 2 else 0)) := by
  unfold tkX tkN tkK tkV
  rw [if_neg h, if_neg h, if_neg h, if_pos hl, if_pos hl, if_pos hl]
  show va_up (va_up (va_up (va_up x 4 (nI (run isLe f e s))) 8 (nI s)) 9 (va_up (va_up x 4 (nI (run isLe f e s))) 8 (nI s) 9)) 7 _ = _
  rw [up_same]
theorem tkX_d {f : Nat → Int32} {e s : Nat} {x : Nat → Int32} (h : ¬ s = e) (hl : ¬ isLe (byt f e s) = true) (hd : isDi (byt f e s) = true) : tkX f e s x = va_up (va_up (va_up (va_up x 4 (nI (run isDi f e s))) 8 (nI s)) 9 (dgv f e s (min 4 (run isDi f e s - s)))) 7 (nI (if run isDi f e s - s ≤ 4 then 3 else 0)) := by
  unfold tkX tkN tkK tkV
  rw [if_neg h, if_neg h, if_neg h, if_neg hl, if_neg hl, if_neg hl, if_pos hd, if_pos hd, if_pos hd]
theorem tkX_s {f : Nat → Int32} {e s : Nat} {x : Nat → Int32} (h : ¬ s = e) (hl : ¬ isLe (byt f e s) = true) (hd : ¬ isDi (byt f e s) = true) : tkX f e s x = va_up (va_up (va_up (va_up x 4 (nI (s + 1))) 8 (nI s)) 9 (byt f e s)) 7 (nI (if sgn (byt f e s) then 4 else 0)) := by
  unfold tkX tkN tkK tkV
  rw [if_neg h, if_neg h, if_neg h, if_neg hl, if_neg hl, if_neg hl, if_neg hd, if_neg hd, if_neg hd]
theorem dgv_s {f : Nat → Int32} {e s i : Nat} : dgv f e s (i + 1) = nI 10 * dgv f e s i + byt f e (s + i) - nI 48 := rfl
theorem up_sw3 {α : Type} {f : Nat → α} {k j i : Nat} {a b c d : α} (h : k ≠ j) (h2 : k ≠ i) : va_up (va_up (va_up (va_up f k a) j b) i d) k c = va_up (va_up (va_up f k c) j b) i d := by
  funext q
  unfold va_up
  by_cases e1 : q = k
  · subst e1; rw [if_pos rfl, if_neg h2, if_neg h, if_pos rfl]
  · rw [if_neg e1]
    by_cases e2 : q = i
    · rw [if_pos e2, if_pos e2]
    · rw [if_neg e2, if_neg e2]
      by_cases e3 : q = j
      · rw [if_pos e3, if_pos e3]
      · rw [if_neg e3, if_neg e3, if_neg e1, if_neg e1]
theorem up_sw4 {α : Type} {f : Nat → α} {k j i l : Nat} {a b c d g : α} (h : k ≠ j) (h2 : k ≠ i) (h3 : k ≠ l) : va_up (va_up (va_up (va_up (va_up f k a) j b) i d) l g) k c = va_up (va_up (va_up (va_up f k c) j b) i d) l g := by
  funext q
  unfold va_up
  by_cases e1 : q = k
  · subst e1; rw [if_pos rfl, if_neg h3, if_neg h2, if_neg h, if_pos rfl]
  · rw [if_neg e1]
    by_cases e0 : q = l
    · rw [if_pos e0, if_pos e0]
    · rw [if_neg e0, if_neg e0]
      by_cases e2 : q = i
      · rw [if_pos e2, if_pos e2]
      · rw [if_neg e2, if_neg e2]
        by_cases e3 : q = j
        · rw [if_pos e3, if_pos e3]
        · rw [if_neg e3, if_neg e3, if_neg e1, if_neg e1]
theorem fau_5 {k : Nat} {x : Nat → Int32} (h : ¬ 0 < x 5) : fau k x 5 = nI k := by rw [fau_0 h]; rfl
theorem lok_s {lo hi : Int32} {x : Nat → Int32} (h : 0 < x 5) : lok lo hi x = x := if_pos h
theorem lok_1 {lo hi : Int32} {x : Nat → Int32} (h : ¬ 0 < x 5) (h7 : ¬ x 7 = nI 3) : lok lo hi x = fau 1 x := by unfold lok; rw [if_neg h, if_neg h7]
theorem lok_2 {lo hi : Int32} {x : Nat → Int32} (h : ¬ 0 < x 5) (h7 : x 7 = nI 3) (h9 : ¬ (lo ≤ x 9 ∧ x 9 ≤ hi)) : lok lo hi x = fau 2 x := by unfold lok; rw [if_neg h, if_pos h7, if_neg h9]
theorem lok_0 {lo hi : Int32} {x : Nat → Int32} (h : ¬ 0 < x 5) (h7 : x 7 = nI 3) (h9 : lo ≤ x 9 ∧ x 9 ≤ hi) : lok lo hi x = x := by unfold lok; rw [if_neg h, if_pos h7, if_pos h9]
theorem lov_s {lo hi : Int32} {x : Nat → Int32} (h : 0 < x 5) : lov lo hi x = lo := by unfold lov; rw [lok_s h, if_pos h]
theorem lov_1 {lo hi : Int32} {x : Nat → Int32} (h : ¬ 0 < x 5) (h7 : ¬ x 7 = nI 3) : lov lo hi x = lo := by unfold lov; rw [lok_1 h h7, fau_5 h, if_pos (by decide)]
theorem lov_2 {lo hi : Int32} {x : Nat → Int32} (h : ¬ 0 < x 5) (h7 : x 7 = nI 3) (h9 : ¬ (lo ≤ x 9 ∧ x 9 ≤ hi)) : lov lo hi x = lo := by unfold lov; rw [lok_2 h h7 h9, fau_5 h, if_pos (by decide)]
theorem lov_0 {lo hi : Int32} {x : Nat → Int32} (h : ¬ 0 < x 5) (h7 : x 7 = nI 3) (h9 : lo ≤ x 9 ∧ x 9 ≤ hi) : lov lo hi x = x 9 := by unfold lov; rw [lok_0 h h7 h9, if_neg h]
