/-! the parser behind its first token: start and next -/
set_option maxRecDepth 100000
def PY (e : Nat) (x : Nat → Int32) : Prop := PX e x ∧ ∃ p s, s ≤ p ∧ p ≤ e ∧ x 4 = nI p ∧ x 8 = nI s
theorem PY_tkX {f : Nat → Int32} {e : Nat} {x : Nat → Int32} (h : PX e x) (h5 : ¬ 0 < x 5) : PY e (nxt f e x) := by
  refine ⟨PX_nxt h, ?_⟩
  obtain ⟨h3, he, ⟨p, hp, h4⟩, -, -⟩ := h
  rw [nxt_0 h5, h4, cl_I (by omega)]
  have hs := run_le (q := isSp) (f := f) hp
  have ht := tkN_le (f := f) hs.2
  exact ⟨_, _, ht.1, ht.2, rfl, rfl⟩
theorem PY_nxt {f : Nat → Int32} {e : Nat} {x : Nat → Int32} (h : PY e x) : PY e (nxt f e x) := by
  by_cases h5 : 0 < x 5
  · rw [nxt_s h5]; exact h
  · exact PY_tkX h.1 h5
theorem PY_fau {e k : Nat} {x : Nat → Int32} (h : PY e x) (hk : k ≤ 5) : PY e (fau k x) := by
  refine ⟨PX_fau h.1 hk, ?_⟩
  by_cases h5 : 0 < x 5
  · rw [fau_s h5]; exact h.2
  · rw [fau_0 h5]; exact h.2
theorem PY_lok {e : Nat} {lo hi : Int32} {x : Nat → Int32} (h : PY e x) : PY e (lok lo hi x) := by
  unfold lok
  split
  · exact h
  · split
    · split
      · exact h
      · exact PY_fau h (by decide)
    · exact PY_fau h (by decide)
theorem PY_num {f : Nat → Int32} {e : Nat} {lo hi : Int32} {x : Nat → Int32} (h : PY e x) : PY e (num f e lo hi x) := PY_nxt (PY_lok h)
theorem PY_sgd {f : Nat → Int32} {e : Nat} {lo hi : Int32} {x : Nat → Int32} (h : PY e x) : PY e (sgd f e lo hi x) := by
  unfold sgd
  split
  · exact PY_num (PY_nxt h)
  · exact PY_num h
/-- the literals are small signs -/
theorem sby_ok : ∀ i, i < 45 → ∀ k, k < sln i → sby i k = nI (sby i k).toNatClampNeg ∧ (sby i k).toNatClampNeg < 128 := by decide +kernel
theorem sln_le : ∀ i, i < 45 → sln i ≤ 8 := by decide +kernel
