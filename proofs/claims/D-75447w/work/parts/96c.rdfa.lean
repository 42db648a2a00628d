/-! facts of the readers: printed by gen/rf.py -/
set_option maxRecDepth 100000
theorem px50 {e : Nat} {x : Nat → Int32} (h : PX e x) (h5 : ¬ 0 < x 5) : x 5 = nI 0 := by
  obtain ⟨-, -, -, ⟨c, hc, h⟩, -⟩ := h
  rw [h] at h5 ⊢
  rcases (show c = 0 ∨ c = 1 ∨ c = 2 ∨ c = 3 ∨ c = 4 ∨ c = 5 by omega) with rfl | rfl | rfl | rfl | rfl | rfl
  · rfl
  all_goals exact absurd (by decide) h5
theorem px5p {e : Nat} {x : Nat → Int32} (h : PX e x) (h5 : ¬ x 5 = nI 0) : 0 < x 5 := Decidable.byContradiction fun z => h5 (px50 h z)
theorem px5n {x : Nat → Int32} (h : x 5 = nI 0) : ¬ 0 < x 5 := by rw [h]; decide
theorem wr_eq {f x : Nat → Int32} {i p s : Nat} (h4 : x 4 = nI p) (h8 : x 8 = nI s) (hp : p < 2 ^ 31) (hs : s < 2 ^ 31) : wr f i x = true ↔ (x 5 = nI 0 ∧ x 7 = nI 2 ∧ p - s = sln i ∧ ∀ k, k < sln i → f (s + k) = sby i k) := by
  have e4 : cl (x 4) = p := by rw [h4, cl_I hp]
  have e8 : cl (x 8) = s := by rw [h8, cl_I hs]
  refine ⟨fun h => ?_, fun h => wr_y ?_⟩
  · have h := wr_i h
    unfold wrd at h
    rw [e4, e8] at h
    exact h
  · unfold wrd
    rw [e4, e8]
    exact h
theorem PY_tks {f : Nat → Int32} {e i : Nat} {x : Nat → Int32} (h : PY e x) : PY e (tks f e i x) := by
  unfold tks
  split
  · exact PY_nxt h
  · exact h
theorem PY_kwd {f : Nat → Int32} {e i : Nat} {x : Nat → Int32} (h : PY e x) : PY e (kwd f e i x) := by
  unfold kwd
  split
  · exact PY_nxt h
  · exact PY_fau h (by decide)
theorem PY_gag {f : Nat → Int32} {e i : Nat} {lo hi : Int32} {x : Nat → Int32} (h : PY e x) : PY e (gag f e i lo hi x) := PY_num (PY_kwd h)
theorem PY_bgn {f : Nat → Int32} {e : Nat} {p : Prop} [Decidable p] {k : Nat} {x : Nat → Int32} (h : PY e x) (hk : k ≤ 5) : PY e (bgn f e p k x) := by
  unfold bgn
  split
  · exact PY_nxt (PY_fau h hk)
  · exact PY_nxt h
theorem bgn_y {f : Nat → Int32} {e : Nat} {p : Prop} [Decidable p] {k : Nat} {x : Nat → Int32} (h : p) : bgn f e p k x = nxt f e (fau k x) := by unfold bgn; rw [if_pos h]
theorem bgn_n {f : Nat → Int32} {e : Nat} {p : Prop} [Decidable p] {k : Nat} {x : Nat → Int32} (h : ¬ p) : bgn f e p k x = nxt f e x := by unfold bgn; rw [if_neg h]
theorem tks_y {f : Nat → Int32} {e i : Nat} {x : Nat → Int32} (h : wr f i x = true) : tks f e i x = nxt f e x := if_pos h
theorem tks_n {f : Nat → Int32} {e i : Nat} {x : Nat → Int32} (h : ¬ wr f i x = true) : tks f e i x = x := if_neg h
theorem kwd_y {f : Nat → Int32} {e i : Nat} {x : Nat → Int32} (h : wr f i x = true) : kwd f e i x = nxt f e x := if_pos h
theorem kwd_n {f : Nat → Int32} {e i : Nat} {x : Nat → Int32} (h : ¬ wr f i x = true) : kwd f e i x = fau 1 x := if_neg h
theorem lok_in {lo hi : Int32} {x : Nat → Int32} (h : lok lo hi x 5 = nI 0) : x 7 = nI 3 ∧ lo ≤ x 9 ∧ x 9 ≤ hi ∧ lok lo hi x = x ∧ lov lo hi x = x 9 := by
  by_cases h5 : 0 < x 5
  · rw [lok_s h5] at h
    rw [h] at h5
    exact absurd h5 (by decide)
  by_cases h7 : x 7 = nI 3
  · by_cases h9 : lo ≤ x 9 ∧ x 9 ≤ hi
    · exact ⟨h7, h9.1, h9.2, lok_0 h5 h7 h9, lov_0 h5 h7 h9⟩
    · rw [lok_2 h5 h7 h9, fau_5 h5] at h
      exact absurd h (by decide)
  · rw [lok_1 h5 h7, fau_5 h5] at h
    exact absurd h (by decide)
theorem lov_nat {n : Nat} {x : Nat → Int32} (hn : n ≤ 200) (h : lok (nI 0) (nI n - nI 1) x 5 = nI 0) : ∃ j, j < n ∧ lov (nI 0) (nI n - nI 1) x = nI j := by
  obtain ⟨-, h1, h2, -, h3⟩ := lok_in h
  rw [h3]
  have a1 := Int32.le_iff_toInt_le.mp h1
  have a2 := Int32.le_iff_toInt_le.mp h2
  rw [nI_toInt (by decide)] at a1
  have e2 : (nI n - nI 1).toInt = (n : Int) - 1 := (show ∀ n : Nat, n ≤ 200 → (nI n - nI 1).toInt = (n : Int) - 1 by decide +kernel) n hn
  rw [e2] at a2
  refine ⟨(x 9).toInt.toNat, by omega, ?_⟩
  apply Int32.toInt_inj.mp
  rw [nI_toInt (by omega)]
  omega
theorem nxt_50 {f : Nat → Int32} {e : Nat} {x : Nat → Int32} (h : nxt f e x 5 = nI 0) : x 5 = nI 0 := by rw [nxt_5] at h; exact h
theorem fau_50 {k : Nat} {x : Nat → Int32} (hk : k = 1 ∨ k = 2 ∨ k = 3 ∨ k = 4 ∨ k = 5) (h : fau k x 5 = nI 0) : False := by
  by_cases h5 : 0 < x 5
  · rw [fau_s h5] at h; rw [h] at h5; exact absurd h5 (by decide)
  · rw [fau_5 h5] at h
    rcases hk with rfl | rfl | rfl | rfl | rfl <;> exact absurd h (by decide)
theorem lok_50 {lo hi : Int32} {x : Nat → Int32} (h : lok lo hi x 5 = nI 0) : x 5 = nI 0 := by rw [(lok_in h).2.2.2.1] at h; exact h
theorem num_50 {f : Nat → Int32} {e : Nat} {lo hi : Int32} {x : Nat → Int32} (h : num f e lo hi x 5 = nI 0) : lok lo hi x 5 = nI 0 := nxt_50 h
theorem sgd_50 {f : Nat → Int32} {e : Nat} {lo hi : Int32} {x : Nat → Int32} (h : sgd f e lo hi x 5 = nI 0) : x 5 = nI 0 := by
  unfold sgd at h
  split at h
  · exact nxt_50 (lok_50 (num_50 h))
  · exact lok_50 (num_50 h)
theorem bgn_50 {f : Nat → Int32} {e : Nat} {p : Prop} [Decidable p] {k : Nat} {x : Nat → Int32} (hk : k = 1 ∨ k = 2 ∨ k = 3 ∨ k = 4 ∨ k = 5) (h : bgn f e p k x 5 = nI 0) : ¬ p ∧ x 5 = nI 0 := by
  by_cases hp : p
  · rw [bgn_y hp] at h
    exact (fau_50 hk (nxt_50 h)).elim
  · rw [bgn_n hp] at h
    exact ⟨hp, nxt_50 h⟩
theorem kwd_50 {f : Nat → Int32} {e i : Nat} {x : Nat → Int32} (h : kwd f e i x 5 = nI 0) : wr f i x = true ∧ kwd f e i x = nxt f e x ∧ x 5 = nI 0 := by
  by_cases hw : wr f i x = true
  · rw [kwd_y hw] at h
    exact ⟨hw, kwd_y hw, nxt_50 h⟩
  · rw [kwd_n hw] at h
    exact (fau_50 (by decide) h).elim
theorem gag_50 {f : Nat → Int32} {e i : Nat} {lo hi : Int32} {x : Nat → Int32} (h : gag f e i lo hi x 5 = nI 0) : kwd f e i x 5 = nI 0 := lok_50 (num_50 h)
theorem tks_50 {f : Nat → Int32} {e i : Nat} {x : Nat → Int32} (h : tks f e i x 5 = nI 0) : x 5 = nI 0 := by
  unfold tks at h
  split at h
  · exact nxt_50 h
  · exact h
/-- the place in the text never goes back -/
theorem nxt_le {f : Nat → Int32} {e : Nat} {x : Nat → Int32} (h : PX e x) : cl (x 4) ≤ cl (nxt f e x 4) := by
  by_cases h5 : 0 < x 5
  · rw [nxt_s h5]; exact Nat.le_refl _
  · obtain ⟨h3, he, ⟨p, hp, h4⟩, -, -⟩ := h
    rw [nxt_0 h5, h4, cl_I (by omega)]
    have hs := run_le (q := isSp) (f := f) hp
    have ht := tkN_le (f := f) hs.2
    show p ≤ cl (nI (tkN f e (run isSp f e p)))
    rw [cl_I (by omega)]
    omega
theorem fau_4 {k : Nat} {x : Nat → Int32} : fau k x 4 = x 4 := by unfold fau; split <;> rfl
theorem lok_4 {lo hi : Int32} {x : Nat → Int32} : lok lo hi x 4 = x 4 := by
  unfold lok
  split
  · rfl
  · split
    · split
      · rfl
      · exact fau_4
    · exact fau_4
theorem num_le {f : Nat → Int32} {e : Nat} {lo hi : Int32} {x : Nat → Int32} (h : PX e x) : cl (x 4) ≤ cl (num f e lo hi x 4) := by
  have z := nxt_le (f := f) (PX_lok (lo := lo) (hi := hi) h)
  rw [lok_4] at z
  exact z
theorem sgd_le {f : Nat → Int32} {e : Nat} {lo hi : Int32} {x : Nat → Int32} (h : PX e x) : cl (x 4) ≤ cl (sgd f e lo hi x 4) := by
  unfold sgd
  split
  · exact Nat.le_trans (nxt_le h) (num_le (PX_nxt h))
  · exact num_le h
theorem bgn_le {f : Nat → Int32} {e : Nat} {p : Prop} [Decidable p] {k : Nat} {x : Nat → Int32} (h : PX e x) (hk : k ≤ 5) : cl (x 4) ≤ cl (bgn f e p k x 4) := by
  unfold bgn
  split
  · have z := nxt_le (f := f) (PX_fau (k := k) h hk)
    rw [fau_4] at z
    exact z
  · exact nxt_le h
theorem tks_le {f : Nat → Int32} {e i : Nat} {x : Nat → Int32} (h : PX e x) : cl (x 4) ≤ cl (tks f e i x 4) := by
  unfold tks
  split
  · exact nxt_le h
  · exact Nat.le_refl _
/-- a word takes place -/
theorem wr_adv {f : Nat → Int32} {e i : Nat} {x : Nat → Int32} (hi : 0 < sln i) (h : PX e x) (hw : wr f i (nxt f e x) = true) : cl (x 4) < cl (nxt f e x 4) := by
  have hy := wr_i hw
  have h5 : ¬ 0 < x 5 := px5n (nxt_50 hy.1)
  have hl : cl (nxt f e x 4) - cl (nxt f e x 8) = sln i := hy.2.2.1
  obtain ⟨h3, he, ⟨p, hp, h4⟩, -, -⟩ := h
  have hs := run_le (q := isSp) (f := f) hp
  have e8 : cl (nxt f e x 8) = run isSp f e p := by
    rw [nxt_0 h5, h4, cl_I (by omega)]
    exact cl_I (by omega)
  rw [e8] at hl
  rw [h4, cl_I (by omega)]
  omega
theorem PY_ck0 {f : Nat → Int32} {e : Nat} {x : Nat → Int32} (h : PY e x) : PY e (ck0 f e x) := PY_nxt h
theorem ck0_le {f : Nat → Int32} {e : Nat} {x : Nat → Int32} (h : PY e x) : cl (x 4) ≤ cl (ck0 f e x 4) := nxt_le h.1
theorem ck0_50 {f : Nat → Int32} {e : Nat} {x : Nat → Int32} (h : ck0 f e x 5 = nI 0) : x 5 = nI 0 := nxt_50 h
theorem PY_mi0 {f : Nat → Int32} {e : Nat} {x P : Nat → Int32} (h : PY e x) : PY e (mi0 f e x P) := (PY_bgn h (by decide))
theorem mi0_le {f : Nat → Int32} {e : Nat} {x P : Nat → Int32} (h : PY e x) : cl (x 4) ≤ cl (mi0 f e x P 4) := bgn_le h.1 (by decide)
theorem mi0_50 {f : Nat → Int32} {e : Nat} {x P : Nat → Int32} (z : mi0 f e x P 5 = nI 0) : ¬ (nM P = 12) ∧ x 5 = nI 0 := bgn_50 (by decide) z
theorem PY_mi1 {f : Nat → Int32} {e : Nat} {x P : Nat → Int32} (h : PY e x) : PY e (mi1 f e x P) := PY_sgd (PY_mi0 h)
theorem mi1_le {f : Nat → Int32} {e : Nat} {x P : Nat → Int32} (h : PY e x) : cl (x 4) ≤ cl (mi1 f e x P 4) := Nat.le_trans (mi0_le h) (sgd_le (PY_mi0 h).1)
theorem mi1_50 {f : Nat → Int32} {e : Nat} {x P : Nat → Int32} (z : mi1 f e x P 5 = nI 0) : mi0 f e x P 5 = nI 0 := sgd_50 z
theorem PY_mi2 {f : Nat → Int32} {e : Nat} {x P : Nat → Int32} (h : PY e x) : PY e (mi2 f e x P) := PY_sgd (PY_mi1 h)
theorem mi2_le {f : Nat → Int32} {e : Nat} {x P : Nat → Int32} (h : PY e x) : cl (x 4) ≤ cl (mi2 f e x P 4) := Nat.le_trans (mi1_le h) (sgd_le (PY_mi1 h).1)
theorem mi2_50 {f : Nat → Int32} {e : Nat} {x P : Nat → Int32} (z : mi2 f e x P 5 = nI 0) : mi1 f e x P 5 = nI 0 := sgd_50 z
theorem PY_miX {f : Nat → Int32} {e : Nat} {x P : Nat → Int32} (h : PY e x) : PY e (miX f e x P) := PY_num (PY_mi2 h)
theorem miX_le {f : Nat → Int32} {e : Nat} {x P : Nat → Int32} (h : PY e x) : cl (x 4) ≤ cl (miX f e x P 4) := Nat.le_trans (mi2_le h) (num_le (PY_mi2 h).1)
theorem miX_50 {f : Nat → Int32} {e : Nat} {x P : Nat → Int32} (z : miX f e x P 5 = nI 0) : lok (nI 1) (nI 9) (mi2 f e x P) 5 = nI 0 := num_50 z
theorem PY_ma0 {f : Nat → Int32} {e : Nat} {x P : Nat → Int32} (h : PY e x) : PY e (ma0 f e x P) := (PY_bgn h (by decide))
theorem ma0_le {f : Nat → Int32} {e : Nat} {x P : Nat → Int32} (h : PY e x) : cl (x 4) ≤ cl (ma0 f e x P 4) := bgn_le h.1 (by decide)
theorem ma0_50 {f : Nat → Int32} {e : Nat} {x P : Nat → Int32} (z : ma0 f e x P 5 = nI 0) : ¬ (0 < pC P) ∧ x 5 = nI 0 := bgn_50 (by decide) z
theorem PY_ma1 {f : Nat → Int32} {e : Nat} {x P : Nat → Int32} (h : PY e x) : PY e (ma1 f e x P) := PY_sgd (PY_ma0 h)
theorem ma1_le {f : Nat → Int32} {e : Nat} {x P : Nat → Int32} (h : PY e x) : cl (x 4) ≤ cl (ma1 f e x P 4) := Nat.le_trans (ma0_le h) (sgd_le (PY_ma0 h).1)
theorem ma1_50 {f : Nat → Int32} {e : Nat} {x P : Nat → Int32} (z : ma1 f e x P 5 = nI 0) : ma0 f e x P 5 = nI 0 := sgd_50 z
theorem PY_ma2 {f : Nat → Int32} {e : Nat} {x P : Nat → Int32} (h : PY e x) : PY e (ma2 f e x P) := PY_sgd (PY_ma1 h)
theorem ma2_le {f : Nat → Int32} {e : Nat} {x P : Nat → Int32} (h : PY e x) : cl (x 4) ≤ cl (ma2 f e x P 4) := Nat.le_trans (ma1_le h) (sgd_le (PY_ma1 h).1)
theorem ma2_50 {f : Nat → Int32} {e : Nat} {x P : Nat → Int32} (z : ma2 f e x P 5 = nI 0) : ma1 f e x P 5 = nI 0 := sgd_50 z
theorem PY_ma3 {f : Nat → Int32} {e : Nat} {x P : Nat → Int32} (h : PY e x) : PY e (ma3 f e x P) := PY_num (PY_ma2 h)
theorem ma3_le {f : Nat → Int32} {e : Nat} {x P : Nat → Int32} (h : PY e x) : cl (x 4) ≤ cl (ma3 f e x P 4) := Nat.le_trans (ma2_le h) (num_le (PY_ma2 h).1)
theorem ma3_50 {f : Nat → Int32} {e : Nat} {x P : Nat → Int32} (z : ma3 f e x P 5 = nI 0) : lok (nI 1) (nI 99) (ma2 f e x P) 5 = nI 0 := num_50 z
theorem PY_ma4 {f : Nat → Int32} {e : Nat} {x P : Nat → Int32} (h : PY e x) : PY e (ma4 f e x P) := PY_num (PY_ma3 h)
theorem ma4_le {f : Nat → Int32} {e : Nat} {x P : Nat → Int32} (h : PY e x) : cl (x 4) ≤ cl (ma4 f e x P 4) := Nat.le_trans (ma3_le h) (num_le (PY_ma3 h).1)
theorem ma4_50 {f : Nat → Int32} {e : Nat} {x P : Nat → Int32} (z : ma4 f e x P 5 = nI 0) : lok (nI 1) (nI 12) (ma3 f e x P) 5 = nI 0 := num_50 z
theorem PY_maX {f : Nat → Int32} {e : Nat} {x P : Nat → Int32} (h : PY e x) : PY e (maX f e x P) := PY_num (PY_ma4 h)
theorem maX_le {f : Nat → Int32} {e : Nat} {x P : Nat → Int32} (h : PY e x) : cl (x 4) ≤ cl (maX f e x P 4) := Nat.le_trans (ma4_le h) (num_le (PY_ma4 h).1)
theorem maX_50 {f : Nat → Int32} {e : Nat} {x P : Nat → Int32} (z : maX f e x P 5 = nI 0) : lok (nI 1) (nI 12) (ma4 f e x P) 5 = nI 0 := num_50 z
theorem PY_so0 {f : Nat → Int32} {e : Nat} {x P : Nat → Int32} (h : PY e x) : PY e (so0 f e x P) := (PY_bgn h (by decide))
theorem so0_le {f : Nat → Int32} {e : Nat} {x P : Nat → Int32} (h : PY e x) : cl (x 4) ≤ cl (so0 f e x P 4) := bgn_le h.1 (by decide)
theorem so0_50 {f : Nat → Int32} {e : Nat} {x P : Nat → Int32} (z : so0 f e x P 5 = nI 0) : ¬ (nS P = 6) ∧ x 5 = nI 0 := bgn_50 (by decide) z
theorem PY_so1 {f : Nat → Int32} {e : Nat} {x P : Nat → Int32} (h : PY e x) : PY e (so1 f e x P) := (PY_bgn (PY_so0 h) (by decide))
theorem so1_le {f : Nat → Int32} {e : Nat} {x P : Nat → Int32} (h : PY e x) : cl (x 4) ≤ cl (so1 f e x P 4) := Nat.le_trans (so0_le h) (bgn_le (PY_so0 h).1 (by decide))
theorem so1_50 {f : Nat → Int32} {e : Nat} {x P : Nat → Int32} (z : so1 f e x P 5 = nI 0) : ¬ (ski f (so0 f e x P) = (-1)) ∧ so0 f e x P 5 = nI 0 := bgn_50 (by decide) z
theorem PY_so2 {f : Nat → Int32} {e : Nat} {x P : Nat → Int32} (h : PY e x) : PY e (so2 f e x P) := PY_sgd (PY_so1 h)
theorem so2_le {f : Nat → Int32} {e : Nat} {x P : Nat → Int32} (h : PY e x) : cl (x 4) ≤ cl (so2 f e x P 4) := Nat.le_trans (so1_le h) (sgd_le (PY_so1 h).1)
theorem so2_50 {f : Nat → Int32} {e : Nat} {x P : Nat → Int32} (z : so2 f e x P 5 = nI 0) : so1 f e x P 5 = nI 0 := sgd_50 z
theorem PY_so3 {f : Nat → Int32} {e : Nat} {x P : Nat → Int32} (h : PY e x) : PY e (so3 f e x P) := PY_sgd (PY_so2 h)
theorem so3_le {f : Nat → Int32} {e : Nat} {x P : Nat → Int32} (h : PY e x) : cl (x 4) ≤ cl (so3 f e x P 4) := Nat.le_trans (so2_le h) (sgd_le (PY_so2 h).1)
theorem so3_50 {f : Nat → Int32} {e : Nat} {x P : Nat → Int32} (z : so3 f e x P 5 = nI 0) : so2 f e x P 5 = nI 0 := sgd_50 z
theorem PY_so4 {f : Nat → Int32} {e : Nat} {x P : Nat → Int32} (h : PY e x) : PY e (so4 f e x P) := PY_sgd (PY_so3 h)
theorem so4_le {f : Nat → Int32} {e : Nat} {x P : Nat → Int32} (h : PY e x) : cl (x 4) ≤ cl (so4 f e x P 4) := Nat.le_trans (so3_le h) (sgd_le (PY_so3 h).1)
theorem so4_50 {f : Nat → Int32} {e : Nat} {x P : Nat → Int32} (z : so4 f e x P 5 = nI 0) : so3 f e x P 5 = nI 0 := sgd_50 z
theorem PY_so5 {f : Nat → Int32} {e : Nat} {x P : Nat → Int32} (h : PY e x) : PY e (so5 f e x P) := PY_sgd (PY_so4 h)
theorem so5_le {f : Nat → Int32} {e : Nat} {x P : Nat → Int32} (h : PY e x) : cl (x 4) ≤ cl (so5 f e x P 4) := Nat.le_trans (so4_le h) (sgd_le (PY_so4 h).1)
theorem so5_50 {f : Nat → Int32} {e : Nat} {x P : Nat → Int32} (z : so5 f e x P 5 = nI 0) : so4 f e x P 5 = nI 0 := sgd_50 z
theorem PY_so6 {f : Nat → Int32} {e : Nat} {x P : Nat → Int32} (h : PY e x) : PY e (so6 f e x P) := PY_num (PY_so5 h)
theorem so6_le {f : Nat → Int32} {e : Nat} {x P : Nat → Int32} (h : PY e x) : cl (x 4) ≤ cl (so6 f e x P 4) := Nat.le_trans (so5_le h) (num_le (PY_so5 h).1)
theorem so6_50 {f : Nat → Int32} {e : Nat} {x P : Nat → Int32} (z : so6 f e x P 5 = nI 0) : lok (nI 1) (nI 999) (so5 f e x P) 5 = nI 0 := num_50 z
theorem PY_so7 {f : Nat → Int32} {e : Nat} {x P : Nat → Int32} (h : PY e x) : PY e (so7 f e x P) := PY_num (PY_so6 h)
theorem so7_le {f : Nat → Int32} {e : Nat} {x P : Nat → Int32} (h : PY e x) : cl (x 4) ≤ cl (so7 f e x P 4) := Nat.le_trans (so6_le h) (num_le (PY_so6 h).1)
theorem so7_50 {f : Nat → Int32} {e : Nat} {x P : Nat → Int32} (z : so7 f e x P 5 = nI 0) : lok (nI 2) (nI 99) (so6 f e x P) 5 = nI 0 := num_50 z
theorem PY_so8 {f : Nat → Int32} {e : Nat} {x P : Nat → Int32} (h : PY e x) : PY e (so8 f e x P) := PY_num (PY_so7 h)
theorem so8_le {f : Nat → Int32} {e : Nat} {x P : Nat → Int32} (h : PY e x) : cl (x 4) ≤ cl (so8 f e x P 4) := Nat.le_trans (so7_le h) (num_le (PY_so7 h).1)
theorem so8_50 {f : Nat → Int32} {e : Nat} {x P : Nat → Int32} (z : so8 f e x P 5 = nI 0) : lok (nI 0) (nI 99) (so7 f e x P) 5 = nI 0 := num_50 z
theorem PY_so9 {f : Nat → Int32} {e : Nat} {x P : Nat → Int32} (h : PY e x) : PY e (so9 f e x P) := PY_tks (PY_so8 h)
theorem so9_le {f : Nat → Int32} {e : Nat} {x P : Nat → Int32} (h : PY e x) : cl (x 4) ≤ cl (so9 f e x P 4) := Nat.le_trans (so8_le h) (tks_le (PY_so8 h).1)
theorem so9_50 {f : Nat → Int32} {e : Nat} {x P : Nat → Int32} (z : so9 f e x P 5 = nI 0) : so8 f e x P 5 = nI 0 := tks_50 z
theorem PY_wa0 {f : Nat → Int32} {e : Nat} {x P : Nat → Int32} (h : PY e x) : PY e (wa0 f e x P) := (PY_bgn h (by decide))
theorem wa0_le {f : Nat → Int32} {e : Nat} {x P : Nat → Int32} (h : PY e x) : cl (x 4) ≤ cl (wa0 f e x P 4) := bgn_le h.1 (by decide)
theorem wa0_50 {f : Nat → Int32} {e : Nat} {x P : Nat → Int32} (z : wa0 f e x P 5 = nI 0) : ¬ (nW P = 2) ∧ x 5 = nI 0 := bgn_50 (by decide) z
theorem PY_wa1 {f : Nat → Int32} {e : Nat} {x P : Nat → Int32} (h : PY e x) : PY e (wa1 f e x P) := PY_sgd (PY_wa0 h)
theorem wa1_le {f : Nat → Int32} {e : Nat} {x P : Nat → Int32} (h : PY e x) : cl (x 4) ≤ cl (wa1 f e x P 4) := Nat.le_trans (wa0_le h) (sgd_le (PY_wa0 h).1)
theorem wa1_50 {f : Nat → Int32} {e : Nat} {x P : Nat → Int32} (z : wa1 f e x P 5 = nI 0) : wa0 f e x P 5 = nI 0 := sgd_50 z
theorem PY_waX {f : Nat → Int32} {e : Nat} {x P : Nat → Int32} (h : PY e x) : PY e (waX f e x P) := PY_num (PY_wa1 h)
theorem waX_le {f : Nat → Int32} {e : Nat} {x P : Nat → Int32} (h : PY e x) : cl (x 4) ≤ cl (waX f e x P 4) := Nat.le_trans (wa1_le h) (num_le (PY_wa1 h).1)
theorem waX_50 {f : Nat → Int32} {e : Nat} {x P : Nat → Int32} (z : waX f e x P 5 = nI 0) : lok (nI 1) (nI 100) (wa1 f e x P) 5 = nI 0 := num_50 z
theorem PY_fa0 {f : Nat → Int32} {e : Nat} {x P : Nat → Int32} (h : PY e x) : PY e (fa0 f e x P) := (PY_bgn h (by decide))
theorem fa0_le {f : Nat → Int32} {e : Nat} {x P : Nat → Int32} (h : PY e x) : cl (x 4) ≤ cl (fa0 f e x P 4) := bgn_le h.1 (by decide)
theorem fa0_50 {f : Nat → Int32} {e : Nat} {x P : Nat → Int32} (z : fa0 f e x P 5 = nI 0) : ¬ (0 < nF P) ∧ x 5 = nI 0 := bgn_50 (by decide) z
theorem PY_faX {f : Nat → Int32} {e : Nat} {x P : Nat → Int32} (h : PY e x) : PY e (faX f e x P) := PY_num (PY_fa0 h)
theorem faX_le {f : Nat → Int32} {e : Nat} {x P : Nat → Int32} (h : PY e x) : cl (x 4) ≤ cl (faX f e x P 4) := Nat.le_trans (fa0_le h) (num_le (PY_fa0 h).1)
theorem faX_50 {f : Nat → Int32} {e : Nat} {x P : Nat → Int32} (z : faX f e x P 5 = nI 0) : lok (nI 1) (nI 999) (fa0 f e x P) 5 = nI 0 := num_50 z
theorem PY_zo0 {f : Nat → Int32} {e : Nat} {x P : Nat → Int32} (h : PY e x) : PY e (zo0 f e x P) := (PY_bgn h (by decide))
theorem zo0_le {f : Nat → Int32} {e : Nat} {x P : Nat → Int32} (h : PY e x) : cl (x 4) ≤ cl (zo0 f e x P 4) := bgn_le h.1 (by decide)
theorem zo0_50 {f : Nat → Int32} {e : Nat} {x P : Nat → Int32} (z : zo0 f e x P 5 = nI 0) : ¬ (nZ P = 4) ∧ x 5 = nI 0 := bgn_50 (by decide) z
theorem PY_zo1 {f : Nat → Int32} {e : Nat} {x P : Nat → Int32} (h : PY e x) : PY e (zo1 f e x P) := PY_num (PY_zo0 h)
theorem zo1_le {f : Nat → Int32} {e : Nat} {x P : Nat → Int32} (h : PY e x) : cl (x 4) ≤ cl (zo1 f e x P 4) := Nat.le_trans (zo0_le h) (num_le (PY_zo0 h).1)
theorem zo1_50 {f : Nat → Int32} {e : Nat} {x P : Nat → Int32} (z : zo1 f e x P 5 = nI 0) : lok (nI 0) (nI (nX P) - nI 1) (zo0 f e x P) 5 = nI 0 := num_50 z
theorem PY_zo2 {f : Nat → Int32} {e : Nat} {x P : Nat → Int32} (h : PY e x) : PY e (zo2 f e x P) := PY_num (PY_zo1 h)
theorem zo2_le {f : Nat → Int32} {e : Nat} {x P : Nat → Int32} (h : PY e x) : cl (x 4) ≤ cl (zo2 f e x P 4) := Nat.le_trans (zo1_le h) (num_le (PY_zo1 h).1)
theorem zo2_50 {f : Nat → Int32} {e : Nat} {x P : Nat → Int32} (z : zo2 f e x P 5 = nI 0) : lok (nI 0) (nI (nY P) - nI 1) (zo1 f e x P) 5 = nI 0 := num_50 z
theorem PY_zo3 {f : Nat → Int32} {e : Nat} {x P : Nat → Int32} (h : PY e x) : PY e (zo3 f e x P) := PY_num (PY_zo2 h)
theorem zo3_le {f : Nat → Int32} {e : Nat} {x P : Nat → Int32} (h : PY e x) : cl (x 4) ≤ cl (zo3 f e x P 4) := Nat.le_trans (zo2_le h) (num_le (PY_zo2 h).1)
theorem zo3_50 {f : Nat → Int32} {e : Nat} {x P : Nat → Int32} (z : zo3 f e x P 5 = nI 0) : lok (zv0 f e x P) (nI (nX P) - nI 1) (zo2 f e x P) 5 = nI 0 := num_50 z
theorem PY_zoX {f : Nat → Int32} {e : Nat} {x P : Nat → Int32} (h : PY e x) : PY e (zoX f e x P) := PY_num (PY_zo3 h)
theorem zoX_le {f : Nat → Int32} {e : Nat} {x P : Nat → Int32} (h : PY e x) : cl (x 4) ≤ cl (zoX f e x P 4) := Nat.le_trans (zo3_le h) (num_le (PY_zo3 h).1)
theorem zoX_50 {f : Nat → Int32} {e : Nat} {x P : Nat → Int32} (z : zoX f e x P 5 = nI 0) : lok (zv1 f e x P) (nI (nY P) - nI 1) (zo3 f e x P) 5 = nI 0 := num_50 z
theorem PY_ck1 {f : Nat → Int32} {e : Nat} {x P : Nat → Int32} (h : PY e x) : PY e (ck1 f e x P) := PY_lok (PY_ck0 h)
theorem ck1_le {f : Nat → Int32} {e : Nat} {x P : Nat → Int32} (h : PY e x) : cl (x 4) ≤ cl (ck1 f e x P 4) := by show _ ≤ cl (lok _ _ _ 4); rw [lok_4]; exact ck0_le h
theorem ck1_50 {f : Nat → Int32} {e : Nat} {x P : Nat → Int32} (z : ck1 f e x P 5 = nI 0) : ck0 f e x 5 = nI 0 := lok_50 z
theorem PY_ck2 {f : Nat → Int32} {e : Nat} {x P : Nat → Int32} (h : PY e x) : PY e (ck2 f e x P) := (PY_bgn (PY_ck1 h) (by decide))
theorem ck2_le {f : Nat → Int32} {e : Nat} {x P : Nat → Int32} (h : PY e x) : cl (x 4) ≤ cl (ck2 f e x P 4) := Nat.le_trans (ck1_le h) (bgn_le (PY_ck1 h).1 (by decide))
theorem ck2_50 {f : Nat → Int32} {e : Nat} {x P : Nat → Int32} (z : ck2 f e x P 5 = nI 0) : ¬ (ck1 f e x P 5 = nI 0 ∧ 0 < P (83 + cl (ckv f e x P))) ∧ ck1 f e x P 5 = nI 0 := bgn_50 (by decide) z
theorem PY_ckX {f : Nat → Int32} {e : Nat} {x P : Nat → Int32} (h : PY e x) : PY e (ckX f e x P) := PY_num (PY_ck2 h)
theorem ckX_le {f : Nat → Int32} {e : Nat} {x P : Nat → Int32} (h : PY e x) : cl (x 4) ≤ cl (ckX f e x P 4) := Nat.le_trans (ck2_le h) (num_le (PY_ck2 h).1)
theorem ckX_50 {f : Nat → Int32} {e : Nat} {x P : Nat → Int32} (z : ckX f e x P 5 = nI 0) : lok (nI 1) (nI 31) (ck2 f e x P) 5 = nI 0 := num_50 z
theorem PY_of1 {f : Nat → Int32} {e : Nat} {x P : Nat → Int32} (h : PY e x) : PY e (of1 f e x P) := PY_lok (PY_ck0 h)
theorem of1_le {f : Nat → Int32} {e : Nat} {x P : Nat → Int32} (h : PY e x) : cl (x 4) ≤ cl (of1 f e x P 4) := by show _ ≤ cl (lok _ _ _ 4); rw [lok_4]; exact ck0_le h
theorem of1_50 {f : Nat → Int32} {e : Nat} {x P : Nat → Int32} (z : of1 f e x P 5 = nI 0) : ck0 f e x 5 = nI 0 := lok_50 z
theorem PY_flb {f : Nat → Int32} {e : Nat} {x P : Nat → Int32} (h : PY e x) : PY e (flb f e x P) := (PY_bgn h (by decide))
theorem flb_le {f : Nat → Int32} {e : Nat} {x P : Nat → Int32} (h : PY e x) : cl (x 4) ≤ cl (flb f e x P 4) := bgn_le h.1 (by decide)
theorem flb_50 {f : Nat → Int32} {e : Nat} {x P : Nat → Int32} (z : flb f e x P 5 = nI 0) : ¬ (0 < nP P) ∧ x 5 = nI 0 := bgn_50 (by decide) z
theorem PY_sdb {f : Nat → Int32} {e : Nat} {x P : Nat → Int32} (h : PY e x) : PY e (sdb f e x P) := (PY_bgn h (by decide))
theorem sdb_le {f : Nat → Int32} {e : Nat} {x P : Nat → Int32} (h : PY e x) : cl (x 4) ≤ cl (sdb f e x P 4) := bgn_le h.1 (by decide)
theorem sdb_50 {f : Nat → Int32} {e : Nat} {x P : Nat → Int32} (z : sdb f e x P 5 = nI 0) : ¬ (0 < nH P) ∧ x 5 = nI 0 := bgn_50 (by decide) z
theorem PY_soX {f : Nat → Int32} {e : Nat} {x P : Nat → Int32} (h : PY e x) : PY e (soX f e x P) := by
  unfold soX
  split
  · exact PY_num (PY_so9 h)
  · exact PY_so9 h
theorem soX_le {f : Nat → Int32} {e : Nat} {x P : Nat → Int32} (h : PY e x) : cl (x 4) ≤ cl (soX f e x P 4) := by
  unfold soX
  split
  · exact Nat.le_trans (so9_le h) (num_le (PY_so9 h).1)
  · exact so9_le h
theorem soX_50 {f : Nat → Int32} {e : Nat} {x P : Nat → Int32} (z : soX f e x P 5 = nI 0) : so9 f e x P 5 = nI 0 := by
  unfold soX at z
  split at z
  · exact lok_50 (num_50 z)
  · exact z
theorem PY_ofX {f : Nat → Int32} {e : Nat} {x P S : Nat → Int32} (h : PY e x) : PY e (ofX f e x P S) := PY_bgn (PY_of1 h) (by decide)
theorem ofX_le {f : Nat → Int32} {e : Nat} {x P S : Nat → Int32} (h : PY e x) : cl (x 4) ≤ cl (ofX f e x P S 4) := Nat.le_trans (of1_le h) (bgn_le (PY_of1 h).1 (by decide))
theorem ofX_50 {f : Nat → Int32} {e : Nat} {x P S : Nat → Int32} (z : ofX f e x P S 5 = nI 0) : ¬ (of1 f e x P 5 = nI 0 ∧ S (25 + cl (ofv f e x P)) = nI 0) ∧ of1 f e x P 5 = nI 0 := bgn_50 (by decide) z
theorem PY_fl0 {e : Nat} {f : Nat → Int32} {x P : Nat → Int32} (h : PY e x) : PY e (fl0 f e x P) := by
  unfold fl0
  split
  · split
    · exact PY_fau (PY_lok h) (by decide)
    · exact PY_fau h (by decide)
  · exact h
theorem PY_fl1 {f : Nat → Int32} {e : Nat} {x P : Nat → Int32} (h : PY e x) : PY e (fl1 f e x P) := PY_sgd (PY_fl0 h)
theorem fl0_4 {f : Nat → Int32} {e : Nat} {x P : Nat → Int32} : fl0 f e x P 4 = x 4 := by
  unfold fl0
  split
  · rw [fau_4]
    split
    · exact lok_4
    · rfl
  · rfl
theorem fl1_le {f : Nat → Int32} {e : Nat} {x P : Nat → Int32} (h : PY e x) : cl (x 4) ≤ cl (fl1 f e x P 4) := by
  have z := sgd_le (f := f) (lo := -9) (hi := nI 9) (PY_fl0 (f := f) (P := P) h).1
  rw [fl0_4] at z
  exact z
theorem fl1_50 {f : Nat → Int32} {e : Nat} {x P : Nat → Int32} (z : fl1 f e x P 5 = nI 0) : ¬ nP P = 5 ∧ x 5 = nI 0 := by
  have z0 := sgd_50 z
  unfold fl0 at z0
  split at z0
  · exact (fau_50 (by decide) z0).elim
  · exact ⟨by assumption, z0⟩
theorem PY_sd0 {f : Nat → Int32} {e : Nat} {x P : Nat → Int32} (h : PY e x) : PY e (sd0 f e x P) := PY_bgn (PY_lok h) (by decide)
theorem sd0_le {f : Nat → Int32} {e : Nat} {x P : Nat → Int32} (h : PY e x) : cl (x 4) ≤ cl (sd0 f e x P 4) := by
  have z := bgn_le (f := f) (p := nH P = 12) (k := 4) (PY_lok (lo := nI 0) (hi := nI 9) h).1 (by decide)
  rw [lok_4] at z
  exact z
theorem sd0_50 {f : Nat → Int32} {e : Nat} {x P : Nat → Int32} (z : sd0 f e x P 5 = nI 0) : ¬ nH P = 12 ∧ lok (nI 0) (nI 9) x 5 = nI 0 := bgn_50 (by decide) z
