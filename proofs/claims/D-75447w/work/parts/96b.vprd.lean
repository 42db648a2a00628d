/-! the plan's numbers as ranges: printed by gen/vp.py -/
set_option maxRecDepth 100000
def vlo (k : Nat) : Int := if k < 1 then 0 else if k < 2 then 0 else if k < 3 then 0 else if k < 4 then 0 else if k < 5 then 0 else if k < 6 then 0 else if k < 7 then (-999) else if k < 8 then (-999) else if k < 9 then 0 else if k < 10 then 0 else if k < 11 then 0 else if k < 23 then (-500) else if k < 35 then (-500) else if k < 47 then 0 else if k < 53 then 0 else if k < 59 then 0 else if k < 65 then 0 else if k < 71 then 0 else if k < 72 then 0 else if k < 74 then (-2000) else if k < 76 then 0 else if k < 77 then 0 else if k < 78 then 0 else if k < 83 then (-9) else if k < 95 then 0 else if k < 101 then 0 else if k < 102 then 0 else if k < 118 then 0 else if k < 119 then 0 else if k < 131 then 0 else 0
def vhi (k : Nat) : Int := if k < 1 then 5000 else if k < 2 then 99 else if k < 3 then 200 else if k < 4 then 9999 else if k < 5 then 12 else if k < 6 then 6 else if k < 7 then 999 else if k < 8 then 999 else if k < 9 then 99 else if k < 10 then 12 else if k < 11 then 12 else if k < 23 then 500 else if k < 35 then 500 else if k < 47 then 9 else if k < 53 then 3 else if k < 59 then 999 else if k < 65 then 99 else if k < 71 then 99 else if k < 72 then 2 else if k < 74 then 2000 else if k < 76 then 100 else if k < 77 then 999 else if k < 78 then 5 else if k < 83 then 9 else if k < 95 then 31 else if k < 101 then 199 else if k < 102 then 4 else if k < 118 then 11 else if k < 119 then 12 else if k < 131 then 9 else 0
abbrev pok (k : Nat) (v : Int32) : Prop := vlo k ≤ v.toInt ∧ v.toInt ≤ vhi k
theorem vb_0 : ∀ m, m < 1 → vlo (0 + m) = 0 ∧ vhi (0 + m) = 5000 := by decide
theorem vb_1 : ∀ m, m < 1 → vlo (1 + m) = 0 ∧ vhi (1 + m) = 99 := by decide
theorem vb_2 : ∀ m, m < 1 → vlo (2 + m) = 0 ∧ vhi (2 + m) = 200 := by decide
theorem vb_3 : ∀ m, m < 1 → vlo (3 + m) = 0 ∧ vhi (3 + m) = 9999 := by decide
theorem vb_4 : ∀ m, m < 1 → vlo (4 + m) = 0 ∧ vhi (4 + m) = 12 := by decide
theorem vb_5 : ∀ m, m < 1 → vlo (5 + m) = 0 ∧ vhi (5 + m) = 6 := by decide
theorem vb_6 : ∀ m, m < 1 → vlo (6 + m) = -999 ∧ vhi (6 + m) = 999 := by decide
theorem vb_7 : ∀ m, m < 1 → vlo (7 + m) = -999 ∧ vhi (7 + m) = 999 := by decide
theorem vb_8 : ∀ m, m < 1 → vlo (8 + m) = 0 ∧ vhi (8 + m) = 99 := by decide
theorem vb_9 : ∀ m, m < 1 → vlo (9 + m) = 0 ∧ vhi (9 + m) = 12 := by decide
theorem vb_10 : ∀ m, m < 1 → vlo (10 + m) = 0 ∧ vhi (10 + m) = 12 := by decide
theorem vb_11 : ∀ m, m < 12 → vlo (11 + m) = -500 ∧ vhi (11 + m) = 500 := by decide
theorem vb_23 : ∀ m, m < 12 → vlo (23 + m) = -500 ∧ vhi (23 + m) = 500 := by decide
theorem vb_35 : ∀ m, m < 12 → vlo (35 + m) = 0 ∧ vhi (35 + m) = 9 := by decide
theorem vb_47 : ∀ m, m < 6 → vlo (47 + m) = 0 ∧ vhi (47 + m) = 3 := by decide
theorem vb_53 : ∀ m, m < 6 → vlo (53 + m) = 0 ∧ vhi (53 + m) = 999 := by decide
theorem vb_59 : ∀ m, m < 6 → vlo (59 + m) = 0 ∧ vhi (59 + m) = 99 := by decide
theorem vb_65 : ∀ m, m < 6 → vlo (65 + m) = 0 ∧ vhi (65 + m) = 99 := by decide
theorem vb_71 : ∀ m, m < 1 → vlo (71 + m) = 0 ∧ vhi (71 + m) = 2 := by decide
theorem vb_72 : ∀ m, m < 2 → vlo (72 + m) = -2000 ∧ vhi (72 + m) = 2000 := by decide
theorem vb_74 : ∀ m, m < 2 → vlo (74 + m) = 0 ∧ vhi (74 + m) = 100 := by decide
theorem vb_76 : ∀ m, m < 1 → vlo (76 + m) = 0 ∧ vhi (76 + m) = 999 := by decide
theorem vb_77 : ∀ m, m < 1 → vlo (77 + m) = 0 ∧ vhi (77 + m) = 5 := by decide
theorem vb_78 : ∀ m, m < 5 → vlo (78 + m) = -9 ∧ vhi (78 + m) = 9 := by decide
theorem vb_83 : ∀ m, m < 12 → vlo (83 + m) = 0 ∧ vhi (83 + m) = 31 := by decide
theorem vb_95 : ∀ m, m < 6 → vlo (95 + m) = 0 ∧ vhi (95 + m) = 199 := by decide
theorem vb_101 : ∀ m, m < 1 → vlo (101 + m) = 0 ∧ vhi (101 + m) = 4 := by decide
theorem vb_102 : ∀ m, m < 16 → vlo (102 + m) = 0 ∧ vhi (102 + m) = 11 := by decide
theorem vb_118 : ∀ m, m < 1 → vlo (118 + m) = 0 ∧ vhi (118 + m) = 12 := by decide
theorem vb_119 : ∀ m, m < 12 → vlo (119 + m) = 0 ∧ vhi (119 + m) = 9 := by decide
theorem nn_t {v : Int32} {b : Nat} (hb : b < 2 ^ 31) (h : v = nI v.toNatClampNeg ∧ v.toNatClampNeg ≤ b) : 0 ≤ v.toInt ∧ v.toInt ≤ b := by
  obtain ⟨n, hn⟩ : ∃ n, v.toNatClampNeg = n := ⟨_, rfl⟩
  rw [hn] at h
  rw [h.1, nI_toInt (by omega)]
  omega
theorem nn_f {v : Int32} {b : Nat} (hb : b < 2 ^ 31) (h1 : 0 ≤ v.toInt) (h2 : v.toInt ≤ b) : v = nI v.toNatClampNeg ∧ v.toNatClampNeg ≤ b := by
  have e : v.toNatClampNeg = v.toInt.toNat := rfl
  rw [e]
  refine ⟨?_, by omega⟩
  apply Int32.toInt_inj.mp
  rw [nI_toInt (by omega)]
  omega
theorem VP_ok {P : Nat → Int32} (h : VP P) : ∀ k, k < 131 → pok k (P k) := by
  intro k hk
  rcases (show k = 0 ∨ k = 1 ∨ k = 2 ∨ k = 3 ∨ k = 4 ∨ k = 5 ∨ k = 6 ∨ k = 7 ∨ k = 8 ∨ k = 9 ∨ k = 10 ∨ (11 ≤ k ∧ k < 23) ∨ (23 ≤ k ∧ k < 35) ∨ (35 ≤ k ∧ k < 47) ∨ (47 ≤ k ∧ k < 53) ∨ (53 ≤ k ∧ k < 59) ∨ (59 ≤ k ∧ k < 65) ∨ (65 ≤ k ∧ k < 71) ∨ k = 71 ∨ (72 ≤ k ∧ k < 74) ∨ (74 ≤ k ∧ k < 76) ∨ k = 76 ∨ k = 77 ∨ (78 ≤ k ∧ k < 83) ∨ (83 ≤ k ∧ k < 95) ∨ (95 ≤ k ∧ k < 101) ∨ k = 101 ∨ (102 ≤ k ∧ k < 118) ∨ k = 118 ∨ (119 ≤ k ∧ k < 131) by omega) with e | e | e | e | e | e | e | e | e | e | e | e | e | e | e | e | e | e | e | e | e | e | e | e | e | e | e | e | e | e
  · subst e
    exact nn_t (by decide) (⟨h.e0, h.l0⟩)
  · subst e
    exact nn_t (by decide) (⟨h.e1, h.l1⟩)
  · subst e
    exact nn_t (by decide) (⟨h.e2, h.l2⟩)
  · subst e
    exact nn_t (by decide) (⟨h.e3, h.l3⟩)
  · subst e
    exact nn_t (by decide) (⟨h.e4, h.l4⟩)
  · subst e
    exact nn_t (by decide) (⟨h.e5, h.l5⟩)
  · subst e
    exact h.r6
  · subst e
    exact h.r7
  · subst e
    exact nn_t (by decide) (⟨h.e8, h.l8⟩)
  · subst e
    exact nn_t (by decide) (⟨h.e9, h.l9⟩)
  · subst e
    exact nn_t (by decide) (⟨h.e10, h.l10⟩)
  · obtain ⟨m, rfl⟩ : ∃ m, k = 11 + m := ⟨k - 11, by omega⟩
    have hm : m < 12 := by omega
    unfold pok
    rw [(vb_11 m hm).1, (vb_11 m hm).2]
    exact h.r11 m hm
  · obtain ⟨m, rfl⟩ : ∃ m, k = 23 + m := ⟨k - 23, by omega⟩
    have hm : m < 12 := by omega
    unfold pok
    rw [(vb_23 m hm).1, (vb_23 m hm).2]
    exact h.r23 m hm
  · obtain ⟨m, rfl⟩ : ∃ m, k = 35 + m := ⟨k - 35, by omega⟩
    have hm : m < 12 := by omega
    unfold pok
    rw [(vb_35 m hm).1, (vb_35 m hm).2]
    exact nn_t (by decide) (h.gain m hm)
  · obtain ⟨m, rfl⟩ : ∃ m, k = 47 + m := ⟨k - 47, by omega⟩
    have hm : m < 6 := by omega
    unfold pok
    rw [(vb_47 m hm).1, (vb_47 m hm).2]
    exact nn_t (by decide) (h.sort m hm)
  · obtain ⟨m, rfl⟩ : ∃ m, k = 53 + m := ⟨k - 53, by omega⟩
    have hm : m < 6 := by omega
    unfold pok
    rw [(vb_53 m hm).1, (vb_53 m hm).2]
    exact nn_t (by decide) (h.amp m hm)
  · obtain ⟨m, rfl⟩ : ∃ m, k = 59 + m := ⟨k - 59, by omega⟩
    have hm : m < 6 := by omega
    unfold pok
    rw [(vb_59 m hm).1, (vb_59 m hm).2]
    exact nn_t (by decide) (h.per m hm)
  · obtain ⟨m, rfl⟩ : ∃ m, k = 65 + m := ⟨k - 65, by omega⟩
    have hm : m < 6 := by omega
    unfold pok
    rw [(vb_65 m hm).1, (vb_65 m hm).2]
    exact nn_t (by decide) (h.pha m hm)
  · subst e
    exact nn_t (by decide) (⟨h.e71, h.l71⟩)
  · obtain ⟨m, rfl⟩ : ∃ m, k = 72 + m := ⟨k - 72, by omega⟩
    have hm : m < 2 := by omega
    unfold pok
    rw [(vb_72 m hm).1, (vb_72 m hm).2]
    exact h.r72 m hm
  · obtain ⟨m, rfl⟩ : ∃ m, k = 74 + m := ⟨k - 74, by omega⟩
    have hm : m < 2 := by omega
    unfold pok
    rw [(vb_74 m hm).1, (vb_74 m hm).2]
    exact nn_t (by decide) (h.pct m hm)
  · subst e
    exact nn_t (by decide) (⟨h.e76, h.l76⟩)
  · subst e
    exact nn_t (by decide) (⟨h.e77, h.l77⟩)
  · obtain ⟨m, rfl⟩ : ∃ m, k = 78 + m := ⟨k - 78, by omega⟩
    have hm : m < 5 := by omega
    unfold pok
    rw [(vb_78 m hm).1, (vb_78 m hm).2]
    exact h.r78 m hm
  · obtain ⟨m, rfl⟩ : ∃ m, k = 83 + m := ⟨k - 83, by omega⟩
    have hm : m < 12 := by omega
    unfold pok
    rw [(vb_83 m hm).1, (vb_83 m hm).2]
    exact nn_t (by decide) (h.ofs m hm)
  · obtain ⟨m, rfl⟩ : ∃ m, k = 95 + m := ⟨k - 95, by omega⟩
    have hm : m < 6 := by omega
    unfold pok
    rw [(vb_95 m hm).1, (vb_95 m hm).2]
    exact nn_t (by decide) (h.frm m hm)
  · subst e
    exact nn_t (by decide) (⟨h.e101, h.l101⟩)
  · obtain ⟨m, rfl⟩ : ∃ m, k = 102 + m := ⟨k - 102, by omega⟩
    have hm : m < 16 := by omega
    unfold pok
    rw [(vb_102 m hm).1, (vb_102 m hm).2]
    exact nn_t (by decide) (h.zon m hm)
  · subst e
    exact nn_t (by decide) (⟨h.e118, h.l118⟩)
  · obtain ⟨m, rfl⟩ : ∃ m, k = 119 + m := ⟨k - 119, by omega⟩
    have hm : m < 12 := by omega
    unfold pok
    rw [(vb_119 m hm).1, (vb_119 m hm).2]
    exact nn_t (by decide) (h.shd m hm)
theorem VP_of {P : Nat → Int32} (h : ∀ k, k < 131 → pok k (P k)) : VP P := by
  have a0 : P 0 = nI (P 0).toNatClampNeg ∧ (P 0).toNatClampNeg ≤ 5000 := nn_f (by decide) (h 0 (by decide)).1 (h 0 (by decide)).2
  have a1 : P 1 = nI (P 1).toNatClampNeg ∧ (P 1).toNatClampNeg ≤ 99 := nn_f (by decide) (h 1 (by decide)).1 (h 1 (by decide)).2
  have a2 : P 2 = nI (P 2).toNatClampNeg ∧ (P 2).toNatClampNeg ≤ 200 := nn_f (by decide) (h 2 (by decide)).1 (h 2 (by decide)).2
  have a3 : P 3 = nI (P 3).toNatClampNeg ∧ (P 3).toNatClampNeg ≤ 9999 := nn_f (by decide) (h 3 (by decide)).1 (h 3 (by decide)).2
  have a4 : P 4 = nI (P 4).toNatClampNeg ∧ (P 4).toNatClampNeg ≤ 12 := nn_f (by decide) (h 4 (by decide)).1 (h 4 (by decide)).2
  have a5 : P 5 = nI (P 5).toNatClampNeg ∧ (P 5).toNatClampNeg ≤ 6 := nn_f (by decide) (h 5 (by decide)).1 (h 5 (by decide)).2
  have a8 : P 8 = nI (P 8).toNatClampNeg ∧ (P 8).toNatClampNeg ≤ 99 := nn_f (by decide) (h 8 (by decide)).1 (h 8 (by decide)).2
  have a9 : P 9 = nI (P 9).toNatClampNeg ∧ (P 9).toNatClampNeg ≤ 12 := nn_f (by decide) (h 9 (by decide)).1 (h 9 (by decide)).2
  have a10 : P 10 = nI (P 10).toNatClampNeg ∧ (P 10).toNatClampNeg ≤ 12 := nn_f (by decide) (h 10 (by decide)).1 (h 10 (by decide)).2
  have a71 : P 71 = nI (P 71).toNatClampNeg ∧ (P 71).toNatClampNeg ≤ 2 := nn_f (by decide) (h 71 (by decide)).1 (h 71 (by decide)).2
  have a76 : P 76 = nI (P 76).toNatClampNeg ∧ (P 76).toNatClampNeg ≤ 999 := nn_f (by decide) (h 76 (by decide)).1 (h 76 (by decide)).2
  have a77 : P 77 = nI (P 77).toNatClampNeg ∧ (P 77).toNatClampNeg ≤ 5 := nn_f (by decide) (h 77 (by decide)).1 (h 77 (by decide)).2
  have a101 : P 101 = nI (P 101).toNatClampNeg ∧ (P 101).toNatClampNeg ≤ 4 := nn_f (by decide) (h 101 (by decide)).1 (h 101 (by decide)).2
  have a118 : P 118 = nI (P 118).toNatClampNeg ∧ (P 118).toNatClampNeg ≤ 12 := nn_f (by decide) (h 118 (by decide)).1 (h 118 (by decide)).2
  have a35 : ∀ m, m < 12 → P (35 + m) = nI (P (35 + m)).toNatClampNeg ∧ (P (35 + m)).toNatClampNeg ≤ 9 := by
    intro m hm
    have z := h (35 + m) (by omega)
    unfold pok at z
    rw [(vb_35 m hm).1, (vb_35 m hm).2] at z
    exact nn_f (by decide) z.1 z.2
  have a47 : ∀ m, m < 6 → P (47 + m) = nI (P (47 + m)).toNatClampNeg ∧ (P (47 + m)).toNatClampNeg ≤ 3 := by
    intro m hm
    have z := h (47 + m) (by omega)
    unfold pok at z
    rw [(vb_47 m hm).1, (vb_47 m hm).2] at z
    exact nn_f (by decide) z.1 z.2
  have a53 : ∀ m, m < 6 → P (53 + m) = nI (P (53 + m)).toNatClampNeg ∧ (P (53 + m)).toNatClampNeg ≤ 999 := by
    intro m hm
    have z := h (53 + m) (by omega)
    unfold pok at z
    rw [(vb_53 m hm).1, (vb_53 m hm).2] at z
    exact nn_f (by decide) z.1 z.2
  have a59 : ∀ m, m < 6 → P (59 + m) = nI (P (59 + m)).toNatClampNeg ∧ (P (59 + m)).toNatClampNeg ≤ 99 := by
    intro m hm
    have z := h (59 + m) (by omega)
    unfold pok at z
    rw [(vb_59 m hm).1, (vb_59 m hm).2] at z
    exact nn_f (by decide) z.1 z.2
  have a65 : ∀ m, m < 6 → P (65 + m) = nI (P (65 + m)).toNatClampNeg ∧ (P (65 + m)).toNatClampNeg ≤ 99 := by
    intro m hm
    have z := h (65 + m) (by omega)
    unfold pok at z
    rw [(vb_65 m hm).1, (vb_65 m hm).2] at z
    exact nn_f (by decide) z.1 z.2
  have a74 : ∀ m, m < 2 → P (74 + m) = nI (P (74 + m)).toNatClampNeg ∧ (P (74 + m)).toNatClampNeg ≤ 100 := by
    intro m hm
    have z := h (74 + m) (by omega)
    unfold pok at z
    rw [(vb_74 m hm).1, (vb_74 m hm).2] at z
    exact nn_f (by decide) z.1 z.2
  have a83 : ∀ m, m < 12 → P (83 + m) = nI (P (83 + m)).toNatClampNeg ∧ (P (83 + m)).toNatClampNeg ≤ 31 := by
    intro m hm
    have z := h (83 + m) (by omega)
    unfold pok at z
    rw [(vb_83 m hm).1, (vb_83 m hm).2] at z
    exact nn_f (by decide) z.1 z.2
  have a95 : ∀ m, m < 6 → P (95 + m) = nI (P (95 + m)).toNatClampNeg ∧ (P (95 + m)).toNatClampNeg ≤ 199 := by
    intro m hm
    have z := h (95 + m) (by omega)
    unfold pok at z
    rw [(vb_95 m hm).1, (vb_95 m hm).2] at z
    exact nn_f (by decide) z.1 z.2
  have a102 : ∀ m, m < 16 → P (102 + m) = nI (P (102 + m)).toNatClampNeg ∧ (P (102 + m)).toNatClampNeg ≤ 11 := by
    intro m hm
    have z := h (102 + m) (by omega)
    unfold pok at z
    rw [(vb_102 m hm).1, (vb_102 m hm).2] at z
    exact nn_f (by decide) z.1 z.2
  have a119 : ∀ m, m < 12 → P (119 + m) = nI (P (119 + m)).toNatClampNeg ∧ (P (119 + m)).toNatClampNeg ≤ 9 := by
    intro m hm
    have z := h (119 + m) (by omega)
    unfold pok at z
    rw [(vb_119 m hm).1, (vb_119 m hm).2] at z
    exact nn_f (by decide) z.1 z.2
  have a6 : -999 ≤ (P 6).toInt ∧ (P 6).toInt ≤ 999 := h 6 (by decide)
  have a7 : -999 ≤ (P 7).toInt ∧ (P 7).toInt ≤ 999 := h 7 (by decide)
  have a11 : ∀ m, m < 12 → -500 ≤ (P (11 + m)).toInt ∧ (P (11 + m)).toInt ≤ 500 := by
    intro m hm
    have z := h (11 + m) (by omega)
    unfold pok at z
    rw [(vb_11 m hm).1, (vb_11 m hm).2] at z
    exact z
  have a23 : ∀ m, m < 12 → -500 ≤ (P (23 + m)).toInt ∧ (P (23 + m)).toInt ≤ 500 := by
    intro m hm
    have z := h (23 + m) (by omega)
    unfold pok at z
    rw [(vb_23 m hm).1, (vb_23 m hm).2] at z
    exact z
  have a72 : ∀ m, m < 2 → -2000 ≤ (P (72 + m)).toInt ∧ (P (72 + m)).toInt ≤ 2000 := by
    intro m hm
    have z := h (72 + m) (by omega)
    unfold pok at z
    rw [(vb_72 m hm).1, (vb_72 m hm).2] at z
    exact z
  have a78 : ∀ m, m < 5 → -9 ≤ (P (78 + m)).toInt ∧ (P (78 + m)).toInt ≤ 9 := by
    intro m hm
    have z := h (78 + m) (by omega)
    unfold pok at z
    rw [(vb_78 m hm).1, (vb_78 m hm).2] at z
    exact z
  exact ⟨a0.1, a0.2, a1.1, a1.2, a2.1, a2.2, a3.1, a3.2, a4.1, a4.2, a5.1, a5.2, a8.1, a8.2, a9.1, a9.2, a10.1, a10.2, a71.1, a71.2, a76.1, a76.2, a77.1, a77.2, a101.1, a101.2, a118.1, a118.2, a35, a47, a53, a59, a65, a74, a83, a95, a102, a119, a6, a7, a11, a23, a72, a78⟩
theorem VP_up {P : Nat → Int32} (h : VP P) {k : Nat} {v : Int32} (hv : pok k v) : VP (va_up P k v) := VP_of fun j hj => by
  by_cases e : j = k
  · subst e; rw [va_up_self]; exact hv
  · rw [va_up_ne _ _ e]; exact VP_ok h j hj
theorem VP_0 : VP (fun _ => nI 0) := VP_of (by decide)
theorem ti_neg {v : Int32} (h1 : -10000 ≤ v.toInt) (h2 : v.toInt ≤ 10000) : (-v).toInt = -v.toInt := by
  rw [Int32.toInt_neg]
  apply Int.bmod_eq_of_le <;> omega
theorem lov_ti {lo hi : Int32} {x : Nat → Int32} (h : lo.toInt ≤ hi.toInt) : lo.toInt ≤ (lov lo hi x).toInt ∧ (lov lo hi x).toInt ≤ hi.toInt := by
  by_cases h5 : 0 < x 5
  · rw [lov_s h5]; omega
  by_cases h7 : x 7 = nI 3
  · by_cases h9 : lo ≤ x 9 ∧ x 9 ≤ hi
    · rw [lov_0 h5 h7 h9]
      exact ⟨Int32.le_iff_toInt_le.mp h9.1, Int32.le_iff_toInt_le.mp h9.2⟩
    · rw [lov_2 h5 h7 h9]; omega
  · rw [lov_1 h5 h7]; omega
theorem sgv_ti {f : Nat → Int32} {e : Nat} {b : Int32} {x : Nat → Int32} (h0 : 0 ≤ b.toInt) (h1 : b.toInt ≤ 10000) : -b.toInt ≤ (sgv f e (-b) b x).toInt ∧ (sgv f e (-b) b x).toInt ≤ b.toInt := by
  have eb := ti_neg (v := b) (by omega) h1
  unfold sgv
  split
  · have h := lov_ti (lo := -b) (hi := - -b) (x := nxt f e x) (by rw [Int32.neg_neg, eb]; omega)
    rw [Int32.neg_neg, eb] at h
    rw [Int32.neg_neg, ti_neg (by omega) (by omega)]
    omega
  · have h := lov_ti (lo := -b) (hi := b) (x := x) (by rw [eb]; omega)
    rw [eb] at h
    exact h
