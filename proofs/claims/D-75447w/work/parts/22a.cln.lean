/-! cleaning: the rows that are done -/
set_option maxRecDepth 100000
theorem clp_low {P S : Nat → Int32} {b p m n : Nat} : lowS S (clp P S b p m n) := fun i h1 h2 => if_neg (fun z => absurd z.1 (by omega))
theorem clp_z {P S : Nat → Int32} {b p m n : Nat} : clp P S b p m n 0 = S 0 := if_neg (fun z => absurd z.1 (by omega))
theorem clp_at {P S : Nat → Int32} {b p m t : Nat} (hd : t + dc P b m < 200) : clp P S b p m t (55 + 200 * m + t + dc P b m) = S (55 + 200 * m + t + dc P b m) := by
  have e1 : (55 + 200 * m + t + dc P b m - 55) / 200 = m := by omega
  have e2 : (55 + 200 * m + t + dc P b m - 55) % 200 = t + dc P b m := by omega
  unfold clp
  rw [e1, e2, Nat.add_sub_cancel]
  exact if_neg (fun z => by have := z.2.2.2.2.2; omega)
theorem clp_s {P S : Nat → Int32} {b p m t : Nat} (hm : m < nM P) (ha : S (1 + m) = 0) (ht : t < win P S (dc P b)) (hd : t + dc P b m < 200) {v : Int32} (hv : v = S (55 + 200 * m + t + dc P b m) - cq P S b p t) : va_up (clp P S b p m t) (55 + 200 * m + t + dc P b m) v = clp P S b p m (t + 1) := by
  funext i
  subst hv
  have e1 : (55 + 200 * m + t + dc P b m - 55) / 200 = m := by omega
  have e2 : (55 + 200 * m + t + dc P b m - 55) % 200 = t + dc P b m := by omega
  unfold va_up clp
  by_cases h : i = 55 + 200 * m + t + dc P b m
  · rw [if_pos h, h, e1, e2, Nat.add_sub_cancel, if_pos ⟨by omega, hm, ha, by omega, ht, Or.inr ⟨rfl, by omega⟩⟩]
  · rw [if_neg h]
    by_cases hq : 55 ≤ i ∧ (i - 55) / 200 = m
    · obtain ⟨h55, hq⟩ := hq
      rw [hq]
      by_cases h2 : (i - 55) % 200 - dc P b m < t
      · have k : (55 ≤ i ∧ m < nM P ∧ S (1 + m) = 0 ∧ dc P b m ≤ (i - 55) % 200 ∧ (i - 55) % 200 - dc P b m < win P S (dc P b) ∧ (m < m ∨ m = m ∧ (i - 55) % 200 - dc P b m < t)) ↔ (55 ≤ i ∧ m < nM P ∧ S (1 + m) = 0 ∧ dc P b m ≤ (i - 55) % 200 ∧ (i - 55) % 200 - dc P b m < win P S (dc P b) ∧ (m < m ∨ m = m ∧ (i - 55) % 200 - dc P b m < t + 1)) := by
          constructor
          · exact fun z => ⟨z.1, z.2.1, z.2.2.1, z.2.2.2.1, z.2.2.2.2.1, Or.inr ⟨rfl, by omega⟩⟩
          · exact fun z => ⟨z.1, z.2.1, z.2.2.1, z.2.2.2.1, z.2.2.2.2.1, Or.inr ⟨rfl, h2⟩⟩
        by_cases k2 : 55 ≤ i ∧ m < nM P ∧ S (1 + m) = 0 ∧ dc P b m ≤ (i - 55) % 200 ∧ (i - 55) % 200 - dc P b m < win P S (dc P b) ∧ (m < m ∨ m = m ∧ (i - 55) % 200 - dc P b m < t)
        · rw [if_pos k2, if_pos (k.mp k2)]
        · rw [if_neg k2, if_neg (fun z => k2 (k.mpr z))]
      · rw [if_neg (fun z => by have := z.2.2.2.2.2; omega), if_neg (fun z => by have h1 := z.2.2.2.1; have h3 := z.2.2.2.2.2; omega)]
    · by_cases h55 : 55 ≤ i
      · have hq2 : ¬ (i - 55) / 200 = m := fun z => hq ⟨h55, z⟩
        by_cases k2 : 55 ≤ i ∧ (i - 55) / 200 < nM P ∧ S (1 + (i - 55) / 200) = 0 ∧ dc P b ((i - 55) / 200) ≤ (i - 55) % 200 ∧ (i - 55) % 200 - dc P b ((i - 55) / 200) < win P S (dc P b) ∧ ((i - 55) / 200 < m ∨ (i - 55) / 200 = m ∧ (i - 55) % 200 - dc P b ((i - 55) / 200) < t)
        · rw [if_pos k2, if_pos ⟨k2.1, k2.2.1, k2.2.2.1, k2.2.2.2.1, k2.2.2.2.2.1, Or.inl (k2.2.2.2.2.2.elim id (fun z => absurd z.1 hq2))⟩]
        · rw [if_neg k2, if_neg (fun z => k2 ⟨z.1, z.2.1, z.2.2.1, z.2.2.2.1, z.2.2.2.2.1, Or.inl (z.2.2.2.2.2.elim id (fun y => absurd y.1 hq2))⟩)]
      · rw [if_neg (fun z => h55 z.1), if_neg (fun z => h55 z.1)]
theorem clp_n {P S : Nat → Int32} {b p m n : Nat} (h : ¬ S (1 + m) = 0 ∨ win P S (dc P b) ≤ n) : clp P S b p m n = clp P S b p (m + 1) 0 := by
  funext i
  unfold clp
  by_cases k2 : 55 ≤ i ∧ (i - 55) / 200 < nM P ∧ S (1 + (i - 55) / 200) = 0 ∧ dc P b ((i - 55) / 200) ≤ (i - 55) % 200 ∧ (i - 55) % 200 - dc P b ((i - 55) / 200) < win P S (dc P b) ∧ ((i - 55) / 200 < m ∨ (i - 55) / 200 = m ∧ (i - 55) % 200 - dc P b ((i - 55) / 200) < n)
  · rw [if_pos k2, if_pos ⟨k2.1, k2.2.1, k2.2.2.1, k2.2.2.2.1, k2.2.2.2.2.1, Or.inl (by have := k2.2.2.2.2.2; omega)⟩]
  · rw [if_neg k2, if_neg (fun z => k2 ⟨z.1, z.2.1, z.2.2.1, z.2.2.2.1, z.2.2.2.2.1, by
      rcases z.2.2.2.2.2 with y | y
      · by_cases e : (i - 55) / 200 = m
        · rcases h with h | h
          · exact absurd (e ▸ z.2.2.1) h
          · exact Or.inr ⟨e, Nat.lt_of_lt_of_le z.2.2.2.2.1 h⟩
        · exact Or.inl (by omega)
      · exact absurd y.2 (by omega)⟩)]
theorem mxd_ge {S : Nat → Int32} {dl : Nat → Nat} {n m : Nat} (hm : m < n) (ha : S (1 + m) = 0) : dl m ≤ mxd S dl n := by
  induction n with
  | zero => omega
  | succ n ih =>
    show dl m ≤ (if S (1 + n) = 0 then max (mxd S dl n) (dl n) else mxd S dl n)
    by_cases e : m = n
    · subst e; rw [if_pos ha]; omega
    · have := ih (by omega)
      split <;> omega
theorem wsm_c {S S' : Nat → Int32} (h : lowS S S') {n : Nat} (hn : n ≤ 12) : wsm S' n = wsm S n := fo_congr _ (fun k hk x => by
  unfold wgt
  rw [h (1 + k) (by omega) (by omega), h (13 + k) (by omega) (by omega)])
theorem wsm_le {S : Nat → Int32} (hS : VS S) {n : Nat} (hn : n ≤ 12) : wsm S n ≤ 9 * n := by
  induction n with
  | zero => exact Nat.le_refl _
  | succ n ih =>
    show wsm S n + (if S (1 + n) = 0 then wgt S n else 0) ≤ 9 * (n + 1)
    have h1 := ih (by omega)
    have h2 := (hS.wgt n (by omega)).2
    split <;> omega
