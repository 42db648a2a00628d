/-! tracks, steps -/
set_option maxRecDepth 100000
theorem bv_s {B i : Nat} (h : i + 1 ≤ B) : nI (B - (i + 1)) + (-1) = nI B - nI (i + 1 + 1) := by
  rw [← pk_sub h, ← nI_add (i + 1) 1, show nI 1 = (1 : Int32) from by decide, Int32.sub_eq_add_neg, Int32.sub_eq_add_neg, Int32.neg_add, Int32.add_assoc, Int32.sub_eq_add_neg]
theorem bv_neg {B : Nat} (hB : B < 1000) : nI B - nI (B + 1) < 0 := by
  rw [Int32.lt_iff_toInt_lt, pk_sub_toInt (a := B) (b := B + 1) (by omega) (by omega)]
  have : (0 : Int32).toInt = 0 := rfl
  omega
theorem trk_st {P S : Nat → Int32} {n B i c j : Nat} {sc : Nat → Int64} (hi : 0 < i) (hsc : ∀ k, k < nC P → sc k = trk P S n B (i - 1) k) (hj : bsf (fun k => decide (nea P c k)) sc (nC P) = some j) (hjn : j < nC P) : blk P S c (n * (B - (i + 1))) n + sc j = trk P S n B i c := by
  obtain ⟨k, rfl⟩ : ∃ k, i = k + 1 := ⟨i - 1, by omega⟩
  show _ = blk P S c (n * (B - 1 - (k + 1))) n + trk P S n B k ((bsf (fun i => decide (nea P c i)) (trk P S n B k) (nC P)).getD 0)
  rw [bsf_congr (sc := sc) (sd := trk P S n B k) (nC P) hsc] at hj
  rw [hj, hsc j hjn, show B - 1 - (k + 1) = B - (k + 1 + 1) by omega]
  rfl
theorem bsf_al {sc : Nat → Int64} {n : Nat} (h : 0 < n) : bsf (fun _ => true) sc n = some (bsN sc n) := by
  obtain ⟨k, rfl⟩ : ∃ k, n = k + 1 := ⟨n - 1, by omega⟩
  exact bsf_all
theorem trc_z {P S : Nat → Int32} {n B : Nat} {sc : Nat → Int64} (h : 0 < nC P) (hsc : ∀ k, k < nC P → sc k = trk P S n B (B - 1) k) : obI (bsf (fun _ => true) sc (nC P)) = nI (trc P S n B 0) ∧ trc P S n B 0 < nC P := by
  rw [bsf_congr (sc := sc) (sd := trk P S n B (B - 1)) (nC P) hsc, bsf_al h]
  exact ⟨rfl, bsN_lt h⟩
theorem trc_s {P S : Nat → Int32} {n B i : Nat} {sc : Nat → Int64} (hi : 0 < i) (hsc : ∀ k, k < nC P → sc k = trk P S n B (B - 1 - i) k) (ht : trc P S n B (i - 1) < nC P) : obI (bsf (fun k => decide (nea P (trc P S n B (i - 1)) k)) sc (nC P)) = nI (trc P S n B i) ∧ trc P S n B i < nC P := by
  obtain ⟨k, rfl⟩ : ∃ k, i = k + 1 := ⟨i - 1, by omega⟩
  have ht : trc P S n B k < nC P := ht
  have e : trc P S n B (k + 1) = (bsf (fun i => decide (nea P (trc P S n B k) i)) (trk P S n B (B - 1 - (k + 1))) (nC P)).getD 0 := rfl
  obtain ⟨j, hj, hjn⟩ := bsf_some (al := fun i => decide (nea P (trc P S n B k) i)) (sc := trk P S n B (B - 1 - (k + 1))) ht (decide_eq_true (nea_r P _))
  rw [show k + 1 - 1 = k from rfl, bsf_congr (sc := sc) (sd := trk P S n B (B - 1 - (k + 1))) (nC P) hsc, e, hj]
  exact ⟨rfl, hjn⟩
