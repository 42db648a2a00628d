/-! the plan under way, second half: printed by gen/iv2.py -/
set_option maxRecDepth 100000
theorem ckv_nat {f : Nat → Int32} {e : Nat} {x P : Nat → Int32} (hP : VP P) (z : ck1 f e x P 5 = nI 0) : ∃ j, j < nM P ∧ ckv f e x P = nI j ∧ cl (ckv f e x P) = j := by
  have l4 := hP.l4
  obtain ⟨j, hj, ej⟩ := lov_nat (n := nM P) (x := ck0 f e x) (by omega) z
  exact ⟨j, hj, ej, by rw [show ckv f e x P = nI j from ej]; exact cl_I (by omega)⟩
theorem ofv_nat {f : Nat → Int32} {e : Nat} {x P : Nat → Int32} (hP : VP P) (z : of1 f e x P 5 = nI 0) : ∃ j, j < nS P ∧ ofv f e x P = nI j ∧ cl (ofv f e x P) = j := by
  have l5 := hP.l5
  obtain ⟨j, hj, ej⟩ := lov_nat (n := nS P) (x := ck0 f e x) (by omega) z
  exact ⟨j, hj, ej, by rw [show ofv f e x P = nI j from ej]; exact cl_I (by omega)⟩
theorem IV_ck {f : Nat → Int32} {e : Nat} {x P : Nat → Int32} (h : IV P) (hx : PY e x) : IV (ckP f e x P) := by
  unfold ckP
  by_cases z : ckX f e x P 5 = nI 0
  · rw [if_pos z]
    have l4 := h.1.l4
    obtain ⟨i, hj, -, ej⟩ := ckv_nat h.1 (ck2_50 (lok_50 (ckX_50 z))).2
    rw [ej]
    obtain ⟨Q, hQ⟩ : ∃ Q, va_up (P) (83 + i) (lov (nI 1) (nI 31) (ck2 f e x P)) = Q := ⟨_, rfl⟩
    have hv : VP (va_up (P) (83 + i) (lov (nI 1) (nI 31) (ck2 f e x P))) := VP_up h.1 (by unfold pok; rw [(vb_83 i (by omega)).1, (vb_83 i (by omega)).2]; exact ⟨Int.le_trans (by decide) (lov_ti (lo := nI 1) (hi := nI 31) (by decide)).1, (lov_ti (lo := nI 1) (hi := nI 31) (by decide)).2⟩)
    rw [hQ] at hv ⊢
    exact IV_mk h hv (fun j hj => by rw [← hQ]; rw [va_up_ne _ _ (show (j : Nat) ≠ 83 + i by omega)]) (Or.inl (fun j a b => by rw [← hQ]; rw [va_up_ne _ _ (show (j : Nat) ≠ 83 + i by omega)])) (fun m hm => by
        rw [show nS Q = nS P from by unfold nS; rw [← hQ]; rw [va_up_ne _ _ (show (5 : Nat) ≠ 83 + i by omega)]] at hm
        have l5 := h.1.l5
        exact Or.inr ⟨hm, by rw [← hQ]; rw [va_up_ne _ _ (show (59 + m : Nat) ≠ 83 + i by omega)], by rw [← hQ]; rw [va_up_ne _ _ (show (53 + m : Nat) ≠ 83 + i by omega)]⟩) (fun m hm => by
        rw [show nM Q = nM P from by unfold nM; rw [← hQ]; rw [va_up_ne _ _ (show (4 : Nat) ≠ 83 + i by omega)]] at hm
        have l4 := h.1.l4
        exact Or.inr ⟨hm, by rw [← hQ]; rw [va_up_ne _ _ (show (35 + m : Nat) ≠ 83 + i by omega)]⟩) (fun z hz => by
        rw [show nZ Q = nZ P from by unfold nZ; rw [← hQ]; rw [va_up_ne _ _ (show (101 : Nat) ≠ 83 + i by omega)]] at hz
        have l101 := h.1.l101
        exact Or.inl ⟨hz, fun j a b => by rw [← hQ]; rw [va_up_ne _ _ (show (102 + j : Nat) ≠ 83 + i by omega)]⟩)
  · rw [if_neg z]; exact h
theorem IV_flP {f : Nat → Int32} {e : Nat} {x P : Nat → Int32} (h : IV P) (hn : nP P < 5) : IV (flP f e x P) := by
  unfold flP
  obtain ⟨Q, hQ⟩ : ∃ Q, va_up (va_up (P) (78 + nP P) (sgv f e (-9) (nI 9) (fl0 f e x P))) (77) (nI (nP P + 1)) = Q := ⟨_, rfl⟩
  have hv : VP (va_up (va_up (P) (78 + nP P) (sgv f e (-9) (nI 9) (fl0 f e x P))) (77) (nI (nP P + 1))) := VP_up (VP_up h.1 (by unfold pok; rw [(vb_78 (nP P) (by omega)).1, (vb_78 (nP P) (by omega)).2]; exact sgv_ti (b := nI 9) (by decide) (by decide))) (⟨by rw [nI_toInt (by omega)]; show (0 : Int) ≤ _; omega, by rw [nI_toInt (by omega)]; show _ ≤ (5 : Int); omega⟩)
  rw [hQ] at hv ⊢
  exact IV_mk h hv (fun j hj => by rw [← hQ]; rw [va_up_ne _ _ (show (j : Nat) ≠ 77 by omega), va_up_ne _ _ (show (j : Nat) ≠ 78 + nP P by omega)]) (Or.inl (fun j a b => by rw [← hQ]; rw [va_up_ne _ _ (show (j : Nat) ≠ 77 by omega), va_up_ne _ _ (show (j : Nat) ≠ 78 + nP P by omega)])) (fun m hm => by
      rw [show nS Q = nS P from by unfold nS; rw [← hQ]; rw [va_up_ne _ _ (show (5 : Nat) ≠ 77 by omega), va_up_ne _ _ (show (5 : Nat) ≠ 78 + nP P by omega)]] at hm
      have l5 := h.1.l5
      exact Or.inr ⟨hm, by rw [← hQ]; rw [va_up_ne _ _ (show (59 + m : Nat) ≠ 77 by omega), va_up_ne _ _ (show (59 + m : Nat) ≠ 78 + nP P by omega)], by rw [← hQ]; rw [va_up_ne _ _ (show (53 + m : Nat) ≠ 77 by omega), va_up_ne _ _ (show (53 + m : Nat) ≠ 78 + nP P by omega)]⟩) (fun m hm => by
      rw [show nM Q = nM P from by unfold nM; rw [← hQ]; rw [va_up_ne _ _ (show (4 : Nat) ≠ 77 by omega), va_up_ne _ _ (show (4 : Nat) ≠ 78 + nP P by omega)]] at hm
      have l4 := h.1.l4
      exact Or.inr ⟨hm, by rw [← hQ]; rw [va_up_ne _ _ (show (35 + m : Nat) ≠ 77 by omega), va_up_ne _ _ (show (35 + m : Nat) ≠ 78 + nP P by omega)]⟩) (fun z hz => by
      rw [show nZ Q = nZ P from by unfold nZ; rw [← hQ]; rw [va_up_ne _ _ (show (101 : Nat) ≠ 77 by omega), va_up_ne _ _ (show (101 : Nat) ≠ 78 + nP P by omega)]] at hz
      have l101 := h.1.l101
      exact Or.inl ⟨hz, fun j a b => by rw [← hQ]; rw [va_up_ne _ _ (show (102 + j : Nat) ≠ 77 by omega), va_up_ne _ _ (show (102 + j : Nat) ≠ 78 + nP P by omega)]⟩)
theorem flP_n {f : Nat → Int32} {e : Nat} {x P : Nat → Int32} (hn : nP P < 5) : nP (flP f e x P) = nP P + 1 := by
  show cl (flP f e x P 77) = _
  unfold flP
  rw [va_up_self]
  exact cl_I (by omega)
theorem IV_sdP {x P : Nat → Int32} (h : IV P) (hn : nH P < 12) : IV (sdP x P) := by
  unfold sdP
  obtain ⟨Q, hQ⟩ : ∃ Q, va_up (va_up (P) (119 + nH P) (lov (nI 0) (nI 9) x)) (118) (nI (nH P + 1)) = Q := ⟨_, rfl⟩
  have hv : VP (va_up (va_up (P) (119 + nH P) (lov (nI 0) (nI 9) x)) (118) (nI (nH P + 1))) := VP_up (VP_up h.1 (by unfold pok; rw [(vb_119 (nH P) (by omega)).1, (vb_119 (nH P) (by omega)).2]; exact lov_ti (lo := nI 0) (hi := nI 9) (by decide))) (⟨by rw [nI_toInt (by omega)]; show (0 : Int) ≤ _; omega, by rw [nI_toInt (by omega)]; show _ ≤ (12 : Int); omega⟩)
  rw [hQ] at hv ⊢
  exact IV_mk h hv (fun j hj => by rw [← hQ]; rw [va_up_ne _ _ (show (j : Nat) ≠ 118 by omega), va_up_ne _ _ (show (j : Nat) ≠ 119 + nH P by omega)]) (Or.inl (fun j a b => by rw [← hQ]; rw [va_up_ne _ _ (show (j : Nat) ≠ 118 by omega), va_up_ne _ _ (show (j : Nat) ≠ 119 + nH P by omega)])) (fun m hm => by
      rw [show nS Q = nS P from by unfold nS; rw [← hQ]; rw [va_up_ne _ _ (show (5 : Nat) ≠ 118 by omega), va_up_ne _ _ (show (5 : Nat) ≠ 119 + nH P by omega)]] at hm
      have l5 := h.1.l5
      exact Or.inr ⟨hm, by rw [← hQ]; rw [va_up_ne _ _ (show (59 + m : Nat) ≠ 118 by omega), va_up_ne _ _ (show (59 + m : Nat) ≠ 119 + nH P by omega)], by rw [← hQ]; rw [va_up_ne _ _ (show (53 + m : Nat) ≠ 118 by omega), va_up_ne _ _ (show (53 + m : Nat) ≠ 119 + nH P by omega)]⟩) (fun m hm => by
      rw [show nM Q = nM P from by unfold nM; rw [← hQ]; rw [va_up_ne _ _ (show (4 : Nat) ≠ 118 by omega), va_up_ne _ _ (show (4 : Nat) ≠ 119 + nH P by omega)]] at hm
      have l4 := h.1.l4
      exact Or.inr ⟨hm, by rw [← hQ]; rw [va_up_ne _ _ (show (35 + m : Nat) ≠ 118 by omega), va_up_ne _ _ (show (35 + m : Nat) ≠ 119 + nH P by omega)]⟩) (fun z hz => by
      rw [show nZ Q = nZ P from by unfold nZ; rw [← hQ]; rw [va_up_ne _ _ (show (101 : Nat) ≠ 118 by omega), va_up_ne _ _ (show (101 : Nat) ≠ 119 + nH P by omega)]] at hz
      have l101 := h.1.l101
      exact Or.inl ⟨hz, fun j a b => by rw [← hQ]; rw [va_up_ne _ _ (show (102 + j : Nat) ≠ 118 by omega), va_up_ne _ _ (show (102 + j : Nat) ≠ 119 + nH P by omega)]⟩)
theorem sdP_n {x P : Nat → Int32} (hn : nH P < 12) : nH (sdP x P) = nH P + 1 := by
  show cl (sdP x P 118) = _
  unfold sdP
  rw [va_up_self]
  exact cl_I (by omega)
theorem fln_s {f : Nat → Int32} {e n : Nat} {x P : Nat → Int32} : fln f e (n + 1) x P = if 0 < fl1 f e x P 5 then (fl1 f e x P, P) else if fl1 f e x P 7 = nI 3 ∨ sgh (nI 45) (fl1 f e x P) then fln f e n (fl1 f e x P) (flP f e x P) else (fl1 f e x P, flP f e x P) := rfl
theorem fln_all {f : Nat → Int32} {e : Nat} : ∀ n x P, IV P → PY e x → PY e (fln f e n x P).1 ∧ IV (fln f e n x P).2 ∧ cl (x 4) ≤ cl ((fln f e n x P).1 4) := by
  intro n
  induction n with
  | zero => intro x P h hx; exact ⟨hx, h, Nat.le_refl _⟩
  | succ n ih =>
    intro x P h hx
    have hy := PY_fl1 (f := f) (P := P) hx
    have hle := fl1_le (f := f) (P := P) hx
    rw [fln_s]
    by_cases h0 : 0 < fl1 f e x P 5
    · rw [if_pos h0]; exact ⟨hy, h, hle⟩
    · rw [if_neg h0]
      have hn := (fl1_50 (px50 hy.1 h0)).1
      have hl := h.1.l77
      have hi := IV_flP (x := x) (f := f) (e := e) h (by omega)
      by_cases h1 : fl1 f e x P 7 = nI 3 ∨ sgh (nI 45) (fl1 f e x P)
      · rw [if_pos h1]
        obtain ⟨a, b, c⟩ := ih _ _ hi hy
        exact ⟨a, b, Nat.le_trans hle c⟩
      · rw [if_neg h1]; exact ⟨hy, hi, hle⟩
theorem sdn_s {f : Nat → Int32} {e n : Nat} {x P : Nat → Int32} : sdn f e (n + 1) x P = if 0 < sd0 f e x P 5 then (sd0 f e x P, P) else if sd0 f e x P 7 = nI 3 then sdn f e n (sd0 f e x P) (sdP x P) else (sd0 f e x P, sdP x P) := rfl
theorem sdn_all {f : Nat → Int32} {e : Nat} : ∀ n x P, IV P → PY e x → PY e (sdn f e n x P).1 ∧ IV (sdn f e n x P).2 ∧ cl (x 4) ≤ cl ((sdn f e n x P).1 4) := by
  intro n
  induction n with
  | zero => intro x P h hx; exact ⟨hx, h, Nat.le_refl _⟩
  | succ n ih =>
    intro x P h hx
    have hy := PY_sd0 (f := f) (P := P) hx
    have hle := sd0_le (f := f) (P := P) hx
    rw [sdn_s]
    by_cases h0 : 0 < sd0 f e x P 5
    · rw [if_pos h0]; exact ⟨hy, h, hle⟩
    · rw [if_neg h0]
      have hn := (sd0_50 (px50 hy.1 h0)).1
      have hl := h.1.l118
      have hi := IV_sdP (x := x) h (by omega)
      by_cases h1 : sd0 f e x P 7 = nI 3
      · rw [if_pos h1]
        obtain ⟨a, b, c⟩ := ih _ _ hi hy
        exact ⟨a, b, Nat.le_trans hle c⟩
      · rw [if_neg h1]; exact ⟨hy, hi, hle⟩
theorem PY_flA {f : Nat → Int32} {e : Nat} {x P : Nat → Int32} (h : IV P) (hx : PY e x) : PY e (flA f e x P).1 := (fln_all _ _ _ h (PY_flb hx)).1
theorem IV_flA {f : Nat → Int32} {e : Nat} {x P : Nat → Int32} (h : IV P) (hx : PY e x) : IV (flA f e x P).2 := (fln_all _ _ _ h (PY_flb hx)).2.1
theorem flA_le {f : Nat → Int32} {e : Nat} {x P : Nat → Int32} (h : IV P) (hx : PY e x) : cl (x 4) ≤ cl ((flA f e x P).1 4) := Nat.le_trans (flb_le hx) (fln_all _ _ _ h (PY_flb hx)).2.2
theorem PY_sdA {f : Nat → Int32} {e : Nat} {x P : Nat → Int32} (h : IV P) (hx : PY e x) : PY e (sdA f e x P).1 := (sdn_all _ _ _ h (PY_sdb hx)).1
theorem IV_sdA {f : Nat → Int32} {e : Nat} {x P : Nat → Int32} (h : IV P) (hx : PY e x) : IV (sdA f e x P).2 := (sdn_all _ _ _ h (PY_sdb hx)).2.1
theorem sdA_le {f : Nat → Int32} {e : Nat} {x P : Nat → Int32} (h : IV P) (hx : PY e x) : cl (x 4) ≤ cl ((sdA f e x P).1 4) := Nat.le_trans (sdb_le hx) (sdn_all _ _ _ h (PY_sdb hx)).2.2
/-- the line's kinds -/
theorem liA_c {f : Nat → Int32} {e : Nat} {x P S : Nat → Int32} {C : (Nat → Int32) × (Nat → Int32) × (Nat → Int32) → Prop} (h5 : wr f 5 x = true → C (waX f e x P, waP f e x P, S)) (h6 : wr f 6 x = true → C (faX f e x P, faP f e x P, S)) (h7 : wr f 7 x = true → C ((flA f e x P).1, (flA f e x P).2, S)) (h8 : wr f 8 x = true → C (ckX f e x P, ckP f e x P, S)) (h9 : wr f 9 x = true → C (zoX f e x P, zoP f e x P, S)) (h10 : wr f 10 x = true → C ((sdA f e x P).1, (sdA f e x P).2, S)) (h11 : wr f 11 x = true → C (ofX f e x P S, P, ofS f e x P S)) (h12 : wr f 12 x = true → C (miX f e x P, miP f e x P, S)) (h13 : wr f 13 x = true → C (maX f e x P, maP f e x P, S)) (h14 : wr f 14 x = true → C (soX f e x P, soP f e x P, soS f e x P S)) (h15 : (∀ i, 5 ≤ i → i ≤ 14 → ¬ wr f i x = true) → C (fau 1 x, P, S)) : C (liA f e x P S) := by
  unfold liA
  by_cases a5 : wr f 5 x = true
  · rw [if_pos a5]; exact h5 a5
  rw [if_neg a5]
  by_cases a6 : wr f 6 x = true
  · rw [if_pos a6]; exact h6 a6
  rw [if_neg a6]
  by_cases a7 : wr f 7 x = true
  · rw [if_pos a7]; exact h7 a7
  rw [if_neg a7]
  by_cases a8 : wr f 8 x = true
  · rw [if_pos a8]; exact h8 a8
  rw [if_neg a8]
  by_cases a9 : wr f 9 x = true
  · rw [if_pos a9]; exact h9 a9
  rw [if_neg a9]
  by_cases a10 : wr f 10 x = true
  · rw [if_pos a10]; exact h10 a10
  rw [if_neg a10]
  by_cases a11 : wr f 11 x = true
  · rw [if_pos a11]; exact h11 a11
  rw [if_neg a11]
  by_cases a12 : wr f 12 x = true
  · rw [if_pos a12]; exact h12 a12
  rw [if_neg a12]
  by_cases a13 : wr f 13 x = true
  · rw [if_pos a13]; exact h13 a13
  rw [if_neg a13]
  by_cases a14 : wr f 14 x = true
  · rw [if_pos a14]; exact h14 a14
  rw [if_neg a14]
  refine h15 (fun i a b => ?_)
  rcases (show i = 5 ∨ i = 6 ∨ i = 7 ∨ i = 8 ∨ i = 9 ∨ i = 10 ∨ i = 11 ∨ i = 12 ∨ i = 13 ∨ i = 14 by omega) with rfl | rfl | rfl | rfl | rfl | rfl | rfl | rfl | rfl | rfl <;> assumption
theorem PY_liA {f : Nat → Int32} {e : Nat} {x P S : Nat → Int32} (h : IV P) (hx : PY e x) : PY e (liA f e x P S).1 := by
  unfold liA
  by_cases a5 : wr f 5 x = true
  · rw [if_pos a5]
    dsimp only
    exact PY_waX hx
  rw [if_neg a5]
  by_cases a6 : wr f 6 x = true
  · rw [if_pos a6]
    dsimp only
    exact PY_faX hx
  rw [if_neg a6]
  by_cases a7 : wr f 7 x = true
  · rw [if_pos a7]
    dsimp only
    exact PY_flA h hx
  rw [if_neg a7]
  by_cases a8 : wr f 8 x = true
  · rw [if_pos a8]
    dsimp only
    exact PY_ckX hx
  rw [if_neg a8]
  by_cases a9 : wr f 9 x = true
  · rw [if_pos a9]
    dsimp only
    exact PY_zoX hx
  rw [if_neg a9]
  by_cases a10 : wr f 10 x = true
  · rw [if_pos a10]
    dsimp only
    exact PY_sdA h hx
  rw [if_neg a10]
  by_cases a11 : wr f 11 x = true
  · rw [if_pos a11]
    dsimp only
    exact PY_ofX hx
  rw [if_neg a11]
  by_cases a12 : wr f 12 x = true
  · rw [if_pos a12]
    dsimp only
    exact PY_miX hx
  rw [if_neg a12]
  by_cases a13 : wr f 13 x = true
  · rw [if_pos a13]
    dsimp only
    exact PY_maX hx
  rw [if_neg a13]
  by_cases a14 : wr f 14 x = true
  · rw [if_pos a14]
    dsimp only
    exact PY_soX hx
  rw [if_neg a14]
  dsimp only
  exact PY_fau hx (by decide)
theorem IV_liA {f : Nat → Int32} {e : Nat} {x P S : Nat → Int32} (h : IV P) (hx : PY e x) : IV (liA f e x P S).2.1 := by
  unfold liA
  by_cases a5 : wr f 5 x = true
  · rw [if_pos a5]
    dsimp only
    exact IV_wa h hx
  rw [if_neg a5]
  by_cases a6 : wr f 6 x = true
  · rw [if_pos a6]
    dsimp only
    exact IV_fa h hx
  rw [if_neg a6]
  by_cases a7 : wr f 7 x = true
  · rw [if_pos a7]
    dsimp only
    exact IV_flA h hx
  rw [if_neg a7]
  by_cases a8 : wr f 8 x = true
  · rw [if_pos a8]
    dsimp only
    exact IV_ck h hx
  rw [if_neg a8]
  by_cases a9 : wr f 9 x = true
  · rw [if_pos a9]
    dsimp only
    exact IV_zo h hx
  rw [if_neg a9]
  by_cases a10 : wr f 10 x = true
  · rw [if_pos a10]
    dsimp only
    exact IV_sdA h hx
  rw [if_neg a10]
  by_cases a11 : wr f 11 x = true
  · rw [if_pos a11]
    dsimp only
    exact h
  rw [if_neg a11]
  by_cases a12 : wr f 12 x = true
  · rw [if_pos a12]
    dsimp only
    exact IV_mi h hx
  rw [if_neg a12]
  by_cases a13 : wr f 13 x = true
  · rw [if_pos a13]
    dsimp only
    exact IV_ma h hx
  rw [if_neg a13]
  by_cases a14 : wr f 14 x = true
  · rw [if_pos a14]
    dsimp only
    exact IV_so h hx
  rw [if_neg a14]
  dsimp only
  exact h
theorem ckX_le' {f : Nat → Int32} {e : Nat} {x P : Nat → Int32} (hx : PY e x) : cl (x 4) ≤ cl (ckX f e x P 4) := by
  have z1 := bgn_le (f := f) (p := ck1 f e x P 5 = nI 0 ∧ 0 < P (83 + cl (ckv f e x P))) (k := 3) (PY_ck1 (f := f) (P := P) hx).1 (by decide)
  have z2 := num_le (f := f) (lo := nI 1) (hi := nI 31) (PY_ck2 (f := f) (P := P) hx).1
  exact Nat.le_trans (ck1_le hx) (Nat.le_trans z1 z2)
theorem liA_le {f : Nat → Int32} {e : Nat} {x P S : Nat → Int32} (h : IV P) (hx : PY e x) : cl (x 4) ≤ cl ((liA f e x P S).1 4) := by
  unfold liA
  by_cases a5 : wr f 5 x = true
  · rw [if_pos a5]
    dsimp only
    exact waX_le hx
  rw [if_neg a5]
  by_cases a6 : wr f 6 x = true
  · rw [if_pos a6]
    dsimp only
    exact faX_le hx
  rw [if_neg a6]
  by_cases a7 : wr f 7 x = true
  · rw [if_pos a7]
    dsimp only
    exact flA_le h hx
  rw [if_neg a7]
  by_cases a8 : wr f 8 x = true
  · rw [if_pos a8]
    dsimp only
    exact ckX_le' hx
  rw [if_neg a8]
  by_cases a9 : wr f 9 x = true
  · rw [if_pos a9]
    dsimp only
    exact zoX_le hx
  rw [if_neg a9]
  by_cases a10 : wr f 10 x = true
  · rw [if_pos a10]
    dsimp only
    exact sdA_le h hx
  rw [if_neg a10]
  by_cases a11 : wr f 11 x = true
  · rw [if_pos a11]
    dsimp only
    exact ofX_le hx
  rw [if_neg a11]
  by_cases a12 : wr f 12 x = true
  · rw [if_pos a12]
    dsimp only
    exact miX_le hx
  rw [if_neg a12]
  by_cases a13 : wr f 13 x = true
  · rw [if_pos a13]
    dsimp only
    exact maX_le hx
  rw [if_neg a13]
  by_cases a14 : wr f 14 x = true
  · rw [if_pos a14]
    dsimp only
    exact soX_le hx
  rw [if_neg a14]
  dsimp only
  rw [fau_4]
  exact Nat.le_refl _
/-- a line that is read moves on, or is at fault -/
theorem liA_adv {f : Nat → Int32} {e : Nat} {x P S : Nat → Int32} (h : IV P) (hx : PY e x) : 0 < (liA f e (nxt f e x) P S).1 5 ∨ cl (x 4) < cl ((liA f e (nxt f e x) P S).1 4) := by
  by_cases hw : ∃ i, 5 ≤ i ∧ i ≤ 14 ∧ wr f i (nxt f e x) = true
  · obtain ⟨i, a, b, c⟩ := hw
    refine Or.inr (Nat.lt_of_lt_of_le (wr_adv ?_ hx.1 c) (liA_le h (PY_nxt hx)))
    exact (show ∀ i, i < 15 → 5 ≤ i → 0 < sln i by decide) i (by omega) a
  · refine Or.inl ?_
    have e1 : liA f e (nxt f e x) P S = (fau 1 (nxt f e x), P, S) := by
      have n : ∀ i, 5 ≤ i → i ≤ 14 → ¬ wr f i (nxt f e x) = true := fun i a b c => hw ⟨i, a, b, c⟩
      unfold liA
      rw [if_neg (n 5 (by decide) (by decide)), if_neg (n 6 (by decide) (by decide)), if_neg (n 7 (by decide) (by decide)), if_neg (n 8 (by decide) (by decide)), if_neg (n 9 (by decide) (by decide)), if_neg (n 10 (by decide) (by decide)), if_neg (n 11 (by decide) (by decide)), if_neg (n 12 (by decide) (by decide)), if_neg (n 13 (by decide) (by decide)), if_neg (n 14 (by decide) (by decide))]
    rw [e1]
    show 0 < fau 1 (nxt f e x) 5
    by_cases h5 : 0 < nxt f e x 5
    · rw [fau_s h5]; exact h5
    · rw [fau_5 h5]; decide
theorem lns_s {f : Nat → Int32} {e n : Nat} {x P S : Nat → Int32} : lns f e (n + 1) x P S = if sgh (nI 59) x then lns f e n (liA f e (nxt f e x) P S).1 (liA f e (nxt f e x) P S).2.1 (liA f e (nxt f e x) P S).2.2 else (x, P, S) := rfl
theorem lns_n {f : Nat → Int32} {e n : Nat} {x P S : Nat → Int32} (h : ¬ sgh (nI 59) x) : lns f e n x P S = (x, P, S) := by
  cases n with
  | zero => rfl
  | succ n => rw [lns_s, if_neg h]
theorem lns_all {f : Nat → Int32} {e : Nat} : ∀ n x P S, IV P → PY e x → PY e (lns f e n x P S).1 ∧ IV (lns f e n x P S).2.1 := by
  intro n
  induction n with
  | zero => intro x P S h hx; exact ⟨hx, h⟩
  | succ n ih =>
    intro x P S h hx
    rw [lns_s]
    by_cases h0 : sgh (nI 59) x
    · rw [if_pos h0]
      exact ih _ _ _ (IV_liA h (PY_nxt hx)) (PY_liA h (PY_nxt hx))
    · rw [if_neg h0]; exact ⟨hx, h⟩
theorem PY_fi0 {f : Nat → Int32} {e : Nat} {x : Nat → Int32} (h : PY e x) : PY e (fi0 f e x) := PY_kwd h
theorem PY_fi1 {f : Nat → Int32} {e : Nat} {x : Nat → Int32} (h : PY e x) : PY e (fi1 f e x) := PY_gag (PY_fi0 h)
theorem PY_fi2 {f : Nat → Int32} {e : Nat} {x : Nat → Int32} (h : PY e x) : PY e (fi2 f e x) := PY_gag (PY_fi1 h)
theorem PY_fi3 {f : Nat → Int32} {e : Nat} {x : Nat → Int32} (h : PY e x) : PY e (fi3 f e x) := PY_gag (PY_fi2 h)
theorem PY_fi4 {f : Nat → Int32} {e : Nat} {x : Nat → Int32} (h : PY e x) : PY e (fi4 f e x) := PY_gag (PY_fi3 h)
theorem IV_fi {f : Nat → Int32} {e : Nat} {x : Nat → Int32} : IV (fiP f e x (fun _ => nI 0)) := by
  have g1 := lov_ti (lo := nI 100) (hi := nI 5000) (x := kwd f e 1 (fi0 f e x)) (by decide)
  have g2 := lov_ti (lo := nI 1) (hi := nI 99) (x := kwd f e 2 (fi1 f e x)) (by decide)
  have g3 := lov_ti (lo := nI 32) (hi := nI 200) (x := kwd f e 3 (fi2 f e x)) (by decide)
  have g4 := lov_ti (lo := nI 1) (hi := nI 9999) (x := kwd f e 4 (fi3 f e x)) (by decide)
  have hv : VP (fiP f e x (fun _ => nI 0)) := VP_up (VP_up (VP_up (VP_up VP_0 (show pok 0 _ from ⟨Int.le_trans (by decide) g1.1, g1.2⟩)) (show pok 1 _ from ⟨Int.le_trans (by decide) g2.1, g2.2⟩)) (show pok 2 _ from ⟨Int.le_trans (by decide) g3.1, g3.2⟩)) (show pok 3 _ from ⟨Int.le_trans (by decide) g4.1, g4.2⟩)
  have ek : ∀ j, 4 ≤ j → fiP f e x (fun _ => nI 0) j = nI 0 := fun j hj => by
    unfold fiP
    rw [va_up_ne _ _ (show j ≠ 3 by omega), va_up_ne _ _ (show j ≠ 2 by omega), va_up_ne _ _ (show j ≠ 1 by omega), va_up_ne _ _ (show j ≠ 0 by omega)]
  refine ⟨hv, ⟨cl_lo (b := 32) (v := gav f e 3 (nI 32) (nI 200) (fi2 f e x)) g3.1, cl_lo (b := 1) (v := gav f e 2 (nI 1) (nI 99) (fi1 f e x)) g2.1, cl_lo (b := 100) (v := gav f e 1 (nI 100) (nI 5000) (fi0 f e x)) g1.1, cl_lo (b := 1) (v := gav f e 4 (nI 1) (nI 9999) (fi3 f e x)) g4.1⟩, Or.inl ⟨?_, ?_, ?_⟩, fun m hm => ?_, fun m hm => ?_, fun m hm => ?_⟩
  · unfold pC; rw [ek 8 (by decide)]; rfl
  · unfold nX; rw [ek 9 (by decide)]; rfl
  · unfold nY; rw [ek 10 (by decide)]; rfl
  · unfold nS at hm; rw [ek 5 (by decide)] at hm; exact absurd hm (Nat.not_lt_zero _)
  · unfold nM at hm; rw [ek 4 (by decide)] at hm; exact absurd hm (Nat.not_lt_zero _)
  · unfold nZ at hm; rw [ek 101 (by decide)] at hm; exact absurd hm (Nat.not_lt_zero _)
theorem IV_VC {P : Nat → Int32} (h : IV P) (h1 : ¬ nM P = 0) (h2 : ¬ pC P = 0) : VC P := by
  obtain ⟨a, ⟨b1, b2, b3, b4⟩, c, d, e, g⟩ := h
  exact ⟨a, by omega, by omega, by omega, b1, b2, b3, b4, by omega, d, e, g⟩
