/-! the plan under way: printed by gen/iv.py -/
set_option maxRecDepth 100000
theorem toI_c {b : Nat} {v : Int32} (hb : b < 2 ^ 31) : b ≤ v.toNatClampNeg ↔ (b : Int) ≤ v.toInt ∨ b = 0 := by
  have e : v.toNatClampNeg = v.toInt.toNat := rfl
  rw [e]
  omega
theorem cl_lo {b : Nat} {v : Int32} (h : (b : Int) ≤ v.toInt) : b ≤ cl v := by
  show b ≤ v.toInt.toNat
  omega
theorem cl_ti {v : Int32} (h : 0 ≤ v.toInt) : ((cl v : Nat) : Int) = v.toInt := by
  show ((v.toInt.toNat : Nat) : Int) = _
  omega
/-- a plan under way -/
def IV (P : Nat → Int32) : Prop := VP P ∧ (32 ≤ nT P ∧ 1 ≤ pE P ∧ 100 ≤ pD P ∧ 1 ≤ pL P) ∧ ((pC P = 0 ∧ nX P = 0 ∧ nY P = 0) ∨ (1 ≤ pC P ∧ 1 ≤ nX P ∧ 1 ≤ nY P)) ∧ (∀ m, m < nS P → 2 ≤ per P m ∧ 1 ≤ amp P m) ∧ (∀ m, m < nM P → 1 ≤ gain P m) ∧ (∀ z, z < nZ P → zon P (4 * z) ≤ zon P (4 * z + 2) ∧ zon P (4 * z + 2) < nX P ∧ zon P (4 * z + 1) ≤ zon P (4 * z + 3) ∧ zon P (4 * z + 3) < nY P)
theorem IV_mk {P Q : Nat → Int32} (h : IV P) (hv : VP Q) (h03 : ∀ j, j < 4 → Q j = P j)
    (hmap : (∀ j, 8 ≤ j → j < 11 → Q j = P j) ∨ (nX P = 0 ∧ nZ Q = nZ P ∧ 1 ≤ pC Q ∧ 1 ≤ nX Q ∧ 1 ≤ nY Q))
    (hs : ∀ m, m < nS Q → (2 ≤ per Q m ∧ 1 ≤ amp Q m) ∨ (m < nS P ∧ Q (59 + m) = P (59 + m) ∧ Q (53 + m) = P (53 + m)))
    (hm : ∀ m, m < nM Q → 1 ≤ gain Q m ∨ (m < nM P ∧ Q (35 + m) = P (35 + m)))
    (hz : ∀ z, z < nZ Q → (z < nZ P ∧ ∀ j, 4 * z ≤ j → j < 4 * z + 4 → Q (102 + j) = P (102 + j)) ∨ (zon Q (4 * z) ≤ zon Q (4 * z + 2) ∧ zon Q (4 * z + 2) < nX Q ∧ zon Q (4 * z + 1) ≤ zon Q (4 * z + 3) ∧ zon Q (4 * z + 3) < nY Q)) : IV Q := by
  obtain ⟨h1, h2, h3, h4, h5, h6⟩ := h
  refine ⟨hv, ?_, ?_, fun m hm' => ?_, fun m hm' => ?_, fun z hz' => ?_⟩
  · unfold nT pE pD pL at h2 ⊢
    rw [h03 0 (by decide), h03 1 (by decide), h03 2 (by decide), h03 3 (by decide)]
    exact h2
  · rcases hmap with e | ⟨-, -, e⟩
    · unfold pC nX nY at h3 ⊢
      rw [e 8 (by decide) (by decide), e 9 (by decide) (by decide), e 10 (by decide) (by decide)]
      exact h3
    · exact Or.inr e
  · rcases hs m hm' with z | ⟨z1, z2, z3⟩
    · exact z
    · have := h4 m z1
      unfold per amp at this ⊢
      rw [z2, z3]
      exact this
  · rcases hm m hm' with z | ⟨z1, z2⟩
    · exact z
    · have := h5 m z1
      unfold gain at this ⊢
      rw [z2]
      exact this
  · rcases hz z hz' with ⟨z1, z2⟩ | z1
    · rcases hmap with e | ⟨e0, e1, -⟩
      · have := h6 z z1
        unfold zon nX nY at this ⊢
        rw [show 102 + (4 * z + 2) = 102 + (4 * z + 2) from rfl, z2 (4 * z) (by omega) (by omega), z2 (4 * z + 1) (by omega) (by omega), z2 (4 * z + 2) (by omega) (by omega), z2 (4 * z + 3) (by omega) (by omega), e 9 (by decide) (by decide), e 10 (by decide) (by decide)]
        exact this
      · exact absurd (h6 z z1).2.1 (by rw [e0]; exact Nat.not_lt_zero _)
    · exact z1
theorem IV_mi {f : Nat → Int32} {e : Nat} {x P : Nat → Int32} (h : IV P) (hx : PY e x) : IV (miP f e x P) := by
  unfold miP
  by_cases h0 : 0 < miX f e x P 5
  · rw [if_pos h0]; exact h
  rw [if_neg h0]
  have z := px50 (PY_miX hx).1 h0
  have hn := (mi0_50 (mi1_50 (mi2_50 (lok_50 (miX_50 z))))).1
  have l4 := h.1.l4
  have hl := miX_50 z
  obtain ⟨Q, hQ⟩ : ∃ Q, va_up (va_up (va_up (va_up (P) (11 + nM P) (sgv f e (-500) (nI 500) (mi0 f e x P))) (23 + nM P) (sgv f e (-500) (nI 500) (mi1 f e x P))) (35 + nM P) (lov (nI 1) (nI 9) (mi2 f e x P))) (4) (nI (nM P + 1)) = Q := ⟨_, rfl⟩
  have hv : VP (va_up (va_up (va_up (va_up (P) (11 + nM P) (sgv f e (-500) (nI 500) (mi0 f e x P))) (23 + nM P) (sgv f e (-500) (nI 500) (mi1 f e x P))) (35 + nM P) (lov (nI 1) (nI 9) (mi2 f e x P))) (4) (nI (nM P + 1))) := VP_up (VP_up (VP_up (VP_up (h.1) (by unfold pok; rw [(vb_11 (nM P) (by omega)).1, (vb_11 (nM P) (by omega)).2]; exact sgv_ti (b := nI 500) (by decide) (by decide))) (by unfold pok; rw [(vb_23 (nM P) (by omega)).1, (vb_23 (nM P) (by omega)).2]; exact sgv_ti (b := nI 500) (by decide) (by decide))) (by unfold pok; rw [(vb_35 (nM P) (by omega)).1, (vb_35 (nM P) (by omega)).2]; exact ⟨Int.le_trans (by decide) (lov_ti (lo := nI 1) (hi := nI 9) (by decide)).1, (lov_ti (lo := nI 1) (hi := nI 9) (by decide)).2⟩)) (⟨by rw [nI_toInt (by omega)]; show (0 : Int) ≤ _; omega, by rw [nI_toInt (by omega)]; show _ ≤ (12 : Int); omega⟩)
  rw [hQ] at hv ⊢
  have e4 : nM Q = nM P + 1 := by
    unfold nM
    rw [← hQ, va_up_self]
    exact cl_I (by have := l4; unfold nM at this; omega)
  exact IV_mk h hv (fun j hj => by rw [← hQ]; rw [va_up_ne _ _ (show (j : Nat) ≠ 4 by omega), va_up_ne _ _ (show (j : Nat) ≠ 35 + nM P by omega), va_up_ne _ _ (show (j : Nat) ≠ 23 + nM P by omega), va_up_ne _ _ (show (j : Nat) ≠ 11 + nM P by omega)]) (Or.inl (fun j a b => by rw [← hQ]; rw [va_up_ne _ _ (show (j : Nat) ≠ 4 by omega), va_up_ne _ _ (show (j : Nat) ≠ 35 + nM P by omega), va_up_ne _ _ (show (j : Nat) ≠ 23 + nM P by omega), va_up_ne _ _ (show (j : Nat) ≠ 11 + nM P by omega)])) (fun m hm => by
      rw [show nS Q = nS P from by unfold nS; rw [← hQ]; rw [va_up_ne _ _ (show (5 : Nat) ≠ 4 by omega), va_up_ne _ _ (show (5 : Nat) ≠ 35 + nM P by omega), va_up_ne _ _ (show (5 : Nat) ≠ 23 + nM P by omega), va_up_ne _ _ (show (5 : Nat) ≠ 11 + nM P by omega)]] at hm
      have l5 := h.1.l5
      exact Or.inr ⟨hm, by rw [← hQ]; rw [va_up_ne _ _ (show (59 + m : Nat) ≠ 4 by omega), va_up_ne _ _ (show (59 + m : Nat) ≠ 35 + nM P by omega), va_up_ne _ _ (show (59 + m : Nat) ≠ 23 + nM P by omega), va_up_ne _ _ (show (59 + m : Nat) ≠ 11 + nM P by omega)], by rw [← hQ]; rw [va_up_ne _ _ (show (53 + m : Nat) ≠ 4 by omega), va_up_ne _ _ (show (53 + m : Nat) ≠ 35 + nM P by omega), va_up_ne _ _ (show (53 + m : Nat) ≠ 23 + nM P by omega), va_up_ne _ _ (show (53 + m : Nat) ≠ 11 + nM P by omega)]⟩) (fun m hm => by
      by_cases e9 : m = nM P
      · refine Or.inl ?_
        subst e9
        unfold gain
        rw [← hQ]
        rw [va_up_ne _ _ (show (35 + nM P : Nat) ≠ 4 by omega), va_up_self]
        exact cl_lo (b := 1) (lov_ti (lo := nI 1) (hi := nI 9) (by decide)).1
      · exact Or.inr ⟨by omega, by rw [← hQ]; rw [va_up_ne _ _ (show (35 + m : Nat) ≠ 4 by omega), va_up_ne _ _ (show (35 + m : Nat) ≠ 35 + nM P by omega), va_up_ne _ _ (show (35 + m : Nat) ≠ 23 + nM P by omega), va_up_ne _ _ (show (35 + m : Nat) ≠ 11 + nM P by omega)]⟩) (fun z hz => by
      rw [show nZ Q = nZ P from by unfold nZ; rw [← hQ]; rw [va_up_ne _ _ (show (101 : Nat) ≠ 4 by omega), va_up_ne _ _ (show (101 : Nat) ≠ 35 + nM P by omega), va_up_ne _ _ (show (101 : Nat) ≠ 23 + nM P by omega), va_up_ne _ _ (show (101 : Nat) ≠ 11 + nM P by omega)]] at hz
      have l101 := h.1.l101
      exact Or.inl ⟨hz, fun j a b => by rw [← hQ]; rw [va_up_ne _ _ (show (102 + j : Nat) ≠ 4 by omega), va_up_ne _ _ (show (102 + j : Nat) ≠ 35 + nM P by omega), va_up_ne _ _ (show (102 + j : Nat) ≠ 23 + nM P by omega), va_up_ne _ _ (show (102 + j : Nat) ≠ 11 + nM P by omega)]⟩)
theorem IV_wa {f : Nat → Int32} {e : Nat} {x P : Nat → Int32} (h : IV P) (hx : PY e x) : IV (waP f e x P) := by
  unfold waP
  by_cases h0 : 0 < waX f e x P 5
  · rw [if_pos h0]; exact h
  rw [if_neg h0]
  have z := px50 (PY_waX hx).1 h0
  have hn := (wa0_50 (wa1_50 (lok_50 (waX_50 z)))).1
  have l71 := h.1.l71
  obtain ⟨Q, hQ⟩ : ∃ Q, va_up (va_up (va_up (P) (72 + nW P) (sgv f e (-2000) (nI 2000) (wa0 f e x P))) (74 + nW P) (lov (nI 1) (nI 100) (wa1 f e x P))) (71) (nI (nW P + 1)) = Q := ⟨_, rfl⟩
  have hv : VP (va_up (va_up (va_up (P) (72 + nW P) (sgv f e (-2000) (nI 2000) (wa0 f e x P))) (74 + nW P) (lov (nI 1) (nI 100) (wa1 f e x P))) (71) (nI (nW P + 1))) := VP_up (VP_up (VP_up (h.1) (by unfold pok; rw [(vb_72 (nW P) (by omega)).1, (vb_72 (nW P) (by omega)).2]; exact sgv_ti (b := nI 2000) (by decide) (by decide))) (by unfold pok; rw [(vb_74 (nW P) (by omega)).1, (vb_74 (nW P) (by omega)).2]; exact ⟨Int.le_trans (by decide) (lov_ti (lo := nI 1) (hi := nI 100) (by decide)).1, (lov_ti (lo := nI 1) (hi := nI 100) (by decide)).2⟩)) (⟨by rw [nI_toInt (by omega)]; show (0 : Int) ≤ _; omega, by rw [nI_toInt (by omega)]; show _ ≤ (2 : Int); omega⟩)
  rw [hQ] at hv ⊢
  exact IV_mk h hv (fun j hj => by rw [← hQ]; rw [va_up_ne _ _ (show (j : Nat) ≠ 71 by omega), va_up_ne _ _ (show (j : Nat) ≠ 74 + nW P by omega), va_up_ne _ _ (show (j : Nat) ≠ 72 + nW P by omega)]) (Or.inl (fun j a b => by rw [← hQ]; rw [va_up_ne _ _ (show (j : Nat) ≠ 71 by omega), va_up_ne _ _ (show (j : Nat) ≠ 74 + nW P by omega), va_up_ne _ _ (show (j : Nat) ≠ 72 + nW P by omega)])) (fun m hm => by
      rw [show nS Q = nS P from by unfold nS; rw [← hQ]; rw [va_up_ne _ _ (show (5 : Nat) ≠ 71 by omega), va_up_ne _ _ (show (5 : Nat) ≠ 74 + nW P by omega), va_up_ne _ _ (show (5 : Nat) ≠ 72 + nW P by omega)]] at hm
      have l5 := h.1.l5
      exact Or.inr ⟨hm, by rw [← hQ]; rw [va_up_ne _ _ (show (59 + m : Nat) ≠ 71 by omega), va_up_ne _ _ (show (59 + m : Nat) ≠ 74 + nW P by omega), va_up_ne _ _ (show (59 + m : Nat) ≠ 72 + nW P by omega)], by rw [← hQ]; rw [va_up_ne _ _ (show (53 + m : Nat) ≠ 71 by omega), va_up_ne _ _ (show (53 + m : Nat) ≠ 74 + nW P by omega), va_up_ne _ _ (show (53 + m : Nat) ≠ 72 + nW P by omega)]⟩) (fun m hm => by
      rw [show nM Q = nM P from by unfold nM; rw [← hQ]; rw [va_up_ne _ _ (show (4 : Nat) ≠ 71 by omega), va_up_ne _ _ (show (4 : Nat) ≠ 74 + nW P by omega), va_up_ne _ _ (show (4 : Nat) ≠ 72 + nW P by omega)]] at hm
      have l4 := h.1.l4
      exact Or.inr ⟨hm, by rw [← hQ]; rw [va_up_ne _ _ (show (35 + m : Nat) ≠ 71 by omega), va_up_ne _ _ (show (35 + m : Nat) ≠ 74 + nW P by omega), va_up_ne _ _ (show (35 + m : Nat) ≠ 72 + nW P by omega)]⟩) (fun z hz => by
      rw [show nZ Q = nZ P from by unfold nZ; rw [← hQ]; rw [va_up_ne _ _ (show (101 : Nat) ≠ 71 by omega), va_up_ne _ _ (show (101 : Nat) ≠ 74 + nW P by omega), va_up_ne _ _ (show (101 : Nat) ≠ 72 + nW P by omega)]] at hz
      have l101 := h.1.l101
      exact Or.inl ⟨hz, fun j a b => by rw [← hQ]; rw [va_up_ne _ _ (show (102 + j : Nat) ≠ 71 by omega), va_up_ne _ _ (show (102 + j : Nat) ≠ 74 + nW P by omega), va_up_ne _ _ (show (102 + j : Nat) ≠ 72 + nW P by omega)]⟩)
theorem IV_fa {f : Nat → Int32} {e : Nat} {x P : Nat → Int32} (h : IV P) (hx : PY e x) : IV (faP f e x P) := by
  unfold faP
  by_cases h0 : 0 < faX f e x P 5
  · rw [if_pos h0]; exact h
  rw [if_neg h0]
  have z := px50 (PY_faX hx).1 h0
  have hn := (fa0_50 (lok_50 (faX_50 z))).1
  obtain ⟨Q, hQ⟩ : ∃ Q, va_up (P) (76) (lov (nI 1) (nI 999) (fa0 f e x P)) = Q := ⟨_, rfl⟩
  have hv : VP (va_up (P) (76) (lov (nI 1) (nI 999) (fa0 f e x P))) := VP_up (h.1) (by unfold pok; rw [show vlo 76 = 0 from rfl, show vhi 76 = 999 from rfl]; exact ⟨Int.le_trans (by decide) (lov_ti (lo := nI 1) (hi := nI 999) (by decide)).1, (lov_ti (lo := nI 1) (hi := nI 999) (by decide)).2⟩)
  rw [hQ] at hv ⊢
  exact IV_mk h hv (fun j hj => by rw [← hQ]; rw [va_up_ne _ _ (show (j : Nat) ≠ 76 by omega)]) (Or.inl (fun j a b => by rw [← hQ]; rw [va_up_ne _ _ (show (j : Nat) ≠ 76 by omega)])) (fun m hm => by
      rw [show nS Q = nS P from by unfold nS; rw [← hQ]; rw [va_up_ne _ _ (show (5 : Nat) ≠ 76 by omega)]] at hm
      have l5 := h.1.l5
      exact Or.inr ⟨hm, by rw [← hQ]; rw [va_up_ne _ _ (show (59 + m : Nat) ≠ 76 by omega)], by rw [← hQ]; rw [va_up_ne _ _ (show (53 + m : Nat) ≠ 76 by omega)]⟩) (fun m hm => by
      rw [show nM Q = nM P from by unfold nM; rw [← hQ]; rw [va_up_ne _ _ (show (4 : Nat) ≠ 76 by omega)]] at hm
      have l4 := h.1.l4
      exact Or.inr ⟨hm, by rw [← hQ]; rw [va_up_ne _ _ (show (35 + m : Nat) ≠ 76 by omega)]⟩) (fun z hz => by
      rw [show nZ Q = nZ P from by unfold nZ; rw [← hQ]; rw [va_up_ne _ _ (show (101 : Nat) ≠ 76 by omega)]] at hz
      have l101 := h.1.l101
      exact Or.inl ⟨hz, fun j a b => by rw [← hQ]; rw [va_up_ne _ _ (show (102 + j : Nat) ≠ 76 by omega)]⟩)
theorem IV_ma {f : Nat → Int32} {e : Nat} {x P : Nat → Int32} (h : IV P) (hx : PY e x) : IV (maP f e x P) := by
  unfold maP
  by_cases h0 : 0 < maX f e x P 5
  · rw [if_pos h0]; exact h
  rw [if_neg h0]
  have z := px50 (PY_maX hx).1 h0
  have hn := (ma0_50 (ma1_50 (ma2_50 (lok_50 (ma3_50 (lok_50 (ma4_50 (lok_50 (maX_50 z)))))))) ).1
  have hx0 : nX P = 0 := by rcases h.2.2.1 with q | q <;> omega
  obtain ⟨Q, hQ⟩ : ∃ Q, va_up (va_up (va_up (va_up (va_up (P) (6) (sgv f e (-999) (nI 999) (ma0 f e x P))) (7) (sgv f e (-999) (nI 999) (ma1 f e x P))) (8) (lov (nI 1) (nI 99) (ma2 f e x P))) (9) (lov (nI 1) (nI 12) (ma3 f e x P))) (10) (lov (nI 1) (nI 12) (ma4 f e x P)) = Q := ⟨_, rfl⟩
  have hv : VP (va_up (va_up (va_up (va_up (va_up (P) (6) (sgv f e (-999) (nI 999) (ma0 f e x P))) (7) (sgv f e (-999) (nI 999) (ma1 f e x P))) (8) (lov (nI 1) (nI 99) (ma2 f e x P))) (9) (lov (nI 1) (nI 12) (ma3 f e x P))) (10) (lov (nI 1) (nI 12) (ma4 f e x P))) := VP_up (VP_up (VP_up (VP_up (VP_up (h.1) (by unfold pok; rw [show vlo 6 = -999 from rfl, show vhi 6 = 999 from rfl]; exact sgv_ti (b := nI 999) (by decide) (by decide))) (by unfold pok; rw [show vlo 7 = -999 from rfl, show vhi 7 = 999 from rfl]; exact sgv_ti (b := nI 999) (by decide) (by decide))) (by unfold pok; rw [show vlo 8 = 0 from rfl, show vhi 8 = 99 from rfl]; exact ⟨Int.le_trans (by decide) (lov_ti (lo := nI 1) (hi := nI 99) (by decide)).1, (lov_ti (lo := nI 1) (hi := nI 99) (by decide)).2⟩)) (by unfold pok; rw [show vlo 9 = 0 from rfl, show vhi 9 = 12 from rfl]; exact ⟨Int.le_trans (by decide) (lov_ti (lo := nI 1) (hi := nI 12) (by decide)).1, (lov_ti (lo := nI 1) (hi := nI 12) (by decide)).2⟩)) (by unfold pok; rw [show vlo 10 = 0 from rfl, show vhi 10 = 12 from rfl]; exact ⟨Int.le_trans (by decide) (lov_ti (lo := nI 1) (hi := nI 12) (by decide)).1, (lov_ti (lo := nI 1) (hi := nI 12) (by decide)).2⟩)
  rw [hQ] at hv ⊢
  exact IV_mk h hv (fun j hj => by rw [← hQ]; rw [va_up_ne _ _ (show (j : Nat) ≠ 10 by omega), va_up_ne _ _ (show (j : Nat) ≠ 9 by omega), va_up_ne _ _ (show (j : Nat) ≠ 8 by omega), va_up_ne _ _ (show (j : Nat) ≠ 7 by omega), va_up_ne _ _ (show (j : Nat) ≠ 6 by omega)]) (Or.inr ⟨hx0, by unfold nZ; rw [← hQ]; rw [va_up_ne _ _ (show (101 : Nat) ≠ 10 by omega), va_up_ne _ _ (show (101 : Nat) ≠ 9 by omega), va_up_ne _ _ (show (101 : Nat) ≠ 8 by omega), va_up_ne _ _ (show (101 : Nat) ≠ 7 by omega), va_up_ne _ _ (show (101 : Nat) ≠ 6 by omega)], (by unfold pC; rw [← hQ]; rw [va_up_ne _ _ (show (8 : Nat) ≠ 10 by omega), va_up_ne _ _ (show (8 : Nat) ≠ 9 by omega), va_up_self]; exact cl_lo (b := 1) (lov_ti (lo := nI 1) (hi := nI 99) (by decide)).1), (by unfold nX; rw [← hQ]; rw [va_up_ne _ _ (show (9 : Nat) ≠ 10 by omega), va_up_self]; exact cl_lo (b := 1) (lov_ti (lo := nI 1) (hi := nI 12) (by decide)).1), (by unfold nY; rw [← hQ]; rw [va_up_self]; exact cl_lo (b := 1) (lov_ti (lo := nI 1) (hi := nI 12) (by decide)).1)⟩) (fun m hm => by
      rw [show nS Q = nS P from by unfold nS; rw [← hQ]; rw [va_up_ne _ _ (show (5 : Nat) ≠ 10 by omega), va_up_ne _ _ (show (5 : Nat) ≠ 9 by omega), va_up_ne _ _ (show (5 : Nat) ≠ 8 by omega), va_up_ne _ _ (show (5 : Nat) ≠ 7 by omega), va_up_ne _ _ (show (5 : Nat) ≠ 6 by omega)]] at hm
      have l5 := h.1.l5
      exact Or.inr ⟨hm, by rw [← hQ]; rw [va_up_ne _ _ (show (59 + m : Nat) ≠ 10 by omega), va_up_ne _ _ (show (59 + m : Nat) ≠ 9 by omega), va_up_ne _ _ (show (59 + m : Nat) ≠ 8 by omega), va_up_ne _ _ (show (59 + m : Nat) ≠ 7 by omega), va_up_ne _ _ (show (59 + m : Nat) ≠ 6 by omega)], by rw [← hQ]; rw [va_up_ne _ _ (show (53 + m : Nat) ≠ 10 by omega), va_up_ne _ _ (show (53 + m : Nat) ≠ 9 by omega), va_up_ne _ _ (show (53 + m : Nat) ≠ 8 by omega), va_up_ne _ _ (show (53 + m : Nat) ≠ 7 by omega), va_up_ne _ _ (show (53 + m : Nat) ≠ 6 by omega)]⟩) (fun m hm => by
      rw [show nM Q = nM P from by unfold nM; rw [← hQ]; rw [va_up_ne _ _ (show (4 : Nat) ≠ 10 by omega), va_up_ne _ _ (show (4 : Nat) ≠ 9 by omega), va_up_ne _ _ (show (4 : Nat) ≠ 8 by omega), va_up_ne _ _ (show (4 : Nat) ≠ 7 by omega), va_up_ne _ _ (show (4 : Nat) ≠ 6 by omega)]] at hm
      have l4 := h.1.l4
      exact Or.inr ⟨hm, by rw [← hQ]; rw [va_up_ne _ _ (show (35 + m : Nat) ≠ 10 by omega), va_up_ne _ _ (show (35 + m : Nat) ≠ 9 by omega), va_up_ne _ _ (show (35 + m : Nat) ≠ 8 by omega), va_up_ne _ _ (show (35 + m : Nat) ≠ 7 by omega), va_up_ne _ _ (show (35 + m : Nat) ≠ 6 by omega)]⟩) (fun z hz => by
      rw [show nZ Q = nZ P from by unfold nZ; rw [← hQ]; rw [va_up_ne _ _ (show (101 : Nat) ≠ 10 by omega), va_up_ne _ _ (show (101 : Nat) ≠ 9 by omega), va_up_ne _ _ (show (101 : Nat) ≠ 8 by omega), va_up_ne _ _ (show (101 : Nat) ≠ 7 by omega), va_up_ne _ _ (show (101 : Nat) ≠ 6 by omega)]] at hz
      have l101 := h.1.l101
      exact Or.inl ⟨hz, fun j a b => by rw [← hQ]; rw [va_up_ne _ _ (show (102 + j : Nat) ≠ 10 by omega), va_up_ne _ _ (show (102 + j : Nat) ≠ 9 by omega), va_up_ne _ _ (show (102 + j : Nat) ≠ 8 by omega), va_up_ne _ _ (show (102 + j : Nat) ≠ 7 by omega), va_up_ne _ _ (show (102 + j : Nat) ≠ 6 by omega)]⟩)
theorem ski_ti {f x : Nat → Int32} (h : ¬ ski f x = (-1)) : 0 ≤ (ski f x).toInt ∧ (ski f x).toInt ≤ 3 := by
  unfold ski at h ⊢
  repeat' split
  all_goals first | decide | skip
  simp_all
theorem soF_ti {f : Nat → Int32} {e : Nat} {x P : Nat → Int32} : 0 ≤ (soF f e x P).toInt ∧ (soF f e x P).toInt ≤ 199 := by
  unfold soF
  split
  · exact lov_ti (lo := nI 0) (hi := nI 199) (by decide)
  · decide
theorem IV_so {f : Nat → Int32} {e : Nat} {x P : Nat → Int32} (h : IV P) (hx : PY e x) : IV (soP f e x P) := by
  unfold soP
  by_cases h0 : 0 < soX f e x P 5
  · rw [if_pos h0]; exact h
  rw [if_neg h0]
  have z := px50 (PY_soX hx).1 h0
  have z1 := so1_50 (so2_50 (so3_50 (so4_50 (so5_50 (lok_50 (so6_50 (lok_50 (so7_50 (lok_50 (so8_50 (so9_50 (soX_50 z))))))))))))
  have hn := (so0_50 z1.2).1
  have l5 := h.1.l5
  obtain ⟨Q, hQ⟩ : ∃ Q, va_up (va_up (va_up (va_up (va_up (va_up (P) (95 + nS P) (soF f e x P)) (47 + nS P) (ski f (so0 f e x P))) (53 + nS P) (lov (nI 1) (nI 999) (so5 f e x P))) (59 + nS P) (lov (nI 2) (nI 99) (so6 f e x P))) (65 + nS P) (lov (nI 0) (nI 99) (so7 f e x P))) (5) (nI (nS P + 1)) = Q := ⟨_, rfl⟩
  have hv : VP (va_up (va_up (va_up (va_up (va_up (va_up (P) (95 + nS P) (soF f e x P)) (47 + nS P) (ski f (so0 f e x P))) (53 + nS P) (lov (nI 1) (nI 999) (so5 f e x P))) (59 + nS P) (lov (nI 2) (nI 99) (so6 f e x P))) (65 + nS P) (lov (nI 0) (nI 99) (so7 f e x P))) (5) (nI (nS P + 1))) := VP_up (VP_up (VP_up (VP_up (VP_up (VP_up (h.1) (by unfold pok; rw [(vb_95 (nS P) (by omega)).1, (vb_95 (nS P) (by omega)).2]; exact soF_ti)) (by unfold pok; rw [(vb_47 (nS P) (by omega)).1, (vb_47 (nS P) (by omega)).2]; exact ski_ti z1.1)) (by unfold pok; rw [(vb_53 (nS P) (by omega)).1, (vb_53 (nS P) (by omega)).2]; exact ⟨Int.le_trans (by decide) (lov_ti (lo := nI 1) (hi := nI 999) (by decide)).1, (lov_ti (lo := nI 1) (hi := nI 999) (by decide)).2⟩)) (by unfold pok; rw [(vb_59 (nS P) (by omega)).1, (vb_59 (nS P) (by omega)).2]; exact ⟨Int.le_trans (by decide) (lov_ti (lo := nI 2) (hi := nI 99) (by decide)).1, (lov_ti (lo := nI 2) (hi := nI 99) (by decide)).2⟩)) (by unfold pok; rw [(vb_65 (nS P) (by omega)).1, (vb_65 (nS P) (by omega)).2]; exact ⟨Int.le_trans (by decide) (lov_ti (lo := nI 0) (hi := nI 99) (by decide)).1, (lov_ti (lo := nI 0) (hi := nI 99) (by decide)).2⟩)) (⟨by rw [nI_toInt (by omega)]; show (0 : Int) ≤ _; omega, by rw [nI_toInt (by omega)]; show _ ≤ (6 : Int); omega⟩)
  rw [hQ] at hv ⊢
  have e5 : nS Q = nS P + 1 := by
    unfold nS
    rw [← hQ, va_up_self]
    exact cl_I (by have := l5; unfold nS at this; omega)
  exact IV_mk h hv (fun j hj => by rw [← hQ]; rw [va_up_ne _ _ (show (j : Nat) ≠ 5 by omega), va_up_ne _ _ (show (j : Nat) ≠ 65 + nS P by omega), va_up_ne _ _ (show (j : Nat) ≠ 59 + nS P by omega), va_up_ne _ _ (show (j : Nat) ≠ 53 + nS P by omega), va_up_ne _ _ (show (j : Nat) ≠ 47 + nS P by omega), va_up_ne _ _ (show (j : Nat) ≠ 95 + nS P by omega)]) (Or.inl (fun j a b => by rw [← hQ]; rw [va_up_ne _ _ (show (j : Nat) ≠ 5 by omega), va_up_ne _ _ (show (j : Nat) ≠ 65 + nS P by omega), va_up_ne _ _ (show (j : Nat) ≠ 59 + nS P by omega), va_up_ne _ _ (show (j : Nat) ≠ 53 + nS P by omega), va_up_ne _ _ (show (j : Nat) ≠ 47 + nS P by omega), va_up_ne _ _ (show (j : Nat) ≠ 95 + nS P by omega)])) (fun m hm => by
      by_cases e9 : m = nS P
      · refine Or.inl ?_
        subst e9
        unfold per amp
        rw [← hQ]
        refine ⟨?_, ?_⟩
        · rw [va_up_ne _ _ (show (59 + nS P : Nat) ≠ 5 by omega), va_up_ne _ _ (show (59 + nS P : Nat) ≠ 65 + nS P by omega), va_up_self]
          exact cl_lo (b := 2) (lov_ti (lo := nI 2) (hi := nI 99) (by decide)).1
        · rw [va_up_ne _ _ (show (53 + nS P : Nat) ≠ 5 by omega), va_up_ne _ _ (show (53 + nS P : Nat) ≠ 65 + nS P by omega), va_up_ne _ _ (show (53 + nS P : Nat) ≠ 59 + nS P by omega), va_up_self]
          exact cl_lo (b := 1) (lov_ti (lo := nI 1) (hi := nI 999) (by decide)).1
      · exact Or.inr ⟨by omega, by rw [← hQ]; rw [va_up_ne _ _ (show (59 + m : Nat) ≠ 5 by omega), va_up_ne _ _ (show (59 + m : Nat) ≠ 65 + nS P by omega), va_up_ne _ _ (show (59 + m : Nat) ≠ 59 + nS P by omega), va_up_ne _ _ (show (59 + m : Nat) ≠ 53 + nS P by omega), va_up_ne _ _ (show (59 + m : Nat) ≠ 47 + nS P by omega), va_up_ne _ _ (show (59 + m : Nat) ≠ 95 + nS P by omega)], by rw [← hQ]; rw [va_up_ne _ _ (show (53 + m : Nat) ≠ 5 by omega), va_up_ne _ _ (show (53 + m : Nat) ≠ 65 + nS P by omega), va_up_ne _ _ (show (53 + m : Nat) ≠ 59 + nS P by omega), va_up_ne _ _ (show (53 + m : Nat) ≠ 53 + nS P by omega), va_up_ne _ _ (show (53 + m : Nat) ≠ 47 + nS P by omega), va_up_ne _ _ (show (53 + m : Nat) ≠ 95 + nS P by omega)]⟩) (fun m hm => by
      rw [show nM Q = nM P from by unfold nM; rw [← hQ]; rw [va_up_ne _ _ (show (4 : Nat) ≠ 5 by omega), va_up_ne _ _ (show (4 : Nat) ≠ 65 + nS P by omega), va_up_ne _ _ (show (4 : Nat) ≠ 59 + nS P by omega), va_up_ne _ _ (show (4 : Nat) ≠ 53 + nS P by omega), va_up_ne _ _ (show (4 : Nat) ≠ 47 + nS P by omega), va_up_ne _ _ (show (4 : Nat) ≠ 95 + nS P by omega)]] at hm
      have l4 := h.1.l4
      exact Or.inr ⟨hm, by rw [← hQ]; rw [va_up_ne _ _ (show (35 + m : Nat) ≠ 5 by omega), va_up_ne _ _ (show (35 + m : Nat) ≠ 65 + nS P by omega), va_up_ne _ _ (show (35 + m : Nat) ≠ 59 + nS P by omega), va_up_ne _ _ (show (35 + m : Nat) ≠ 53 + nS P by omega), va_up_ne _ _ (show (35 + m : Nat) ≠ 47 + nS P by omega), va_up_ne _ _ (show (35 + m : Nat) ≠ 95 + nS P by omega)]⟩) (fun z hz => by
      rw [show nZ Q = nZ P from by unfold nZ; rw [← hQ]; rw [va_up_ne _ _ (show (101 : Nat) ≠ 5 by omega), va_up_ne _ _ (show (101 : Nat) ≠ 65 + nS P by omega), va_up_ne _ _ (show (101 : Nat) ≠ 59 + nS P by omega), va_up_ne _ _ (show (101 : Nat) ≠ 53 + nS P by omega), va_up_ne _ _ (show (101 : Nat) ≠ 47 + nS P by omega), va_up_ne _ _ (show (101 : Nat) ≠ 95 + nS P by omega)]] at hz
      have l101 := h.1.l101
      exact Or.inl ⟨hz, fun j a b => by rw [← hQ]; rw [va_up_ne _ _ (show (102 + j : Nat) ≠ 5 by omega), va_up_ne _ _ (show (102 + j : Nat) ≠ 65 + nS P by omega), va_up_ne _ _ (show (102 + j : Nat) ≠ 59 + nS P by omega), va_up_ne _ _ (show (102 + j : Nat) ≠ 53 + nS P by omega), va_up_ne _ _ (show (102 + j : Nat) ≠ 47 + nS P by omega), va_up_ne _ _ (show (102 + j : Nat) ≠ 95 + nS P by omega)]⟩)
theorem IV_zo {f : Nat → Int32} {e : Nat} {x P : Nat → Int32} (h : IV P) (hx : PY e x) : IV (zoP f e x P) := by
  unfold zoP
  by_cases h0 : 0 < zoX f e x P 5
  · rw [if_pos h0]; exact h
  rw [if_neg h0]
  have z := px50 (PY_zoX hx).1 h0
  have z3 := zoX_50 z
  have z2 := zo3_50 (lok_50 z3)
  have z1 := zo2_50 (lok_50 z2)
  have z0 := zo1_50 (lok_50 z1)
  have hn := (zo0_50 (lok_50 z0)).1
  have l101 := h.1.l101
  have l9 := h.1.l9
  have l10 := h.1.l10
  have ex : (nI (nX P) - nI 1).toInt = (nX P : Int) - 1 := (show ∀ n : Nat, n ≤ 200 → (nI n - nI 1).toInt = (n : Int) - 1 by decide +kernel) _ (by omega)
  have ey : (nI (nY P) - nI 1).toInt = (nY P : Int) - 1 := (show ∀ n : Nat, n ≤ 200 → (nI n - nI 1).toInt = (n : Int) - 1 by decide +kernel) _ (by omega)
  have v0 : 0 ≤ (zv0 f e x P).toInt ∧ (zv0 f e x P).toInt ≤ (nX P : Int) - 1 := by
    obtain ⟨_, a, b, _, c⟩ := lok_in z0
    unfold zv0
    rw [c, ← ex]
    exact ⟨Int32.le_iff_toInt_le.mp a, Int32.le_iff_toInt_le.mp b⟩
  have v1 : 0 ≤ (zv1 f e x P).toInt ∧ (zv1 f e x P).toInt ≤ (nY P : Int) - 1 := by
    obtain ⟨_, a, b, _, c⟩ := lok_in z1
    unfold zv1
    rw [c, ← ey]
    exact ⟨Int32.le_iff_toInt_le.mp a, Int32.le_iff_toInt_le.mp b⟩
  have v2 : (zv0 f e x P).toInt ≤ (zv2 f e x P).toInt ∧ (zv2 f e x P).toInt ≤ (nX P : Int) - 1 := by
    obtain ⟨_, a, b, _, c⟩ := lok_in z2
    unfold zv2
    rw [c, ← ex]
    exact ⟨Int32.le_iff_toInt_le.mp a, Int32.le_iff_toInt_le.mp b⟩
  have v3 : (zv1 f e x P).toInt ≤ (zv3 f e x P).toInt ∧ (zv3 f e x P).toInt ≤ (nY P : Int) - 1 := by
    obtain ⟨_, a, b, _, c⟩ := lok_in z3
    unfold zv3
    rw [c, ← ey]
    exact ⟨Int32.le_iff_toInt_le.mp a, Int32.le_iff_toInt_le.mp b⟩
  obtain ⟨Q, hQ⟩ : ∃ Q, va_up (va_up (va_up (va_up (va_up (P) (102 + 4 * nZ P) (zv0 f e x P)) (102 + 4 * nZ P + 1) (zv1 f e x P)) (102 + 4 * nZ P + 2) (zv2 f e x P)) (102 + 4 * nZ P + 3) (zv3 f e x P)) (101) (nI (nZ P + 1)) = Q := ⟨_, rfl⟩
  have hv : VP (va_up (va_up (va_up (va_up (va_up (P) (102 + 4 * nZ P) (zv0 f e x P)) (102 + 4 * nZ P + 1) (zv1 f e x P)) (102 + 4 * nZ P + 2) (zv2 f e x P)) (102 + 4 * nZ P + 3) (zv3 f e x P)) (101) (nI (nZ P + 1))) := VP_up (VP_up (VP_up (VP_up (VP_up (h.1) (by unfold pok; rw [show 102 + 4 * nZ P = 102 + (4 * nZ P + 0) from rfl, (vb_102 (4 * nZ P + 0) (by omega)).1, (vb_102 (4 * nZ P + 0) (by omega)).2]; omega)) (by unfold pok; rw [Nat.add_assoc, (vb_102 (4 * nZ P + 1) (by omega)).1, (vb_102 (4 * nZ P + 1) (by omega)).2]; omega)) (by unfold pok; rw [Nat.add_assoc, (vb_102 (4 * nZ P + 2) (by omega)).1, (vb_102 (4 * nZ P + 2) (by omega)).2]; omega)) (by unfold pok; rw [Nat.add_assoc, (vb_102 (4 * nZ P + 3) (by omega)).1, (vb_102 (4 * nZ P + 3) (by omega)).2]; omega)) (⟨by rw [nI_toInt (by omega)]; show (0 : Int) ≤ _; omega, by rw [nI_toInt (by omega)]; show _ ≤ (4 : Int); omega⟩)
  rw [hQ] at hv ⊢
  have e101 : nZ Q = nZ P + 1 := by
    unfold nZ
    rw [← hQ, va_up_self]
    exact cl_I (by have := l101; unfold nZ at this; omega)
  have ex9 : nX Q = nX P := by unfold nX; rw [← hQ]; rw [va_up_ne _ _ (show (9 : Nat) ≠ 101 by omega), va_up_ne _ _ (show (9 : Nat) ≠ 102 + 4 * nZ P + 3 by omega), va_up_ne _ _ (show (9 : Nat) ≠ 102 + 4 * nZ P + 2 by omega), va_up_ne _ _ (show (9 : Nat) ≠ 102 + 4 * nZ P + 1 by omega), va_up_ne _ _ (show (9 : Nat) ≠ 102 + 4 * nZ P by omega)]
  have ey9 : nY Q = nY P := by unfold nY; rw [← hQ]; rw [va_up_ne _ _ (show (10 : Nat) ≠ 101 by omega), va_up_ne _ _ (show (10 : Nat) ≠ 102 + 4 * nZ P + 3 by omega), va_up_ne _ _ (show (10 : Nat) ≠ 102 + 4 * nZ P + 2 by omega), va_up_ne _ _ (show (10 : Nat) ≠ 102 + 4 * nZ P + 1 by omega), va_up_ne _ _ (show (10 : Nat) ≠ 102 + 4 * nZ P by omega)]
  exact IV_mk h hv (fun j hj => by rw [← hQ]; rw [va_up_ne _ _ (show (j : Nat) ≠ 101 by omega), va_up_ne _ _ (show (j : Nat) ≠ 102 + 4 * nZ P + 3 by omega), va_up_ne _ _ (show (j : Nat) ≠ 102 + 4 * nZ P + 2 by omega), va_up_ne _ _ (show (j : Nat) ≠ 102 + 4 * nZ P + 1 by omega), va_up_ne _ _ (show (j : Nat) ≠ 102 + 4 * nZ P by omega)]) (Or.inl (fun j a b => by rw [← hQ]; rw [va_up_ne _ _ (show (j : Nat) ≠ 101 by omega), va_up_ne _ _ (show (j : Nat) ≠ 102 + 4 * nZ P + 3 by omega), va_up_ne _ _ (show (j : Nat) ≠ 102 + 4 * nZ P + 2 by omega), va_up_ne _ _ (show (j : Nat) ≠ 102 + 4 * nZ P + 1 by omega), va_up_ne _ _ (show (j : Nat) ≠ 102 + 4 * nZ P by omega)])) (fun m hm => by
      rw [show nS Q = nS P from by unfold nS; rw [← hQ]; rw [va_up_ne _ _ (show (5 : Nat) ≠ 101 by omega), va_up_ne _ _ (show (5 : Nat) ≠ 102 + 4 * nZ P + 3 by omega), va_up_ne _ _ (show (5 : Nat) ≠ 102 + 4 * nZ P + 2 by omega), va_up_ne _ _ (show (5 : Nat) ≠ 102 + 4 * nZ P + 1 by omega), va_up_ne _ _ (show (5 : Nat) ≠ 102 + 4 * nZ P by omega)]] at hm
      have l5 := h.1.l5
      exact Or.inr ⟨hm, by rw [← hQ]; rw [va_up_ne _ _ (show (59 + m : Nat) ≠ 101 by omega), va_up_ne _ _ (show (59 + m : Nat) ≠ 102 + 4 * nZ P + 3 by omega), va_up_ne _ _ (show (59 + m : Nat) ≠ 102 + 4 * nZ P + 2 by omega), va_up_ne _ _ (show (59 + m : Nat) ≠ 102 + 4 * nZ P + 1 by omega), va_up_ne _ _ (show (59 + m : Nat) ≠ 102 + 4 * nZ P by omega)], by rw [← hQ]; rw [va_up_ne _ _ (show (53 + m : Nat) ≠ 101 by omega), va_up_ne _ _ (show (53 + m : Nat) ≠ 102 + 4 * nZ P + 3 by omega), va_up_ne _ _ (show (53 + m : Nat) ≠ 102 + 4 * nZ P + 2 by omega), va_up_ne _ _ (show (53 + m : Nat) ≠ 102 + 4 * nZ P + 1 by omega), va_up_ne _ _ (show (53 + m : Nat) ≠ 102 + 4 * nZ P by omega)]⟩) (fun m hm => by
      rw [show nM Q = nM P from by unfold nM; rw [← hQ]; rw [va_up_ne _ _ (show (4 : Nat) ≠ 101 by omega), va_up_ne _ _ (show (4 : Nat) ≠ 102 + 4 * nZ P + 3 by omega), va_up_ne _ _ (show (4 : Nat) ≠ 102 + 4 * nZ P + 2 by omega), va_up_ne _ _ (show (4 : Nat) ≠ 102 + 4 * nZ P + 1 by omega), va_up_ne _ _ (show (4 : Nat) ≠ 102 + 4 * nZ P by omega)]] at hm
      have l4 := h.1.l4
      exact Or.inr ⟨hm, by rw [← hQ]; rw [va_up_ne _ _ (show (35 + m : Nat) ≠ 101 by omega), va_up_ne _ _ (show (35 + m : Nat) ≠ 102 + 4 * nZ P + 3 by omega), va_up_ne _ _ (show (35 + m : Nat) ≠ 102 + 4 * nZ P + 2 by omega), va_up_ne _ _ (show (35 + m : Nat) ≠ 102 + 4 * nZ P + 1 by omega), va_up_ne _ _ (show (35 + m : Nat) ≠ 102 + 4 * nZ P by omega)]⟩) (fun z hz => by
      by_cases e9 : z = nZ P
      · refine Or.inr ?_
        subst e9
        have w0 := cl_ti (v := zv0 f e x P) (by omega)
        have w1 := cl_ti (v := zv1 f e x P) (by omega)
        have w2 := cl_ti (v := zv2 f e x P) (by omega)
        have w3 := cl_ti (v := zv3 f e x P) (by omega)
        have u0 : zon Q (4 * nZ P) = cl (zv0 f e x P) := by unfold zon; rw [← hQ]; rw [va_up_ne _ _ (show (102 + 4 * nZ P : Nat) ≠ 101 by omega), va_up_ne _ _ (show (102 + 4 * nZ P : Nat) ≠ 102 + 4 * nZ P + 3 by omega), va_up_ne _ _ (show (102 + 4 * nZ P : Nat) ≠ 102 + 4 * nZ P + 2 by omega), va_up_ne _ _ (show (102 + 4 * nZ P : Nat) ≠ 102 + 4 * nZ P + 1 by omega), va_up_self]
        have u1 : zon Q (4 * nZ P + 1) = cl (zv1 f e x P) := by unfold zon; rw [← hQ, ← Nat.add_assoc]; rw [va_up_ne _ _ (show (102 + 4 * nZ P + 1 : Nat) ≠ 101 by omega), va_up_ne _ _ (show (102 + 4 * nZ P + 1 : Nat) ≠ 102 + 4 * nZ P + 3 by omega), va_up_ne _ _ (show (102 + 4 * nZ P + 1 : Nat) ≠ 102 + 4 * nZ P + 2 by omega), va_up_self]
        have u2 : zon Q (4 * nZ P + 2) = cl (zv2 f e x P) := by unfold zon; rw [← hQ, ← Nat.add_assoc]; rw [va_up_ne _ _ (show (102 + 4 * nZ P + 2 : Nat) ≠ 101 by omega), va_up_ne _ _ (show (102 + 4 * nZ P + 2 : Nat) ≠ 102 + 4 * nZ P + 3 by omega), va_up_self]
        have u3 : zon Q (4 * nZ P + 3) = cl (zv3 f e x P) := by unfold zon; rw [← hQ, ← Nat.add_assoc]; rw [va_up_ne _ _ (show (102 + 4 * nZ P + 3 : Nat) ≠ 101 by omega), va_up_self]
        rw [u0, u1, u2, u3, ex9, ey9]
        omega
      · exact Or.inl ⟨by omega, fun j a b => by rw [← hQ]; rw [va_up_ne _ _ (show (102 + j : Nat) ≠ 101 by omega), va_up_ne _ _ (show (102 + j : Nat) ≠ 102 + 4 * nZ P + 3 by omega), va_up_ne _ _ (show (102 + j : Nat) ≠ 102 + 4 * nZ P + 2 by omega), va_up_ne _ _ (show (102 + j : Nat) ≠ 102 + 4 * nZ P + 1 by omega), va_up_ne _ _ (show (102 + j : Nat) ≠ 102 + 4 * nZ P by omega)]⟩)
