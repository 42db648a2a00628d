/-! State.<init>: printed by gen/s12.py -/
set_option maxRecDepth 100000
/-- a state as a setup tells it: all heard, weights by the shade, the sources where they start, no sound -/
def S0 (P T : Nat → Int32) (o : Nat) : Nat → Int32 := fun i =>
  if i < 13 then nI 0 else if i < 25 then (if i - 13 < nH P then nI (shd P (i - 13)) else nI 1) else if i < 31 then (if o.testBit (i - 25) then nI 0 else nI 1) else if i < 55 then T i else nI 0
theorem S0_mu (P T : Nat → Int32) (o : Nat) : mum P (S0 P T o) = 0 ∨ 12 < nM P := by
  rcases Nat.lt_or_ge 12 (nM P) with h | h
  · exact Or.inr h
  · refine Or.inl (msk_eq (v := 0) (fun j => ?_)).symm
    rw [Nat.zero_testBit]
    by_cases q : j < nM P
    · have : S0 P T o (1 + j) = 0 := by unfold S0; rw [if_pos (by omega)]; rfl
      simp [this]
    · simp [q]
theorem S0_on {P T : Nat → Int32} {o : Nat} (h : nS P ≤ 6) : anN (0 ||| (2 ^ nS P - 1)) o = onm P (S0 P T o) ∨ ¬ o < 2 ^ 64 := by
  rcases Nat.lt_or_ge o (2 ^ 64) with ho | ho
  · refine Or.inl (msk_eq (fun j => ?_))
    unfold anN
    rw [Nat.zero_or, Nat.testBit_and, Nat.testBit_two_pow_sub_one]
    by_cases q : j < nS P
    · have e1 : (2 ^ 64 - 1 - o).testBit j = !o.testBit j := by
        have h9 := Nat.testBit_two_pow_sub_succ ho j
        rw [show 2 ^ 64 - 1 - o = 2 ^ 64 - (o + 1) by omega, h9]
        simp [show j < 64 by omega]
      have e2 : S0 P T o (25 + j) = if o.testBit j then nI 0 else nI 1 := by
        unfold S0
        rw [if_neg (by omega), if_neg (by omega), if_pos (by omega), Nat.add_sub_cancel_left]
      rw [e1, e2]
      cases o.testBit j <;> simp [q] <;> decide
    · simp [q]
  · exact Or.inr (by omega)
def W0 (P : Nat → Int32) (m : Nat) : Int32 := if m < nH P then nI (shd P m) else nI 1
theorem W0_e {P T : Nat → Int32} {o m : Nat} (hP : VP P) (hm : m < 12) : W0 P m = nI (wgt (S0 P T o) m) := by
  have e : S0 P T o (13 + m) = W0 P m := by
    unfold S0 W0
    rw [if_neg (by omega), if_pos (by omega), Nat.add_sub_cancel_left]
  unfold wgt
  rw [e]
  unfold W0
  have := (hP.shd m hm).2
  split
  · rw [nI_clamp (by omega)]
  · rw [nI_clamp (by omega)]
def g0 (a b1 w1 b3 w3 sa wt ra : Nat) (u : Nat → Nat) : Nat → Nat := fun k => if k = 0 then a else if k = 1 then b1 else if k = 2 then w1 else if k = 3 then b3 else if k = 4 then w3 else if k = 5 then sa else if k = 6 then wt else if k = 7 then ra else if k < 30 then ra + 1 + (k - 10) else if k < 40 then u (80 + (k - 30)) else u (90 + (k - 40))
section G0
variable {a b1 w1 b3 w3 sa wt ra N n : Nat} {u : Nat → Nat} {P T : Nat → Int32} {o : Nat} {D : DD} {H : Heap}
theorem g0_0 : g0 a b1 w1 b3 w3 sa wt ra u 0 = a := rfl
theorem g0_1 : g0 a b1 w1 b3 w3 sa wt ra u 1 = b1 := rfl
theorem g0_2 : g0 a b1 w1 b3 w3 sa wt ra u 2 = w1 := rfl
theorem g0_3 : g0 a b1 w1 b3 w3 sa wt ra u 3 = b3 := rfl
theorem g0_4 : g0 a b1 w1 b3 w3 sa wt ra u 4 = w3 := rfl
theorem g0_5 : g0 a b1 w1 b3 w3 sa wt ra u 5 = sa := rfl
theorem g0_6 : g0 a b1 w1 b3 w3 sa wt ra u 6 = wt := rfl
theorem g0_7 : g0 a b1 w1 b3 w3 sa wt ra u 7 = ra := rfl
theorem g0_r {m : Nat} (hm : m < 12) : g0 a b1 w1 b3 w3 sa wt ra u (10 + m) = ra + 1 + m := by
  unfold g0
  rw [if_neg (by omega), if_neg (by omega), if_neg (by omega), if_neg (by omega), if_neg (by omega), if_neg (by omega), if_neg (by omega), if_neg (by omega), if_pos (by omega), Nat.add_sub_cancel_left]
theorem g0_s {k : Nat} (hk : k < 6) : g0 a b1 w1 b3 w3 sa wt ra u (30 + k) = u (80 + k) := by
  unfold g0
  rw [if_neg (by omega), if_neg (by omega), if_neg (by omega), if_neg (by omega), if_neg (by omega), if_neg (by omega), if_neg (by omega), if_neg (by omega), if_neg (by omega), if_pos (by omega), Nat.add_sub_cancel_left]
theorem g0_w {k : Nat} (hk : k < 6) : g0 a b1 w1 b3 w3 sa wt ra u (40 + k) = u (90 + k) := by
  unfold g0
  rw [if_neg (by omega), if_neg (by omega), if_neg (by omega), if_neg (by omega), if_neg (by omega), if_neg (by omega), if_neg (by omega), if_neg (by omega), if_neg (by omega), if_neg (by omega), Nat.add_sub_cancel_left]
theorem g0_c (hn : n ≤ 12) {k : Nat} (hk : UK n k) : k = 0 ∨ k = 1 ∨ k = 2 ∨ k = 3 ∨ k = 4 ∨ k = 5 ∨ k = 6 ∨ k = 7 ∨ ∃ m, m < 12 ∧ k = 10 + m := by
  rcases hk with q | ⟨q, r⟩
  · omega
  · exact Or.inr (Or.inr (Or.inr (Or.inr (Or.inr (Or.inr (Or.inr (Or.inr ⟨k - 10, by omega, by omega⟩)))))))
theorem g0_lt (hn : n ≤ 12) (h1 : a < b1) (h2 : b1 < w1) (h3 : w1 < b3) (h4 : b3 < w3) (h5 : w3 < sa) (h6 : sa < wt) (h7 : wt < ra) {i j : Nat} (hi : UK n i) (hj : UK n j) (h : i < j) : g0 a b1 w1 b3 w3 sa wt ra u i < g0 a b1 w1 b3 w3 sa wt ra u j := by
  rcases g0_c hn hi with e | e | e | e | e | e | e | e | ⟨m, hm, e⟩ <;> rcases g0_c hn hj with f | f | f | f | f | f | f | f | ⟨m', hm', f⟩ <;> subst e <;> subst f <;> first | (exact absurd h (by omega)) | (rw [g0_r hm, g0_r hm']; omega) | (rw [g0_r hm']; simp only [g0_0, g0_1, g0_2, g0_3, g0_4, g0_5, g0_6, g0_7]; omega) | (simp only [g0_0, g0_1, g0_2, g0_3, g0_4, g0_5, g0_6, g0_7]; omega)
theorem g0_ge (hn : n ≤ 12) (h2 : b1 < w1) (h3 : w1 < b3) (h4 : b3 < w3) (h5 : w3 < sa) (h6 : sa < wt) (h7 : wt < ra) {i : Nat} (hi : UK n i) : i = 0 ∨ b1 ≤ g0 a b1 w1 b3 w3 sa wt ra u i := by
  rcases g0_c hn hi with e | e | e | e | e | e | e | e | ⟨m, hm, e⟩ <;> subst e <;> first | exact Or.inl rfl | (refine Or.inr ?_; rw [g0_r hm]; omega) | (refine Or.inr ?_; simp only [g0_0, g0_1, g0_2, g0_3, g0_4, g0_5, g0_6, g0_7]; omega) | (refine Or.inr ?_; exact Nat.le_refl _)
theorem g0_ap (hn : nM P ≤ 12) (hs : nS P ≤ 6) (h1 : a < b1) (h2 : b1 < w1) (h3 : w1 < b3) (h4 : b3 < w3) (h5 : w3 < sa) (h6 : sa < wt) (h7 : wt < ra) (hau : ∀ j, VK P j → a ≠ u j) (hu : ∀ j, VK P j → u j < b1) : AP (g0 a b1 w1 b3 w3 sa wt ra u) u P := by
  have au : ∀ i j, UK (nM P) i → VK P j → g0 a b1 w1 b3 w3 sa wt ra u i ≠ u j := fun i j hi hj => by
    rcases g0_ge (a := a) (u := u) hn h2 h3 h4 h5 h6 h7 hi with e | e
    · subst e; exact hau j hj
    · have := hu j hj
      omega
  refine ⟨fun i j hi hj e => ?_, au, fun i j hi hj => ?_⟩
  · rcases Nat.lt_trichotomy i j with q | q | q
    · have := g0_lt (u := u) hn h1 h2 h3 h4 h5 h6 h7 hi hj q
      omega
    · exact q
    · have := g0_lt (u := u) hn h1 h2 h3 h4 h5 h6 h7 hj hi q
      omega
  · rcases hj with ⟨q, r⟩ | ⟨q, r⟩
    · obtain ⟨k, rfl⟩ : ∃ k, j = 30 + k := ⟨j - 30, by omega⟩
      rw [g0_s (k := k) (by omega)]
      exact au i _ hi (by unfold VK; omega)
    · obtain ⟨k, rfl⟩ : ∃ k, j = 40 + k := ⟨j - 40, by omega⟩
      rw [g0_w (k := k) (by omega)]
      exact au i _ hi (by unfold VK; omega)
theorem g0_sr (hP : VP P) (ho : o < 4096) (hU : UR D u P T o H) (x0 : oB D H a 2 [.ref (u 0), .ref b1, .ref b3, .ref sa, .ref wt, .ref ra, .int (nI 0), .null]) (x1 : BS D H b1 w1 0) (x3 : BS D H b3 w3 (anN (0 ||| (2 ^ nS P - 1)) o)) (x5 : qA D H sa 8 (nS P) (fun j => some (u (80 + j)))) (x6 : iA D H wt (nM P) (W0 P)) (x7 : qA D H ra 5 (nM P) (fun j => some (ra + 1 + j))) (x8 : ∀ j, j < nM P → iA D H (ra + 1 + j) (nT P) (fun _ => 0)) : SR D (g0 a b1 w1 b3 w3 sa wt ra u) u P (S0 P T o) none H := by
  have l4 := hP.l4
  have l5 := hP.l5
  refine ⟨x0, ?_, ?_, qA_cg x5 (fun j hj => by rw [g0_s (by omega)]), iA_cg x6 (fun j hj => W0_e hP (by omega)), qA_cg x7 (fun j hj => by rw [g0_r (by omega)]), fun m hm => ?_, fun k hk => ?_⟩
  · rcases S0_mu P T o with e | e
    · rw [e]; exact x1
    · omega
  · rcases S0_on (P := P) (T := T) (o := o) l5 with e | e
    · rw [← e]; exact x3
    · exact absurd (show o < 2 ^ 64 by omega) e
  · rw [g0_r (by omega)]
    exact iA_cg (x8 m hm) (fun t ht => by unfold S0; rw [if_neg (by omega), if_neg (by omega), if_neg (by omega), if_neg (by omega)]; rfl)
  · have := hU.src k hk
    have e : ∀ i, 31 ≤ i → i < 55 → S0 P T o i = T i := fun i h1 h2 => by unfold S0; rw [if_neg (by omega), if_neg (by omega), if_neg (by omega), if_pos (by omega)]
    unfold SK at this ⊢
    rw [g0_s (by omega), g0_w (by omega), e _ (by omega) (by omega), e _ (by omega) (by omega), e _ (by omega) (by omega), e _ (by omega) (by omega)]
    exact this
end G0
theorem nX3_init : notMH yX3_init 1 := by decide +kernel
set_option maxHeartbeats 800000 in
theorem mX3_init (l : Launch) (D : DD) (u : Nat → Nat) (P T : Nat → Int32) (o a : Nat) (hC : VC P) (ho : o < 4096) (hau : ∀ j, VK P j → a ≠ u j) : Ct l yX3_init cX3_init 3 none { frames := 4, cells := 19, slots := 2438, locals := 85 } D [.ref a, .ref (u 0)] (fun H => KH D H ∧ UR D u P T o H ∧ oB D H a 2 [.null, .null, .null, .null, .null, .null, .int (nI 0), .null]) (fun q => q = a) (fun r H H1 => r = none ∧ ∃ g, g 0 = a ∧ SR D g u P (S0 P T o) none H1 ∧ AP g u P ∧ (∀ k, UK (nM P) k → k = 0 ∨ H.size ≤ g k) ∧ (∀ k, k < nS P → g (30 + k) = u (80 + k) ∧ g (40 + k) = u (90 + k))) := by
  refine Ct.of (by decide +kernel) (Nat.le_of_ble_eq_true rfl) (fun K Qf hkl X hM hQ => ?_)
  subst hkl
  obtain ⟨hK, hU, hO⟩ := hM
  have hz : (kS K).heap.size ≤ (kS K).heap.size := Nat.le_refl _
  have hP := hC.v
  have l0 := hP.l0
  have l1 := hP.l1
  have l2 := hP.l2
  have l4 := hP.l4
  have l5 := hP.l5
  have l8 := hP.l8
  have l9 := hP.l9
  have l10 := hP.l10
  have l71 := hP.l71
  have l76 := hP.l76
  have l77 := hP.l77
  have hx1 := hC.x1
  have hy1 := hC.y1
  have ht1 := hC.t1
  have he1 := hC.e1
  have hm1 := hC.m1
  have hcc : nC P ≤ 144 := Nat.mul_le_mul l9 l10
  have hul := hU.ltB
  have l118 := hP.l118
  refine vv_sub (lv' := [(0, .ref a), (1, .ref (u 0))]) [0, 1] rfl ?_
  refine vv_aload_n X dX3_init_0 rfl 0 rfl ?_
  refine vv_obj X q1656 q197 q198 (Nat.le_of_ble_eq_true rfl) (Nat.le_of_ble_eq_true rfl) dX3_init_1 ?_
  refine vv_aload_n X dX3_init_4 rfl 0 rfl ?_
  refine vv_newA (C := RJ21) (T := TJ21) (N := 3) (fs := [.null, .int (nI 0), .int (nI 0)]) X in_J21 CL_J21 tyJ21 tyJ21_ok q1657 q747 q164 (tyJ21_d) (Nat.le_of_ble_eq_true rfl) (Nat.le_of_ble_eq_true rfl) dX3_init_5 (fun a_1 H eq_2 hx ho => ?_)
  have lt_3 : a < a_1 := by have h9 := hO.lt; omega
  have nu_4 : ∀ j, VK P j → a_1 ≠ u j := fun k hk e => by have h9 := hU.ltB k hk; rw [eq_2] at e; omega
  have ne_5 : a ≠ a_1 := Nat.ne_of_lt (eq_2.symm ▸ hO.lt)
  have ge_6 : (kS K).heap.size ≤ a_1 := by rw [eq_2]; exact hz
  have kn_7 : KN D a_1 := KN.new hK (Nat.le_of_eq eq_2.symm)
  replace hU := hU.ex hx
  replace hO := hO.kept (hx.2 _ hO.lt)
  replace hK := hK.ex hx
  replace hz : (kS K).heap.size ≤ H.size := by have := hx.1; omega
  have hO_8 : oB D H a_1 19 [.null, .int (nI 0), .int (nI 0)] := ho
  clear ho hx
  refine vv_dup X dX3_init_8 rfl ?_
  refine vv_bipush (v := nI 12) X dX3_init_9 (by decide) ?_
  refine vv_callI X (mJ21_init (kL K) D a_1 12 (by omega) (by omega)) q1658 q749 q164 q750 rfl nJ21_init ⟨(Nat.le_of_ble_eq_true rfl), (Nat.le_of_ble_eq_true rfl)⟩ dX3_init_11 rfl (Nat.le_of_ble_eq_true rfl) ⟨hK, hO_8⟩ (fun q z => by rcases z with rfl; exact (Or.inr ge_6)) ⟨(Nat.le_of_ble_eq_true rfl), (Nat.le_of_ble_eq_true rfl)⟩ (fun v_ H hq hz_ hk => ?_)
  obtain ⟨rfl, a_9, hge, hB'⟩ := hq
  have ne_10 : a ≠ a_9 := Nat.ne_of_lt (Nat.lt_of_lt_of_le hO.lt hge)
  have lt_11 : a < a_9 := by have h9 := hO.lt; omega
  have lt_12 : a_1 < a_9 := by have h9 := hO_8.lt; omega
  have nu_13 : ∀ j, VK P j → a_9 ≠ u j := fun j hj e => by have h9 := hU.ltB j hj; omega
  replace hO := hO.kept (hk _ hO.lt ne_5)
  replace hU := hU.kept (fun q hl hq => hk q hl (fun z => by obtain ⟨j_, h_, e_⟩ := hq; rcases z with z; exact nu_4 j_ h_ (z.symm.trans e_)))
  have ge_14 : (kS K).heap.size ≤ a_9 := Nat.le_trans hz hge
  replace hK := hK.to hk (fun q z => by rcases z with rfl; exact kn_7)
  replace hz := Nat.le_trans hz hz_
  have hB_15 := hB'
  clear hO_8 hk hz_ hge hB'
  refine vv_putfF (C := RX3) (T := TX3) (N := 8) (ref := "AcousticCamera$State") X hO in_X3 CL_X3 tyX3 tyX3_ok nmX3 1 (by decide) q1689 rfl rfl rfl rfl rfl rfl (Nat.le_of_ble_eq_true rfl) (Or.inl rfl) dX3_init_14 (fun H hc ho => ?_)
  replace hU := hU.kept (fun q hl hq => hc.2 q (fun e => by obtain ⟨j_, h_, e_⟩ := hq; exact hau j_ h_ (e.symm.trans e_)))
  have k_0 := hB_15.kept (hc.2 _ (Ne.symm ne_5)) (hc.2 _ (Ne.symm ne_10))
  replace hK := hK.ch hc (X.ko hK hO CL_X3 (by decide) (by decide))
  clear hB_15
  have hB_15 := k_0
  clear k_0
  replace hz := Nat.le_trans hz (Nat.le_of_eq hc.1.symm)
  clear hO
  have hO : oB D H a 2 [.null, .ref a_1, .null, .null, .null, .null, .int (nI 0), .null] := ho
  clear hc ho
  refine vv_aload_n X dX3_init_17 rfl 0 rfl ?_
  refine vv_newA (C := RJ21) (T := TJ21) (N := 3) (fs := [.null, .int (nI 0), .int (nI 0)]) X in_J21 CL_J21 tyJ21 tyJ21_ok q1657 q747 q164 (tyJ21_d) (Nat.le_of_ble_eq_true rfl) (Nat.le_of_ble_eq_true rfl) dX3_init_18 (fun a_16 H eq_17 hx ho => ?_)
  have lt_18 : a < a_16 := by have h9 := hO.lt; omega
  have lt_19 : a_1 < a_16 := by have h9 := hB_15.1.lt; omega
  have lt_20 : a_9 < a_16 := by have h9 := hB_15.2.lt; omega
  have nu_21 : ∀ j, VK P j → a_16 ≠ u j := fun k hk e => by have h9 := hU.ltB k hk; rw [eq_17] at e; omega
  have ne_22 : a ≠ a_16 := Nat.ne_of_lt (eq_17.symm ▸ hO.lt)
  have ne_23 : a_1 ≠ a_16 := Nat.ne_of_lt (eq_17.symm ▸ hB_15.1.lt)
  have ne_24 : a_9 ≠ a_16 := Nat.ne_of_lt (eq_17.symm ▸ hB_15.2.lt)
  have ge_25 : (kS K).heap.size ≤ a_16 := by rw [eq_17]; exact hz
  have kn_26 : KN D a_16 := KN.new hK (Nat.le_of_eq eq_17.symm)
  replace hU := hU.ex hx
  replace hO := hO.kept (hx.2 _ hO.lt)
  replace hB_15 := hB_15.kept (hx.2 _ hB_15.1.lt) (hx.2 _ hB_15.2.lt)
  replace hK := hK.ex hx
  replace hz : (kS K).heap.size ≤ H.size := by have := hx.1; omega
  have hO_27 : oB D H a_16 19 [.null, .int (nI 0), .int (nI 0)] := ho
  clear ho hx
  refine vv_dup X dX3_init_21 rfl ?_
  refine vv_bipush (v := nI 6) X dX3_init_22 (by decide) ?_
  refine vv_callI X (mJ21_init (kL K) D a_16 6 (by omega) (by omega)) q1658 q749 q164 q750 rfl nJ21_init ⟨(Nat.le_of_ble_eq_true rfl), (Nat.le_of_ble_eq_true rfl)⟩ dX3_init_24 rfl (Nat.le_of_ble_eq_true rfl) ⟨hK, hO_27⟩ (fun q z => by rcases z with rfl; exact (Or.inr ge_25)) ⟨(Nat.le_of_ble_eq_true rfl), (Nat.le_of_ble_eq_true rfl)⟩ (fun v_ H hq hz_ hk => ?_)
  obtain ⟨rfl, a_28, hge, hB'⟩ := hq
  have ne_29 : a ≠ a_28 := Nat.ne_of_lt (Nat.lt_of_lt_of_le hO.lt hge)
  have ne_30 : a_1 ≠ a_28 := Nat.ne_of_lt (Nat.lt_of_lt_of_le hB_15.1.lt hge)
  have ne_31 : a_9 ≠ a_28 := Nat.ne_of_lt (Nat.lt_of_lt_of_le hB_15.2.lt hge)
  have lt_32 : a < a_28 := by have h9 := hO.lt; omega
  have lt_33 : a_1 < a_28 := by have h9 := hB_15.1.lt; omega
  have lt_34 : a_9 < a_28 := by have h9 := hB_15.2.lt; omega
  have lt_35 : a_16 < a_28 := by have h9 := hO_27.lt; omega
  have nu_36 : ∀ j, VK P j → a_28 ≠ u j := fun j hj e => by have h9 := hU.ltB j hj; omega
  replace hO := hO.kept (hk _ hO.lt ne_22)
  replace hB_15 := hB_15.kept (hk _ hB_15.1.lt ne_23) (hk _ hB_15.2.lt ne_24)
  replace hU := hU.kept (fun q hl hq => hk q hl (fun z => by obtain ⟨j_, h_, e_⟩ := hq; rcases z with z; exact nu_21 j_ h_ (z.symm.trans e_)))
  have ge_37 : (kS K).heap.size ≤ a_28 := Nat.le_trans hz hge
  replace hK := hK.to hk (fun q z => by rcases z with rfl; exact kn_26)
  replace hz := Nat.le_trans hz hz_
  have hB_38 := hB'
  clear hO_27 hk hz_ hge hB'
  refine vv_putfF (C := RX3) (T := TX3) (N := 8) (ref := "AcousticCamera$State") X hO in_X3 CL_X3 tyX3 tyX3_ok nmX3 2 (by decide) q1691 rfl rfl rfl rfl rfl rfl (Nat.le_of_ble_eq_true rfl) (Or.inl rfl) dX3_init_27 (fun H hc ho => ?_)
  replace hU := hU.kept (fun q hl hq => hc.2 q (fun e => by obtain ⟨j_, h_, e_⟩ := hq; exact hau j_ h_ (e.symm.trans e_)))
  have k_0 := hB_15.kept (hc.2 _ (Ne.symm ne_5)) (hc.2 _ (Ne.symm ne_10))
  have k_1 := hB_38.kept (hc.2 _ (Ne.symm ne_22)) (hc.2 _ (Ne.symm ne_29))
  replace hK := hK.ch hc (X.ko hK hO CL_X3 (by decide) (by decide))
  clear hB_15
  have hB_15 := k_0
  clear k_0
  clear hB_38
  have hB_38 := k_1
  clear k_1
  replace hz := Nat.le_trans hz (Nat.le_of_eq hc.1.symm)
  clear hO
  have hO : oB D H a 2 [.null, .ref a_1, .ref a_16, .null, .null, .null, .int (nI 0), .null] := ho
  clear hc ho
  refine vv_aload_n X dX3_init_30 rfl 0 rfl ?_
  refine vv_aload_n X dX3_init_31 rfl 1 rfl ?_
  refine vv_putfF (C := RX3) (T := TX3) (N := 8) (ref := "AcousticCamera$State") X hO in_X3 CL_X3 tyX3 tyX3_ok nmX3 0 (by decide) q1687 rfl rfl rfl rfl rfl rfl (Nat.le_of_ble_eq_true rfl) (Or.inl rfl) dX3_init_32 (fun H hc ho => ?_)
  replace hU := hU.kept (fun q hl hq => hc.2 q (fun e => by obtain ⟨j_, h_, e_⟩ := hq; exact hau j_ h_ (e.symm.trans e_)))
  have k_0 := hB_15.kept (hc.2 _ (Ne.symm ne_5)) (hc.2 _ (Ne.symm ne_10))
  have k_1 := hB_38.kept (hc.2 _ (Ne.symm ne_22)) (hc.2 _ (Ne.symm ne_29))
  replace hK := hK.ch hc (X.ko hK hO CL_X3 (by decide) (by decide))
  clear hB_15
  have hB_15 := k_0
  clear k_0
  clear hB_38
  have hB_38 := k_1
  clear k_1
  replace hz := Nat.le_trans hz (Nat.le_of_eq hc.1.symm)
  clear hO
  have hO : oB D H a 2 [.ref (u 0), .ref a_1, .ref a_16, .null, .null, .null, .int (nI 0), .null] := ho
  clear hc ho
  refine vv_aload_n X dX3_init_35 rfl 0 rfl ?_
  refine vv_aload_n X dX3_init_36 rfl 1 rfl ?_
  refine vv_getfN (C := RX5) (T := TX5) (N := 19) (ref := "AcousticCamera$Setup") X hU.ob in_X5 CL_X5 7 (by decide) q795 rfl rfl dX3_init_37 ?_
  refine vv_callFp X (mJ12_size (kL K) D (u 8) _ _ (nS P)) (by decide) q1660 q308 q306 q154 q310 (show notMH ⟨"java/util/List", "size", "()I"⟩ 0 by decide +kernel) ⟨(Nat.le_of_ble_eq_true rfl), (Nat.le_of_ble_eq_true rfl)⟩ dX3_init_40 rfl (Nat.le_of_ble_eq_true rfl) hU.ls.1 CL_J12 hU.ls.1 ⟨(Nat.le_of_ble_eq_true rfl), (Nat.le_of_ble_eq_true rfl)⟩ ?_
  refine vv_newqA (ty := 8) (C := "AcousticCamera$Source") (M := 6) X q1661 (by decide) rfl (by omega) (by decide) (Nat.le_of_ble_eq_true rfl) (Nat.le_of_ble_eq_true rfl) rfl dX3_init_45 (fun a_39 H eq_40 hx ho => ?_)
  have lt_41 : a < a_39 := by have h9 := hO.lt; omega
  have lt_42 : a_1 < a_39 := by have h9 := hB_15.1.lt; omega
  have lt_43 : a_9 < a_39 := by have h9 := hB_15.2.lt; omega
  have lt_44 : a_16 < a_39 := by have h9 := hB_38.1.lt; omega
  have lt_45 : a_28 < a_39 := by have h9 := hB_38.2.lt; omega
  have nu_46 : ∀ j, VK P j → a_39 ≠ u j := fun k hk e => by have h9 := hU.ltB k hk; rw [eq_40] at e; omega
  have ne_47 : a ≠ a_39 := Nat.ne_of_lt (eq_40.symm ▸ hO.lt)
  have ne_48 : a_1 ≠ a_39 := Nat.ne_of_lt (eq_40.symm ▸ hB_15.1.lt)
  have ne_49 : a_9 ≠ a_39 := Nat.ne_of_lt (eq_40.symm ▸ hB_15.2.lt)
  have ne_50 : a_16 ≠ a_39 := Nat.ne_of_lt (eq_40.symm ▸ hB_38.1.lt)
  have ne_51 : a_28 ≠ a_39 := Nat.ne_of_lt (eq_40.symm ▸ hB_38.2.lt)
  have ge_52 : (kS K).heap.size ≤ a_39 := by rw [eq_40]; exact hz
  have kn_53 : KN D a_39 := KN.new hK (Nat.le_of_eq eq_40.symm)
  replace hU := hU.ex hx
  replace hO := hO.kept (hx.2 _ hO.lt)
  replace hB_15 := hB_15.kept (hx.2 _ hB_15.1.lt) (hx.2 _ hB_15.2.lt)
  replace hB_38 := hB_38.kept (hx.2 _ hB_38.1.lt) (hx.2 _ hB_38.2.lt)
  replace hK := hK.ex hx
  replace hz : (kS K).heap.size ≤ H.size := by have := hx.1; omega
  have hR_54 : qA D H a_39 8 (nS P) (fun _ => none) := ho
  clear ho hx
  refine vv_putfF (C := RX3) (T := TX3) (N := 8) (ref := "AcousticCamera$State") X hO in_X3 CL_X3 tyX3 tyX3_ok nmX3 3 (by decide) q1693 rfl rfl rfl rfl rfl rfl (Nat.le_of_ble_eq_true rfl) (Or.inl rfl) dX3_init_48 (fun H hc ho => ?_)
  replace hU := hU.kept (fun q hl hq => hc.2 q (fun e => by obtain ⟨j_, h_, e_⟩ := hq; exact hau j_ h_ (e.symm.trans e_)))
  have k_0 := hB_15.kept (hc.2 _ (Ne.symm ne_5)) (hc.2 _ (Ne.symm ne_10))
  have k_1 := hB_38.kept (hc.2 _ (Ne.symm ne_22)) (hc.2 _ (Ne.symm ne_29))
  have k_2 := hR_54.kept (hc.2 _ (Ne.symm ne_47))
  replace hK := hK.ch hc (X.ko hK hO CL_X3 (by decide) (by decide))
  clear hB_15
  have hB_15 := k_0
  clear k_0
  clear hB_38
  have hB_38 := k_1
  clear k_1
  clear hR_54
  have hR_54 := k_2
  clear k_2
  replace hz := Nat.le_trans hz (Nat.le_of_eq hc.1.symm)
  clear hO
  have hO : oB D H a 2 [.ref (u 0), .ref a_1, .ref a_16, .ref a_39, .null, .null, .int (nI 0), .null] := ho
  clear hc ho
  refine vv_iconst (v := nI 0) X dX3_init_51 (by decide) ?_
  refine vv_istore_n (lv' := [(2, .int (nI 0)), (0, .ref a), (1, .ref (u 0))]) X dX3_init_52 rfl (by decide) rfl ?_
  have hx_55 : ∀ (H : Heap) (hK : KH D H) (hU : UR D u P T o H) (hz : (kS K).heap.size ≤ H.size) (hO : oB D H a 2 [.ref (u 0), .ref a_1, .ref a_16, .ref a_39, .null, .null, .int (nI 0), .null]) (hB_15 : BS D H a_1 a_9 0) (hB_38 : BS D H a_16 a_28 0) (hR_54 : qA D H a_39 8 (nS P) (rz (fun _ => none) (fun j => some (u (80 + j))) (nS P))), V K 3 (fun q => q = a) H 5 14 Qf 87 [(0, .ref a), (1, .ref (u 0)), (2, .int (nI (nS P)))] [] := by
    intro H hK hU hz hO hB_15 hB_38 hR_54
    replace hR_54 := qA_cg hR_54 (fun j hj => rz_in hj)
    refine vv_aload_n X dX3_init_87 rfl 0 rfl ?_
    refine vv_getf (C := RX3) (T := TX3) (N := 8) (ref := "AcousticCamera$State") X hO in_X3 CL_X3 2 (by decide) q1691 rfl rfl dX3_init_88 ?_
    refine vv_iconst (v := nI 0) X dX3_init_91 (by decide) ?_
    refine vv_aload_n X dX3_init_92 rfl 0 rfl ?_
    refine vv_getf (C := RX3) (T := TX3) (N := 8) (ref := "AcousticCamera$State") X hO in_X3 CL_X3 3 (by decide) q1693 rfl rfl dX3_init_93 ?_
    refine vv_alen (ty := 8) X hR_54 rfl dX3_init_96 ?_
    refine vv_callV X (mJ21_set_2 (kL K) D a_16 a_28 0 (nS P) (by omega)) q1665 q1666 q1667 q164 q1668 nJ21_set_2 ⟨(Nat.le_of_ble_eq_true rfl), (Nat.le_of_ble_eq_true rfl)⟩ dX3_init_97 rfl (Nat.le_of_ble_eq_true rfl) (recv X hB_38.1 CL_J21) ⟨hK, hB_38⟩ (fun q z => by rcases z with rfl | rfl; exact (Or.inr ge_25); exact (Or.inr ge_37)) ⟨(Nat.le_of_ble_eq_true rfl), (Nat.le_of_ble_eq_true rfl)⟩ (fun v_ H hq hz_ hk => ?_)
    obtain ⟨rfl, hB_38'⟩ := hq
    replace hO := hO.kept (hk _ hO.lt (fun z => z.elim ne_22 (ne_29)))
    replace hB_15 := hB_15.kept (hk _ hB_15.1.lt (fun z => z.elim ne_23 (ne_30))) (hk _ hB_15.2.lt (fun z => z.elim ne_24 (ne_31)))
    replace hR_54 := hR_54.kept (hk _ hR_54.lt (fun z => z.elim (Ne.symm ne_50) ((Ne.symm ne_51))))
    replace hU := hU.kept (fun q hl hq => hk q hl (fun z => by obtain ⟨j_, h_, e_⟩ := hq; rcases z with z | z; exact nu_21 j_ h_ (z.symm.trans e_); exact nu_36 j_ h_ (z.symm.trans e_)))
    replace hK := hK.to hk (fun q z => by rcases z with rfl | rfl; exact kn_26; exact (X.ka hK hB_38.2 rfl (by decide +kernel) (by decide +kernel) (by decide +kernel)))
    replace hz := Nat.le_trans hz hz_
    clear hB_38
    have hB_38 := hB_38'
    clear hB_38'
    clear hk hz_
    refine vv_aload_n X dX3_init_100 rfl 0 rfl ?_
    refine vv_getf (C := RX3) (T := TX3) (N := 8) (ref := "AcousticCamera$State") X hO in_X3 CL_X3 2 (by decide) q1691 rfl rfl dX3_init_101 ?_
    refine vv_aload_n X dX3_init_104 rfl 1 rfl ?_
    refine vv_getfN (C := RX5) (T := TX5) (N := 19) (ref := "AcousticCamera$Setup") X hU.ob in_X5 CL_X5 6 (by decide) q793 rfl rfl dX3_init_105 ?_
    refine vv_callV X (mJ21_andNot (kL K) D a_16 a_28 (0 ||| (2 ^ (nS P) - 1)) (u 7) (u 12) o (nu_21 _ (Or.inl (by decide))) (nu_36 _ (Or.inl (by decide))) (by (rw [Nat.zero_or]; have h9 : 2 ^ nS P ≤ 2 ^ 6 := Nat.pow_le_pow_right (by decide) l5; omega)) (by exact ho)) q1677 q1678 q1679 q164 q1680 nJ21_andNot ⟨(Nat.le_of_ble_eq_true rfl), (Nat.le_of_ble_eq_true rfl)⟩ dX3_init_108 rfl (Nat.le_of_ble_eq_true rfl) (recv X hB_38.1 CL_J21) ⟨hK, hB_38, hU.off⟩ (fun q z => by rcases z with rfl | rfl; exact (Or.inr ge_25); exact (Or.inr ge_37)) ⟨(Nat.le_of_ble_eq_true rfl), (Nat.le_of_ble_eq_true rfl)⟩ (fun v_ H hq hz_ hk => ?_)
    obtain ⟨rfl, hB_38'⟩ := hq
    replace hO := hO.kept (hk _ hO.lt (fun z => z.elim ne_22 (ne_29)))
    replace hB_15 := hB_15.kept (hk _ hB_15.1.lt (fun z => z.elim ne_23 (ne_30))) (hk _ hB_15.2.lt (fun z => z.elim ne_24 (ne_31)))
    replace hR_54 := hR_54.kept (hk _ hR_54.lt (fun z => z.elim (Ne.symm ne_50) ((Ne.symm ne_51))))
    replace hU := hU.kept (fun q hl hq => hk q hl (fun z => by obtain ⟨j_, h_, e_⟩ := hq; rcases z with z | z; exact nu_21 j_ h_ (z.symm.trans e_); exact nu_36 j_ h_ (z.symm.trans e_)))
    replace hK := hK.to hk (fun q z => by rcases z with rfl | rfl; exact kn_26; exact (X.ka hK hB_38.2 rfl (by decide +kernel) (by decide +kernel) (by decide +kernel)))
    replace hz := Nat.le_trans hz hz_
    clear hB_38
    have hB_38 := hB_38'
    clear hB_38'
    clear hk hz_
    refine vv_aload_n X dX3_init_111 rfl 0 rfl ?_
    refine vv_aload_n X dX3_init_112 rfl 1 rfl ?_
    refine vv_getfN (C := RX5) (T := TX5) (N := 19) (ref := "AcousticCamera$Setup") X hU.ob in_X5 CL_X5 0 (by decide) q773 rfl rfl dX3_init_113 ?_
    refine vv_callFp X (mJ12_size (kL K) D (u 1) _ _ (nM P)) (by decide) q1660 q308 q306 q154 q310 (show notMH ⟨"java/util/List", "size", "()I"⟩ 0 by decide +kernel) ⟨(Nat.le_of_ble_eq_true rfl), (Nat.le_of_ble_eq_true rfl)⟩ dX3_init_116 rfl (Nat.le_of_ble_eq_true rfl) hU.lm.1 CL_J12 hU.lm.1 ⟨(Nat.le_of_ble_eq_true rfl), (Nat.le_of_ble_eq_true rfl)⟩ ?_
    refine vv_newiA (M := 12) X (by omega) (by decide) (Nat.le_of_ble_eq_true rfl) (Nat.le_of_ble_eq_true rfl) rfl dX3_init_121 (fun a_56 H eq_57 hx ho => ?_)
    have lt_58 : a < a_56 := by have h9 := hO.lt; omega
    have lt_59 : a_1 < a_56 := by have h9 := hB_15.1.lt; omega
    have lt_60 : a_9 < a_56 := by have h9 := hB_15.2.lt; omega
    have lt_61 : a_39 < a_56 := by have h9 := hR_54.lt; omega
    have lt_62 : a_16 < a_56 := by have h9 := hB_38.1.lt; omega
    have lt_63 : a_28 < a_56 := by have h9 := hB_38.2.lt; omega
    have nu_64 : ∀ j, VK P j → a_56 ≠ u j := fun k hk e => by have h9 := hU.ltB k hk; rw [eq_57] at e; omega
    have ne_65 : a ≠ a_56 := Nat.ne_of_lt (eq_57.symm ▸ hO.lt)
    have ne_66 : a_1 ≠ a_56 := Nat.ne_of_lt (eq_57.symm ▸ hB_15.1.lt)
    have ne_67 : a_9 ≠ a_56 := Nat.ne_of_lt (eq_57.symm ▸ hB_15.2.lt)
    have ne_68 : a_39 ≠ a_56 := Nat.ne_of_lt (eq_57.symm ▸ hR_54.lt)
    have ne_69 : a_16 ≠ a_56 := Nat.ne_of_lt (eq_57.symm ▸ hB_38.1.lt)
    have ne_70 : a_28 ≠ a_56 := Nat.ne_of_lt (eq_57.symm ▸ hB_38.2.lt)
    have ge_71 : (kS K).heap.size ≤ a_56 := by rw [eq_57]; exact hz
    have kn_72 : KN D a_56 := KN.new hK (Nat.le_of_eq eq_57.symm)
    replace hU := hU.ex hx
    replace hO := hO.kept (hx.2 _ hO.lt)
    replace hB_15 := hB_15.kept (hx.2 _ hB_15.1.lt) (hx.2 _ hB_15.2.lt)
    replace hR_54 := hR_54.kept (hx.2 _ hR_54.lt)
    replace hB_38 := hB_38.kept (hx.2 _ hB_38.1.lt) (hx.2 _ hB_38.2.lt)
    replace hK := hK.ex hx
    replace hz : (kS K).heap.size ≤ H.size := by have := hx.1; omega
    have hR_73 : iA D H a_56 (nM P) (fun _ => 0) := ho
    clear ho hx
    refine vv_putf (C := RX3) (T := TX3) (N := 8) (ref := "AcousticCamera$State") X hO in_X3 CL_X3 tyX3 tyX3_ok nmX3 4 (by decide) q1695 rfl rfl rfl rfl (Nat.le_of_ble_eq_true rfl) (Or.inl rfl) dX3_init_123 (fun H hc ho => ?_)
    replace hU := hU.kept (fun q hl hq => hc.2 q (fun e => by obtain ⟨j_, h_, e_⟩ := hq; exact hau j_ h_ (e.symm.trans e_)))
    have k_0 := hB_15.kept (hc.2 _ (Ne.symm ne_5)) (hc.2 _ (Ne.symm ne_10))
    have k_1 := hR_54.kept (hc.2 _ (Ne.symm ne_47))
    have k_2 := hB_38.kept (hc.2 _ (Ne.symm ne_22)) (hc.2 _ (Ne.symm ne_29))
    have k_3 := hR_73.kept (hc.2 _ (Ne.symm ne_65))
    replace hK := hK.ch hc (X.ko hK hO CL_X3 (by decide) (by decide))
    clear hB_15
    have hB_15 := k_0
    clear k_0
    clear hR_54
    have hR_54 := k_1
    clear k_1
    clear hB_38
    have hB_38 := k_2
    clear k_2
    clear hR_73
    have hR_73 := k_3
    clear k_3
    replace hz := Nat.le_trans hz (Nat.le_of_eq hc.1.symm)
    clear hO
    have hO : oB D H a 2 [.ref (u 0), .ref a_1, .ref a_16, .ref a_39, .ref a_56, .null, .int (nI 0), .null] := ho
    clear hc ho
    refine vv_iconst (v := nI 0) X dX3_init_126 (by decide) ?_
    refine vv_istore_n (lv' := [(2, .int (nI 0)), (0, .ref a), (1, .ref (u 0))]) X dX3_init_127 rfl (by decide) rfl ?_
    have hx_74 : ∀ (H : Heap) (hK : KH D H) (hU : UR D u P T o H) (hz : (kS K).heap.size ≤ H.size) (hO : oB D H a 2 [.ref (u 0), .ref a_1, .ref a_16, .ref a_39, .ref a_56, .null, .int (nI 0), .null]) (hB_15 : BS D H a_1 a_9 0) (hR_54 : qA D H a_39 8 (nS P) (fun j => some (u (80 + j)))) (hB_38 : BS D H a_16 a_28 (anN (0 ||| (2 ^ (nS P) - 1)) o)) (hR_73 : iA D H a_56 (nM P) (rz (fun _ => 0) (W0 P) (nM P))), V K 3 (fun q => q = a) H 6 26 Qf 168 [(0, .ref a), (1, .ref (u 0)), (2, .int (nI (nM P)))] [] := by
      intro H hK hU hz hO hB_15 hR_54 hB_38 hR_73
      replace hR_73 := iA_cg hR_73 (fun j hj => rz_in hj)
      refine vv_aload_n X dX3_init_168 rfl 0 rfl ?_
      refine vv_aload_n X dX3_init_169 rfl 1 rfl ?_
      refine vv_getfN (C := RX5) (T := TX5) (N := 19) (ref := "AcousticCamera$Setup") X hU.ob in_X5 CL_X5 0 (by decide) q773 rfl rfl dX3_init_170 ?_
      refine vv_callFp X (mJ12_size (kL K) D (u 1) _ _ (nM P)) (by decide) q1660 q308 q306 q154 q310 (show notMH ⟨"java/util/List", "size", "()I"⟩ 0 by decide +kernel) ⟨(Nat.le_of_ble_eq_true rfl), (Nat.le_of_ble_eq_true rfl)⟩ dX3_init_173 rfl (Nat.le_of_ble_eq_true rfl) hU.lm.1 CL_J12 hU.lm.1 ⟨(Nat.le_of_ble_eq_true rfl), (Nat.le_of_ble_eq_true rfl)⟩ ?_
      refine vv_aload_n X dX3_init_178 rfl 1 rfl ?_
      refine vv_getfN (C := RX5) (T := TX5) (N := 19) (ref := "AcousticCamera$Setup") X hU.ob in_X5 CL_X5 10 (by decide) q802 rfl rfl dX3_init_179 ?_
      refine vv_mnewiA (Mc := 12) (M := 2412) X q1686 (by omega) (by omega) (by omega) (by (have h9 : nM P * nT P ≤ 12 * 200 := Nat.mul_le_mul l4 l2; omega)) (Nat.le_of_ble_eq_true rfl) (Nat.le_of_ble_eq_true rfl) rfl rfl dX3_init_182 (fun a_75 H eq_76 hsz hx2 hq hrows => ?_)
      have lt_77 : a < a_75 := by have h9 := hO.lt; omega
      have lt_78 : a_1 < a_75 := by have h9 := hB_15.1.lt; omega
      have lt_79 : a_9 < a_75 := by have h9 := hB_15.2.lt; omega
      have lt_80 : a_39 < a_75 := by have h9 := hR_54.lt; omega
      have lt_81 : a_16 < a_75 := by have h9 := hB_38.1.lt; omega
      have lt_82 : a_28 < a_75 := by have h9 := hB_38.2.lt; omega
      have lt_83 : a_56 < a_75 := by have h9 := hR_73.lt; omega
      have nu_84 : ∀ j, VK P j → a_75 ≠ u j := fun j hj e => by have h9 := hU.ltB j hj; omega
      have ne_85 : a ≠ a_75 := Nat.ne_of_lt (eq_76.symm ▸ hO.lt)
      have nr_86 : ∀ j, a ≠ a_75 + 1 + j := fun j e => by have h9 := hO.lt; omega
      have ne_87 : a_1 ≠ a_75 := Nat.ne_of_lt (eq_76.symm ▸ hB_15.1.lt)
      have nr_88 : ∀ j, a_1 ≠ a_75 + 1 + j := fun j e => by have h9 := hB_15.1.lt; omega
      have ne_89 : a_9 ≠ a_75 := Nat.ne_of_lt (eq_76.symm ▸ hB_15.2.lt)
      have nr_90 : ∀ j, a_9 ≠ a_75 + 1 + j := fun j e => by have h9 := hB_15.2.lt; omega
      have ne_91 : a_39 ≠ a_75 := Nat.ne_of_lt (eq_76.symm ▸ hR_54.lt)
      have nr_92 : ∀ j, a_39 ≠ a_75 + 1 + j := fun j e => by have h9 := hR_54.lt; omega
      have ne_93 : a_16 ≠ a_75 := Nat.ne_of_lt (eq_76.symm ▸ hB_38.1.lt)
      have nr_94 : ∀ j, a_16 ≠ a_75 + 1 + j := fun j e => by have h9 := hB_38.1.lt; omega
      have ne_95 : a_28 ≠ a_75 := Nat.ne_of_lt (eq_76.symm ▸ hB_38.2.lt)
      have nr_96 : ∀ j, a_28 ≠ a_75 + 1 + j := fun j e => by have h9 := hB_38.2.lt; omega
      have ne_97 : a_56 ≠ a_75 := Nat.ne_of_lt (eq_76.symm ▸ hR_73.lt)
      have nr_98 : ∀ j, a_56 ≠ a_75 + 1 + j := fun j e => by have h9 := hR_73.lt; omega
      replace hO := hO.kept (hx2 _ hO.lt)
      replace hB_15 := hB_15.kept (hx2 _ hB_15.1.lt) (hx2 _ hB_15.2.lt)
      replace hR_54 := hR_54.kept (hx2 _ hR_54.lt)
      replace hB_38 := hB_38.kept (hx2 _ hB_38.1.lt) (hx2 _ hB_38.2.lt)
      replace hR_73 := hR_73.kept (hx2 _ hR_73.lt)
      replace hU := hU.kept (fun q hl _ => hx2 q hl)
      have ge_99 : (kS K).heap.size ≤ a_75 := by rw [eq_76]; exact hz
      replace hK := hK.stay (fun i hi => hx2 _ (hK.lt hi))
      replace hz : (kS K).heap.size ≤ H.size := by omega
      have hQ_100 := hq
      have hW_101 := hrows
      clear hq hrows hx2
      refine vv_putf (C := RX3) (T := TX3) (N := 8) (ref := "AcousticCamera$State") X hO in_X3 CL_X3 tyX3 tyX3_ok nmX3 5 (by decide) q1697 rfl rfl rfl rfl (Nat.le_of_ble_eq_true rfl) (Or.inl rfl) dX3_init_186 (fun H hc ho => ?_)
      replace hU := hU.kept (fun q hl hq => hc.2 q (fun e => by obtain ⟨j_, h_, e_⟩ := hq; exact hau j_ h_ (e.symm.trans e_)))
      have k_0 := hB_15.kept (hc.2 _ (Ne.symm ne_5)) (hc.2 _ (Ne.symm ne_10))
      have k_1 := hR_54.kept (hc.2 _ (Ne.symm ne_47))
      have k_2 := hB_38.kept (hc.2 _ (Ne.symm ne_22)) (hc.2 _ (Ne.symm ne_29))
      have k_3 := hR_73.kept (hc.2 _ (Ne.symm ne_65))
      have k_4 := hQ_100.kept (hc.2 _ (Ne.symm ne_85))
      have k_5 := fun j hj => (hW_101 j hj).kept (hc.2 _ (X.ao (hW_101 j hj) hO CL_X3 rfl))
      replace hK := hK.ch hc (X.ko hK hO CL_X3 (by decide) (by decide))
      clear hB_15
      have hB_15 := k_0
      clear k_0
      clear hR_54
      have hR_54 := k_1
      clear k_1
      clear hB_38
      have hB_38 := k_2
      clear k_2
      clear hR_73
      have hR_73 := k_3
      clear k_3
      clear hQ_100
      have hQ_100 := k_4
      clear k_4
      clear hW_101
      have hW_101 := k_5
      clear k_5
      replace hz := Nat.le_trans hz (Nat.le_of_eq hc.1.symm)
      clear hO
      have hO : oB D H a 2 [.ref (u 0), .ref a_1, .ref a_16, .ref a_39, .ref a_56, .ref a_75, .int (nI 0), .null] := ho
      clear hc ho
      exact vv_vret X hQ dX3_init_189 (Nat.le_of_ble_eq_true rfl) (Nat.le_of_ble_eq_true rfl) (⟨rfl, g0 a a_1 a_9 a_16 a_28 a_39 a_56 a_75 u, rfl, g0_sr hP ho hU hO hB_15 hB_38 hR_54 hR_73 hQ_100 hW_101, g0_ap l4 l5 lt_3 lt_12 lt_20 lt_35 lt_45 lt_61 lt_83 hau (fun j hj => Nat.lt_of_lt_of_le (hul j hj) ge_6), fun k hk => (g0_ge l4 lt_12 lt_20 lt_35 lt_45 lt_61 lt_83 hk).imp id (fun z => Nat.le_trans ge_6 z), fun k hk => ⟨g0_s (by omega), g0_w (by omega)⟩⟩)
    have hl_102 : ∀ (n_i i : Nat) (H : Heap), i + n_i = nM P → (KH D H) → (UR D u P T o H) → ((kS K).heap.size ≤ H.size) → (oB D H a 2 [.ref (u 0), .ref a_1, .ref a_16, .ref a_39, .ref a_56, .null, .int (nI 0), .null]) → (BS D H a_1 a_9 0) → (qA D H a_39 8 (nS P) (fun j => some (u (80 + j)))) → (BS D H a_16 a_28 (anN (0 ||| (2 ^ (nS P) - 1)) o)) → (iA D H a_56 (nM P) (rz (fun _ => 0) (W0 P) i)) → V K 3 (fun q => q = a) H 6 26 Qf 128 [(0, .ref a), (1, .ref (u 0)), (2, .int (nI i))] [] := by
      intro n_i
      induction n_i with
      | zero =>
        intro i H hi hK hU hz hO hB_15 hR_54 hB_38 hR_73
        obtain rfl : i = nM P := by omega
        refine vv_iload_n X dX3_init_128 rfl 2 rfl ?_
        refine vv_aload_n X dX3_init_129 rfl 0 rfl ?_
        refine vv_getf (C := RX3) (T := TX3) (N := 8) (ref := "AcousticCamera$State") X hO in_X3 CL_X3 4 (by decide) q1695 rfl rfl dX3_init_130 ?_
        refine vv_alen (ty := 0) X hR_73 rfl dX3_init_133 ?_
        refine vn_ge (tgt := 168) X (by omega) (by omega) dX3_init_134 (by decide) (fun c_134 => ?_) (fun c_134 => ?_)
        · exact hx_74 H hK hU hz hO hB_15 hR_54 hB_38 hR_73
        · exact absurd c_134 (by omega)
      | succ n_i ihi =>
        intro i H hi hK hU hz hO hB_15 hR_54 hB_38 hR_73
        refine vv_iload_n X dX3_init_128 rfl 2 rfl ?_
        refine vv_aload_n X dX3_init_129 rfl 0 rfl ?_
        refine vv_getf (C := RX3) (T := TX3) (N := 8) (ref := "AcousticCamera$State") X hO in_X3 CL_X3 4 (by decide) q1695 rfl rfl dX3_init_130 ?_
        refine vv_alen (ty := 0) X hR_73 rfl dX3_init_133 ?_
        refine vn_ge (tgt := 168) X (by omega) (by omega) dX3_init_134 (by decide) (fun c_134 => ?_) (fun c_134 => ?_)
        · exact absurd hi (by omega)
        · refine vv_aload_n X dX3_init_137 rfl 0 rfl ?_
          refine vv_getf (C := RX3) (T := TX3) (N := 8) (ref := "AcousticCamera$State") X hO in_X3 CL_X3 4 (by decide) q1695 rfl rfl dX3_init_138 ?_
          refine vv_iload_n X dX3_init_141 rfl 2 rfl ?_
          refine vv_iload_n X dX3_init_142 rfl 2 rfl ?_
          refine vv_aload_n X dX3_init_143 rfl 1 rfl ?_
          refine vv_getfN (C := RX5) (T := TX5) (N := 19) (ref := "AcousticCamera$Setup") X hU.ob in_X5 CL_X5 5 (by decide) q790 rfl rfl dX3_init_144 ?_
          refine vv_alen (ty := 0) X hU.sha rfl dX3_init_147 ?_
          refine vn_ge (tgt := 160) X (by omega) (by omega) dX3_init_148 (by decide) (fun c_148 => ?_) (fun c_148 => ?_)
          · refine vv_iconst (v := nI 1) X dX3_init_160 (by decide) ?_
            refine vv_iast X hR_73 (i) (by omega) (by omega) rfl (Or.inr ge_71) dX3_init_161 (fun H hc ho => ?_)
            replace hO := hO.kept (hc.2 _ ne_65)
            replace hB_15 := hB_15.kept (hc.2 _ ne_66) (hc.2 _ ne_67)
            replace hR_54 := hR_54.kept (hc.2 _ ne_68)
            replace hB_38 := hB_38.kept (hc.2 _ ne_69) (hc.2 _ ne_70)
            replace hK := hK.ch hc kn_72
            replace hU := hU.kept (fun q hl hq => hc.2 q (fun e => by obtain ⟨j_, h_, e_⟩ := hq; exact nu_64 j_ h_ (e.symm.trans e_)))
            replace hz := Nat.le_trans hz (Nat.le_of_eq hc.1.symm)
            clear hR_73
            have hR_73 := ho
            clear hc ho
            refine vv_iinc (v := nI (i + 1)) (lv' := [(2, .int (nI (i + 1))), (0, .ref a), (1, .ref (u 0))]) X dX3_init_162 (k := 2) rfl (nI_add _ 1) (by decide) rfl ?_
            refine vv_goto (tgt := 128) X dX3_init_165 (by decide) ?_
            refine vv_sub [1, 2, 0] rfl ?_
            exact ihi (i + 1) H (by omega) (hK) (hU) (hz) (hO) (hB_15) (hR_54) (hB_38) (by have e := rz_s (f := fun _ => (0 : Int32)) (g := W0 P) (n := i) (show _ = W0 P i from (if_neg (Nat.not_lt.mpr c_148)).symm); rw [e] at hR_73; exact hR_73)
          · refine vv_aload_n X dX3_init_151 rfl 1 rfl ?_
            refine vv_getfN (C := RX5) (T := TX5) (N := 19) (ref := "AcousticCamera$Setup") X hU.ob in_X5 CL_X5 5 (by decide) q790 rfl rfl dX3_init_152 ?_
            refine vv_iload_n X dX3_init_155 rfl 2 rfl ?_
            refine vv_iald X hU.sha (i) (by omega) (by omega) rfl dX3_init_156 ?_
            refine vv_goto (tgt := 161) X dX3_init_157 (by decide) ?_
            refine vv_iast X hR_73 (i) (by omega) (by omega) rfl (Or.inr ge_71) dX3_init_161 (fun H hc ho => ?_)
            replace hO := hO.kept (hc.2 _ ne_65)
            replace hB_15 := hB_15.kept (hc.2 _ ne_66) (hc.2 _ ne_67)
            replace hR_54 := hR_54.kept (hc.2 _ ne_68)
            replace hB_38 := hB_38.kept (hc.2 _ ne_69) (hc.2 _ ne_70)
            replace hK := hK.ch hc kn_72
            replace hU := hU.kept (fun q hl hq => hc.2 q (fun e => by obtain ⟨j_, h_, e_⟩ := hq; exact nu_64 j_ h_ (e.symm.trans e_)))
            replace hz := Nat.le_trans hz (Nat.le_of_eq hc.1.symm)
            clear hR_73
            have hR_73 := ho
            clear hc ho
            refine vv_iinc (v := nI (i + 1)) (lv' := [(2, .int (nI (i + 1))), (0, .ref a), (1, .ref (u 0))]) X dX3_init_162 (k := 2) rfl (nI_add _ 1) (by decide) rfl ?_
            refine vv_goto (tgt := 128) X dX3_init_165 (by decide) ?_
            refine vv_sub [1, 2, 0] rfl ?_
            exact ihi (i + 1) H (by omega) (hK) (hU) (hz) (hO) (hB_15) (hR_54) (hB_38) (by have e := rz_s (f := fun _ => (0 : Int32)) (g := W0 P) (n := i) (show _ = W0 P i from (if_pos c_148).symm); rw [e] at hR_73; exact hR_73)
    refine vv_sub [1, 2, 0] rfl ?_
    exact hl_102 (nM P) 0 H (by first | omega | assumption) (hK) (hU) (hz) (hO) (hB_15) (hR_54) (hB_38) (by rw [rz_0]; exact hR_73)
  have hl_103 : ∀ (n_i i : Nat) (H : Heap), i + n_i = nS P → (KH D H) → (UR D u P T o H) → ((kS K).heap.size ≤ H.size) → (oB D H a 2 [.ref (u 0), .ref a_1, .ref a_16, .ref a_39, .null, .null, .int (nI 0), .null]) → (BS D H a_1 a_9 0) → (BS D H a_16 a_28 0) → (qA D H a_39 8 (nS P) (rz (fun _ => none) (fun j => some (u (80 + j))) i)) → V K 3 (fun q => q = a) H 5 14 Qf 53 [(0, .ref a), (1, .ref (u 0)), (2, .int (nI i))] [] := by
    intro n_i
    induction n_i with
    | zero =>
      intro i H hi hK hU hz hO hB_15 hB_38 hR_54
      obtain rfl : i = nS P := by omega
      refine vv_iload_n X dX3_init_53 rfl 2 rfl ?_
      refine vv_aload_n X dX3_init_54 rfl 0 rfl ?_
      refine vv_getf (C := RX3) (T := TX3) (N := 8) (ref := "AcousticCamera$State") X hO in_X3 CL_X3 3 (by decide) q1693 rfl rfl dX3_init_55 ?_
      refine vv_alen (ty := 8) X hR_54 rfl dX3_init_58 ?_
      refine vn_ge (tgt := 87) X (by omega) (by omega) dX3_init_59 (by decide) (fun c_59 => ?_) (fun c_59 => ?_)
      · exact hx_55 H hK hU hz hO hB_15 hB_38 hR_54
      · exact absurd c_59 (by omega)
    | succ n_i ihi =>
      intro i H hi hK hU hz hO hB_15 hB_38 hR_54
      refine vv_iload_n X dX3_init_53 rfl 2 rfl ?_
      refine vv_aload_n X dX3_init_54 rfl 0 rfl ?_
      refine vv_getf (C := RX3) (T := TX3) (N := 8) (ref := "AcousticCamera$State") X hO in_X3 CL_X3 3 (by decide) q1693 rfl rfl dX3_init_55 ?_
      refine vv_alen (ty := 8) X hR_54 rfl dX3_init_58 ?_
      refine vn_ge (tgt := 87) X (by omega) (by omega) dX3_init_59 (by decide) (fun c_59 => ?_) (fun c_59 => ?_)
      · exact absurd hi (by omega)
      · refine vv_aload_n X dX3_init_62 rfl 0 rfl ?_
        refine vv_getf (C := RX3) (T := TX3) (N := 8) (ref := "AcousticCamera$State") X hO in_X3 CL_X3 3 (by decide) q1693 rfl rfl dX3_init_63 ?_
        refine vv_iload_n X dX3_init_66 rfl 2 rfl ?_
        refine vv_aload_n X dX3_init_67 rfl 1 rfl ?_
        refine vv_getfN (C := RX5) (T := TX5) (N := 19) (ref := "AcousticCamera$Setup") X hU.ob in_X5 CL_X5 7 (by decide) q795 rfl rfl dX3_init_68 ?_
        refine vv_iload_n X dX3_init_71 rfl 2 rfl ?_
        refine vv_callFp X (mJ12_get (kL K) D _ _ _ _ _ (by omega)) (by decide) q1664 q1577 q1575 q154 q1579 (show notMH ⟨"java/util/List", "get", "(I)Ljava/lang/Object;"⟩ 1 by decide +kernel) ⟨(Nat.le_of_ble_eq_true rfl), (Nat.le_of_ble_eq_true rfl)⟩ dX3_init_72 rfl (Nat.le_of_ble_eq_true rfl) hU.ls.1 CL_J12 hU.ls ⟨(Nat.le_of_ble_eq_true rfl), (Nat.le_of_ble_eq_true rfl)⟩ ?_
        refine vv_castS X (hU.src i (by omega)).1 CL_X8 q1661 dX3_init_77 ?_
        refine vv_aast (ty := 8) (C := "AcousticCamera$Source") (Cv := "AcousticCamera$Source") X hR_54 rfl (i) (by omega) (by omega) rfl (recv X (hU.src i (by omega)).1 CL_X8) (Or.inl rfl) (Or.inr ge_52) dX3_init_80 (fun H hc ho => ?_)
        replace hU := hU.kept (fun q hl hq => hc.2 q (fun e => by obtain ⟨j_, h_, e_⟩ := hq; exact nu_46 j_ h_ (e.symm.trans e_)))
        have k_0 := hO.kept (hc.2 _ ne_47)
        have k_1 := hB_15.kept (hc.2 _ ne_48) (hc.2 _ ne_49)
        have k_2 := hB_38.kept (hc.2 _ ne_50) (hc.2 _ ne_51)
        replace hK := hK.ch hc kn_53
        clear hO
        have hO := k_0
        clear k_0
        clear hB_15
        have hB_15 := k_1
        clear k_1
        clear hB_38
        have hB_38 := k_2
        clear k_2
        replace hz := Nat.le_trans hz (Nat.le_of_eq hc.1.symm)
        clear hR_54
        have hR_54 : qA D H a_39 8 (nS P) (va_up (rz (fun _ => none) (fun j => some (u (80 + j))) i) i (some (u (80 + i)))) := ho
        clear hc ho
        refine vv_iinc (v := nI (i + 1)) (lv' := [(2, .int (nI (i + 1))), (0, .ref a), (1, .ref (u 0))]) X dX3_init_81 (k := 2) rfl (nI_add _ 1) (by decide) rfl ?_
        refine vv_goto (tgt := 53) X dX3_init_84 (by decide) ?_
        refine vv_sub [1, 2, 0] rfl ?_
        exact ihi (i + 1) H (by omega) (hK) (hU) (hz) (hO) (hB_15) (hB_38) (by have e := rz_s (f := fun _ => (none : Option Nat)) (g := fun j => some (u (80 + j))) (n := i) rfl; rw [e] at hR_54; exact hR_54)
  refine vv_sub [1, 2, 0] rfl ?_
  exact hl_103 (nS P) 0 H (by first | omega | assumption) (hK) (hU) (hz) (hO) (hB_15) (hB_38) (by rw [rz_0]; exact hR_54)
