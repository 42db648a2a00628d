/-! the state's methods that only read: printed by gen/s2.py -/
set_option maxRecDepth 100000
theorem mu_bit {P S : Nat → Int32} {m : Nat} (hm : m < nM P) : Nat.testBit (mum P S) m = true ↔ ¬ S (1 + m) = 0 := by
  unfold mum
  rw [msk_bit]
  simp [hm]
theorem on_bit {P S : Nat → Int32} {k : Nat} (hk : k < nS P) : Nat.testBit (onm P S) k = true ↔ ¬ S (25 + k) = 0 := by
  unfold onm
  rw [msk_bit]
  simp [hk]
theorem mu_lt {P : Nat → Int32} (hP : VP P) (S : Nat → Int32) : mum P S < 4096 := msk_lt (N := 12) _ hP.l4
theorem on_lt {P : Nat → Int32} (hP : VP P) (S : Nat → Int32) : onm P S < 4096 := msk_lt (N := 12) _ (by have := hP.l5; omega)
theorem pop_a : ∀ n, n < 12 → (List.range 4096).all (fun x => Nat.ble (2 ^ n) x || pop (x ||| 2 ^ n) == pop x + 1) = true := by decide +kernel
theorem pop_s {x n : Nat} (hn : n < 12) (hx : x < 2 ^ n) : pop (x ||| 2 ^ n) = pop x + 1 := by
  have h1 : (2 : Nat) ^ n ≤ 2 ^ 11 := Nat.pow_le_pow_right (by decide) (by omega)
  have h := all_r (pop_a n hn) (show x < 4096 by omega)
  rw [Bool.or_eq_true] at h
  rcases h with h | h
  · have := Nat.ble_eq.mp h
    omega
  · exact eq_of_beq h
theorem pop_msk (p : Nat → Bool) : ∀ n, n ≤ 12 → pop (msk p n) = fo (fun i a => a + (if p i then 1 else 0)) n 0 := by
  intro n
  induction n with
  | zero => intro _; show pop 0 = 0; decide
  | succ n ih =>
    intro h
    rw [msk_s]
    show _ = (fo (fun i a => a + (if p i then 1 else 0)) n 0) + (if p n then 1 else 0)
    rw [← ih (by omega)]
    by_cases hp : p n = true
    · rw [if_pos hp, if_pos hp, pop_s (by omega) (msk_lt p (Nat.le_refl n))]
    · rw [if_neg hp, if_neg hp]; rfl
theorem act_pop {P S : Nat → Int32} (h : nM P ≤ 12) : nM P - pop (mum P S) = act S (nM P) ∧ pop (mum P S) ≤ nM P := by
  unfold mum
  rw [pop_msk _ _ h]
  have key : ∀ n, fo (fun i a => a + (if (decide (S (1 + i) ≠ 0)) = true then 1 else 0)) n 0 + act S n = n := by
    intro n
    induction n with
    | zero => rfl
    | succ n ih =>
      show (fo (fun i a => a + (if (decide (S (1 + i) ≠ 0)) = true then 1 else 0)) n 0 + (if (decide (S (1 + n) ≠ 0)) = true then 1 else 0)) + (act S n + (if S (1 + n) = 0 then 1 else 0)) = n + 1
      by_cases z : S (1 + n) = 0
      · rw [if_neg (by simp [z]), if_pos z]; omega
      · rw [if_pos (by simp [z]), if_neg z]; omega
  have := key (nM P)
  omega
def bl1 (P S : Nat → Int32) (dl : Nat → Nat) (t m : Nat) (a : Int64) : Int64 := a + (if S (1 + m) = 0 ∧ t + dl m < nT P then (nI (wgt S m) * S (55 + 200 * m + t + dl m)).toInt64 else 0)
/-- a beam summed as a long -/
def bl (P S : Nat → Int32) (dl : Nat → Nat) (t : Nat) : Int64 := fo (bl1 P S dl t) (nM P) 0
def foc (P S : Nat → Int32) (dl : Nat → Nat → Nat) (n : Nat) : Int64 := fo (fun t s => s + bl P S (dl t) t * bl P S (dl t) t) n 0
def fcp (P S : Nat → Int32) (dl : Nat → Nat → Nat) (n : Nat) : Int64 := if n = 0 then 0 else foc P S dl n / lN n
def mvD (P : Nat → Int32) (x y u w : Int32) (t m : Nat) : Nat := dN P m (x + u * nI t / nI 100) (y + w * nI t / nI 100)
theorem mxd_in {S : Nat → Int32} {dl : Nat → Nat} : ∀ n m, m < n → S (1 + m) = 0 → dl m ≤ mxd S dl n := by
  intro n
  induction n with
  | zero => intro m h; omega
  | succ n ih =>
    intro m h hz
    show dl m ≤ (if S (1 + n) = 0 then max (mxd S dl n) (dl n) else mxd S dl n)
    rcases Nat.lt_or_ge m n with q | q
    · have := ih m q hz
      split <;> omega
    · obtain rfl : m = n := by omega
      rw [if_pos hz]; omega
theorem win_in {P S : Nat → Int32} {dl : Nat → Nat} {t m : Nat} (ht : t < win P S dl) (hm : m < nM P) (hz : S (1 + m) = 0) : t + dl m < nT P := by
  have := mxd_in (dl := dl) (nM P) m hm hz
  unfold win at ht
  omega
theorem nX3_isActive : notMH yX3_isActive 1 := by decide +kernel
set_option maxHeartbeats 800000 in
theorem mX3_isActive (l : Launch) (D : DD) (u : Nat → Nat) (P T : Nat → Int32) (o : Nat) (g : Nat → Nat) (S : Nat → Int32) (pw : Option Nat) (m : Nat) (hC : VC P) (hV : VS S) (hm : m < nM P) : Cp l yX3_isActive cX3_isActive 2 (some .boolean) { frames := 3, cells := 0, slots := 0, locals := 54 } D [.ref (g 0), .int (nI m)] (fun H => KH D H ∧ UR D u P T o H ∧ SR D g u P S pw H) (.int (b2 (S (1 + m) = 0))) := by
  refine Ct.of (by decide +kernel) (Nat.le_of_ble_eq_true rfl) (fun K Qf hkl X hM hQ => ?_)
  subst hkl
  obtain ⟨hK, hU, hR⟩ := hM
  have hP := hC.v
  have l0 := hP.l0
  have l1 := hP.l1
  have l2 := hP.l2
  have l4 := hP.l4
  have l5 := hP.l5
  have l8 := hP.l8
  have l9 := hP.l9
  have l10 := hP.l10
  have l71 := hP.l71
  have l76 := hP.l76
  have l77 := hP.l77
  have hx1 := hC.x1
  have hy1 := hC.y1
  have ht1 := hC.t1
  have he1 := hC.e1
  have hm1 := hC.m1
  have hcc : nC P ≤ 144 := Nat.mul_le_mul l9 l10
  refine vv_sub (lv' := [(0, .ref (g 0)), (1, .int (nI m))]) [0, 1] rfl ?_
  refine vv_aload_n X dX3_isActive_0 rfl 0 rfl ?_
  refine vv_getf (C := RX3) (T := TX3) (N := 8) (ref := "AcousticCamera$State") X hR.ob in_X3 CL_X3 1 (by decide) q1689 rfl rfl dX3_isActive_1 ?_
  refine vv_iload_n X dX3_isActive_4 rfl 1 rfl ?_
  refine vv_callVp X (mJ21_get (kL K) D (g 1) (g 2) (mum P S) m  (by exact mu_lt hP S) (by omega)) q1837 q1455 q1456 q164 q1457 nJ21_get ⟨(Nat.le_of_ble_eq_true rfl), (Nat.le_of_ble_eq_true rfl)⟩ dX3_isActive_5 rfl (Nat.le_of_ble_eq_true rfl) (recv X hR.mu.1 CL_J21) ⟨hK, hR.mu⟩ ⟨(Nat.le_of_ble_eq_true rfl), (Nat.le_of_ble_eq_true rfl)⟩ ?_
  refine vv_eqi (b2_eq (mu_bit (by omega))) ?_
  refine vb_ne (tgt := 15) X dX3_isActive_8 (by decide) (fun c_8 => ?_) (fun c_8 => ?_)
  · refine vv_iconst (v := nI 0) X dX3_isActive_15 (by decide) ?_
    exact vv_zret X (rfl) hQ dX3_isActive_16 (Nat.le_of_ble_eq_true rfl) (Nat.le_of_ble_eq_true rfl) (pq (b2_0 c_8))
  · refine vv_iconst (v := nI 1) X dX3_isActive_11 (by decide) ?_
    refine vv_goto (tgt := 16) X dX3_isActive_12 (by decide) ?_
    exact vv_zret X (rfl) hQ dX3_isActive_16 (Nat.le_of_ble_eq_true rfl) (Nat.le_of_ble_eq_true rfl) (pq (b2_1 (Decidable.not_not.mp c_8)))
theorem nX3_actives : notMH yX3_actives 0 := by decide +kernel
set_option maxHeartbeats 800000 in
theorem mX3_actives (l : Launch) (D : DD) (u : Nat → Nat) (P T : Nat → Int32) (o : Nat) (g : Nat → Nat) (S : Nat → Int32) (pw : Option Nat)  (hC : VC P) (hV : VS S) : Cp l yX3_actives cX3_actives 1 (some .int) { frames := 3, cells := 0, slots := 0, locals := 55 } D [.ref (g 0)] (fun H => KH D H ∧ UR D u P T o H ∧ SR D g u P S pw H) (.int (nI (act S (nM P)))) := by
  refine Ct.of (by decide +kernel) (Nat.le_of_ble_eq_true rfl) (fun K Qf hkl X hM hQ => ?_)
  subst hkl
  obtain ⟨hK, hU, hR⟩ := hM
  have hP := hC.v
  have l0 := hP.l0
  have l1 := hP.l1
  have l2 := hP.l2
  have l4 := hP.l4
  have l5 := hP.l5
  have l8 := hP.l8
  have l9 := hP.l9
  have l10 := hP.l10
  have l71 := hP.l71
  have l76 := hP.l76
  have l77 := hP.l77
  have hx1 := hC.x1
  have hy1 := hC.y1
  have ht1 := hC.t1
  have he1 := hC.e1
  have hm1 := hC.m1
  have hcc : nC P ≤ 144 := Nat.mul_le_mul l9 l10
  have hpo := @act_pop P S l4
  refine vv_sub (lv' := [(0, .ref (g 0))]) [0] rfl ?_
  refine vv_aload_n X dX3_actives_0 rfl 0 rfl ?_
  refine vv_getf (C := RX3) (T := TX3) (N := 8) (ref := "AcousticCamera$State") X hR.ob in_X3 CL_X3 0 (by decide) q1687 rfl rfl dX3_actives_1 ?_
  refine vv_getfN (C := RX5) (T := TX5) (N := 19) (ref := "AcousticCamera$Setup") X hU.ob in_X5 CL_X5 0 (by decide) q773 rfl rfl dX3_actives_4 ?_
  refine vv_callFp X (mJ12_size (kL K) D (u 1) _ _ (nM P)) (by decide) q1660 q308 q306 q154 q310 (show notMH ⟨"java/util/List", "size", "()I"⟩ 0 by decide +kernel) ⟨(Nat.le_of_ble_eq_true rfl), (Nat.le_of_ble_eq_true rfl)⟩ dX3_actives_7 rfl (Nat.le_of_ble_eq_true rfl) hU.lm.1 CL_J12 hU.lm.1 ⟨(Nat.le_of_ble_eq_true rfl), (Nat.le_of_ble_eq_true rfl)⟩ ?_
  refine vv_aload_n X dX3_actives_12 rfl 0 rfl ?_
  refine vv_getf (C := RX3) (T := TX3) (N := 8) (ref := "AcousticCamera$State") X hR.ob in_X3 CL_X3 1 (by decide) q1689 rfl rfl dX3_actives_13 ?_
  refine vv_callVp X (mJ21_cardinality (kL K) D (g 1) (g 2) (mum P S) (by exact mu_lt hP S)) q2422 q2423 q2424 q164 q2425 nJ21_cardinality ⟨(Nat.le_of_ble_eq_true rfl), (Nat.le_of_ble_eq_true rfl)⟩ dX3_actives_16 rfl (Nat.le_of_ble_eq_true rfl) (recv X hR.mu.1 CL_J21) ⟨hK, hR.mu⟩ ⟨(Nat.le_of_ble_eq_true rfl), (Nat.le_of_ble_eq_true rfl)⟩ ?_
  refine vn_sub X (by omega) dX3_actives_19 ?_
  exact vv_iret X hQ dX3_actives_20 (Nat.le_of_ble_eq_true rfl) (Nat.le_of_ble_eq_true rfl) (pq (congrArg nI hpo.1))
theorem nX3_greatestDelay : notMH yX3_greatestDelay 1 := by decide +kernel
set_option maxHeartbeats 800000 in
theorem mX3_greatestDelay (l : Launch) (D : DD) (u : Nat → Nat) (P T : Nat → Int32) (o : Nat) (g : Nat → Nat) (S : Nat → Int32) (pw : Option Nat) (c : Nat) (hC : VC P) (hV : VS S) (hc : c < nC P) : Cp l yX3_greatestDelay cX3_greatestDelay 4 (some .int) { frames := 4, cells := 0, slots := 0, locals := 75 } D [.ref (g 0), .int (nI c)] (fun H => KH D H ∧ UR D u P T o H ∧ SR D g u P S pw H) (.int (nI (mxd S (dc P c) (nM P)))) := by
  refine Ct.of (by decide +kernel) (Nat.le_of_ble_eq_true rfl) (fun K Qf hkl X hM hQ => ?_)
  subst hkl
  obtain ⟨hK, hU, hR⟩ := hM
  have hP := hC.v
  have l0 := hP.l0
  have l1 := hP.l1
  have l2 := hP.l2
  have l4 := hP.l4
  have l5 := hP.l5
  have l8 := hP.l8
  have l9 := hP.l9
  have l10 := hP.l10
  have l71 := hP.l71
  have l76 := hP.l76
  have l77 := hP.l77
  have hx1 := hC.x1
  have hy1 := hC.y1
  have ht1 := hC.t1
  have he1 := hC.e1
  have hm1 := hC.m1
  have hcc : nC P ≤ 144 := Nat.mul_le_mul l9 l10
  refine vv_sub (lv' := [(0, .ref (g 0)), (1, .int (nI c))]) [0, 1] rfl ?_
  refine vv_iconst (v := nI 0) X dX3_greatestDelay_0 (by decide) ?_
  refine vv_istore_n (lv' := [(2, .int (nI 0)), (0, .ref (g 0)), (1, .int (nI c))]) X dX3_greatestDelay_1 rfl (by decide) rfl ?_
  refine vv_iconst (v := nI 0) X dX3_greatestDelay_2 (by decide) ?_
  refine vv_istore_n (lv' := [(3, .int (nI 0)), (2, .int (nI 0)), (0, .ref (g 0)), (1, .int (nI c))]) X dX3_greatestDelay_3 rfl (by decide) rfl ?_
  have hx_1 : ∀ (a : Nat) (ha : a = mxd S (dc P c) (nM P)), V K 4 (fun _ => False) (kS K).heap 0 0 Qf 43 [(0, .ref (g 0)), (1, .int (nI c)), (2, .int (nI a)), (3, .int (nI (nM P)))] [] := by
    intro a ha
    refine vv_iload_n X dX3_greatestDelay_43 rfl 2 rfl ?_
    exact vv_iret X hQ dX3_greatestDelay_44 (Nat.le_of_ble_eq_true rfl) (Nat.le_of_ble_eq_true rfl) (pq (by rw [ha]))
  have hl_2 : ∀ (n_i i : Nat) (a : Nat), i + n_i = nM P → (a = mxd S (dc P c) i) → V K 4 (fun _ => False) (kS K).heap 0 0 Qf 4 [(0, .ref (g 0)), (1, .int (nI c)), (2, .int (nI a)), (3, .int (nI i))] [] := by
    intro n_i
    induction n_i with
    | zero =>
      intro i a hi ha
      obtain rfl : i = nM P := by omega
      have hab : a ≤ 65537 := by rw [ha]; exact mxd_le _ (fun m _ => by have := dN_lt P m (cx P c) (cy P c); exact Nat.le_of_lt this)
      refine vv_iload_n X dX3_greatestDelay_4 rfl 3 rfl ?_
      refine vv_aload_n X dX3_greatestDelay_5 rfl 0 rfl ?_
      refine vv_getf (C := RX3) (T := TX3) (N := 8) (ref := "AcousticCamera$State") X hR.ob in_X3 CL_X3 4 (by decide) q1695 rfl rfl dX3_greatestDelay_6 ?_
      refine vv_alen (ty := 0) X hR.wt rfl dX3_greatestDelay_9 ?_
      refine vn_ge (tgt := 43) X (by omega) (by omega) dX3_greatestDelay_10 (by decide) (fun c_10 => ?_) (fun c_10 => ?_)
      · exact hx_1 a ha
      · exact absurd c_10 (by omega)
    | succ n_i ihi =>
      intro i a hi ha
      have hab : a ≤ 65537 := by rw [ha]; exact mxd_le _ (fun m _ => by have := dN_lt P m (cx P c) (cy P c); exact Nat.le_of_lt this)
      have hdi : dc P c i < 65537 := dN_lt P i (cx P c) (cy P c)
      refine vv_iload_n X dX3_greatestDelay_4 rfl 3 rfl ?_
      refine vv_aload_n X dX3_greatestDelay_5 rfl 0 rfl ?_
      refine vv_getf (C := RX3) (T := TX3) (N := 8) (ref := "AcousticCamera$State") X hR.ob in_X3 CL_X3 4 (by decide) q1695 rfl rfl dX3_greatestDelay_6 ?_
      refine vv_alen (ty := 0) X hR.wt rfl dX3_greatestDelay_9 ?_
      refine vn_ge (tgt := 43) X (by omega) (by omega) dX3_greatestDelay_10 (by decide) (fun c_10 => ?_) (fun c_10 => ?_)
      · exact absurd hi (by omega)
      · refine vv_aload_n X dX3_greatestDelay_13 rfl 0 rfl ?_
        refine vv_iload_n X dX3_greatestDelay_14 rfl 3 rfl ?_
        refine vv_callVp X (mX3_isActive (kL K) D u P T o g S pw i hC hV (by omega)) q1919 q1834 q1835 q150 q1836 nX3_isActive ⟨(Nat.le_of_ble_eq_true rfl), (Nat.le_of_ble_eq_true rfl)⟩ dX3_greatestDelay_15 rfl (Nat.le_of_ble_eq_true rfl) (recv X hR.ob CL_X3) ⟨hK, hU, hR⟩ ⟨(Nat.le_of_ble_eq_true rfl), (Nat.le_of_ble_eq_true rfl)⟩ ?_
        refine vb_eq (tgt := 37) X dX3_greatestDelay_18 (by decide) (fun c_18 => ?_) (fun c_18 => ?_)
        · refine vv_iinc (v := nI (i + 1)) (lv' := [(3, .int (nI (i + 1))), (0, .ref (g 0)), (1, .int (nI c)), (2, .int (nI a))]) X dX3_greatestDelay_37 (k := 3) rfl (nI_add _ 1) (by decide) rfl ?_
          refine vv_goto (tgt := 4) X dX3_greatestDelay_40 (by decide) ?_
          refine vv_sub [1, 2, 3, 0] rfl ?_
          exact ihi (i + 1) a (by omega) (by rw [ha]; exact (if_neg c_18).symm)
        · refine vv_iload_n X dX3_greatestDelay_21 rfl 2 rfl ?_
          refine vv_aload_n X dX3_greatestDelay_22 rfl 0 rfl ?_
          refine vv_getf (C := RX3) (T := TX3) (N := 8) (ref := "AcousticCamera$State") X hR.ob in_X3 CL_X3 0 (by decide) q1687 rfl rfl dX3_greatestDelay_23 ?_
          refine vv_getfN (C := RX5) (T := TX5) (N := 19) (ref := "AcousticCamera$Setup") X hU.ob in_X5 CL_X5 18 (by decide) q824 rfl rfl dX3_greatestDelay_26 ?_
          refine vv_iload_n X dX3_greatestDelay_29 rfl 3 rfl ?_
          refine vv_aald (ty := 5) X hU.de rfl rfl (i) (by omega) (by omega) rfl dX3_greatestDelay_30 (v := .ref (u (20 + i))) rfl ?_
          refine vv_iload_n X dX3_greatestDelay_31 rfl 1 rfl ?_
          refine vv_iald X (hU.row i (by omega)) (c) (by omega) (by omega) rfl dX3_greatestDelay_32 ?_
          refine vn_max X q1771 (Nat.le_of_ble_eq_true rfl) (Nat.le_of_ble_eq_true rfl) ((Nat.le_of_ble_eq_true rfl)) ((Nat.le_of_ble_eq_true rfl)) (by omega) (by omega) dX3_greatestDelay_33 ?_
          refine vv_istore_n (lv' := [(2, .int (nI (max a (dc P c i)))), (0, .ref (g 0)), (1, .int (nI c)), (3, .int (nI i))]) X dX3_greatestDelay_36 rfl (by decide) rfl ?_
          refine vv_iinc (v := nI (i + 1)) (lv' := [(3, .int (nI (i + 1))), (2, .int (nI (max a (dc P c i)))), (0, .ref (g 0)), (1, .int (nI c))]) X dX3_greatestDelay_37 (k := 3) rfl (nI_add _ 1) (by decide) rfl ?_
          refine vv_goto (tgt := 4) X dX3_greatestDelay_40 (by decide) ?_
          refine vv_sub [2, 3, 1, 0] rfl ?_
          exact ihi (i + 1) (max a (dc P c i)) (by omega) (by rw [ha]; exact (if_pos c_18).symm)
  refine vv_sub [2, 3, 1, 0] rfl ?_
  exact hl_2 (nM P) 0 0 (by first | omega | assumption) (rfl)
theorem nX3_window : notMH yX3_window 1 := by decide +kernel
set_option maxHeartbeats 800000 in
theorem mX3_window (l : Launch) (D : DD) (u : Nat → Nat) (P T : Nat → Int32) (o : Nat) (g : Nat → Nat) (S : Nat → Int32) (pw : Option Nat) (c : Nat) (hC : VC P) (hV : VS S) (hc : c < nC P) : Cp l yX3_window cX3_window 2 (some .int) { frames := 5, cells := 0, slots := 0, locals := 98 } D [.ref (g 0), .int (nI c)] (fun H => KH D H ∧ UR D u P T o H ∧ SR D g u P S pw H) (.int (nI (win P S (dc P c)))) := by
  refine Ct.of (by decide +kernel) (Nat.le_of_ble_eq_true rfl) (fun K Qf hkl X hM hQ => ?_)
  subst hkl
  obtain ⟨hK, hU, hR⟩ := hM
  have hP := hC.v
  have l0 := hP.l0
  have l1 := hP.l1
  have l2 := hP.l2
  have l4 := hP.l4
  have l5 := hP.l5
  have l8 := hP.l8
  have l9 := hP.l9
  have l10 := hP.l10
  have l71 := hP.l71
  have l76 := hP.l76
  have l77 := hP.l77
  have hx1 := hC.x1
  have hy1 := hC.y1
  have ht1 := hC.t1
  have he1 := hC.e1
  have hm1 := hC.m1
  have hcc : nC P ≤ 144 := Nat.mul_le_mul l9 l10
  have hmx : mxd S (dc P c) (nM P) ≤ 65537 := mxd_le _ (fun m _ => by have := dN_lt P m (cx P c) (cy P c); exact Nat.le_of_lt this)
  refine vv_sub (lv' := [(0, .ref (g 0)), (1, .int (nI c))]) [0, 1] rfl ?_
  refine vv_iconst (v := nI 0) X dX3_window_0 (by decide) ?_
  refine vv_aload_n X dX3_window_1 rfl 0 rfl ?_
  refine vv_getf (C := RX3) (T := TX3) (N := 8) (ref := "AcousticCamera$State") X hR.ob in_X3 CL_X3 0 (by decide) q1687 rfl rfl dX3_window_2 ?_
  refine vv_getfN (C := RX5) (T := TX5) (N := 19) (ref := "AcousticCamera$Setup") X hU.ob in_X5 CL_X5 10 (by decide) q802 rfl rfl dX3_window_5 ?_
  refine vv_aload_n X dX3_window_8 rfl 0 rfl ?_
  refine vv_iload_n X dX3_window_9 rfl 1 rfl ?_
  refine vv_callVp X (mX3_greatestDelay (kL K) D u P T o g S pw c hC hV (by omega)) q1915 q1916 q1917 q150 q1918 nX3_greatestDelay ⟨(Nat.le_of_ble_eq_true rfl), (Nat.le_of_ble_eq_true rfl)⟩ dX3_window_10 rfl (Nat.le_of_ble_eq_true rfl) (recv X hR.ob CL_X3) ⟨hK, hU, hR⟩ ⟨(Nat.le_of_ble_eq_true rfl), (Nat.le_of_ble_eq_true rfl)⟩ ?_
  refine vv_isub X dX3_window_13 ?_
  refine vn_max0 X q1771 (Nat.le_of_ble_eq_true rfl) (Nat.le_of_ble_eq_true rfl) ((Nat.le_of_ble_eq_true rfl)) ((Nat.le_of_ble_eq_true rfl)) (by omega) (by omega) dX3_window_14 ?_
  exact vv_iret X hQ dX3_window_17 (Nat.le_of_ble_eq_true rfl) (Nat.le_of_ble_eq_true rfl) (pq (rfl))
theorem nX3_spread : notMH yX3_spread 1 := by decide +kernel
set_option maxHeartbeats 800000 in
theorem mX3_spread (l : Launch) (D : DD) (u : Nat → Nat) (P T : Nat → Int32) (o : Nat) (g : Nat → Nat) (S : Nat → Int32) (pw : Option Nat) (c : Nat) (hC : VC P) (hV : VS S) (hc : c < nC P) : Cp l yX3_spread cX3_spread 4 (some .int) { frames := 5, cells := 0, slots := 0, locals := 98 } D [.ref (g 0), .int (nI c)] (fun H => KH D H ∧ UR D u P T o H ∧ SR D g u P S pw H) (.int (nI (mxd S (dc P c) (nM P) - fo (fun m a => if S (1 + m) = 0 then min a (dc P c m) else a) (nM P) (mxd S (dc P c) (nM P))))) := by
  refine Ct.of (by decide +kernel) (Nat.le_of_ble_eq_true rfl) (fun K Qf hkl X hM hQ => ?_)
  subst hkl
  obtain ⟨hK, hU, hR⟩ := hM
  have hP := hC.v
  have l0 := hP.l0
  have l1 := hP.l1
  have l2 := hP.l2
  have l4 := hP.l4
  have l5 := hP.l5
  have l8 := hP.l8
  have l9 := hP.l9
  have l10 := hP.l10
  have l71 := hP.l71
  have l76 := hP.l76
  have l77 := hP.l77
  have hx1 := hC.x1
  have hy1 := hC.y1
  have ht1 := hC.t1
  have he1 := hC.e1
  have hm1 := hC.m1
  have hcc : nC P ≤ 144 := Nat.mul_le_mul l9 l10
  have hmx : mxd S (dc P c) (nM P) ≤ 65537 := mxd_le _ (fun m _ => by have := dN_lt P m (cx P c) (cy P c); exact Nat.le_of_lt this)
  refine vv_sub (lv' := [(0, .ref (g 0)), (1, .int (nI c))]) [0, 1] rfl ?_
  refine vv_aload_n X dX3_spread_0 rfl 0 rfl ?_
  refine vv_iload_n X dX3_spread_1 rfl 1 rfl ?_
  refine vv_callVp X (mX3_greatestDelay (kL K) D u P T o g S pw c hC hV (by omega)) q1915 q1916 q1917 q150 q1918 nX3_greatestDelay ⟨(Nat.le_of_ble_eq_true rfl), (Nat.le_of_ble_eq_true rfl)⟩ dX3_spread_2 rfl (Nat.le_of_ble_eq_true rfl) (recv X hR.ob CL_X3) ⟨hK, hU, hR⟩ ⟨(Nat.le_of_ble_eq_true rfl), (Nat.le_of_ble_eq_true rfl)⟩ ?_
  refine vv_istore_n (lv' := [(2, .int (nI (mxd S (dc P c) (nM P)))), (0, .ref (g 0)), (1, .int (nI c))]) X dX3_spread_5 rfl (by decide) rfl ?_
  refine vv_iconst (v := nI 0) X dX3_spread_6 (by decide) ?_
  refine vv_istore_n (lv' := [(3, .int (nI 0)), (2, .int (nI (mxd S (dc P c) (nM P)))), (0, .ref (g 0)), (1, .int (nI c))]) X dX3_spread_7 rfl (by decide) rfl ?_
  have hx_1 : ∀ (a : Nat) (ha : a = fo (fun m a => if S (1 + m) = 0 then min a (dc P c m) else a) (nM P) (mxd S (dc P c) (nM P))) (hab : a ≤ mxd S (dc P c) (nM P)), V K 4 (fun _ => False) (kS K).heap 0 0 Qf 47 [(0, .ref (g 0)), (1, .int (nI c)), (2, .int (nI a)), (3, .int (nI (nM P)))] [] := by
    intro a ha hab
    refine vv_aload_n X dX3_spread_47 rfl 0 rfl ?_
    refine vv_iload_n X dX3_spread_48 rfl 1 rfl ?_
    refine vv_callVp X (mX3_greatestDelay (kL K) D u P T o g S pw c hC hV (by omega)) q1915 q1916 q1917 q150 q1918 nX3_greatestDelay ⟨(Nat.le_of_ble_eq_true rfl), (Nat.le_of_ble_eq_true rfl)⟩ dX3_spread_49 rfl (Nat.le_of_ble_eq_true rfl) (recv X hR.ob CL_X3) ⟨hK, hU, hR⟩ ⟨(Nat.le_of_ble_eq_true rfl), (Nat.le_of_ble_eq_true rfl)⟩ ?_
    refine vv_iload_n X dX3_spread_52 rfl 2 rfl ?_
    refine vn_sub X (by omega) dX3_spread_53 ?_
    exact vv_iret X hQ dX3_spread_54 (Nat.le_of_ble_eq_true rfl) (Nat.le_of_ble_eq_true rfl) (pq (by rw [ha]))
  have hl_2 : ∀ (n_i i : Nat) (a : Nat), i + n_i = nM P → (a = fo (fun m a => if S (1 + m) = 0 then min a (dc P c m) else a) i (mxd S (dc P c) (nM P))) → (a ≤ mxd S (dc P c) (nM P)) → V K 4 (fun _ => False) (kS K).heap 0 0 Qf 8 [(0, .ref (g 0)), (1, .int (nI c)), (2, .int (nI a)), (3, .int (nI i))] [] := by
    intro n_i
    induction n_i with
    | zero =>
      intro i a hi ha hab
      obtain rfl : i = nM P := by omega
      refine vv_iload_n X dX3_spread_8 rfl 3 rfl ?_
      refine vv_aload_n X dX3_spread_9 rfl 0 rfl ?_
      refine vv_getf (C := RX3) (T := TX3) (N := 8) (ref := "AcousticCamera$State") X hR.ob in_X3 CL_X3 4 (by decide) q1695 rfl rfl dX3_spread_10 ?_
      refine vv_alen (ty := 0) X hR.wt rfl dX3_spread_13 ?_
      refine vn_ge (tgt := 47) X (by omega) (by omega) dX3_spread_14 (by decide) (fun c_14 => ?_) (fun c_14 => ?_)
      · exact hx_1 a ha hab
      · exact absurd c_14 (by omega)
    | succ n_i ihi =>
      intro i a hi ha hab
      have hdi : dc P c i < 65537 := dN_lt P i (cx P c) (cy P c)
      refine vv_iload_n X dX3_spread_8 rfl 3 rfl ?_
      refine vv_aload_n X dX3_spread_9 rfl 0 rfl ?_
      refine vv_getf (C := RX3) (T := TX3) (N := 8) (ref := "AcousticCamera$State") X hR.ob in_X3 CL_X3 4 (by decide) q1695 rfl rfl dX3_spread_10 ?_
      refine vv_alen (ty := 0) X hR.wt rfl dX3_spread_13 ?_
      refine vn_ge (tgt := 47) X (by omega) (by omega) dX3_spread_14 (by decide) (fun c_14 => ?_) (fun c_14 => ?_)
      · exact absurd hi (by omega)
      · refine vv_aload_n X dX3_spread_17 rfl 0 rfl ?_
        refine vv_iload_n X dX3_spread_18 rfl 3 rfl ?_
        refine vv_callVp X (mX3_isActive (kL K) D u P T o g S pw i hC hV (by omega)) q1919 q1834 q1835 q150 q1836 nX3_isActive ⟨(Nat.le_of_ble_eq_true rfl), (Nat.le_of_ble_eq_true rfl)⟩ dX3_spread_19 rfl (Nat.le_of_ble_eq_true rfl) (recv X hR.ob CL_X3) ⟨hK, hU, hR⟩ ⟨(Nat.le_of_ble_eq_true rfl), (Nat.le_of_ble_eq_true rfl)⟩ ?_
        refine vb_eq (tgt := 41) X dX3_spread_22 (by decide) (fun c_22 => ?_) (fun c_22 => ?_)
        · refine vv_iinc (v := nI (i + 1)) (lv' := [(3, .int (nI (i + 1))), (0, .ref (g 0)), (1, .int (nI c)), (2, .int (nI a))]) X dX3_spread_41 (k := 3) rfl (nI_add _ 1) (by decide) rfl ?_
          refine vv_goto (tgt := 8) X dX3_spread_44 (by decide) ?_
          refine vv_sub [1, 2, 3, 0] rfl ?_
          exact ihi (i + 1) a (by omega) (by rw [ha]; exact (if_neg c_22).symm) (by omega)
        · refine vv_iload_n X dX3_spread_25 rfl 2 rfl ?_
          refine vv_aload_n X dX3_spread_26 rfl 0 rfl ?_
          refine vv_getf (C := RX3) (T := TX3) (N := 8) (ref := "AcousticCamera$State") X hR.ob in_X3 CL_X3 0 (by decide) q1687 rfl rfl dX3_spread_27 ?_
          refine vv_getfN (C := RX5) (T := TX5) (N := 19) (ref := "AcousticCamera$Setup") X hU.ob in_X5 CL_X5 18 (by decide) q824 rfl rfl dX3_spread_30 ?_
          refine vv_iload_n X dX3_spread_33 rfl 3 rfl ?_
          refine vv_aald (ty := 5) X hU.de rfl rfl (i) (by omega) (by omega) rfl dX3_spread_34 (v := .ref (u (20 + i))) rfl ?_
          refine vv_iload_n X dX3_spread_35 rfl 1 rfl ?_
          refine vv_iald X (hU.row i (by omega)) (c) (by omega) (by omega) rfl dX3_spread_36 ?_
          refine vn_min X q1770 (Nat.le_of_ble_eq_true rfl) (Nat.le_of_ble_eq_true rfl) ((Nat.le_of_ble_eq_true rfl)) ((Nat.le_of_ble_eq_true rfl)) (by omega) (by omega) dX3_spread_37 ?_
          refine vv_istore_n (lv' := [(2, .int (nI (min a (dc P c i)))), (0, .ref (g 0)), (1, .int (nI c)), (3, .int (nI i))]) X dX3_spread_40 rfl (by decide) rfl ?_
          refine vv_iinc (v := nI (i + 1)) (lv' := [(3, .int (nI (i + 1))), (2, .int (nI (min a (dc P c i)))), (0, .ref (g 0)), (1, .int (nI c))]) X dX3_spread_41 (k := 3) rfl (nI_add _ 1) (by decide) rfl ?_
          refine vv_goto (tgt := 8) X dX3_spread_44 (by decide) ?_
          refine vv_sub [2, 3, 1, 0] rfl ?_
          exact ihi (i + 1) (min a (dc P c i)) (by omega) (by rw [ha]; exact (if_pos c_22).symm) (by omega)
  refine vv_sub [2, 3, 1, 0] rfl ?_
  exact hl_2 (nM P) 0 (mxd S (dc P c) (nM P)) (by first | omega | assumption) (rfl) (Nat.le_refl _)
theorem i_add0 (a : Int32) : a + nI 0 = a := by rw [nI_0]; exact Int32.add_zero a
theorem nX3_beam : notMH yX3_beam 2 := by decide +kernel
set_option maxHeartbeats 800000 in
theorem mX3_beam (l : Launch) (D : DD) (u : Nat → Nat) (P T : Nat → Int32) (o : Nat) (g : Nat → Nat) (S : Nat → Int32) (pw : Option Nat) (c t : Nat) (hC : VC P) (hV : VS S) (hc : c < nC P) (ht : t < win P S (dc P c)) : Cp l yX3_beam cX3_beam 5 (some .int) { frames := 4, cells := 0, slots := 0, locals := 75 } D [.ref (g 0), .int (nI c), .int (nI t)] (fun H => KH D H ∧ UR D u P T o H ∧ SR D g u P S pw H) (.int (bm P S (dc P c) t)) := by
  refine Ct.of (by decide +kernel) (Nat.le_of_ble_eq_true rfl) (fun K Qf hkl X hM hQ => ?_)
  subst hkl
  obtain ⟨hK, hU, hR⟩ := hM
  have hP := hC.v
  have l0 := hP.l0
  have l1 := hP.l1
  have l2 := hP.l2
  have l4 := hP.l4
  have l5 := hP.l5
  have l8 := hP.l8
  have l9 := hP.l9
  have l10 := hP.l10
  have l71 := hP.l71
  have l76 := hP.l76
  have l77 := hP.l77
  have hx1 := hC.x1
  have hy1 := hC.y1
  have ht1 := hC.t1
  have he1 := hC.e1
  have hm1 := hC.m1
  have hcc : nC P ≤ 144 := Nat.mul_le_mul l9 l10
  refine vv_sub (lv' := [(0, .ref (g 0)), (1, .int (nI c)), (2, .int (nI t))]) [0, 1, 2] rfl ?_
  refine vv_iconst (v := nI 0) X dX3_beam_0 (by decide) ?_
  refine vv_istore_n (lv' := [(3, .int (nI 0)), (0, .ref (g 0)), (1, .int (nI c)), (2, .int (nI t))]) X dX3_beam_1 rfl (by decide) rfl ?_
  refine vv_iconst (v := nI 0) X dX3_beam_2 (by decide) ?_
  refine vv_istore (lv' := [(4, .int (nI 0)), (3, .int (nI 0)), (0, .ref (g 0)), (1, .int (nI c)), (2, .int (nI t))]) X dX3_beam_3 (by decide) rfl ?_
  have hx_1 : ∀ (a : Int32) (ha : a = fo (bm1 P S (dc P c) t) (nM P) (nI 0)), V K 5 (fun _ => False) (kS K).heap 0 0 Qf 63 [(0, .ref (g 0)), (1, .int (nI c)), (2, .int (nI t)), (3, .int (a)), (4, .int (nI (nM P)))] [] := by
    intro a ha
    refine vv_iload_n X dX3_beam_63 rfl 3 rfl ?_
    exact vv_iret X hQ dX3_beam_64 (Nat.le_of_ble_eq_true rfl) (Nat.le_of_ble_eq_true rfl) (pq (ha))
  have hl_2 : ∀ (n_i i : Nat) (a : Int32), i + n_i = nM P → (a = fo (bm1 P S (dc P c) t) i (nI 0)) → V K 5 (fun _ => False) (kS K).heap 0 0 Qf 5 [(0, .ref (g 0)), (1, .int (nI c)), (2, .int (nI t)), (3, .int (a)), (4, .int (nI i))] [] := by
    intro n_i
    induction n_i with
    | zero =>
      intro i a hi ha
      obtain rfl : i = nM P := by omega
      refine vv_iload X dX3_beam_5 4 rfl ?_
      refine vv_aload_n X dX3_beam_7 rfl 0 rfl ?_
      refine vv_getf (C := RX3) (T := TX3) (N := 8) (ref := "AcousticCamera$State") X hR.ob in_X3 CL_X3 4 (by decide) q1695 rfl rfl dX3_beam_8 ?_
      refine vv_alen (ty := 0) X hR.wt rfl dX3_beam_11 ?_
      refine vn_ge (tgt := 63) X (by omega) (by omega) dX3_beam_12 (by decide) (fun c_12 => ?_) (fun c_12 => ?_)
      · exact hx_1 a ha
      · exact absurd c_12 (by omega)
    | succ n_i ihi =>
      intro i a hi ha
      refine vv_iload X dX3_beam_5 4 rfl ?_
      refine vv_aload_n X dX3_beam_7 rfl 0 rfl ?_
      refine vv_getf (C := RX3) (T := TX3) (N := 8) (ref := "AcousticCamera$State") X hR.ob in_X3 CL_X3 4 (by decide) q1695 rfl rfl dX3_beam_8 ?_
      refine vv_alen (ty := 0) X hR.wt rfl dX3_beam_11 ?_
      refine vn_ge (tgt := 63) X (by omega) (by omega) dX3_beam_12 (by decide) (fun c_12 => ?_) (fun c_12 => ?_)
      · exact absurd hi (by omega)
      · refine vv_aload_n X dX3_beam_15 rfl 0 rfl ?_
        refine vv_iload X dX3_beam_16 4 rfl ?_
        refine vv_callVp X (mX3_isActive (kL K) D u P T o g S pw i hC hV (by omega)) q1919 q1834 q1835 q150 q1836 nX3_isActive ⟨(Nat.le_of_ble_eq_true rfl), (Nat.le_of_ble_eq_true rfl)⟩ dX3_beam_18 rfl (Nat.le_of_ble_eq_true rfl) (recv X hR.ob CL_X3) ⟨hK, hU, hR⟩ ⟨(Nat.le_of_ble_eq_true rfl), (Nat.le_of_ble_eq_true rfl)⟩ ?_
        refine vb_eq (tgt := 57) X dX3_beam_21 (by decide) (fun c_21 => ?_) (fun c_21 => ?_)
        · refine vv_iinc (v := nI (i + 1)) (lv' := [(4, .int (nI (i + 1))), (0, .ref (g 0)), (1, .int (nI c)), (2, .int (nI t)), (3, .int (a))]) X dX3_beam_57 (k := 4) rfl (nI_add _ 1) (by decide) rfl ?_
          refine vv_goto (tgt := 5) X dX3_beam_60 (by decide) ?_
          refine vv_sub [1, 2, 3, 4, 0] rfl ?_
          exact ihi (i + 1) a (by omega) (by rw [ha]; show _ = bm1 _ _ _ _ _ _; unfold bm1; rw [if_neg (fun z => c_21 z.1), i_add0])
        · have hwi := win_in ht (by omega : i < nM P) c_21
          refine vv_iload_n X dX3_beam_24 rfl 3 rfl ?_
          refine vv_aload_n X dX3_beam_25 rfl 0 rfl ?_
          refine vv_getf (C := RX3) (T := TX3) (N := 8) (ref := "AcousticCamera$State") X hR.ob in_X3 CL_X3 4 (by decide) q1695 rfl rfl dX3_beam_26 ?_
          refine vv_iload X dX3_beam_29 4 rfl ?_
          refine vv_iald X hR.wt (i) (by omega) (by omega) rfl dX3_beam_31 ?_
          refine vv_aload_n X dX3_beam_32 rfl 0 rfl ?_
          refine vv_getf (C := RX3) (T := TX3) (N := 8) (ref := "AcousticCamera$State") X hR.ob in_X3 CL_X3 5 (by decide) q1697 rfl rfl dX3_beam_33 ?_
          refine vv_iload X dX3_beam_36 4 rfl ?_
          refine vv_aald (ty := 5) X hR.ra rfl rfl (i) (by omega) (by omega) rfl dX3_beam_38 (v := .ref (g (10 + i))) rfl ?_
          refine vv_iload_n X dX3_beam_39 rfl 2 rfl ?_
          refine vv_aload_n X dX3_beam_40 rfl 0 rfl ?_
          refine vv_getf (C := RX3) (T := TX3) (N := 8) (ref := "AcousticCamera$State") X hR.ob in_X3 CL_X3 0 (by decide) q1687 rfl rfl dX3_beam_41 ?_
          refine vv_getfN (C := RX5) (T := TX5) (N := 19) (ref := "AcousticCamera$Setup") X hU.ob in_X5 CL_X5 18 (by decide) q824 rfl rfl dX3_beam_44 ?_
          refine vv_iload X dX3_beam_47 4 rfl ?_
          refine vv_aald (ty := 5) X hU.de rfl rfl (i) (by omega) (by omega) rfl dX3_beam_49 (v := .ref (u (20 + i))) rfl ?_
          refine vv_iload_n X dX3_beam_50 rfl 1 rfl ?_
          refine vv_iald X (hU.row i (by omega)) (c) (by omega) (by omega) rfl dX3_beam_51 ?_
          refine vn_add X dX3_beam_52 ?_
          refine vv_iald X (hR.row i (by omega)) (t + (dc P c i)) (by omega) (by omega) rfl dX3_beam_53 ?_
          refine vv_eqi (congrArg S (Nat.add_assoc _ _ _).symm) ?_
          refine vv_imul X dX3_beam_54 ?_
          refine vv_iadd X dX3_beam_55 ?_
          refine vv_istore_n (lv' := [(3, .int (a + ((nI (wgt S i)) * (S (55 + 200 * i + t + dc P c i))))), (0, .ref (g 0)), (1, .int (nI c)), (2, .int (nI t)), (4, .int (nI i))]) X dX3_beam_56 rfl (by decide) rfl ?_
          refine vv_iinc (v := nI (i + 1)) (lv' := [(4, .int (nI (i + 1))), (3, .int (a + ((nI (wgt S i)) * (S (55 + 200 * i + t + dc P c i))))), (0, .ref (g 0)), (1, .int (nI c)), (2, .int (nI t))]) X dX3_beam_57 (k := 4) rfl (nI_add _ 1) (by decide) rfl ?_
          refine vv_goto (tgt := 5) X dX3_beam_60 (by decide) ?_
          refine vv_sub [2, 3, 4, 1, 0] rfl ?_
          exact ihi (i + 1) (a + ((nI (wgt S i)) * (S (55 + 200 * i + t + dc P c i)))) (by omega) (by rw [ha]; show _ = bm1 _ _ _ _ _ _; unfold bm1; rw [if_pos ⟨c_21, hwi⟩])
  refine vv_sub [2, 3, 4, 1, 0] rfl ?_
  exact hl_2 (nM P) 0 (nI 0) (by first | omega | assumption) (rfl)
theorem nX3_squares : notMH yX3_squares 3 := by decide +kernel
set_option maxHeartbeats 800000 in
theorem mX3_squares (l : Launch) (D : DD) (u : Nat → Nat) (P T : Nat → Int32) (o : Nat) (g : Nat → Nat) (S : Nat → Int32) (pw : Option Nat) (c a b : Nat) (hC : VC P) (hV : VS S) (hc : c < nC P) (hb : b ≤ win P S (dc P c)) (ha : a < 2 ^ 30) : Cp l yX3_squares cX3_squares 9 (some .long) { frames := 5, cells := 0, slots := 0, locals := 99 } D [.ref (g 0), .int (nI c), .int (nI a), .int (nI b)] (fun H => KH D H ∧ UR D u P T o H ∧ SR D g u P S pw H) (.long (en P S (dc P c) a (b - a))) := by
  refine Ct.of (by decide +kernel) (Nat.le_of_ble_eq_true rfl) (fun K Qf hkl X hM hQ => ?_)
  subst hkl
  obtain ⟨hK, hU, hR⟩ := hM
  have hP := hC.v
  have l0 := hP.l0
  have l1 := hP.l1
  have l2 := hP.l2
  have l4 := hP.l4
  have l5 := hP.l5
  have l8 := hP.l8
  have l9 := hP.l9
  have l10 := hP.l10
  have l71 := hP.l71
  have l76 := hP.l76
  have l77 := hP.l77
  have hx1 := hC.x1
  have hy1 := hC.y1
  have ht1 := hC.t1
  have he1 := hC.e1
  have hm1 := hC.m1
  have hcc : nC P ≤ 144 := Nat.mul_le_mul l9 l10
  have hw2 : win P S (dc P c) ≤ 200 := Nat.le_trans (Nat.sub_le _ _) l2
  refine vv_sub (lv' := [(0, .ref (g 0)), (1, .int (nI c)), (2, .int (nI a)), (3, .int (nI b))]) [0, 1, 2, 3] rfl ?_
  refine vv_lconst (v := 0) X dX3_squares_0 (by decide) ?_
  refine vv_lstore (lv' := [(4, .long (0)), (0, .ref (g 0)), (1, .int (nI c)), (2, .int (nI a)), (3, .int (nI b))]) X dX3_squares_1 (by decide) rfl ?_
  refine vv_iload_n X dX3_squares_3 rfl 3 rfl ?_
  refine vv_istore (lv' := [(6, .int (nI a)), (4, .long (0)), (0, .ref (g 0)), (1, .int (nI c)), (2, .int (nI a)), (3, .int (nI b))]) X dX3_squares_4 (by decide) rfl ?_
  have hx_1 : ∀ (e : Int64) (he : e = en P S (dc P c) a (b - a)), V K 9 (fun _ => False) (kS K).heap 0 0 Qf 38 [(0, .ref (g 0)), (1, .int (nI c)), (2, .int (nI a)), (3, .int (nI b)), (4, .long (e)), (6, .int (nI (a + (b - a))))] [] := by
    intro e he
    refine vv_lload X dX3_squares_38 4 rfl ?_
    exact vv_lret X hQ dX3_squares_40 (Nat.le_of_ble_eq_true rfl) (Nat.le_of_ble_eq_true rfl) (pql (he))
  have hl_2 : ∀ (n_i i : Nat) (e : Int64), i + n_i = b - a → (e = en P S (dc P c) a i) → V K 9 (fun _ => False) (kS K).heap 0 0 Qf 6 [(0, .ref (g 0)), (1, .int (nI c)), (2, .int (nI a)), (3, .int (nI b)), (4, .long (e)), (6, .int (nI (a + i)))] [] := by
    intro n_i
    induction n_i with
    | zero =>
      intro i e hi he
      obtain rfl : i = b - a := by omega
      refine vv_iload X dX3_squares_6 5 rfl ?_
      refine vv_iload_n X dX3_squares_8 rfl 3 rfl ?_
      refine vn_ge (tgt := 38) X (by omega) (by omega) dX3_squares_9 (by decide) (fun c_9 => ?_) (fun c_9 => ?_)
      · exact hx_1 e he
      · exact absurd c_9 (by omega)
    | succ n_i ihi =>
      intro i e hi he
      refine vv_iload X dX3_squares_6 5 rfl ?_
      refine vv_iload_n X dX3_squares_8 rfl 3 rfl ?_
      refine vn_ge (tgt := 38) X (by omega) (by omega) dX3_squares_9 (by decide) (fun c_9 => ?_) (fun c_9 => ?_)
      · exact absurd hi (by omega)
      · refine vv_aload_n X dX3_squares_12 rfl 0 rfl ?_
        refine vv_iload_n X dX3_squares_13 rfl 1 rfl ?_
        refine vv_iload X dX3_squares_14 5 rfl ?_
        refine vv_callVp X (mX3_beam (kL K) D u P T o g S pw c (a + i) hC hV (by omega) (by omega)) q1970 q1946 q1947 q150 q1948 nX3_beam ⟨(Nat.le_of_ble_eq_true rfl), (Nat.le_of_ble_eq_true rfl)⟩ dX3_squares_16 rfl (Nat.le_of_ble_eq_true rfl) (recv X hR.ob CL_X3) ⟨hK, hU, hR⟩ ⟨(Nat.le_of_ble_eq_true rfl), (Nat.le_of_ble_eq_true rfl)⟩ ?_
        refine vv_i2l (v := (bm P S (dc P c) (a + i)).toInt64) X dX3_squares_19 rfl ?_
        refine vv_lstore (lv' := [(7, .long ((bm P S (dc P c) (a + i)).toInt64)), (0, .ref (g 0)), (1, .int (nI c)), (2, .int (nI a)), (3, .int (nI b)), (4, .long (e)), (6, .int (nI (a + i)))]) X dX3_squares_20 (by decide) rfl ?_
        refine vv_lload X dX3_squares_22 5 rfl ?_
        refine vv_lload X dX3_squares_24 0 rfl ?_
        refine vv_lload X dX3_squares_26 0 rfl ?_
        refine vv_lmul X dX3_squares_28 ?_
        refine vv_ladd X dX3_squares_29 ?_
        refine vv_lstore (lv' := [(4, .long (e + (((bm P S (dc P c) (a + i)).toInt64) * ((bm P S (dc P c) (a + i)).toInt64)))), (7, .long ((bm P S (dc P c) (a + i)).toInt64)), (0, .ref (g 0)), (1, .int (nI c)), (2, .int (nI a)), (3, .int (nI b)), (6, .int (nI (a + i)))]) X dX3_squares_30 (by decide) rfl ?_
        refine vv_iinc (v := nI ((a + i) + 1)) (lv' := [(6, .int (nI ((a + i) + 1))), (4, .long (e + (((bm P S (dc P c) (a + i)).toInt64) * ((bm P S (dc P c) (a + i)).toInt64)))), (7, .long ((bm P S (dc P c) (a + i)).toInt64)), (0, .ref (g 0)), (1, .int (nI c)), (2, .int (nI a)), (3, .int (nI b))]) X dX3_squares_32 (k := 6) rfl (nI_add _ 1) (by decide) rfl ?_
        refine vv_goto (tgt := 6) X dX3_squares_35 (by decide) ?_
        refine vv_sub [3, 4, 5, 6, 1, 0] rfl ?_
        exact ihi (i + 1) (e + (((bm P S (dc P c) (a + i)).toInt64) * ((bm P S (dc P c) (a + i)).toInt64))) (by omega) (by rw [he]; rfl)
  refine vv_sub [2, 3, 4, 5, 1, 0] rfl ?_
  exact hl_2 (b - a) 0 0 (by first | omega | assumption) (rfl)
theorem nX3_powerOf : notMH yX3_powerOf 1 := by decide +kernel
set_option maxHeartbeats 800000 in
theorem mX3_powerOf (l : Launch) (D : DD) (u : Nat → Nat) (P T : Nat → Int32) (o : Nat) (g : Nat → Nat) (S : Nat → Int32) (pw : Option Nat) (c : Nat) (hC : VC P) (hV : VS S) (hc : c < nC P) : Cp l yX3_powerOf cX3_powerOf 3 (some .long) { frames := 6, cells := 0, slots := 0, locals := 127 } D [.ref (g 0), .int (nI c)] (fun H => KH D H ∧ UR D u P T o H ∧ SR D g u P S pw H) (.long (pwc P S c)) := by
  refine Ct.of (by decide +kernel) (Nat.le_of_ble_eq_true rfl) (fun K Qf hkl X hM hQ => ?_)
  subst hkl
  obtain ⟨hK, hU, hR⟩ := hM
  have hP := hC.v
  have l0 := hP.l0
  have l1 := hP.l1
  have l2 := hP.l2
  have l4 := hP.l4
  have l5 := hP.l5
  have l8 := hP.l8
  have l9 := hP.l9
  have l10 := hP.l10
  have l71 := hP.l71
  have l76 := hP.l76
  have l77 := hP.l77
  have hx1 := hC.x1
  have hy1 := hC.y1
  have ht1 := hC.t1
  have he1 := hC.e1
  have hm1 := hC.m1
  have hcc : nC P ≤ 144 := Nat.mul_le_mul l9 l10
  have hw2 : win P S (dc P c) ≤ 200 := Nat.le_trans (Nat.sub_le _ _) l2
  refine vv_sub (lv' := [(0, .ref (g 0)), (1, .int (nI c))]) [0, 1] rfl ?_
  refine vv_aload_n X dX3_powerOf_0 rfl 0 rfl ?_
  refine vv_iload_n X dX3_powerOf_1 rfl 1 rfl ?_
  refine vv_callVp X (mX3_window (kL K) D u P T o g S pw c hC hV (by omega)) q1965 q1928 q1929 q150 q1930 nX3_window ⟨(Nat.le_of_ble_eq_true rfl), (Nat.le_of_ble_eq_true rfl)⟩ dX3_powerOf_2 rfl (Nat.le_of_ble_eq_true rfl) (recv X hR.ob CL_X3) ⟨hK, hU, hR⟩ ⟨(Nat.le_of_ble_eq_true rfl), (Nat.le_of_ble_eq_true rfl)⟩ ?_
  refine vv_istore_n (lv' := [(2, .int (nI (win P S (dc P c)))), (0, .ref (g 0)), (1, .int (nI c))]) X dX3_powerOf_5 rfl (by decide) rfl ?_
  refine vv_iload_n X dX3_powerOf_6 rfl 0 rfl ?_
  refine vn_if_ne (tgt := 14) X (by omega) dX3_powerOf_7 (by decide) (fun c_7 => ?_) (fun c_7 => ?_)
  · refine vv_aload_n X dX3_powerOf_14 rfl 1 rfl ?_
    refine vv_iload_n X dX3_powerOf_15 rfl 2 rfl ?_
    refine vv_iconst (v := nI 0) X dX3_powerOf_16 (by decide) ?_
    refine vv_iload_n X dX3_powerOf_17 rfl 0 rfl ?_
    refine vv_callVp X (mX3_squares (kL K) D u P T o g S pw c 0 (win P S (dc P c)) hC hV (by omega) (by omega) (by omega)) q1966 q1968 qs41 q150 q1969 nX3_squares ⟨(Nat.le_of_ble_eq_true rfl), (Nat.le_of_ble_eq_true rfl)⟩ dX3_powerOf_18 rfl (Nat.le_of_ble_eq_true rfl) (recv X hR.ob CL_X3) ⟨hK, hU, hR⟩ ⟨(Nat.le_of_ble_eq_true rfl), (Nat.le_of_ble_eq_true rfl)⟩ ?_
    refine vv_iload_n X dX3_powerOf_21 rfl 0 rfl ?_
    refine vv_i2l (v := lN (win P S (dc P c))) X dX3_powerOf_22 (nI_l (by omega)) ?_
    refine vv_ldiv X dX3_powerOf_23 (lN_ne0 (by omega) (by omega)) ?_
    exact vv_lret X hQ dX3_powerOf_24 (Nat.le_of_ble_eq_true rfl) (Nat.le_of_ble_eq_true rfl) (pql (by unfold pwc pwr; rw [if_neg (show ¬ win P S (dc P c) = 0 by omega)]; rfl))
  · refine vv_lconst (v := 0) X dX3_powerOf_10 (by decide) ?_
    refine vv_goto (tgt := 24) X dX3_powerOf_11 (by decide) ?_
    exact vv_lret X hQ dX3_powerOf_24 (Nat.le_of_ble_eq_true rfl) (Nat.le_of_ble_eq_true rfl) (pql (by unfold pwc pwr; rw [if_pos c_7]))
theorem nX3_blockPower : notMH yX3_blockPower 3 := by decide +kernel
set_option maxHeartbeats 800000 in
theorem mX3_blockPower (l : Launch) (D : DD) (u : Nat → Nat) (P T : Nat → Int32) (o : Nat) (g : Nat → Nat) (S : Nat → Int32) (pw : Option Nat) (c a n : Nat) (hC : VC P) (hV : VS S) (hc : c < nC P) (ha : a < 1000) (hn : 1 ≤ n ∧ n < 1000) : Cp l yX3_blockPower cX3_blockPower 4 (some .long) { frames := 6, cells := 0, slots := 0, locals := 127 } D [.ref (g 0), .int (nI c), .int (nI a), .int (nI n)] (fun H => KH D H ∧ UR D u P T o H ∧ SR D g u P S pw H) (.long (blk P S c a n)) := by
  refine Ct.of (by decide +kernel) (Nat.le_of_ble_eq_true rfl) (fun K Qf hkl X hM hQ => ?_)
  subst hkl
  obtain ⟨hK, hU, hR⟩ := hM
  have hP := hC.v
  have l0 := hP.l0
  have l1 := hP.l1
  have l2 := hP.l2
  have l4 := hP.l4
  have l5 := hP.l5
  have l8 := hP.l8
  have l9 := hP.l9
  have l10 := hP.l10
  have l71 := hP.l71
  have l76 := hP.l76
  have l77 := hP.l77
  have hx1 := hC.x1
  have hy1 := hC.y1
  have ht1 := hC.t1
  have he1 := hC.e1
  have hm1 := hC.m1
  have hcc : nC P ≤ 144 := Nat.mul_le_mul l9 l10
  have hw2 : win P S (dc P c) ≤ 200 := Nat.le_trans (Nat.sub_le _ _) l2
  refine vv_sub (lv' := [(0, .ref (g 0)), (1, .int (nI c)), (2, .int (nI a)), (3, .int (nI n))]) [0, 1, 2, 3] rfl ?_
  refine vv_aload_n X dX3_blockPower_0 rfl 0 rfl ?_
  refine vv_iload_n X dX3_blockPower_1 rfl 1 rfl ?_
  refine vv_iload_n X dX3_blockPower_2 rfl 2 rfl ?_
  refine vv_aload_n X dX3_blockPower_3 rfl 0 rfl ?_
  refine vv_iload_n X dX3_blockPower_4 rfl 1 rfl ?_
  refine vv_callVp X (mX3_window (kL K) D u P T o g S pw c hC hV (by omega)) q1965 q1928 q1929 q150 q1930 nX3_window ⟨(Nat.le_of_ble_eq_true rfl), (Nat.le_of_ble_eq_true rfl)⟩ dX3_blockPower_5 rfl (Nat.le_of_ble_eq_true rfl) (recv X hR.ob CL_X3) ⟨hK, hU, hR⟩ ⟨(Nat.le_of_ble_eq_true rfl), (Nat.le_of_ble_eq_true rfl)⟩ ?_
  refine vv_iload_n X dX3_blockPower_8 rfl 2 rfl ?_
  refine vv_iload_n X dX3_blockPower_9 rfl 3 rfl ?_
  refine vn_add X dX3_blockPower_10 ?_
  refine vn_min X q1770 (Nat.le_of_ble_eq_true rfl) (Nat.le_of_ble_eq_true rfl) ((Nat.le_of_ble_eq_true rfl)) ((Nat.le_of_ble_eq_true rfl)) (by omega) (by omega) dX3_blockPower_11 ?_
  refine vv_callVp X (mX3_squares (kL K) D u P T o g S pw c a (min (win P S (dc P c)) (a + n)) hC hV (by omega) (by omega) (by omega)) q1966 q1968 qs41 q150 q1969 nX3_squares ⟨(Nat.le_of_ble_eq_true rfl), (Nat.le_of_ble_eq_true rfl)⟩ dX3_blockPower_14 rfl (Nat.le_of_ble_eq_true rfl) (recv X hR.ob CL_X3) ⟨hK, hU, hR⟩ ⟨(Nat.le_of_ble_eq_true rfl), (Nat.le_of_ble_eq_true rfl)⟩ ?_
  refine vv_iload_n X dX3_blockPower_17 rfl 3 rfl ?_
  refine vv_i2l (v := lN n) X dX3_blockPower_18 (nI_l (by omega)) ?_
  refine vv_ldiv X dX3_blockPower_19 (lN_ne0 (by omega) (by omega)) ?_
  exact vv_lret X hQ dX3_blockPower_20 (Nat.le_of_ble_eq_true rfl) (Nat.le_of_ble_eq_true rfl) (pql (rfl))
theorem nX3_isInZone : notMH yX3_isInZone 2 := by decide +kernel
set_option maxHeartbeats 800000 in
theorem mX3_isInZone (l : Launch) (D : DD) (u : Nat → Nat) (P T : Nat → Int32) (o : Nat) (g : Nat → Nat) (S : Nat → Int32) (pw : Option Nat) (z c : Nat) (hC : VC P) (hV : VS S) (hz : z < nZ P) (hc : c < nC P) : Cp l yX3_isInZone cX3_isInZone 3 (some .boolean) { frames := 4, cells := 0, slots := 0, locals := 76 } D [.ref (g 0), .int (nI z), .int (nI c)] (fun H => KH D H ∧ UR D u P T o H ∧ SR D g u P S pw H) (.int (b2 (inZ P z c))) := by
  refine Ct.of (by decide +kernel) (Nat.le_of_ble_eq_true rfl) (fun K Qf hkl X hM hQ => ?_)
  subst hkl
  obtain ⟨hK, hU, hR⟩ := hM
  have hP := hC.v
  have l0 := hP.l0
  have l1 := hP.l1
  have l2 := hP.l2
  have l4 := hP.l4
  have l5 := hP.l5
  have l8 := hP.l8
  have l9 := hP.l9
  have l10 := hP.l10
  have l71 := hP.l71
  have l76 := hP.l76
  have l77 := hP.l77
  have hx1 := hC.x1
  have hy1 := hC.y1
  have ht1 := hC.t1
  have he1 := hC.e1
  have hm1 := hC.m1
  have hcc : nC P ≤ 144 := Nat.mul_le_mul l9 l10
  have l101 := hP.l101
  have hr := Nat.mod_lt c hx1
  have hq : c / nX P ≤ c := Nat.div_le_self _ _
  have hz0 := (hP.zon (4 * z) (by omega)).2
  have hz1 := (hP.zon (4 * z + 1) (by omega)).2
  have hz2 := (hP.zon (4 * z + 2) (by omega)).2
  have hz3 := (hP.zon (4 * z + 3) (by omega)).2
  refine vv_sub (lv' := [(0, .ref (g 0)), (1, .int (nI z)), (2, .int (nI c))]) [0, 1, 2] rfl ?_
  refine vv_aload_n X dX3_isInZone_0 rfl 0 rfl ?_
  refine vv_getf (C := RX3) (T := TX3) (N := 8) (ref := "AcousticCamera$State") X hR.ob in_X3 CL_X3 0 (by decide) q1687 rfl rfl dX3_isInZone_1 ?_
  refine vv_getfN (C := RX5) (T := TX5) (N := 19) (ref := "AcousticCamera$Setup") X hU.ob in_X5 CL_X5 2 (by decide) q781 rfl rfl dX3_isInZone_4 ?_
  refine vv_iload_n X dX3_isInZone_7 rfl 1 rfl ?_
  refine vv_callFp X (mJ12_get (kL K) D _ _ _ _ _ (by omega)) (by decide) q1664 q1577 q1575 q154 q1579 (show notMH ⟨"java/util/List", "get", "(I)Ljava/lang/Object;"⟩ 1 by decide +kernel) ⟨(Nat.le_of_ble_eq_true rfl), (Nat.le_of_ble_eq_true rfl)⟩ dX3_isInZone_8 rfl (Nat.le_of_ble_eq_true rfl) hU.lz.1 CL_J12 hU.lz ⟨(Nat.le_of_ble_eq_true rfl), (Nat.le_of_ble_eq_true rfl)⟩ ?_
  refine vv_castS X (hU.zo z (by omega)) CL_X11 q2353 dX3_isInZone_13 ?_
  refine vv_iload_n X dX3_isInZone_16 rfl 2 rfl ?_
  refine vv_aload_n X dX3_isInZone_17 rfl 0 rfl ?_
  refine vv_getf (C := RX3) (T := TX3) (N := 8) (ref := "AcousticCamera$State") X hR.ob in_X3 CL_X3 0 (by decide) q1687 rfl rfl dX3_isInZone_18 ?_
  refine vv_getfN (C := RX5) (T := TX5) (N := 19) (ref := "AcousticCamera$Setup") X hU.ob in_X5 CL_X5 16 (by decide) q817 rfl rfl dX3_isInZone_21 ?_
  refine vn_rem X (by omega) (by omega) (by omega) dX3_isInZone_24 ?_
  refine vv_iload_n X dX3_isInZone_25 rfl 2 rfl ?_
  refine vv_aload_n X dX3_isInZone_26 rfl 0 rfl ?_
  refine vv_getf (C := RX3) (T := TX3) (N := 8) (ref := "AcousticCamera$State") X hR.ob in_X3 CL_X3 0 (by decide) q1687 rfl rfl dX3_isInZone_27 ?_
  refine vv_getfN (C := RX5) (T := TX5) (N := 19) (ref := "AcousticCamera$Setup") X hU.ob in_X5 CL_X5 16 (by decide) q817 rfl rfl dX3_isInZone_30 ?_
  refine vn_div X (by omega) (by omega) (by omega) dX3_isInZone_33 ?_
  refine vv_callVp X (mX11_has (kL K) D (u (70 + z)) _ _ _ _ (c % (nX P)) (c / (nX P)) (by omega) (by omega) (by omega) (by omega) (by omega) (by omega)) q2354 q2355 q2356 q178 q2357 nX11_has ⟨(Nat.le_of_ble_eq_true rfl), (Nat.le_of_ble_eq_true rfl)⟩ dX3_isInZone_34 rfl (Nat.le_of_ble_eq_true rfl) (recv X (hU.zo z (by omega)) CL_X11) (hU.zo z (by omega)) ⟨(Nat.le_of_ble_eq_true rfl), (Nat.le_of_ble_eq_true rfl)⟩ ?_
  exact vv_zret X (b2_nar _) hQ dX3_isInZone_37 (Nat.le_of_ble_eq_true rfl) (Nat.le_of_ble_eq_true rfl) (pq (rfl))
