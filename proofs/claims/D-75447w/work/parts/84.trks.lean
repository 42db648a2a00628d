/-! AcousticCamera: trackScore, trackCell, ..: printed by gen/s31.py -/
set_option maxRecDepth 100000
theorem bsN_st (sc : Nat → Int64) (k : Nat) : fo (bs1 sc) (k + 1) 0 = if sc (fo (bs1 sc) k 0) < sc (k + 1) then k + 1 else fo (bs1 sc) k 0 := by
  rw [fo]
  exact Eq.refl _
theorem bsN_congr {sc sd : Nat → Int64} {n : Nat} (h0 : 0 < n) (h : ∀ k, k < n → sc k = sd k) : bsN sc n = bsN sd n := by
  have key : ∀ k, k < n → fo (bs1 sc) k 0 = fo (bs1 sd) k 0 ∧ fo (bs1 sd) k 0 < n := by
    intro k
    induction k with
    | zero => intro _; rw [fo, fo]; exact ⟨Eq.refl _, h0⟩
    | succ k ih =>
      intro hk
      obtain ⟨e, hl⟩ := ih (by omega)
      rw [bsN_st, bsN_st, e, h _ hl, h _ hk]
      refine ⟨Eq.refl _, ?_⟩
      split <;> omega
  unfold bsN
  exact (key (n - 1) (by omega)).1
theorem trc_lt {P S : Nat → Int32} {n B : Nat} (h0 : 0 < nC P) : ∀ k, trc P S n B k < nC P
  | 0 => bsN_lt h0
  | k + 1 => by
    obtain ⟨j, hj, hjn⟩ := bsf_some (al := fun i => decide (nea P (trc P S n B k) i)) (sc := trk P S n B (B - 1 - (k + 1))) (trc_lt h0 k) (decide_eq_true (nea_r _ _))
    show Option.getD _ 0 < _
    rw [hj]; exact hjn
theorem trc_st {P S : Nat → Int32} {n B k : Nat} (h0 : 0 < nC P) : obI (bsf (fun i => decide (nea P (trc P S n B k) i)) (trk P S n B (B - 1 - (k + 1))) (nC P)) = nI (trc P S n B (k + 1)) := by
  obtain ⟨j, hj, hjn⟩ := bsf_some (al := fun i => decide (nea P (trc P S n B k) i)) (sc := trk P S n B (B - 1 - (k + 1))) (trc_lt h0 k) (decide_eq_true (nea_r _ _))
  show _ = nI (Option.getD _ 0)
  rw [hj]; rfl
theorem pth_next {n k T : Nat} (hn : 0 < n) (h : n * (k + 1) + n ≤ T) : k + 1 < T / n := (Nat.le_div_iff_mul_le hn).mpr (by rw [Nat.mul_comm]; exact h)
theorem pth_end {n k T : Nat} (hn : 0 < n) (h : T < n * (k + 1) + n) : T / n ≤ k + 1 := Nat.le_of_lt_succ ((Nat.div_lt_iff_lt_mul hn).mpr (by rw [Nat.mul_comm]; exact h))
set_option maxHeartbeats 800000 in
theorem mX1_trackScore (l : Launch) (D : DD) (u : Nat → Nat) (P T : Nat → Int32) (o : Nat) (g : Nat → Nat) (S : Nat → Int32) (pw : Option Nat) (c : Nat) (v0 v1 v2 v3 v5 v6 v7 : Value) (n : Nat) (hC : VC P) (hV : VS S) (hA : AP g u P) (hn : 4 ≤ n ∧ n ≤ nT P) : Ct l yX1_trackScore cX1_trackScore 3 (some .long) { frames := 8, cells := 52, slots := 7251, locals := 3100 } D [.ref c, .int (nI n)] (fun H => KH D H ∧ oB D H c 0 [v0, v1, v2, v3, .ref (g 0), v5, v6, v7] ∧ UR D u P T o H ∧ SR D g u P S pw H) (fun _ => False) (fun r H H1 => r = some (.long (trk P S n (nT P / n) (nT P / n - 1) (bsN (trk P S n (nT P / n) (nT P / n - 1)) (nC P))))) := by
  refine Ct.of (by decide +kernel) (Nat.le_of_ble_eq_true rfl) (fun K Qf hkl X hM hQ => ?_)
  subst hkl
  obtain ⟨hK, hc, hU, hR⟩ := hM
  have hz : (kS K).heap.size ≤ (kS K).heap.size := Nat.le_refl _
  have hP := hC.v
  have l0 := hP.l0
  have l1 := hP.l1
  have l2 := hP.l2
  have l4 := hP.l4
  have l5 := hP.l5
  have l8 := hP.l8
  have l9 := hP.l9
  have l10 := hP.l10
  have l71 := hP.l71
  have l76 := hP.l76
  have l77 := hP.l77
  have hx1 := hC.x1
  have hy1 := hC.y1
  have ht1 := hC.t1
  have he1 := hC.e1
  have hm1 := hC.m1
  have hcc : nC P ≤ 144 := Nat.mul_le_mul l9 l10
  have hnc0 : 0 < nC P := Nat.mul_pos hx1 hy1
  have hB1 : 1 ≤ nT P / n := Nat.div_pos hn.2 (by omega)
  have hB2 : nT P / n ≤ 50 := Nat.le_trans (Nat.div_le_div_left hn.1 (by decide)) (Nat.div_le_of_le_mul (by omega))
  have hbn : bsN (trk P S n (nT P / n) (nT P / n - 1)) (nC P) < nC P := bsN_lt hnc0
  refine vv_sub (lv' := [(0, .ref c), (1, .int (nI n))]) [0, 1] rfl ?_
  refine vv_aload_n X dX1_trackScore_0 rfl 0 rfl ?_
  refine vv_iload_n X dX1_trackScore_1 rfl 1 rfl ?_
  refine vv_callVv X (mX1_checkLength (kL K) D u P T o g S pw c v0 v1 v2 v3 v5 v6 v7 (nI n) hC hV (⟨(nI_leI (by omega) (by omega)).mpr hn.1, (nI_leI (by omega) (by omega)).mpr hn.2⟩)) q2487 q2489 qs51 q137 q2490 nX1_checkLength ⟨(Nat.le_of_ble_eq_true rfl), (Nat.le_of_ble_eq_true rfl)⟩ dX1_trackScore_2 rfl (Nat.le_of_ble_eq_true rfl) (recv X hc CL_X1) ⟨hK, hc, hU, hR⟩ ⟨(Nat.le_of_ble_eq_true rfl), (Nat.le_of_ble_eq_true rfl)⟩ ?_
  refine vv_aload_n X dX1_trackScore_5 rfl 0 rfl ?_
  refine vv_getf (C := RX1) (T := TX1) (N := 8) (ref := "AcousticCamera") X hc in_X1 CL_X1 4 (by decide) q259 rfl rfl dX1_trackScore_6 ?_
  refine vv_iload_n X dX1_trackScore_9 rfl 1 rfl ?_
  refine vv_callV X (mX3_scores (kL K) D u P T o g S pw n (nT P / n) hC hV hA hn rfl) q2491 q2492 q2493 q150 q2494 nX3_scores ⟨(Nat.le_of_ble_eq_true rfl), (Nat.le_of_ble_eq_true rfl)⟩ dX1_trackScore_10 rfl (Nat.le_of_ble_eq_true rfl) (recv X hR.ob CL_X3) ⟨hK, hU, hR⟩ (fun _ z => z.elim) ⟨(Nat.le_of_ble_eq_true rfl), (Nat.le_of_ble_eq_true rfl)⟩ (fun v_ H hq hz_ hk => ?_)
  obtain ⟨q9, rfl, F9, hq9, hW8, hF9, hqz⟩ := hq
  replace hc := hc.kept (hk _ hc.lt (fun z => z))
  replace hK := hK.to hk (fun _ z => z.elim)
  replace hU := hU.kept (fun q hl _ => hk q hl (fun z => z))
  replace hR := hR.kept (fun q hl _ => hk q hl (fun z => z)) (fun q hl _ => hk q hl (fun z => z))
  replace hz := Nat.le_trans hz hz_
  clear hk hz_
  have hW9 : ∀ j, j < nT P / n → lA D H (q9 + 1 + j) (nC P) (trk P S n (nT P / n) (nT P / n - 1 - j)) := fun j hj => lA_cg (hW8 j hj) (fun c hc => hF9 j hj c hc)
  clear hW8
  refine vv_iconst (v := nI 0) X dX1_trackScore_13 (by decide) ?_
  refine vv_aald (ty := 6) X hq9 rfl rfl (0) (by omega) (by omega) rfl dX1_trackScore_14 (v := .ref (q9 + 1 + 0)) (rfl) ?_
  refine vv_astore_n (lv' := [(2, .ref (q9 + 1 + 0)), (0, .ref c), (1, .int (nI n))]) X dX1_trackScore_15 rfl (by decide) rfl ?_
  refine vv_aload_n X dX1_trackScore_16 rfl 0 rfl ?_
  refine vv_aload_n X dX1_trackScore_17 rfl 0 rfl ?_
  refine vv_alen (ty := 1) X (hW9 0 (by omega)) rfl dX1_trackScore_18 ?_
  refine vv_aload_n X dX1_trackScore_19 rfl 0 rfl ?_
  refine vv_indyA12 X rfl dX1_trackScore_20 rfl (Nat.le_of_ble_eq_true rfl) (Nat.le_of_ble_eq_true rfl) (Nat.le_of_ble_eq_true rfl) (fun a_1 H eq_2 hx hl => ?_)
  have lt_3 : c < a_1 := by have h9 := hc.lt; first | omega | exact Nat.lt_of_lt_of_eq h9 (Eq.symm (by assumption))
  have lt_4 : q9 < a_1 := by have h9 := hq9.lt; first | omega | exact Nat.lt_of_lt_of_eq h9 (Eq.symm (by assumption))
  have ng_5 : ∀ k, UK (nM P) k → a_1 ≠ g k := fun k hk e => by have h9 := hR.ltA k hk; rw [eq_2] at e; omega
  have ns_6 : ∀ j, SJ P j → a_1 ≠ g j := fun k hk e => by have h9 := hR.ltS k hk; rw [eq_2] at e; omega
  have nu_7 : ∀ j, VK P j → a_1 ≠ u j := fun k hk e => by have h9 := hU.ltB k hk; rw [eq_2] at e; omega
  have ne_8 : c ≠ a_1 := Nat.ne_of_lt (eq_2.symm ▸ hc.lt)
  have ne_9 : q9 ≠ a_1 := Nat.ne_of_lt (eq_2.symm ▸ hq9.lt)
  have ge_10 : (kS K).heap.size ≤ a_1 := by rw [eq_2]; exact hz
  have kn_11 : KN D a_1 := KN.new hK (Nat.le_of_eq eq_2.symm)
  replace hU := hU.ex hx
  replace hR := hR.ex hx
  replace hc := hc.kept (hx.2 _ hc.lt)
  replace hq9 := hq9.kept (hx.2 _ hq9.lt)
  replace hW9 := fun j hj => (hW9 j hj).kept (hx.2 _ (hW9 j hj).lt)
  replace hK := hK.ex hx
  replace hz : (kS K).heap.size ≤ H.size := by have := hx.1; omega
  have hL_12 : LO D H a_1 12 [.ref (q9 + 1 + 0)] := hl
  clear hl hx
  refine vv_callS X (mX1_best_2 (kL K) D a_1 (nC P) { frames := 1, cells := 0, slots := 0, locals := 12 } (fun H => LO D H a_1 12 [.ref (q9 + 1 + 0)] ∧ lA D H (q9 + 1 + 0) (nC P) (trk P S n (nT P / n) (nT P / n - 1))) (fun _ => False) (trk P S n (nT P / n) (nT P / n - 1)) (by omega) (by omega) (sco12 (fun H h => h) (Nat.le_refl _) (by omega))) q2369 q2001 q137 q2002 nX1_best_2 ⟨(Nat.le_of_ble_eq_true rfl), (Nat.le_of_ble_eq_true rfl)⟩ dX1_trackScore_25 rfl (Nat.le_of_ble_eq_true rfl) ⟨hL_12, (hW9 0 (by omega))⟩ (fun _ z => z.elim) ⟨(Nat.le_of_ble_eq_true rfl), (Nat.le_of_ble_eq_true rfl)⟩ (fun v_ H hq hz_ hk => ?_)
  obtain ⟨rfl, -⟩ := hq
  replace hc := hc.kept (hk _ hc.lt (fun z => z))
  replace hq9 := hq9.kept (hk _ hq9.lt (fun z => z))
  replace hW9 := fun j hj => (hW9 j hj).kept (hk _ (hW9 j hj).lt (fun z => z))
  replace hL_12 := hL_12.kept (hk _ hL_12.lt (fun z => z))
  replace hK := hK.to hk (fun _ z => z.elim)
  replace hU := hU.kept (fun q hl _ => hk q hl (fun z => z))
  replace hR := hR.kept (fun q hl _ => hk q hl (fun z => z)) (fun q hl _ => hk q hl (fun z => z))
  replace hz := Nat.le_trans hz hz_
  clear hk hz_
  refine vv_lald X (hW9 0 (by omega)) (bsN (trk P S n (nT P / n) (nT P / n - 1)) (nC P)) (by omega) (by omega) rfl dX1_trackScore_28 ?_
  exact vv_lret X hQ dX1_trackScore_29 (Nat.le_of_ble_eq_true rfl) (Nat.le_of_ble_eq_true rfl) (rfl)
theorem nX1_lambda_trackCell_5 : notMH yX1_lambda_trackCell_5 2 := by decide +kernel
set_option maxHeartbeats 800000 in
theorem mX1_lambda_trackCell_5 (l : Launch) (D : DD) (q B n c : Nat) (f : Nat → Int64) (hc : c < n) (hn : n < 2 ^ 31) (hB : 0 < B) (hB2 : B < 2 ^ 31) : Cp l yX1_lambda_trackCell_5 cX1_lambda_trackCell_5 2 (some .long) { frames := 1, cells := 0, slots := 0, locals := 12 } D [.ref q, .int (nI c)] (fun H => qA D H q 6 B (fun j => some (q + 1 + j)) ∧ lA D H (q + 1 + 0) n f) (.long (f c)) := by
  refine Ct.of (by decide +kernel) (Nat.le_of_ble_eq_true rfl) (fun K Qf hkl X hM hQ => ?_)
  subst hkl
  obtain ⟨hq, hA_⟩ := hM
  refine vv_sub (lv' := [(0, .ref q), (1, .int (nI c))]) [0, 1] rfl ?_
  refine vv_aload_n X dX1_lambda_trackCell_5_0 rfl 0 rfl ?_
  refine vv_iconst (v := nI 0) X dX1_lambda_trackCell_5_1 (by decide) ?_
  refine vv_aald (ty := 6) X hq rfl rfl (0) (by omega) (by omega) rfl dX1_lambda_trackCell_5_2 (v := .ref (q + 1 + 0)) (rfl) ?_
  refine vv_iload_n X dX1_lambda_trackCell_5_3 rfl 1 rfl ?_
  refine vv_lald X hA_ (c) (by omega) (by omega) rfl dX1_lambda_trackCell_5_4 ?_
  exact vv_lret X hQ dX1_lambda_trackCell_5_5 (Nat.le_of_ble_eq_true rfl) (Nat.le_of_ble_eq_true rfl) (pql (rfl))
theorem sco13 {l : Launch} {D : DD} {a q B n N : Nat} {f : Nat → Int64} {Inv : Heap → Prop} (hI : ∀ H, Inv H → LO D H a 13 [.ref q] ∧ qA D H q 6 B (fun j => some (q + 1 + j)) ∧ lA D H (q + 1 + 0) N f) (hn : n ≤ N) (hN : N < 2 ^ 31) (hB : 0 < B) (hB2 : B < 2 ^ 31) : SCO l D a { frames := 1, cells := 0, slots := 0, locals := 12 } Inv (fun _ => False) n f := by
  intro K y cc nL ret rm A H cells slots Q pc lv st idx cnt k hk X hl q1 hR d hw hi hA hc kk
  subst hl
  refine vv_lam13 X (mX1_lambda_trackCell_5 (kL K) D q B N k f (by omega) hN hB hB2) (hI H hi).1 q1 ⟨hR.1, by have := hR.2; omega⟩ d rfl hw (hI H hi).2 hA hc (fun v H H1 h => ⟨_, h.1⟩) (fun v_ H1 hq hz_ hk_ => ?_)
  obtain ⟨rfl, rfl⟩ := hq
  exact kk H1 hi hz_ hk_
set_option maxHeartbeats 800000 in
theorem mX1_trackCell (l : Launch) (D : DD) (u : Nat → Nat) (P T : Nat → Int32) (o : Nat) (g : Nat → Nat) (S : Nat → Int32) (pw : Option Nat) (c : Nat) (v0 v1 v2 v3 v5 v6 v7 : Value) (n b : Nat) (hC : VC P) (hV : VS S) (hA : AP g u P) (hn : 4 ≤ n ∧ n ≤ nT P) (hb : b < nT P / n) : Ct l yX1_trackCell cX1_trackCell 6 (some .int) { frames := 8, cells := 52, slots := 7251, locals := 3100 } D [.ref c, .int (nI n), .int (nI b)] (fun H => KH D H ∧ oB D H c 0 [v0, v1, v2, v3, .ref (g 0), v5, v6, v7] ∧ UR D u P T o H ∧ SR D g u P S pw H) (fun _ => False) (fun r H H1 => r = some (.int (nI (trc P S n (nT P / n) b)))) := by
  refine Ct.of (by decide +kernel) (Nat.le_of_ble_eq_true rfl) (fun K Qf hkl X hM hQ => ?_)
  subst hkl
  obtain ⟨hK, hc, hU, hR⟩ := hM
  have hz : (kS K).heap.size ≤ (kS K).heap.size := Nat.le_refl _
  have hP := hC.v
  have l0 := hP.l0
  have l1 := hP.l1
  have l2 := hP.l2
  have l4 := hP.l4
  have l5 := hP.l5
  have l8 := hP.l8
  have l9 := hP.l9
  have l10 := hP.l10
  have l71 := hP.l71
  have l76 := hP.l76
  have l77 := hP.l77
  have hx1 := hC.x1
  have hy1 := hC.y1
  have ht1 := hC.t1
  have he1 := hC.e1
  have hm1 := hC.m1
  have hcc : nC P ≤ 144 := Nat.mul_le_mul l9 l10
  have hnc0 : 0 < nC P := Nat.mul_pos hx1 hy1
  have hB1 : 1 ≤ nT P / n := Nat.div_pos hn.2 (by omega)
  have hB2 : nT P / n ≤ 50 := Nat.le_trans (Nat.div_le_div_left hn.1 (by decide)) (Nat.div_le_of_le_mul (by omega))
  have hbn : bsN (trk P S n (nT P / n) (nT P / n - 1)) (nC P) < nC P := bsN_lt hnc0
  refine vv_sub (lv' := [(0, .ref c), (1, .int (nI n)), (2, .int (nI b))]) [0, 1, 2] rfl ?_
  refine vv_aload_n X dX1_trackCell_0 rfl 0 rfl ?_
  refine vv_iload_n X dX1_trackCell_1 rfl 1 rfl ?_
  refine vv_callVv X (mX1_checkLength (kL K) D u P T o g S pw c v0 v1 v2 v3 v5 v6 v7 (nI n) hC hV (⟨(nI_leI (by omega) (by omega)).mpr hn.1, (nI_leI (by omega) (by omega)).mpr hn.2⟩)) q2487 q2489 qs51 q137 q2490 nX1_checkLength ⟨(Nat.le_of_ble_eq_true rfl), (Nat.le_of_ble_eq_true rfl)⟩ dX1_trackCell_2 rfl (Nat.le_of_ble_eq_true rfl) (recv X hc CL_X1) ⟨hK, hc, hU, hR⟩ ⟨(Nat.le_of_ble_eq_true rfl), (Nat.le_of_ble_eq_true rfl)⟩ ?_
  refine vv_iload_n X dX1_trackCell_5 rfl 2 rfl ?_
  refine vv_aload_n X dX1_trackCell_6 rfl 0 rfl ?_
  refine vv_getf (C := RX1) (T := TX1) (N := 8) (ref := "AcousticCamera") X hc in_X1 CL_X1 4 (by decide) q259 rfl rfl dX1_trackCell_7 ?_
  refine vv_getfN (C := RX3) (T := TX3) (N := 8) (ref := "AcousticCamera$State") X hR.ob in_X3 CL_X3 0 (by decide) q1688 rfl rfl dX1_trackCell_10 ?_
  refine vv_getfN (C := RX5) (T := TX5) (N := 19) (ref := "AcousticCamera$Setup") X hU.ob in_X5 CL_X5 10 (by decide) q804 rfl rfl dX1_trackCell_13 ?_
  refine vv_iload_n X dX1_trackCell_16 rfl 1 rfl ?_
  refine vn_div X (by omega) (by omega) (by omega) dX1_trackCell_17 ?_
  refine vv_callSv X (mX1_checkIndex (kL K) D (nI b) ((nT P) / n) (ix_N (by omega) (by omega))) q446 q447 q137 q448 nX1_checkIndex ⟨(Nat.le_of_ble_eq_true rfl), (Nat.le_of_ble_eq_true rfl)⟩ dX1_trackCell_18 rfl (Nat.le_of_ble_eq_true rfl) trivial ⟨(Nat.le_of_ble_eq_true rfl), (Nat.le_of_ble_eq_true rfl)⟩ ?_
  refine vv_aload_n X dX1_trackCell_21 rfl 0 rfl ?_
  refine vv_getf (C := RX1) (T := TX1) (N := 8) (ref := "AcousticCamera") X hc in_X1 CL_X1 4 (by decide) q259 rfl rfl dX1_trackCell_22 ?_
  refine vv_iload_n X dX1_trackCell_25 rfl 1 rfl ?_
  refine vv_callV X (mX3_scores (kL K) D u P T o g S pw n (nT P / n) hC hV hA hn rfl) q2491 q2492 q2493 q150 q2494 nX3_scores ⟨(Nat.le_of_ble_eq_true rfl), (Nat.le_of_ble_eq_true rfl)⟩ dX1_trackCell_26 rfl (Nat.le_of_ble_eq_true rfl) (recv X hR.ob CL_X3) ⟨hK, hU, hR⟩ (fun _ z => z.elim) ⟨(Nat.le_of_ble_eq_true rfl), (Nat.le_of_ble_eq_true rfl)⟩ (fun v_ H hq hz_ hk => ?_)
  obtain ⟨q9, rfl, F9, hq9, hW8, hF9, hqz⟩ := hq
  replace hc := hc.kept (hk _ hc.lt (fun z => z))
  replace hK := hK.to hk (fun _ z => z.elim)
  replace hU := hU.kept (fun q hl _ => hk q hl (fun z => z))
  replace hR := hR.kept (fun q hl _ => hk q hl (fun z => z)) (fun q hl _ => hk q hl (fun z => z))
  replace hz := Nat.le_trans hz hz_
  clear hk hz_
  have hW9 : ∀ j, j < nT P / n → lA D H (q9 + 1 + j) (nC P) (trk P S n (nT P / n) (nT P / n - 1 - j)) := fun j hj => lA_cg (hW8 j hj) (fun c hc => hF9 j hj c hc)
  clear hW8
  refine vv_astore_n (lv' := [(3, .ref q9), (0, .ref c), (1, .int (nI n)), (2, .int (nI b))]) X dX1_trackCell_29 rfl (by decide) rfl ?_
  refine vv_aload_n X dX1_trackCell_30 rfl 0 rfl ?_
  refine vv_iconst (v := nI 0) X dX1_trackCell_31 (by decide) ?_
  refine vv_aald (ty := 6) X hq9 rfl rfl (0) (by omega) (by omega) rfl dX1_trackCell_32 (v := .ref (q9 + 1 + 0)) (rfl) ?_
  refine vv_alen (ty := 1) X (hW9 0 (by omega)) rfl dX1_trackCell_33 ?_
  refine vv_aload_n X dX1_trackCell_34 rfl 0 rfl ?_
  refine vv_indyA13 X rfl dX1_trackCell_35 rfl (Nat.le_of_ble_eq_true rfl) (Nat.le_of_ble_eq_true rfl) (Nat.le_of_ble_eq_true rfl) (fun a_1 H eq_2 hx hl => ?_)
  have lt_3 : c < a_1 := by have h9 := hc.lt; first | omega | exact Nat.lt_of_lt_of_eq h9 (Eq.symm (by assumption))
  have lt_4 : q9 < a_1 := by have h9 := hq9.lt; first | omega | exact Nat.lt_of_lt_of_eq h9 (Eq.symm (by assumption))
  have ng_5 : ∀ k, UK (nM P) k → a_1 ≠ g k := fun k hk e => by have h9 := hR.ltA k hk; rw [eq_2] at e; omega
  have ns_6 : ∀ j, SJ P j → a_1 ≠ g j := fun k hk e => by have h9 := hR.ltS k hk; rw [eq_2] at e; omega
  have nu_7 : ∀ j, VK P j → a_1 ≠ u j := fun k hk e => by have h9 := hU.ltB k hk; rw [eq_2] at e; omega
  have ne_8 : c ≠ a_1 := Nat.ne_of_lt (eq_2.symm ▸ hc.lt)
  have ne_9 : q9 ≠ a_1 := Nat.ne_of_lt (eq_2.symm ▸ hq9.lt)
  have ge_10 : (kS K).heap.size ≤ a_1 := by rw [eq_2]; exact hz
  have kn_11 : KN D a_1 := KN.new hK (Nat.le_of_eq eq_2.symm)
  replace hU := hU.ex hx
  replace hR := hR.ex hx
  replace hc := hc.kept (hx.2 _ hc.lt)
  replace hq9 := hq9.kept (hx.2 _ hq9.lt)
  replace hW9 := fun j hj => (hW9 j hj).kept (hx.2 _ (hW9 j hj).lt)
  replace hK := hK.ex hx
  replace hz : (kS K).heap.size ≤ H.size := by have := hx.1; omega
  have hL_12 : LO D H a_1 13 [.ref q9] := hl
  clear hl hx
  refine vv_callS X (mX1_best_2 (kL K) D a_1 (nC P) { frames := 1, cells := 0, slots := 0, locals := 12 } (fun H => LO D H a_1 13 [.ref q9] ∧ qA D H q9 6 (nT P / n) (fun j => some (q9 + 1 + j)) ∧ lA D H (q9 + 1 + 0) (nC P) (trk P S n (nT P / n) (nT P / n - 1))) (fun _ => False) (trk P S n (nT P / n) (nT P / n - 1)) (by omega) (by omega) (sco13 (fun H h => h) (Nat.le_refl _) (by omega) (by omega) (by omega))) q2369 q2001 q137 q2002 nX1_best_2 ⟨(Nat.le_of_ble_eq_true rfl), (Nat.le_of_ble_eq_true rfl)⟩ dX1_trackCell_40 rfl (Nat.le_of_ble_eq_true rfl) ⟨hL_12, hq9, (hW9 0 (by omega))⟩ (fun _ z => z.elim) ⟨(Nat.le_of_ble_eq_true rfl), (Nat.le_of_ble_eq_true rfl)⟩ (fun v_ H hq hz_ hk => ?_)
  obtain ⟨rfl, -⟩ := hq
  replace hc := hc.kept (hk _ hc.lt (fun z => z))
  replace hq9 := hq9.kept (hk _ hq9.lt (fun z => z))
  replace hW9 := fun j hj => (hW9 j hj).kept (hk _ (hW9 j hj).lt (fun z => z))
  replace hL_12 := hL_12.kept (hk _ hL_12.lt (fun z => z))
  replace hK := hK.to hk (fun _ z => z.elim)
  replace hU := hU.kept (fun q hl _ => hk q hl (fun z => z))
  replace hR := hR.kept (fun q hl _ => hk q hl (fun z => z)) (fun q hl _ => hk q hl (fun z => z))
  replace hz := Nat.le_trans hz hz_
  clear hk hz_
  refine vv_istore (lv' := [(4, .int (nI (bsN (trk P S n (nT P / n) (nT P / n - 1)) (nC P)))), (3, .ref q9), (0, .ref c), (1, .int (nI n)), (2, .int (nI b))]) X dX1_trackCell_43 (by decide) rfl ?_
  refine vv_iconst (v := nI 1) X dX1_trackCell_45 (by decide) ?_
  refine vv_istore (lv' := [(5, .int (nI 1)), (4, .int (nI (bsN (trk P S n (nT P / n) (nT P / n - 1)) (nC P)))), (3, .ref q9), (0, .ref c), (1, .int (nI n)), (2, .int (nI b))]) X dX1_trackCell_46 (by decide) rfl ?_
  have hx_13 : ∀ (cl : Nat) (hcl : cl = trc P S n (nT P / n) b), V K 6 (fun _ => False) H 52 7251 Qf 75 [(0, .ref c), (1, .int (nI n)), (2, .int (nI b)), (3, .ref q9), (4, .int (nI cl)), (5, .int (nI (b + 1)))] [] := by
    intro cl hcl
    refine vv_iload X dX1_trackCell_75 4 rfl ?_
    exact vv_iret X hQ dX1_trackCell_77 (Nat.le_of_ble_eq_true rfl) (Nat.le_of_ble_eq_true rfl) (by rw [hcl])
  have hl_14 : ∀ (n_i i : Nat) (cl : Nat), i + n_i = b → (cl = trc P S n (nT P / n) i) → V K 6 (fun _ => False) H 52 7251 Qf 48 [(0, .ref c), (1, .int (nI n)), (2, .int (nI b)), (3, .ref q9), (4, .int (nI cl)), (5, .int (nI (i + 1)))] [] := by
    intro n_i
    induction n_i with
    | zero =>
      intro i cl hi hcl
      obtain rfl : b = i := by omega
      have hct := trc_lt (P := P) (S := S) (n := n) (B := nT P / n) hnc0 b
      have hcn : cl < nC P := by rw [hcl]; exact hct
      refine vv_iload X dX1_trackCell_48 5 rfl ?_
      refine vv_iload_n X dX1_trackCell_50 rfl 2 rfl ?_
      refine vn_gt (tgt := 75) X (by omega) (by omega) dX1_trackCell_51 (by decide) (fun c_51 => ?_) (fun c_51 => ?_)
      · exact hx_13 cl hcl
      · exact absurd c_51 (by omega)
    | succ n_i ihi =>
      intro i cl hi hcl
      have hct := trc_lt (P := P) (S := S) (n := n) (B := nT P / n) hnc0 i
      have hcn : cl < nC P := by rw [hcl]; exact hct
      refine vv_iload X dX1_trackCell_48 5 rfl ?_
      refine vv_iload_n X dX1_trackCell_50 rfl 2 rfl ?_
      refine vn_gt (tgt := 75) X (by omega) (by omega) dX1_trackCell_51 (by decide) (fun c_51 => ?_) (fun c_51 => ?_)
      · exact absurd hi (by omega)
      · refine vv_aload_n X dX1_trackCell_54 rfl 0 rfl ?_
        refine vv_getf (C := RX1) (T := TX1) (N := 8) (ref := "AcousticCamera") X hc in_X1 CL_X1 4 (by decide) q259 rfl rfl dX1_trackCell_55 ?_
        refine vv_aload_n X dX1_trackCell_58 rfl 3 rfl ?_
        refine vv_iload X dX1_trackCell_59 5 rfl ?_
        refine vv_aald (ty := 6) X hq9 rfl rfl (i + 1) (by omega) (by omega) rfl dX1_trackCell_61 (v := .ref (q9 + 1 + (i + 1))) (rfl) ?_
        refine vv_iload X dX1_trackCell_62 4 rfl ?_
        refine vv_callVp X (mX3_next (kL K) D u P T o g S pw _ cl _ hC hV (by omega)) q2517 q2498 q2499 q150 q2500 nX3_next ⟨(Nat.le_of_ble_eq_true rfl), (Nat.le_of_ble_eq_true rfl)⟩ dX1_trackCell_64 rfl (Nat.le_of_ble_eq_true rfl) (recv X hR.ob CL_X3) ⟨hK, hU, hR, (hW9 (i + 1) (by omega))⟩ ⟨(Nat.le_of_ble_eq_true rfl), (Nat.le_of_ble_eq_true rfl)⟩ ?_
        refine vv_eqi (show _ = nI (trc P S n (nT P / n) (i + 1)) from ?_) ?_
        · rw [hcl]; exact trc_st hnc0
        refine vv_istore (lv' := [(4, .int (nI (trc P S n (nT P / n) (i + 1)))), (0, .ref c), (1, .int (nI n)), (2, .int (nI b)), (3, .ref q9), (5, .int (nI (i + 1)))]) X dX1_trackCell_67 (by decide) rfl ?_
        refine vv_iinc (v := nI ((i + 1) + 1)) (lv' := [(5, .int (nI ((i + 1) + 1))), (4, .int (nI (trc P S n (nT P / n) (i + 1)))), (0, .ref c), (1, .int (nI n)), (2, .int (nI b)), (3, .ref q9)]) X dX1_trackCell_69 (k := 5) rfl (nI_add _ 1) (by decide) rfl ?_
        refine vv_goto (tgt := 48) X dX1_trackCell_72 (by decide) ?_
        refine vv_sub [2, 3, 4, 5, 1, 0] rfl ?_
        exact ihi (i + 1) (trc P S n (nT P / n) (i + 1)) (by omega) (rfl)
  refine vv_sub [3, 4, 5, 2, 1, 0] rfl ?_
  exact hl_14 (b) 0 (bsN (trk P S n (nT P / n) (nT P / n - 1)) (nC P)) (by first | omega | assumption) (rfl)
set_option maxHeartbeats 800000 in
theorem mX1_path (l : Launch) (D : DD) (u : Nat → Nat) (P T : Nat → Int32) (o : Nat) (g : Nat → Nat) (S : Nat → Int32) (pw : Option Nat) (c : Nat) (v0 v1 v2 v3 v5 v6 v7 : Value) (n : Nat) (hC : VC P) (hV : VS S) (hA : AP g u P) (hn : 4 ≤ n ∧ n ≤ nT P) : Ct l yX1_path cX1_path 6 (some .int) { frames := 11, cells := 60, slots := 200, locals := 3122 } D [.ref c, .int (nI n)] (fun H => KH D H ∧ oB D H c 0 [v0, v1, v2, v3, .ref (g 0), v5, v6, v7] ∧ UR D u P T o H ∧ SR D g u P S pw H) (fun _ => False) (fun r H H1 => r = some (.int (nI (pth P S n (nT P / n - 1))))) := by
  refine Ct.of (by decide +kernel) (Nat.le_of_ble_eq_true rfl) (fun K Qf hkl X hM hQ => ?_)
  subst hkl
  obtain ⟨hK, hc, hU, hR⟩ := hM
  have hz : (kS K).heap.size ≤ (kS K).heap.size := Nat.le_refl _
  have hP := hC.v
  have l0 := hP.l0
  have l1 := hP.l1
  have l2 := hP.l2
  have l4 := hP.l4
  have l5 := hP.l5
  have l8 := hP.l8
  have l9 := hP.l9
  have l10 := hP.l10
  have l71 := hP.l71
  have l76 := hP.l76
  have l77 := hP.l77
  have hx1 := hC.x1
  have hy1 := hC.y1
  have ht1 := hC.t1
  have he1 := hC.e1
  have hm1 := hC.m1
  have hcc : nC P ≤ 144 := Nat.mul_le_mul l9 l10
  have hnc0 : 0 < nC P := Nat.mul_pos hx1 hy1
  have hB1 : 1 ≤ nT P / n := Nat.div_pos hn.2 (by omega)
  have hB2 : nT P / n ≤ 50 := Nat.le_trans (Nat.div_le_div_left hn.1 (by decide)) (Nat.div_le_of_le_mul (by omega))
  refine vv_sub (lv' := [(0, .ref c), (1, .int (nI n))]) [0, 1] rfl ?_
  refine vv_aload_n X dX1_path_0 rfl 0 rfl ?_
  refine vv_callVp X (mX1_there (kL K) D u P T o g S pw c v0 v1 v2 v3 v5 v6 v7  hC hV ) q1797 q1799 qs36 q137 q1800 nX1_there ⟨(Nat.le_of_ble_eq_true rfl), (Nat.le_of_ble_eq_true rfl)⟩ dX1_path_1 rfl (Nat.le_of_ble_eq_true rfl) (recv X hc CL_X1) ⟨hK, hc, hU, hR⟩ ⟨(Nat.le_of_ble_eq_true rfl), (Nat.le_of_ble_eq_true rfl)⟩ ?_
  refine vv_pop X dX1_path_4 rfl ?_
  refine vv_iload_n X dX1_path_5 rfl 1 rfl ?_
  refine vv_i2l (v := (nI n).toInt64) X dX1_path_6 rfl ?_
  refine vv_ldc2 (v := 4) X q2479 dX1_path_7 ?_
  refine vv_eql (show _ = (nI 4 : Int32).toInt64 from by decide) ?_
  refine vv_aload_n X dX1_path_10 rfl 0 rfl ?_
  refine vv_getf (C := RX1) (T := TX1) (N := 8) (ref := "AcousticCamera") X hc in_X1 CL_X1 4 (by decide) q259 rfl rfl dX1_path_11 ?_
  refine vv_getfN (C := RX3) (T := TX3) (N := 8) (ref := "AcousticCamera$State") X hR.ob in_X3 CL_X3 0 (by decide) q1688 rfl rfl dX1_path_14 ?_
  refine vv_getfN (C := RX5) (T := TX5) (N := 19) (ref := "AcousticCamera$Setup") X hU.ob in_X5 CL_X5 10 (by decide) q804 rfl rfl dX1_path_17 ?_
  refine vv_i2l (v := (nI (nT P)).toInt64) X dX1_path_20 rfl ?_
  refine vv_callSp X (mX1_in (kL K) D ((nI n).toInt64) ((nI 4 : Int32).toInt64) ((nI (nT P)).toInt64)) q449 q450 q137 q451 nX1_in ⟨(Nat.le_of_ble_eq_true rfl), (Nat.le_of_ble_eq_true rfl)⟩ dX1_path_21 rfl (Nat.le_of_ble_eq_true rfl) trivial ⟨(Nat.le_of_ble_eq_true rfl), (Nat.le_of_ble_eq_true rfl)⟩ ?_
  refine vv_eqi (b2_eq (in_I)) ?_
  refine vv_callSv X (mX1_checkArgument (kL K) D ((nI 4 : Int32) ≤ (nI n) ∧ (nI n) ≤ (nI (nT P))) (⟨(nI_leI (by omega) (by omega)).mpr hn.1, (nI_leI (by omega) (by omega)).mpr hn.2⟩)) q1820 q1821 q137 q1822 nX1_checkArgument ⟨(Nat.le_of_ble_eq_true rfl), (Nat.le_of_ble_eq_true rfl)⟩ dX1_path_24 rfl (Nat.le_of_ble_eq_true rfl) trivial ⟨(Nat.le_of_ble_eq_true rfl), (Nat.le_of_ble_eq_true rfl)⟩ ?_
  refine vv_iconst (v := nI 0) X dX1_path_27 (by decide) ?_
  refine vv_istore_n (lv' := [(2, .int (nI 0)), (0, .ref c), (1, .int (nI n))]) X dX1_path_28 rfl (by decide) rfl ?_
  refine vv_aload_n X dX1_path_29 rfl 1 rfl ?_
  refine vv_getf (C := RX1) (T := TX1) (N := 8) (ref := "AcousticCamera") X hc in_X1 CL_X1 4 (by decide) q259 rfl rfl dX1_path_30 ?_
  refine vv_iconst (v := nI 0) X dX1_path_33 (by decide) ?_
  refine vv_iload_n X dX1_path_34 rfl 2 rfl ?_
  refine vv_callV X (mX3_blockBest (kL K) D u P T o g S pw 0 n hC hV hA (by omega) (by omega)) q2464 q2465 q2466 q150 q2467 nX3_blockBest ⟨(Nat.le_of_ble_eq_true rfl), (Nat.le_of_ble_eq_true rfl)⟩ dX1_path_35 rfl (Nat.le_of_ble_eq_true rfl) (recv X hR.ob CL_X3) ⟨hK, hU, hR⟩ (fun _ z => z.elim) ⟨(Nat.le_of_ble_eq_true rfl), (Nat.le_of_ble_eq_true rfl)⟩ (fun v_ H hq hz_ hk => ?_)
  obtain rfl := hq
  replace hc := hc.kept (hk _ hc.lt (fun z => z))
  replace hK := hK.to hk (fun _ z => z.elim)
  replace hU := hU.kept (fun q hl _ => hk q hl (fun z => z))
  replace hR := hR.kept (fun q hl _ => hk q hl (fun z => z)) (fun q hl _ => hk q hl (fun z => z))
  replace hz := Nat.le_trans hz hz_
  clear hk hz_
  refine vv_istore_n (lv' := [(3, .int (nI (bsN (fun c => blk P S c 0 n) (nC P)))), (2, .int (nI 0)), (0, .ref c), (1, .int (nI n))]) X dX1_path_38 rfl (by decide) rfl ?_
  refine vv_iload_n X dX1_path_39 rfl 3 rfl ?_
  refine vv_eqi (show nI n = nI (n * (0 + 1)) by rw [Nat.zero_add, Nat.mul_one]) ?_
  refine vv_istore (lv' := [(4, .int (nI (n * (0 + 1)))), (3, .int (nI (bsN (fun c => blk P S c 0 n) (nC P)))), (2, .int (nI 0)), (0, .ref c), (1, .int (nI n))]) X dX1_path_40 (by decide) rfl ?_
  have hx_1 : ∀ (a : Nat) (e : Nat) (H : Heap) (ha : a = pth P S n (nT P / n - 1)) (he : e = bbk P S (n * (nT P / n - 1)) n) (hK : KH D H) (hU : UR D u P T o H) (hR : SR D g u P S pw H) (hz : (kS K).heap.size ≤ H.size) (hc : oB D H c 0 [v0, v1, v2, v3, .ref (g 0), v5, v6, v7]), V K 6 (fun _ => False) H ((nT P / n - 1) + 1) (3 * ((nT P / n - 1) + 1)) Qf 97 [(0, .ref c), (1, .int (nI n)), (2, .int (nI a)), (3, .int (nI e)), (4, .int (nI (n * ((nT P / n - 1) + 1))))] [] := by
    intro a e H ha he hK hU hR hz hc
    refine vv_widen (k := 60) (n := 200) (by omega) (by omega) ?_
    refine vv_iload_n X dX1_path_97 rfl 2 rfl ?_
    exact vv_iret X hQ dX1_path_98 (Nat.le_of_ble_eq_true rfl) (Nat.le_of_ble_eq_true rfl) (by rw [ha])
  have hl_2 : ∀ (n_i i : Nat) (a : Nat) (e : Nat) (H : Heap), i + n_i = nT P / n - 1 → (a = pth P S n i) → (e = bbk P S (n * i) n) → (KH D H) → (UR D u P T o H) → (SR D g u P S pw H) → ((kS K).heap.size ≤ H.size) → (oB D H c 0 [v0, v1, v2, v3, .ref (g 0), v5, v6, v7]) → V K 6 (fun _ => False) H (i + 1) (3 * (i + 1)) Qf 42 [(0, .ref c), (1, .int (nI n)), (2, .int (nI a)), (3, .int (nI e)), (4, .int (nI (n * (i + 1))))] [] := by
    intro n_i
    induction n_i with
    | zero =>
      intro i a e H hi ha he hK hU hR hz hc
      obtain rfl : i = nT P / n - 1 := by omega
      have hni : n * (nT P / n - 1 + 1) ≤ nT P := Nat.le_trans (Nat.mul_le_mul_left n (show nT P / n - 1 + 1 ≤ nT P / n by omega)) (Nat.mul_div_le _ _)
      have hb1 : bsN (fun c => blk P S c (n * (nT P / n - 1 + 1)) n) (nC P) < nC P := bsN_lt hnc0
      have hb2 : e < nC P := by rw [he]; exact bsN_lt hnc0
      refine vv_iload X dX1_path_42 4 rfl ?_
      refine vv_iload_n X dX1_path_44 rfl 1 rfl ?_
      refine vn_add X dX1_path_45 ?_
      refine vv_aload_n X dX1_path_46 rfl 0 rfl ?_
      refine vv_getf (C := RX1) (T := TX1) (N := 8) (ref := "AcousticCamera") X hc in_X1 CL_X1 4 (by decide) q259 rfl rfl dX1_path_47 ?_
      refine vv_getfN (C := RX3) (T := TX3) (N := 8) (ref := "AcousticCamera$State") X hR.ob in_X3 CL_X3 0 (by decide) q1688 rfl rfl dX1_path_50 ?_
      refine vv_getfN (C := RX5) (T := TX5) (N := 19) (ref := "AcousticCamera$Setup") X hU.ob in_X5 CL_X5 10 (by decide) q804 rfl rfl dX1_path_53 ?_
      refine vn_gt (tgt := 97) X (by omega) (by omega) dX1_path_56 (by decide) (fun c_56 => ?_) (fun c_56 => ?_)
      · exact hx_1 a e H ha he hK hU hR hz hc
      · exact absurd (pth_next (n := n) (k := nT P / n - 1) (T := nT P) (by omega) (by omega)) (by omega)
    | succ n_i ihi =>
      intro i a e H hi ha he hK hU hR hz hc
      have hni : n * (i + 1) ≤ nT P := Nat.le_trans (Nat.mul_le_mul_left n (show i + 1 ≤ nT P / n by omega)) (Nat.mul_div_le _ _)
      have hb1 : bsN (fun c => blk P S c (n * (i + 1)) n) (nC P) < nC P := bsN_lt hnc0
      have hb2 : e < nC P := by rw [he]; exact bsN_lt hnc0
      refine vv_iload X dX1_path_42 4 rfl ?_
      refine vv_iload_n X dX1_path_44 rfl 1 rfl ?_
      refine vn_add X dX1_path_45 ?_
      refine vv_aload_n X dX1_path_46 rfl 0 rfl ?_
      refine vv_getf (C := RX1) (T := TX1) (N := 8) (ref := "AcousticCamera") X hc in_X1 CL_X1 4 (by decide) q259 rfl rfl dX1_path_47 ?_
      refine vv_getfN (C := RX3) (T := TX3) (N := 8) (ref := "AcousticCamera$State") X hR.ob in_X3 CL_X3 0 (by decide) q1688 rfl rfl dX1_path_50 ?_
      refine vv_getfN (C := RX5) (T := TX5) (N := 19) (ref := "AcousticCamera$Setup") X hU.ob in_X5 CL_X5 10 (by decide) q804 rfl rfl dX1_path_53 ?_
      refine vn_gt (tgt := 97) X (by omega) (by omega) dX1_path_56 (by decide) (fun c_56 => ?_) (fun c_56 => ?_)
      · exact absurd (pth_end (show 0 < n by omega) c_56) (by omega)
      · refine vv_aload_n X dX1_path_59 rfl 0 rfl ?_
        refine vv_getf (C := RX1) (T := TX1) (N := 8) (ref := "AcousticCamera") X hc in_X1 CL_X1 4 (by decide) q259 rfl rfl dX1_path_60 ?_
        refine vv_iload X dX1_path_63 4 rfl ?_
        refine vv_iload_n X dX1_path_65 rfl 1 rfl ?_
        refine vv_callV X (mX3_blockBest (kL K) D u P T o g S pw (n * (i + 1)) n hC hV hA (by omega) (by omega)) q2464 q2465 q2466 q150 q2467 nX3_blockBest ⟨(Nat.le_of_ble_eq_true rfl), (Nat.le_of_ble_eq_true rfl)⟩ dX1_path_66 rfl (Nat.le_of_ble_eq_true rfl) (recv X hR.ob CL_X3) ⟨hK, hU, hR⟩ (fun _ z => z.elim) ⟨by show i + 1 + 1 ≤ 60; omega, by show 3 * (i + 1) + 3 ≤ 200; omega⟩ (fun v_ H hq hz_ hk => ?_)
        obtain rfl := hq
        replace hc := hc.kept (hk _ hc.lt (fun z => z))
        replace hK := hK.to hk (fun _ z => z.elim)
        replace hU := hU.kept (fun q hl _ => hk q hl (fun z => z))
        replace hR := hR.kept (fun q hl _ => hk q hl (fun z => z)) (fun q hl _ => hk q hl (fun z => z))
        replace hz := Nat.le_trans hz hz_
        clear hk hz_
        refine vv_istore (lv' := [(5, .int (nI (bsN (fun c => blk P S c (n * (i + 1)) n) (nC P)))), (0, .ref c), (1, .int (nI n)), (2, .int (nI a)), (3, .int (nI e)), (4, .int (nI (n * (i + 1))))]) X dX1_path_69 (by decide) rfl ?_
        refine vv_iload_n X dX1_path_71 rfl 3 rfl ?_
        refine vv_iload X dX1_path_72 0 rfl ?_
        refine vv_iload_n X dX1_path_74 rfl 4 rfl ?_
        refine vn_eq (tgt := 82) X (by omega) (by omega) dX1_path_75 (by decide) (fun c_75 => ?_) (fun c_75 => ?_)
        · refine vv_iconst (v := nI 0) X dX1_path_82 (by decide) ?_
          refine vn_add X dX1_path_83 ?_
          refine vv_istore_n (lv' := [(2, .int (nI (a + 0))), (5, .int (nI (bsN (fun c => blk P S c (n * (i + 1)) n) (nC P)))), (0, .ref c), (1, .int (nI n)), (3, .int (nI e)), (4, .int (nI (n * (i + 1))))]) X dX1_path_84 rfl (by decide) rfl ?_
          refine vv_iload X dX1_path_85 1 rfl ?_
          refine vv_istore_n (lv' := [(3, .int (nI (bsN (fun c => blk P S c (n * (i + 1)) n) (nC P)))), (2, .int (nI (a + 0))), (5, .int (nI (bsN (fun c => blk P S c (n * (i + 1)) n) (nC P)))), (0, .ref c), (1, .int (nI n)), (4, .int (nI (n * (i + 1))))]) X dX1_path_87 rfl (by decide) rfl ?_
          refine vv_iload X dX1_path_88 5 rfl ?_
          refine vv_iload_n X dX1_path_90 rfl 4 rfl ?_
          refine vn_add X dX1_path_91 ?_
          refine vv_eqi (show nI (n * (i + 1) + n) = nI (n * (i + 1 + 1)) from rfl) ?_
          refine vv_istore (lv' := [(4, .int (nI (n * (i + 1 + 1)))), (3, .int (nI (bsN (fun c => blk P S c (n * (i + 1)) n) (nC P)))), (2, .int (nI (a + 0))), (5, .int (nI (bsN (fun c => blk P S c (n * (i + 1)) n) (nC P)))), (0, .ref c), (1, .int (nI n))]) X dX1_path_92 (by decide) rfl ?_
          refine vv_goto (tgt := 42) X dX1_path_94 (by decide) ?_
          refine vv_sub [4, 5, 2, 1, 0] rfl ?_
          refine vv_widen (k := i + 1 + 1) (n := 3 * (i + 1 + 1)) (by show i + 1 + 1 ≤ _; omega) (by show 3 * (i + 1) + 3 ≤ _; omega) ?_
          exact ihi (i + 1) (a + 0) (bsN (fun c => blk P S c (n * (i + 1)) n) (nC P)) H (by omega) (by rw [ha]; show _ = pth P S n i + (if _ ≠ _ then 1 else 0); rw [if_neg (fun z => z (c_75.trans he))]) (rfl) (hK) (hU) (hR) (hz) (hc)
        · refine vv_iconst (v := nI 1) X dX1_path_78 (by decide) ?_
          refine vv_goto (tgt := 83) X dX1_path_79 (by decide) ?_
          refine vn_add X dX1_path_83 ?_
          refine vv_istore_n (lv' := [(2, .int (nI (a + 1))), (5, .int (nI (bsN (fun c => blk P S c (n * (i + 1)) n) (nC P)))), (0, .ref c), (1, .int (nI n)), (3, .int (nI e)), (4, .int (nI (n * (i + 1))))]) X dX1_path_84 rfl (by decide) rfl ?_
          refine vv_iload X dX1_path_85 1 rfl ?_
          refine vv_istore_n (lv' := [(3, .int (nI (bsN (fun c => blk P S c (n * (i + 1)) n) (nC P)))), (2, .int (nI (a + 1))), (5, .int (nI (bsN (fun c => blk P S c (n * (i + 1)) n) (nC P)))), (0, .ref c), (1, .int (nI n)), (4, .int (nI (n * (i + 1))))]) X dX1_path_87 rfl (by decide) rfl ?_
          refine vv_iload X dX1_path_88 5 rfl ?_
          refine vv_iload_n X dX1_path_90 rfl 4 rfl ?_
          refine vn_add X dX1_path_91 ?_
          refine vv_eqi (show nI (n * (i + 1) + n) = nI (n * (i + 1 + 1)) from rfl) ?_
          refine vv_istore (lv' := [(4, .int (nI (n * (i + 1 + 1)))), (3, .int (nI (bsN (fun c => blk P S c (n * (i + 1)) n) (nC P)))), (2, .int (nI (a + 1))), (5, .int (nI (bsN (fun c => blk P S c (n * (i + 1)) n) (nC P)))), (0, .ref c), (1, .int (nI n))]) X dX1_path_92 (by decide) rfl ?_
          refine vv_goto (tgt := 42) X dX1_path_94 (by decide) ?_
          refine vv_sub [4, 5, 2, 1, 0] rfl ?_
          refine vv_widen (k := i + 1 + 1) (n := 3 * (i + 1 + 1)) (by show i + 1 + 1 ≤ _; omega) (by show 3 * (i + 1) + 3 ≤ _; omega) ?_
          exact ihi (i + 1) (a + 1) (bsN (fun c => blk P S c (n * (i + 1)) n) (nC P)) H (by omega) (by rw [ha]; show _ = pth P S n i + (if _ ≠ _ then 1 else 0); rw [if_pos (fun z => c_75 (z.trans he.symm))]) (rfl) (hK) (hU) (hR) (hz) (hc)
  refine vv_sub [3, 4, 2, 1, 0] rfl ?_
  refine vv_widen (k := 0 + 1) (n := 3 * (0 + 1)) (by decide) (by decide) ?_
  exact hl_2 (nT P / n - 1) 0 0 (bbk P S 0 n) H (by first | omega | assumption) (rfl) (rfl) (hK) (hU) (hR) (hz) (hc)
theorem vq_rg {s q j : Nat} (hs : s ≤ 99) (hq : q ≤ 4) (hj : j ≤ 2 * q) : rg 999 (nI s * (nI j - nI q)) := by
  have h1 : rg 99 (nI s) := rg.ofN (by omega) (by omega)
  have h2 : rg 4 (nI j - nI q) := dv_rg (a := j) (m := q) (by omega) (by omega)
  exact (h1.mul h2 (by omega)).mono (by omega)
theorem nX1_lambda_bestVelocity_6 : notMH yX1_lambda_bestVelocity_6 6 := by decide +kernel
set_option maxHeartbeats 800000 in
theorem mX1_lambda_bestVelocity_6 (l : Launch) (D : DD) (u : Nat → Nat) (P T : Nat → Int32) (o : Nat) (g : Nat → Nat) (S : Nat → Int32) (pw : Option Nat) (k s q i : Nat) (hC : VC P) (hV : VS S) (hk : k < nC P) (hs : 1 ≤ s ∧ s ≤ 99) (hq : q ≤ 4) (hi : i < (2 * q + 1) * (2 * q + 1)) : Cp l yX1_lambda_bestVelocity_6 cX1_lambda_bestVelocity_6 6 (some .long) { frames := 7, cells := 0, slots := 0, locals := 158 } D [.ref (g 0), .int (nI k), .int (nI s), .int (nI (2 * q + 1)), .int (nI q), .int (nI i)] (fun H => KH D H ∧ UR D u P T o H ∧ SR D g u P S pw H) (.long (fcp P S (mvD P (cx P k) (cy P k) (nI s * (nI (i / (2 * q + 1)) - nI q)) (nI s * (nI (i % (2 * q + 1)) - nI q))) (nT P))) := by
  refine Ct.of (by decide +kernel) (Nat.le_of_ble_eq_true rfl) (fun K Qf hkl X hM hQ => ?_)
  subst hkl
  obtain ⟨hK, hU, hR⟩ := hM
  have hP := hC.v
  have l0 := hP.l0
  have l1 := hP.l1
  have l2 := hP.l2
  have l4 := hP.l4
  have l5 := hP.l5
  have l8 := hP.l8
  have l9 := hP.l9
  have l10 := hP.l10
  have l71 := hP.l71
  have l76 := hP.l76
  have l77 := hP.l77
  have hx1 := hC.x1
  have hy1 := hC.y1
  have ht1 := hC.t1
  have he1 := hC.e1
  have hm1 := hC.m1
  have hcc : nC P ≤ 144 := Nat.mul_le_mul l9 l10
  have hsd : (2 * q + 1) * (2 * q + 1) ≤ 9 * 9 := Nat.mul_le_mul (by omega) (by omega)
  have hdi : i / (2 * q + 1) < 2 * q + 1 := (Nat.div_lt_iff_lt_mul (by omega)).mpr hi
  have hmi : i % (2 * q + 1) < 2 * q + 1 := Nat.mod_lt _ (by omega)
  refine vv_sub (lv' := [(0, .ref (g 0)), (1, .int (nI k)), (2, .int (nI s)), (3, .int (nI (2 * q + 1))), (4, .int (nI q)), (5, .int (nI i))]) [0, 1, 2, 3, 4, 5] rfl ?_
  refine vv_aload_n X dX1_lambda_bestVelocity_6_0 rfl 0 rfl ?_
  refine vv_iload_n X dX1_lambda_bestVelocity_6_1 rfl 1 rfl ?_
  refine vv_iload_n X dX1_lambda_bestVelocity_6_2 rfl 2 rfl ?_
  refine vv_iload X dX1_lambda_bestVelocity_6_3 5 rfl ?_
  refine vv_iload_n X dX1_lambda_bestVelocity_6_5 rfl 3 rfl ?_
  refine vn_div X (by omega) (by omega) (by omega) dX1_lambda_bestVelocity_6_6 ?_
  refine vv_iload X dX1_lambda_bestVelocity_6_7 4 rfl ?_
  refine vv_isub X dX1_lambda_bestVelocity_6_9 ?_
  refine vv_imul X dX1_lambda_bestVelocity_6_10 ?_
  refine vv_iload_n X dX1_lambda_bestVelocity_6_11 rfl 2 rfl ?_
  refine vv_iload X dX1_lambda_bestVelocity_6_12 5 rfl ?_
  refine vv_iload_n X dX1_lambda_bestVelocity_6_14 rfl 3 rfl ?_
  refine vn_rem X (by omega) (by omega) (by omega) dX1_lambda_bestVelocity_6_15 ?_
  refine vv_iload X dX1_lambda_bestVelocity_6_16 4 rfl ?_
  refine vv_isub X dX1_lambda_bestVelocity_6_18 ?_
  refine vv_imul X dX1_lambda_bestVelocity_6_19 ?_
  refine vv_callVp X (mX3_movingPower (kL K) D u P T o g S pw k ((nI s) * ((nI (i / (2 * q + 1))) - (nI q))) ((nI s) * ((nI (i % (2 * q + 1))) - (nI q))) hC hV (by omega) (vq_rg hs.2 hq (by omega)) (vq_rg hs.2 hq (by omega))) q2527 q2528 q2529 q150 q2530 nX3_movingPower ⟨(Nat.le_of_ble_eq_true rfl), (Nat.le_of_ble_eq_true rfl)⟩ dX1_lambda_bestVelocity_6_20 rfl (Nat.le_of_ble_eq_true rfl) (recv X hR.ob CL_X3) ⟨hK, hU, hR⟩ ⟨(Nat.le_of_ble_eq_true rfl), (Nat.le_of_ble_eq_true rfl)⟩ ?_
  exact vv_lret X hQ dX1_lambda_bestVelocity_6_23 (Nat.le_of_ble_eq_true rfl) (Nat.le_of_ble_eq_true rfl) (pql (rfl))
theorem sco14 {l : Launch} {D : DD} {a k s q N : Nat} {u : Nat → Nat} {P T : Nat → Int32} {o : Nat} {g : Nat → Nat} {S : Nat → Int32} {pw : Option Nat} {Inv : Heap → Prop} (hC : VC P) (hV : VS S) (hkk : k < nC P) (hs : 1 ≤ s ∧ s ≤ 99) (hq9 : q ≤ 4) (hI : ∀ H, Inv H → LO D H a 14 [.ref (g 0), .int (nI k), .int (nI s), .int (nI (2 * q + 1)), .int (nI q)] ∧ KH D H ∧ UR D u P T o H ∧ SR D g u P S pw H) (hN : N ≤ (2 * q + 1) * (2 * q + 1)) : SCO l D a { frames := 7, cells := 0, slots := 0, locals := 158 } Inv (fun _ => False) N (fun i => fcp P S (mvD P (cx P k) (cy P k) (nI s * (nI (i / (2 * q + 1)) - nI q)) (nI s * (nI (i % (2 * q + 1)) - nI q))) (nT P)) := by
  intro K y cc nL ret rm A H cells slots Q pc lv st idx cnt i hk X hl q1 hR d hw hi hA hc kk
  subst hl
  refine vv_lam14 X (mX1_lambda_bestVelocity_6 (kL K) D u P T o g S pw k s q i hC hV hkk hs hq9 (by omega)) (hI H hi).1 q1 ⟨hR.1, by have := hR.2; omega⟩ d rfl hw (hI H hi).2 hA hc (fun v H H1 h => ⟨_, h.1⟩) (fun v_ H1 hq hz_ hk_ => ?_)
  obtain ⟨rfl, rfl⟩ := hq
  exact kk H1 hi hz_ hk_
set_option maxHeartbeats 800000 in
theorem mX1_bestVelocity (l : Launch) (D : DD) (u : Nat → Nat) (P T : Nat → Int32) (o : Nat) (g : Nat → Nat) (S : Nat → Int32) (pw : Option Nat) (c : Nat) (v0 v1 v2 v3 v5 v6 v7 : Value) (k s q : Nat) (hC : VC P) (hV : VS S) (hA : AP g u P) (hk : k < nC P) (hs : 1 ≤ s ∧ s ≤ 99) (hq : q ≤ 4) : Ct l yX1_bestVelocity cX1_bestVelocity 7 (some .int) { frames := 10, cells := 1, slots := 5, locals := 3100 } D [.ref c, .int (nI k), .int (nI s), .int (nI q)] (fun H => KH D H ∧ oB D H c 0 [v0, v1, v2, v3, .ref (g 0), v5, v6, v7] ∧ UR D u P T o H ∧ SR D g u P S pw H) (fun _ => False) (fun r H H1 => r = some (.int (nI (100 * (bsN (fun i => fcp P S (mvD P (cx P k) (cy P k) (nI s * (nI (i / (2 * q + 1)) - nI q)) (nI s * (nI (i % (2 * q + 1)) - nI q))) (nT P)) ((2 * q + 1) * (2 * q + 1)) / (2 * q + 1)) + bsN (fun i => fcp P S (mvD P (cx P k) (cy P k) (nI s * (nI (i / (2 * q + 1)) - nI q)) (nI s * (nI (i % (2 * q + 1)) - nI q))) (nT P)) ((2 * q + 1) * (2 * q + 1)) % (2 * q + 1))))) := by
  refine Ct.of (by decide +kernel) (Nat.le_of_ble_eq_true rfl) (fun K Qf hkl X hM hQ => ?_)
  subst hkl
  obtain ⟨hK, hc, hU, hR⟩ := hM
  have hz : (kS K).heap.size ≤ (kS K).heap.size := Nat.le_refl _
  have hP := hC.v
  have l0 := hP.l0
  have l1 := hP.l1
  have l2 := hP.l2
  have l4 := hP.l4
  have l5 := hP.l5
  have l8 := hP.l8
  have l9 := hP.l9
  have l10 := hP.l10
  have l71 := hP.l71
  have l76 := hP.l76
  have l77 := hP.l77
  have hx1 := hC.x1
  have hy1 := hC.y1
  have ht1 := hC.t1
  have he1 := hC.e1
  have hm1 := hC.m1
  have hcc : nC P ≤ 144 := Nat.mul_le_mul l9 l10
  have hnc0 : 0 < nC P := Nat.mul_pos hx1 hy1
  have hsd : (2 * q + 1) * (2 * q + 1) ≤ 9 * 9 := Nat.mul_le_mul (by omega) (by omega)
  have hsd0 : 0 < (2 * q + 1) * (2 * q + 1) := Nat.mul_pos (by omega) (by omega)
  have hbv : bsN (fun i => fcp P S (mvD P (cx P k) (cy P k) (nI s * (nI (i / (2 * q + 1)) - nI q)) (nI s * (nI (i % (2 * q + 1)) - nI q))) (nT P)) ((2 * q + 1) * (2 * q + 1)) < (2 * q + 1) * (2 * q + 1) := bsN_lt hsd0
  refine vv_sub (lv' := [(0, .ref c), (1, .int (nI k)), (2, .int (nI s)), (3, .int (nI q))]) [0, 1, 2, 3] rfl ?_
  refine vv_aload_n X dX1_bestVelocity_0 rfl 0 rfl ?_
  refine vv_iload_n X dX1_bestVelocity_1 rfl 1 rfl ?_
  refine vv_callVp X (mX1_withCell (kL K) D u P T o g S pw c v0 v1 v2 v3 v5 v6 v7 k hC hV (by omega)) q1845 q1847 qs37 q137 q1848 nX1_withCell ⟨(Nat.le_of_ble_eq_true rfl), (Nat.le_of_ble_eq_true rfl)⟩ dX1_bestVelocity_2 rfl (Nat.le_of_ble_eq_true rfl) (recv X hc CL_X1) ⟨hK, hc, hU, hR⟩ ⟨(Nat.le_of_ble_eq_true rfl), (Nat.le_of_ble_eq_true rfl)⟩ ?_
  refine vv_astore (lv' := [(4, .ref (g 0)), (0, .ref c), (1, .int (nI k)), (2, .int (nI s)), (3, .int (nI q))]) X dX1_bestVelocity_5 (by decide) rfl ?_
  refine vv_iload_n X dX1_bestVelocity_7 rfl 3 rfl ?_
  refine vv_i2l (v := (nI s).toInt64) X dX1_bestVelocity_8 rfl ?_
  refine vv_lconst (v := 1) X dX1_bestVelocity_9 (by decide) ?_
  refine vv_eql (show _ = (nI 1 : Int32).toInt64 from by decide) ?_
  refine vv_ldc2 (v := 99) X q2394 dX1_bestVelocity_10 ?_
  refine vv_eql (show _ = (nI 99 : Int32).toInt64 from by decide) ?_
  refine vv_callSp X (mX1_in (kL K) D ((nI s).toInt64) ((nI 1 : Int32).toInt64) ((nI 99 : Int32).toInt64)) q449 q450 q137 q451 nX1_in ⟨(Nat.le_of_ble_eq_true rfl), (Nat.le_of_ble_eq_true rfl)⟩ dX1_bestVelocity_13 rfl (Nat.le_of_ble_eq_true rfl) trivial ⟨(Nat.le_of_ble_eq_true rfl), (Nat.le_of_ble_eq_true rfl)⟩ ?_
  refine vv_eqi (b2_eq (in_I)) ?_
  refine vb_eq (tgt := 35) X dX1_bestVelocity_16 (by decide) (fun c_16 => ?_) (fun c_16 => ?_)
  · exact absurd ⟨(nI_leI (by omega) (by omega)).mpr hs.1, (nI_leI (by omega) (by omega)).mpr hs.2⟩ c_16
  · refine vv_iload_n X dX1_bestVelocity_19 rfl 4 rfl ?_
    refine vv_i2l (v := (nI q).toInt64) X dX1_bestVelocity_20 rfl ?_
    refine vv_lconst (v := 0) X dX1_bestVelocity_21 (by decide) ?_
    refine vv_eql (show (0 : Int64) = (nI 0).toInt64 from by decide) ?_
    refine vv_ldc2 (v := 4) X q2479 dX1_bestVelocity_22 ?_
    refine vv_eql (show _ = (nI 4 : Int32).toInt64 from by decide) ?_
    refine vv_callSp X (mX1_in (kL K) D ((nI q).toInt64) ((nI 0).toInt64) ((nI 4 : Int32).toInt64)) q449 q450 q137 q451 nX1_in ⟨(Nat.le_of_ble_eq_true rfl), (Nat.le_of_ble_eq_true rfl)⟩ dX1_bestVelocity_25 rfl (Nat.le_of_ble_eq_true rfl) trivial ⟨(Nat.le_of_ble_eq_true rfl), (Nat.le_of_ble_eq_true rfl)⟩ ?_
    refine vv_eqi (b2_eq (in_I)) ?_
    refine vb_eq (tgt := 35) X dX1_bestVelocity_28 (by decide) (fun c_28 => ?_) (fun c_28 => ?_)
    · exact absurd ⟨(nI_leI (by omega) (by omega)).mpr (Nat.zero_le _), (nI_leI (by omega) (by omega)).mpr hq⟩ c_28
    · refine vv_iconst (v := nI 1) X dX1_bestVelocity_31 (by decide) ?_
      refine vv_goto (tgt := 36) X dX1_bestVelocity_32 (by decide) ?_
      refine vv_callSv X (mX1_checkArgument (kL K) D True trivial) q1820 q1821 q137 q1822 nX1_checkArgument ⟨(Nat.le_of_ble_eq_true rfl), (Nat.le_of_ble_eq_true rfl)⟩ dX1_bestVelocity_36 rfl (Nat.le_of_ble_eq_true rfl) trivial ⟨(Nat.le_of_ble_eq_true rfl), (Nat.le_of_ble_eq_true rfl)⟩ ?_
      refine vv_iconst (v := nI 2) X dX1_bestVelocity_39 (by decide) ?_
      refine vv_iload_n X dX1_bestVelocity_40 rfl 4 rfl ?_
      refine vn_mul X dX1_bestVelocity_41 ?_
      refine vv_iconst (v := nI 1) X dX1_bestVelocity_42 (by decide) ?_
      refine vn_add X dX1_bestVelocity_43 ?_
      refine vv_istore (lv' := [(5, .int (nI ((2 * q) + 1))), (4, .ref (g 0)), (0, .ref c), (1, .int (nI k)), (2, .int (nI s)), (3, .int (nI q))]) X dX1_bestVelocity_44 (by decide) rfl ?_
      refine vv_iload X dX1_bestVelocity_46 0 rfl ?_
      refine vv_iload X dX1_bestVelocity_48 0 rfl ?_
      refine vn_mul X dX1_bestVelocity_50 ?_
      refine vv_aload X dX1_bestVelocity_51 1 rfl ?_
      refine vv_iload_n X dX1_bestVelocity_53 rfl 3 rfl ?_
      refine vv_iload_n X dX1_bestVelocity_54 rfl 4 rfl ?_
      refine vv_iload X dX1_bestVelocity_55 0 rfl ?_
      refine vv_iload_n X dX1_bestVelocity_57 rfl 5 rfl ?_
      refine vv_indyA14 X rfl dX1_bestVelocity_58 rfl (Nat.le_of_ble_eq_true rfl) (Nat.le_of_ble_eq_true rfl) (Nat.le_of_ble_eq_true rfl) (fun a_1 H eq_2 hx hl => ?_)
      have lt_3 : c < a_1 := by have h9 := hc.lt; first | omega | exact Nat.lt_of_lt_of_eq h9 (Eq.symm (by assumption))
      have ng_4 : ∀ k, UK (nM P) k → a_1 ≠ g k := fun k hk e => by have h9 := hR.ltA k hk; rw [eq_2] at e; omega
      have ns_5 : ∀ j, SJ P j → a_1 ≠ g j := fun k hk e => by have h9 := hR.ltS k hk; rw [eq_2] at e; omega
      have nu_6 : ∀ j, VK P j → a_1 ≠ u j := fun k hk e => by have h9 := hU.ltB k hk; rw [eq_2] at e; omega
      have ne_7 : c ≠ a_1 := Nat.ne_of_lt (eq_2.symm ▸ hc.lt)
      have ge_8 : (kS K).heap.size ≤ a_1 := by rw [eq_2]; exact hz
      have kn_9 : KN D a_1 := KN.new hK (Nat.le_of_eq eq_2.symm)
      replace hU := hU.ex hx
      replace hR := hR.ex hx
      replace hc := hc.kept (hx.2 _ hc.lt)
      replace hK := hK.ex hx
      replace hz : (kS K).heap.size ≤ H.size := by have := hx.1; omega
      have hL_10 : LO D H a_1 14 [.ref (g 0), .int (nI k), .int (nI s), .int (nI ((2 * q) + 1)), .int (nI q)] := hl
      clear hl hx
      refine vv_callS X (mX1_best_2 (kL K) D a_1 (((2 * q) + 1) * ((2 * q) + 1)) { frames := 7, cells := 0, slots := 0, locals := 158 } (fun H => LO D H a_1 14 [.ref (g 0), .int (nI k), .int (nI s), .int (nI ((2 * q) + 1)), .int (nI q)] ∧ KH D H ∧ UR D u P T o H ∧ SR D g u P S pw H) (fun _ => False) (fun i => fcp P S (mvD P (cx P k) (cy P k) (nI s * (nI (i / (2 * q + 1)) - nI q)) (nI s * (nI (i % (2 * q + 1)) - nI q))) (nT P)) (by omega) (by omega) (sco14 hC hV hk hs hq (fun H h => h) (Nat.le_refl _))) q2369 q2001 q137 q2002 nX1_best_2 ⟨(Nat.le_of_ble_eq_true rfl), (Nat.le_of_ble_eq_true rfl)⟩ dX1_bestVelocity_63 rfl (Nat.le_of_ble_eq_true rfl) ⟨hL_10, hK, hU, hR⟩ (fun _ z => z.elim) ⟨(Nat.le_of_ble_eq_true rfl), (Nat.le_of_ble_eq_true rfl)⟩ (fun v_ H hq hz_ hk => ?_)
      obtain ⟨rfl, -⟩ := hq
      replace hc := hc.kept (hk _ hc.lt (fun z => z))
      replace hL_10 := hL_10.kept (hk _ hL_10.lt (fun z => z))
      replace hK := hK.to hk (fun _ z => z.elim)
      replace hU := hU.kept (fun q hl _ => hk q hl (fun z => z))
      replace hR := hR.kept (fun q hl _ => hk q hl (fun z => z)) (fun q hl _ => hk q hl (fun z => z))
      replace hz := Nat.le_trans hz hz_
      clear hk hz_
      refine vv_istore (lv' := [(6, .int (nI (bsN (fun i => fcp P S (mvD P (cx P k) (cy P k) (nI s * (nI (i / (2 * q + 1)) - nI q)) (nI s * (nI (i % (2 * q + 1)) - nI q))) (nT P)) (((2 * q) + 1) * ((2 * q) + 1))))), (5, .int (nI ((2 * q) + 1))), (4, .ref (g 0)), (0, .ref c), (1, .int (nI k)), (2, .int (nI s)), (3, .int (nI q))]) X dX1_bestVelocity_66 (by decide) rfl ?_
      refine vv_bipush (v := nI 100) X dX1_bestVelocity_68 (by decide) ?_
      refine vv_iload X dX1_bestVelocity_70 0 rfl ?_
      refine vv_iload X dX1_bestVelocity_72 1 rfl ?_
      refine vn_div X (by omega) (by omega) (by omega) dX1_bestVelocity_74 ?_
      refine vn_mul X dX1_bestVelocity_75 ?_
      refine vv_iload X dX1_bestVelocity_76 0 rfl ?_
      refine vv_iload X dX1_bestVelocity_78 1 rfl ?_
      refine vn_rem X (by omega) (by omega) (by omega) dX1_bestVelocity_80 ?_
      refine vn_add X dX1_bestVelocity_81 ?_
      exact vv_iret X hQ dX1_bestVelocity_82 (Nat.le_of_ble_eq_true rfl) (Nat.le_of_ble_eq_true rfl) (rfl)
