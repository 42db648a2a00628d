/-! AcousticCamera: zoneBest: printed by gen/s23.py -/
set_option maxRecDepth 100000
theorem nX1_lambda_zoneBest_1 : notMH yX1_lambda_zoneBest_1 4 := by decide +kernel
set_option maxHeartbeats 800000 in
theorem mX1_lambda_zoneBest_1 (l : Launch) (D : DD) (u : Nat → Nat) (P T : Nat → Int32) (o : Nat) (g : Nat → Nat) (S : Nat → Int32) (pw : Option Nat) (z p c : Nat) (hC : VC P) (hV : VS S) (hz9 : z < nZ P) (hc : c < nC P) : Cp l yX1_lambda_zoneBest_1 cX1_lambda_zoneBest_1 4 (some .long) { frames := 5, cells := 0, slots := 0, locals := 98 } D [.ref (g 0), .int (nI z), .ref p, .int (nI c)] (fun H => KH D H ∧ UR D u P T o H ∧ SR D g u P S pw H ∧ lA D H p (nC P) (pwc P S)) (.long ((if inZ P z c then pwc P S c else -1))) := by
  refine Ct.of (by decide +kernel) (Nat.le_of_ble_eq_true rfl) (fun K Qf hkl X hM hQ => ?_)
  subst hkl
  obtain ⟨hK, hU, hR, hA_⟩ := hM
  have hP := hC.v
  have l0 := hP.l0
  have l1 := hP.l1
  have l2 := hP.l2
  have l4 := hP.l4
  have l5 := hP.l5
  have l8 := hP.l8
  have l9 := hP.l9
  have l10 := hP.l10
  have l71 := hP.l71
  have l76 := hP.l76
  have l77 := hP.l77
  have hx1 := hC.x1
  have hy1 := hC.y1
  have ht1 := hC.t1
  have he1 := hC.e1
  have hm1 := hC.m1
  have hcc : nC P ≤ 144 := Nat.mul_le_mul l9 l10
  have hzz := hP.l101
  refine vv_sub (lv' := [(0, .ref (g 0)), (1, .int (nI z)), (2, .ref p), (3, .int (nI c))]) [0, 1, 2, 3] rfl ?_
  refine vv_aload_n X dX1_lambda_zoneBest_1_0 rfl 0 rfl ?_
  refine vv_iload_n X dX1_lambda_zoneBest_1_1 rfl 1 rfl ?_
  refine vv_iload_n X dX1_lambda_zoneBest_1_2 rfl 3 rfl ?_
  refine vv_callVp X (mX3_isInZone (kL K) D u P T o g S pw z c hC hV (by omega) (by omega)) q2349 q2350 q2351 q150 q2352 nX3_isInZone ⟨(Nat.le_of_ble_eq_true rfl), (Nat.le_of_ble_eq_true rfl)⟩ dX1_lambda_zoneBest_1_3 rfl (Nat.le_of_ble_eq_true rfl) (recv X hR.ob CL_X3) ⟨hK, hU, hR⟩ ⟨(Nat.le_of_ble_eq_true rfl), (Nat.le_of_ble_eq_true rfl)⟩ ?_
  refine vb_eq (tgt := 15) X dX1_lambda_zoneBest_1_6 (by decide) (fun c_6 => ?_) (fun c_6 => ?_)
  · refine vv_ldc2 (v := -1) X q2368 dX1_lambda_zoneBest_1_15 ?_
    exact vv_lret X hQ dX1_lambda_zoneBest_1_18 (Nat.le_of_ble_eq_true rfl) (Nat.le_of_ble_eq_true rfl) (pql ((if_neg c_6).symm))
  · refine vv_aload_n X dX1_lambda_zoneBest_1_9 rfl 2 rfl ?_
    refine vv_iload_n X dX1_lambda_zoneBest_1_10 rfl 3 rfl ?_
    refine vv_lald X hA_ (c) (by omega) (by omega) rfl dX1_lambda_zoneBest_1_11 ?_
    refine vv_goto (tgt := 18) X dX1_lambda_zoneBest_1_12 (by decide) ?_
    exact vv_lret X hQ dX1_lambda_zoneBest_1_18 (Nat.le_of_ble_eq_true rfl) (Nat.le_of_ble_eq_true rfl) (pql ((if_pos c_6).symm))
theorem sco8 {l : Launch} {D : DD} {q z p N : Nat} {u : Nat → Nat} {P T : Nat → Int32} {o : Nat} {g : Nat → Nat} {S : Nat → Int32} {pw : Option Nat} {Inv : Heap → Prop} (hC : VC P) (hV : VS S) (hz : z < nZ P) (hI : ∀ H, Inv H → LO D H q 8 [.ref (g 0), .int (nI z), .ref p] ∧ KH D H ∧ UR D u P T o H ∧ SR D g u P S pw H ∧ lA D H p (nC P) (pwc P S)) (hN : N ≤ nC P) : SCO l D q { frames := 5, cells := 0, slots := 0, locals := 98 } Inv (fun _ => False) N (fun c => if inZ P z c then pwc P S c else -1) := by
  intro K y cc nL ret rm A H cells slots Q pc lv st idx cnt k hk X hl q1 hR d hw hi hA hc kk
  subst hl
  refine vv_lam8 X (mX1_lambda_zoneBest_1 (kL K) D u P T o g S pw z p k hC hV hz (by omega)) (hI H hi).1 q1 ⟨hR.1, by have := hR.2; omega⟩ d rfl hw (hI H hi).2 hA hc (fun v H H1 h => ⟨_, h.1⟩) (fun v_ H1 hq hz_ hk_ => ?_)
  obtain ⟨rfl, rfl⟩ := hq
  exact kk H1 hi hz_ hk_
set_option maxHeartbeats 800000 in
theorem mX1_zoneBest (l : Launch) (D : DD) (u : Nat → Nat) (P T : Nat → Int32) (o : Nat) (g : Nat → Nat) (S : Nat → Int32) (pw : Option Nat) (c : Nat) (v0 v1 v2 v3 v5 v6 v7 : Value) (z : Nat) (hC : VC P) (hV : VS S) (hA : AP g u P) (hz9 : z < nZ P) : Ct l yX1_zoneBest cX1_zoneBest 4 (some .int) { frames := 8, cells := 2, slots := 147, locals := 3100 } D [.ref c, .int (nI z)] (fun H => KH D H ∧ oB D H c 0 [v0, v1, v2, v3, .ref (g 0), v5, v6, v7] ∧ UR D u P T o H ∧ SR D g u P S pw H ∧ PK D P S pw H) (fun q => q = g 0) (fun r H H1 => r = some (.int (nI (bsN (fun c => if inZ P z c then pwc P S c else -1) (nC P)))) ∧ ∃ p, SR D g u P S (some p) H1 ∧ PK D P S (some p) H1 ∧ (∀ q, pw = some q → p = q) ∧ (pw = some p ∨ H.size ≤ p)) := by
  refine Ct.of (by decide +kernel) (Nat.le_of_ble_eq_true rfl) (fun K Qf hkl X hM hQ => ?_)
  subst hkl
  obtain ⟨hK, hc, hU, hR, hPK⟩ := hM
  have hz : (kS K).heap.size ≤ (kS K).heap.size := Nat.le_refl _
  have hP := hC.v
  have l0 := hP.l0
  have l1 := hP.l1
  have l2 := hP.l2
  have l4 := hP.l4
  have l5 := hP.l5
  have l8 := hP.l8
  have l9 := hP.l9
  have l10 := hP.l10
  have l71 := hP.l71
  have l76 := hP.l76
  have l77 := hP.l77
  have hx1 := hC.x1
  have hy1 := hC.y1
  have ht1 := hC.t1
  have he1 := hC.e1
  have hm1 := hC.m1
  have hcc : nC P ≤ 144 := Nat.mul_le_mul l9 l10
  have hnc0 : 0 < nC P := Nat.mul_pos hx1 hy1
  have hzz := hP.l101
  refine vv_sub (lv' := [(0, .ref c), (1, .int (nI z))]) [0, 1] rfl ?_
  refine vv_aload_n X dX1_zoneBest_0 rfl 0 rfl ?_
  refine vv_iload_n X dX1_zoneBest_1 rfl 1 rfl ?_
  refine vv_callVp X (mX1_withZone (kL K) D u P T o g S pw c v0 v1 v2 v3 v5 v6 v7 z hC hV (by omega)) q2345 q2347 qs47 q137 q2348 nX1_withZone ⟨(Nat.le_of_ble_eq_true rfl), (Nat.le_of_ble_eq_true rfl)⟩ dX1_zoneBest_2 rfl (Nat.le_of_ble_eq_true rfl) (recv X hc CL_X1) ⟨hK, hc, hU, hR⟩ ⟨(Nat.le_of_ble_eq_true rfl), (Nat.le_of_ble_eq_true rfl)⟩ ?_
  refine vv_astore_n (lv' := [(2, .ref (g 0)), (0, .ref c), (1, .int (nI z))]) X dX1_zoneBest_5 rfl (by decide) rfl ?_
  refine vv_aload_n X dX1_zoneBest_6 rfl 0 rfl ?_
  refine vv_callV X (mX3_powers (kL K) D u P T o g S pw hC hV hA) q1956 q1957 q1958 q150 q1959 nX3_powers ⟨(Nat.le_of_ble_eq_true rfl), (Nat.le_of_ble_eq_true rfl)⟩ dX1_zoneBest_7 rfl (Nat.le_of_ble_eq_true rfl) (recv X hR.ob CL_X3) ⟨hK, hU, hR, hPK⟩ (fun q z => by rcases z with rfl; exact (Or.inl rfl)) ⟨(Nat.le_of_ble_eq_true rfl), (Nat.le_of_ble_eq_true rfl)⟩ (fun v_ H hq hz_ hk => ?_)
  obtain ⟨a_1, rfl, hR2, hPK2, hold, hnew⟩ := hq
  replace hc := hc.kept (hk _ hc.lt (X.oo hc hR.ob CL_X1 CL_X3 (by decide)))
  replace hK := hK.to hk (fun q z => by rcases z with rfl; exact hR.kn X hK 0 (Or.inl (by decide)))
  replace hU := hU.own hA l4 (Q := (· = 0)) (fun k hk => by subst hk; exact Or.inl (by decide)) (fun q hl hq => hk q hl (hq 0 rfl))
  replace hz := Nat.le_trans hz hz_
  have hp_2 : lA D H a_1 (nC P) (pwc P S) := hPK2 a_1 rfl
  clear hk hz_ hR
  have hR := hR2
  clear hR2 hPK2
  refine vv_astore_n (lv' := [(3, .ref a_1), (2, .ref (g 0)), (0, .ref c), (1, .int (nI z))]) X dX1_zoneBest_10 rfl (by decide) rfl ?_
  refine vv_aload_n X dX1_zoneBest_11 rfl 0 rfl ?_
  refine vv_alen (ty := 1) X hp_2 rfl dX1_zoneBest_12 ?_
  refine vv_aload_n X dX1_zoneBest_13 rfl 1 rfl ?_
  refine vv_iload_n X dX1_zoneBest_14 rfl 3 rfl ?_
  refine vv_aload_n X dX1_zoneBest_15 rfl 0 rfl ?_
  refine vv_indyA8 X rfl dX1_zoneBest_16 rfl (Nat.le_of_ble_eq_true rfl) (Nat.le_of_ble_eq_true rfl) (Nat.le_of_ble_eq_true rfl) (fun a_3 H eq_4 hx hl => ?_)
  have lt_5 : c < a_3 := by have h9 := hc.lt; first | omega | exact Nat.lt_of_lt_of_eq h9 (Eq.symm (by assumption))
  have lt_6 : a_1 < a_3 := by have h9 := hp_2.lt; first | omega | exact Nat.lt_of_lt_of_eq h9 (Eq.symm (by assumption))
  have ng_7 : ∀ k, UK (nM P) k → a_3 ≠ g k := fun k hk e => by have h9 := hR.ltA k hk; rw [eq_4] at e; omega
  have ns_8 : ∀ j, SJ P j → a_3 ≠ g j := fun k hk e => by have h9 := hR.ltS k hk; rw [eq_4] at e; omega
  have nu_9 : ∀ j, VK P j → a_3 ≠ u j := fun k hk e => by have h9 := hU.ltB k hk; rw [eq_4] at e; omega
  have ne_10 : c ≠ a_3 := Nat.ne_of_lt (eq_4.symm ▸ hc.lt)
  have ne_11 : a_1 ≠ a_3 := Nat.ne_of_lt (eq_4.symm ▸ hp_2.lt)
  have ge_12 : (kS K).heap.size ≤ a_3 := by rw [eq_4]; exact hz
  have kn_13 : KN D a_3 := KN.new hK (Nat.le_of_eq eq_4.symm)
  replace hU := hU.ex hx
  replace hR := hR.ex hx
  replace hc := hc.kept (hx.2 _ hc.lt)
  replace hp_2 := hp_2.kept (hx.2 _ hp_2.lt)
  replace hK := hK.ex hx
  replace hz : (kS K).heap.size ≤ H.size := by have := hx.1; omega
  have hL_14 : LO D H a_3 8 [.ref (g 0), .int (nI z), .ref a_1] := hl
  clear hl hx
  refine vv_callS X (mX1_best_2 (kL K) D a_3 (nC P) { frames := 5, cells := 0, slots := 0, locals := 98 } (fun H => LO D H a_3 8 [.ref (g 0), .int (nI z), .ref a_1] ∧ KH D H ∧ UR D u P T o H ∧ SR D g u P S (some a_1) H ∧ lA D H a_1 (nC P) (pwc P S)) (fun _ => False) (fun c => if inZ P z c then pwc P S c else -1) (by omega) (by omega) (sco8 hC hV hz9 (fun H h => h) (Nat.le_refl _))) q2369 q2001 q137 q2002 nX1_best_2 ⟨(Nat.le_of_ble_eq_true rfl), (Nat.le_of_ble_eq_true rfl)⟩ dX1_zoneBest_21 rfl (Nat.le_of_ble_eq_true rfl) ⟨hL_14, hK, hU, hR, hp_2⟩ (fun _ z => z.elim) ⟨(Nat.le_of_ble_eq_true rfl), (Nat.le_of_ble_eq_true rfl)⟩ (fun v_ H hq hz_ hk => ?_)
  obtain ⟨rfl, -⟩ := hq
  replace hc := hc.kept (hk _ hc.lt (fun z => z))
  replace hp_2 := hp_2.kept (hk _ hp_2.lt (fun z => z))
  replace hL_14 := hL_14.kept (hk _ hL_14.lt (fun z => z))
  replace hK := hK.to hk (fun _ z => z.elim)
  replace hU := hU.kept (fun q hl _ => hk q hl (fun z => z))
  replace hR := hR.kept (fun q hl _ => hk q hl (fun z => z)) (fun q hl _ => hk q hl (fun z => z))
  replace hz := Nat.le_trans hz hz_
  clear hk hz_
  exact vv_iret X hQ dX1_zoneBest_24 (Nat.le_of_ble_eq_true rfl) (Nat.le_of_ble_eq_true rfl) (⟨rfl, _, hR, (fun q e => by cases e; exact hp_2), hold, hnew⟩)
set_option maxHeartbeats 800000 in
theorem xX1_zoneBest (l : Launch) (D : DD) (hl : l.stackTraces = false) (u : Nat → Nat) (P T : Nat → Int32) (o : Nat) (g : Nat → Nat) (S : Nat → Int32) (pw : Option Nat) (c : Nat) (v0 v1 v2 v3 v5 v6 v7 : Value) (q : Int32) (hC : VC P) (hV : VS S) (hq : ¬ ix (nZ P) q) : Cx l yX1_zoneBest cX1_zoneBest 4 (some .int) { frames := 8, cells := 1, slots := 6, locals := 131 } D [.ref c, .int (q)] (fun H => KH D H ∧ oB D H c 0 [v0, v1, v2, v3, .ref (g 0), v5, v6, v7] ∧ UR D u P T o H ∧ SR D g u P S pw H) (fun _ => False) (fun r H H1 => False) (fun Xn q H H1 => Xn = "java/lang/IndexOutOfBoundsException") := by
  refine Cx.of (by decide +kernel) (Nat.le_of_ble_eq_true rfl) (fun K Qf hkl X ht hM hQ => ?_)
  subst hkl
  obtain ⟨hK, hc, hU, hR⟩ := hM
  have hz : (kS K).heap.size ≤ (kS K).heap.size := Nat.le_refl _
  have hP := hC.v
  have l0 := hP.l0
  have l1 := hP.l1
  have l2 := hP.l2
  have l4 := hP.l4
  have l5 := hP.l5
  have l8 := hP.l8
  have l9 := hP.l9
  have l10 := hP.l10
  have l71 := hP.l71
  have l76 := hP.l76
  have l77 := hP.l77
  have hx1 := hC.x1
  have hy1 := hC.y1
  have ht1 := hC.t1
  have he1 := hC.e1
  have hm1 := hC.m1
  have hcc : nC P ≤ 144 := Nat.mul_le_mul l9 l10
  refine vv_sub (lv' := [(0, .ref c), (1, .int (q))]) [0, 1] rfl ?_
  refine vv_aload_n X dX1_zoneBest_0 rfl 0 rfl ?_
  refine vv_iload_n X dX1_zoneBest_1 rfl 1 rfl ?_
  refine vx_cV X (xX1_withZone (kL K) D hl u P T o g S pw c v0 v1 v2 v3 v5 v6 v7 q hC hV (hq)) q2345 q2347 qs47 q137 q2348 nX1_withZone ⟨(Nat.le_of_ble_eq_true rfl), (Nat.le_of_ble_eq_true rfl)⟩ dX1_zoneBest_2 rfl (Nat.le_of_ble_eq_true rfl) (recv X hc CL_X1) ⟨hK, hc, hU, hR⟩ (fun _ z => z.elim) ⟨(Nat.le_of_ble_eq_true rfl), (Nat.le_of_ble_eq_true rfl)⟩ (fun Xn q H hq hz_ hk hXO => ?_) (fun v_ H hq hz_ hk => hq.elim)
  obtain rfl := hq
  exact vt_out X (fun x hx => (ht x hx).elim) hQ hXO (Nat.le_of_ble_eq_true rfl) (Nat.le_of_ble_eq_true rfl) rfl
