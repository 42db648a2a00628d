/-! AcousticCamera: bestLag: printed by gen/s22.py -/
set_option maxRecDepth 100000
theorem nX1_lambda_bestLag_7 : notMH yX1_lambda_bestLag_7 4 := by decide +kernel
set_option maxHeartbeats 800000 in
theorem mX1_lambda_bestLag_7 (l : Launch) (D : DD) (u : Nat → Nat) (P T : Nat → Int32) (o : Nat) (g : Nat → Nat) (S : Nat → Int32) (pw : Option Nat) (a b v : Nat) (hC : VC P) (hV : VS S) (ha : a < nM P) (hb : b < nM P) (hv : v < nT P) : Cp l yX1_lambda_bestLag_7 cX1_lambda_bestLag_7 4 (some .long) { frames := 2, cells := 0, slots := 0, locals := 38 } D [.ref (g 0), .int (nI a), .int (nI b), .int (nI v)] (fun H => KH D H ∧ UR D u P T o H ∧ SR D g u P S pw H) (.long (tog P S a b v)) := by
  refine Ct.of (by decide +kernel) (Nat.le_of_ble_eq_true rfl) (fun K Qf hkl X hM hQ => ?_)
  subst hkl
  obtain ⟨hK, hU, hR⟩ := hM
  have hP := hC.v
  have l0 := hP.l0
  have l1 := hP.l1
  have l2 := hP.l2
  have l4 := hP.l4
  have l5 := hP.l5
  have l8 := hP.l8
  have l9 := hP.l9
  have l10 := hP.l10
  have l71 := hP.l71
  have l76 := hP.l76
  have l77 := hP.l77
  have hx1 := hC.x1
  have hy1 := hC.y1
  have ht1 := hC.t1
  have he1 := hC.e1
  have hm1 := hC.m1
  have hcc : nC P ≤ 144 := Nat.mul_le_mul l9 l10
  refine vv_sub (lv' := [(0, .ref (g 0)), (1, .int (nI a)), (2, .int (nI b)), (3, .int (nI v))]) [0, 1, 2, 3] rfl ?_
  refine vv_aload_n X dX1_lambda_bestLag_7_0 rfl 0 rfl ?_
  refine vv_iload_n X dX1_lambda_bestLag_7_1 rfl 1 rfl ?_
  refine vv_iload_n X dX1_lambda_bestLag_7_2 rfl 2 rfl ?_
  refine vv_iload_n X dX1_lambda_bestLag_7_3 rfl 3 rfl ?_
  refine vv_callVp X (mX3_correlation (kL K) D u P T o g S pw a b v hC hV (by omega) (by omega) (by omega)) q2553 q2554 q2555 q150 q2556 nX3_correlation ⟨(Nat.le_of_ble_eq_true rfl), (Nat.le_of_ble_eq_true rfl)⟩ dX1_lambda_bestLag_7_4 rfl (Nat.le_of_ble_eq_true rfl) (recv X hR.ob CL_X3) ⟨hK, hU, hR⟩ ⟨(Nat.le_of_ble_eq_true rfl), (Nat.le_of_ble_eq_true rfl)⟩ ?_
  exact vv_lret X hQ dX1_lambda_bestLag_7_7 (Nat.le_of_ble_eq_true rfl) (Nat.le_of_ble_eq_true rfl) (pql (rfl))
theorem sco15 {l : Launch} {D : DD} {q a b N : Nat} {u : Nat → Nat} {P T : Nat → Int32} {o : Nat} {g : Nat → Nat} {S : Nat → Int32} {pw : Option Nat} {Inv : Heap → Prop} (hC : VC P) (hV : VS S) (ha : a < nM P) (hb : b < nM P) (hI : ∀ H, Inv H → LO D H q 15 [.ref (g 0), .int (nI a), .int (nI b)] ∧ KH D H ∧ UR D u P T o H ∧ SR D g u P S pw H) (hN : N ≤ nT P) : SCO l D q { frames := 2, cells := 0, slots := 0, locals := 38 } Inv (fun _ => False) N (fun k => tog P S a b k) := by
  intro K y cc nL ret rm A H cells slots Q pc lv st idx cnt k hk X hl q1 hR d hw hi hA hc kk
  subst hl
  refine vv_lam15 X (mX1_lambda_bestLag_7 (kL K) D u P T o g S pw a b k hC hV ha hb (by omega)) (hI H hi).1 q1 ⟨hR.1, by have := hR.2; omega⟩ d rfl hw (hI H hi).2 hA hc (fun v H H1 h => ⟨_, h.1⟩) (fun v_ H1 hq hz_ hk_ => ?_)
  obtain ⟨rfl, rfl⟩ := hq
  exact kk H1 hi hz_ hk_
set_option maxHeartbeats 800000 in
theorem mX1_bestLag (l : Launch) (D : DD) (u : Nat → Nat) (P T : Nat → Int32) (o : Nat) (g : Nat → Nat) (S : Nat → Int32) (pw : Option Nat) (c : Nat) (v0 v1 v2 v3 v5 v6 v7 : Value) (m j t : Nat) (hC : VC P) (hV : VS S) (hA : AP g u P) (hm : m < nM P) (hj : j < nM P) (ht : t < nT P) : Ct l yX1_bestLag cX1_bestLag 5 (some .int) { frames := 5, cells := 1, slots := 3, locals := 3100 } D [.ref c, .int (nI m), .int (nI j), .int (nI t)] (fun H => KH D H ∧ oB D H c 0 [v0, v1, v2, v3, .ref (g 0), v5, v6, v7] ∧ UR D u P T o H ∧ SR D g u P S pw H) (fun _ => False) (fun r H H1 => r = some (.int (nI (bsN (fun k => tog P S m j k) (t + 1))))) := by
  refine Ct.of (by decide +kernel) (Nat.le_of_ble_eq_true rfl) (fun K Qf hkl X hM hQ => ?_)
  subst hkl
  obtain ⟨hK, hc, hU, hR⟩ := hM
  have hz : (kS K).heap.size ≤ (kS K).heap.size := Nat.le_refl _
  have hP := hC.v
  have l0 := hP.l0
  have l1 := hP.l1
  have l2 := hP.l2
  have l4 := hP.l4
  have l5 := hP.l5
  have l8 := hP.l8
  have l9 := hP.l9
  have l10 := hP.l10
  have l71 := hP.l71
  have l76 := hP.l76
  have l77 := hP.l77
  have hx1 := hC.x1
  have hy1 := hC.y1
  have ht1 := hC.t1
  have he1 := hC.e1
  have hm1 := hC.m1
  have hcc : nC P ≤ 144 := Nat.mul_le_mul l9 l10
  have hnc0 : 0 < nC P := Nat.mul_pos hx1 hy1
  refine vv_sub (lv' := [(0, .ref c), (1, .int (nI m)), (2, .int (nI j)), (3, .int (nI t))]) [0, 1, 2, 3] rfl ?_
  refine vv_aload_n X dX1_bestLag_0 rfl 0 rfl ?_
  refine vv_iload_n X dX1_bestLag_1 rfl 1 rfl ?_
  refine vv_iload_n X dX1_bestLag_2 rfl 2 rfl ?_
  refine vv_callVp X (mX1_withMics (kL K) D u P T o g S pw c v0 v1 v2 v3 v5 v6 v7 m j hC hV (by omega) (by omega)) q2549 q2551 qs52 q137 q2552 nX1_withMics ⟨(Nat.le_of_ble_eq_true rfl), (Nat.le_of_ble_eq_true rfl)⟩ dX1_bestLag_3 rfl (Nat.le_of_ble_eq_true rfl) (recv X hc CL_X1) ⟨hK, hc, hU, hR⟩ ⟨(Nat.le_of_ble_eq_true rfl), (Nat.le_of_ble_eq_true rfl)⟩ ?_
  refine vv_astore (lv' := [(4, .ref (g 0)), (0, .ref c), (1, .int (nI m)), (2, .int (nI j)), (3, .int (nI t))]) X dX1_bestLag_6 (by decide) rfl ?_
  refine vv_aload_n X dX1_bestLag_8 rfl 1 rfl ?_
  refine vv_iload_n X dX1_bestLag_9 rfl 4 rfl ?_
  refine vv_callVp X (mX1_isSample (kL K) D u P T o g S pw c v0 v1 v2 v3 v5 v6 v7 (nI t) hC hV ) q1862 q1864 qs39 q137 q1865 nX1_isSample ⟨(Nat.le_of_ble_eq_true rfl), (Nat.le_of_ble_eq_true rfl)⟩ dX1_bestLag_10 rfl (Nat.le_of_ble_eq_true rfl) (recv X hc CL_X1) ⟨hK, hc, hU, hR⟩ ⟨(Nat.le_of_ble_eq_true rfl), (Nat.le_of_ble_eq_true rfl)⟩ ?_
  refine vv_callSv X (mX1_checkArgument (kL K) D (ix (nT P) (nI t)) (ix_N ht (by omega))) q1820 q1821 q137 q1822 nX1_checkArgument ⟨(Nat.le_of_ble_eq_true rfl), (Nat.le_of_ble_eq_true rfl)⟩ dX1_bestLag_13 rfl (Nat.le_of_ble_eq_true rfl) trivial ⟨(Nat.le_of_ble_eq_true rfl), (Nat.le_of_ble_eq_true rfl)⟩ ?_
  refine vv_iload_n X dX1_bestLag_16 rfl 4 rfl ?_
  refine vv_iconst (v := nI 1) X dX1_bestLag_17 (by decide) ?_
  refine vn_add X dX1_bestLag_18 ?_
  refine vv_aload X dX1_bestLag_19 0 rfl ?_
  refine vv_iload_n X dX1_bestLag_21 rfl 2 rfl ?_
  refine vv_iload_n X dX1_bestLag_22 rfl 3 rfl ?_
  refine vv_indyA15 X rfl dX1_bestLag_23 rfl (Nat.le_of_ble_eq_true rfl) (Nat.le_of_ble_eq_true rfl) (Nat.le_of_ble_eq_true rfl) (fun a_1 H eq_2 hx hl => ?_)
  have lt_3 : c < a_1 := by have h9 := hc.lt; omega
  have ng_4 : ∀ k, UK (nM P) k → a_1 ≠ g k := fun k hk e => by have h9 := hR.ltA k hk; rw [eq_2] at e; omega
  have ns_5 : ∀ j, SJ P j → a_1 ≠ g j := fun k hk e => by have h9 := hR.ltS k hk; rw [eq_2] at e; omega
  have nu_6 : ∀ j, VK P j → a_1 ≠ u j := fun k hk e => by have h9 := hU.ltB k hk; rw [eq_2] at e; omega
  have ne_7 : c ≠ a_1 := Nat.ne_of_lt (eq_2.symm ▸ hc.lt)
  have ge_8 : (kS K).heap.size ≤ a_1 := by rw [eq_2]; exact hz
  have kn_9 : KN D a_1 := KN.new hK (Nat.le_of_eq eq_2.symm)
  replace hU := hU.ex hx
  replace hR := hR.ex hx
  replace hc := hc.kept (hx.2 _ hc.lt)
  replace hK := hK.ex hx
  replace hz : (kS K).heap.size ≤ H.size := by have := hx.1; omega
  have hL_10 : LO D H a_1 15 [.ref (g 0), .int (nI m), .int (nI j)] := hl
  clear hl hx
  refine vv_callS X (mX1_best_2 (kL K) D a_1 (t + 1) { frames := 2, cells := 0, slots := 0, locals := 38 } (fun H => LO D H a_1 15 [.ref (g 0), .int (nI m), .int (nI j)] ∧ KH D H ∧ UR D u P T o H ∧ SR D g u P S pw H) (fun _ => False) (fun k => tog P S m j k) (by omega) (by omega) (sco15 hC hV hm hj (fun H h => h) (by omega))) q2369 q2001 q137 q2002 nX1_best_2 ⟨(Nat.le_of_ble_eq_true rfl), (Nat.le_of_ble_eq_true rfl)⟩ dX1_bestLag_28 rfl (Nat.le_of_ble_eq_true rfl) ⟨hL_10, hK, hU, hR⟩ (fun _ z => z.elim) ⟨(Nat.le_of_ble_eq_true rfl), (Nat.le_of_ble_eq_true rfl)⟩ (fun v_ H hq hz_ hk => ?_)
  obtain ⟨rfl, -⟩ := hq
  replace hc := hc.kept (hk _ hc.lt (fun z => z))
  replace hL_10 := hL_10.kept (hk _ hL_10.lt (fun z => z))
  replace hK := hK.to hk (fun _ z => z.elim)
  replace hU := hU.kept (fun q hl _ => hk q hl (fun z => z))
  replace hR := hR.kept (fun q hl _ => hk q hl (fun z => z)) (fun q hl _ => hk q hl (fun z => z))
  replace hz := Nat.le_trans hz hz_
  clear hk hz_
  exact vv_iret X hQ dX1_bestLag_31 (Nat.le_of_ble_eq_true rfl) (Nat.le_of_ble_eq_true rfl) (rfl)
set_option maxHeartbeats 800000 in
theorem xX1_bestLag (l : Launch) (D : DD) (hl : l.stackTraces = false) (u : Nat → Nat) (P T : Nat → Int32) (o : Nat) (g : Nat → Nat) (S : Nat → Int32) (pw : Option Nat) (c : Nat) (v0 v1 v2 v3 v5 v6 v7 : Value) (q k t : Int32) (hC : VC P) (hV : VS S) (hq : ¬ ix (nM P) q) : Cx l yX1_bestLag cX1_bestLag 5 (some .int) { frames := 9, cells := 1, slots := 6, locals := 153 } D [.ref c, .int (q), .int (k), .int (t)] (fun H => KH D H ∧ oB D H c 0 [v0, v1, v2, v3, .ref (g 0), v5, v6, v7] ∧ UR D u P T o H ∧ SR D g u P S pw H) (fun _ => False) (fun r H H1 => False) (fun Xn q H H1 => Xn = "java/lang/IndexOutOfBoundsException") := by
  refine Cx.of (by decide +kernel) (Nat.le_of_ble_eq_true rfl) (fun K Qf hkl X ht hM hQ => ?_)
  subst hkl
  obtain ⟨hK, hc, hU, hR⟩ := hM
  have hz : (kS K).heap.size ≤ (kS K).heap.size := Nat.le_refl _
  have hP := hC.v
  have l0 := hP.l0
  have l1 := hP.l1
  have l2 := hP.l2
  have l4 := hP.l4
  have l5 := hP.l5
  have l8 := hP.l8
  have l9 := hP.l9
  have l10 := hP.l10
  have l71 := hP.l71
  have l76 := hP.l76
  have l77 := hP.l77
  have hx1 := hC.x1
  have hy1 := hC.y1
  have ht1 := hC.t1
  have he1 := hC.e1
  have hm1 := hC.m1
  have hcc : nC P ≤ 144 := Nat.mul_le_mul l9 l10
  refine vv_sub (lv' := [(0, .ref c), (1, .int (q)), (2, .int (k)), (3, .int (t))]) [0, 1, 2, 3] rfl ?_
  refine vv_aload_n X dX1_bestLag_0 rfl 0 rfl ?_
  refine vv_iload_n X dX1_bestLag_1 rfl 1 rfl ?_
  refine vv_iload_n X dX1_bestLag_2 rfl 2 rfl ?_
  refine vx_cV X (xX1_withMics (kL K) D hl u P T o g S pw c v0 v1 v2 v3 v5 v6 v7 q k hC hV (hq)) q2549 q2551 qs52 q137 q2552 nX1_withMics ⟨(Nat.le_of_ble_eq_true rfl), (Nat.le_of_ble_eq_true rfl)⟩ dX1_bestLag_3 rfl (Nat.le_of_ble_eq_true rfl) (recv X hc CL_X1) ⟨hK, hc, hU, hR⟩ (fun _ z => z.elim) ⟨(Nat.le_of_ble_eq_true rfl), (Nat.le_of_ble_eq_true rfl)⟩ (fun Xn q H hq hz_ hk hXO => ?_) (fun v_ H hq hz_ hk => hq.elim)
  obtain rfl := hq
  exact vt_out X (fun x hx => (ht x hx).elim) hQ hXO (Nat.le_of_ble_eq_true rfl) (Nat.le_of_ble_eq_true rfl) rfl
set_option maxHeartbeats 800000 in
theorem w3X1_bestLag (l : Launch) (D : DD) (hl : l.stackTraces = false) (u : Nat → Nat) (P T : Nat → Int32) (o : Nat) (g : Nat → Nat) (S : Nat → Int32) (pw : Option Nat) (c : Nat) (v0 v1 v2 v3 v5 v6 v7 : Value) (m j : Nat) (t : Int32) (hC : VC P) (hV : VS S) (hm : m < nM P) (hj : j < nM P) (hv : ¬ ix (nT P) t) : Cx l yX1_bestLag cX1_bestLag 5 (some .int) { frames := 7, cells := 1, slots := 6, locals := 109 } D [.ref c, .int (nI m), .int (nI j), .int (t)] (fun H => KH D H ∧ oB D H c 0 [v0, v1, v2, v3, .ref (g 0), v5, v6, v7] ∧ UR D u P T o H ∧ SR D g u P S pw H) (fun _ => False) (fun r H H1 => False) (fun Xn q H H1 => Xn = "java/lang/IllegalArgumentException") := by
  refine Cx.of (by decide +kernel) (Nat.le_of_ble_eq_true rfl) (fun K Qf hkl X ht hM hQ => ?_)
  subst hkl
  obtain ⟨hK, hc, hU, hR⟩ := hM
  have hz : (kS K).heap.size ≤ (kS K).heap.size := Nat.le_refl _
  have hP := hC.v
  have l0 := hP.l0
  have l1 := hP.l1
  have l2 := hP.l2
  have l4 := hP.l4
  have l5 := hP.l5
  have l8 := hP.l8
  have l9 := hP.l9
  have l10 := hP.l10
  have l71 := hP.l71
  have l76 := hP.l76
  have l77 := hP.l77
  have hx1 := hC.x1
  have hy1 := hC.y1
  have ht1 := hC.t1
  have he1 := hC.e1
  have hm1 := hC.m1
  have hcc : nC P ≤ 144 := Nat.mul_le_mul l9 l10
  refine vv_sub (lv' := [(0, .ref c), (1, .int (nI m)), (2, .int (nI j)), (3, .int (t))]) [0, 1, 2, 3] rfl ?_
  refine vv_aload_n X dX1_bestLag_0 rfl 0 rfl ?_
  refine vv_iload_n X dX1_bestLag_1 rfl 1 rfl ?_
  refine vv_iload_n X dX1_bestLag_2 rfl 2 rfl ?_
  refine vv_callVp X (mX1_withMics (kL K) D u P T o g S pw c v0 v1 v2 v3 v5 v6 v7 m j hC hV (by omega) (by omega)) q2549 q2551 qs52 q137 q2552 nX1_withMics ⟨(Nat.le_of_ble_eq_true rfl), (Nat.le_of_ble_eq_true rfl)⟩ dX1_bestLag_3 rfl (Nat.le_of_ble_eq_true rfl) (recv X hc CL_X1) ⟨hK, hc, hU, hR⟩ ⟨(Nat.le_of_ble_eq_true rfl), (Nat.le_of_ble_eq_true rfl)⟩ ?_
  refine vv_astore (lv' := [(4, .ref (g 0)), (0, .ref c), (1, .int (nI m)), (2, .int (nI j)), (3, .int (t))]) X dX1_bestLag_6 (by decide) rfl ?_
  refine vv_aload_n X dX1_bestLag_8 rfl 1 rfl ?_
  refine vv_iload_n X dX1_bestLag_9 rfl 4 rfl ?_
  refine vv_callVp X (mX1_isSample (kL K) D u P T o g S pw c v0 v1 v2 v3 v5 v6 v7 t hC hV ) q1862 q1864 qs39 q137 q1865 nX1_isSample ⟨(Nat.le_of_ble_eq_true rfl), (Nat.le_of_ble_eq_true rfl)⟩ dX1_bestLag_10 rfl (Nat.le_of_ble_eq_true rfl) (recv X hc CL_X1) ⟨hK, hc, hU, hR⟩ ⟨(Nat.le_of_ble_eq_true rfl), (Nat.le_of_ble_eq_true rfl)⟩ ?_
  refine vx_cS X (xX1_checkArgument (kL K) D hl (ix (nT P) t) (hv)) q1820 q1821 q137 q1822 nX1_checkArgument ⟨(Nat.le_of_ble_eq_true rfl), (Nat.le_of_ble_eq_true rfl)⟩ dX1_bestLag_13 rfl (Nat.le_of_ble_eq_true rfl) hK (fun _ z => z.elim) ⟨(Nat.le_of_ble_eq_true rfl), (Nat.le_of_ble_eq_true rfl)⟩ (fun Xn q H hq hz_ hk hXO => ?_) (fun v_ H hq hz_ hk => hq.elim)
  obtain rfl := hq
  exact vt_out X (fun x hx => (ht x hx).elim) hQ hXO (Nat.le_of_ble_eq_true rfl) (Nat.le_of_ble_eq_true rfl) rfl
