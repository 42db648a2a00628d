/-! State.peaks, peakAt, loudest: printed by gen/s39.py -/
set_option maxRecDepth 100000
theorem KH.lo16 {D : DD} {H : Heap} (h : KH D H) : LO D H (D.2.2 616) 16 [] := h.2.2.2.2.2.2.2
theorem nX3_lambda_peaks_2 : notMH yX3_lambda_peaks_2 1 := by decide +kernel
set_option maxHeartbeats 800000 in
theorem mX3_lambda_peaks_2 (l : Launch) (D : DD) (u : Nat → Nat) (P T : Nat → Int32) (o : Nat) (g : Nat → Nat) (S : Nat → Int32) (pw : Option Nat) (c : Nat) (hC : VC P) (hV : VS S) (hA : AP g u P) (hc : c < nC P) : Ct l yX3_lambda_peaks_2 cX3_lambda_peaks_2 2 (some .boolean) { frames := 9, cells := 1, slots := 144, locals := 198 } D [.ref (g 0), .int (nI c)] (fun H => KH D H ∧ UR D u P T o H ∧ SR D g u P S pw H ∧ PK D P S pw H) (fun q => q = g 0) (fun r H H1 => r = some (.int (b2 (top P (pwc P S) c))) ∧ ∃ p, SR D g u P S (some p) H1 ∧ PK D P S (some p) H1 ∧ (∀ q, pw = some q → p = q) ∧ (pw = some p ∨ H.size ≤ p)) := by
  refine Ct.of (by decide +kernel) (Nat.le_of_ble_eq_true rfl) (fun K Qf hkl X hM hQ => ?_)
  subst hkl
  obtain ⟨hK, hU, hR, hPK⟩ := hM
  have hz : (kS K).heap.size ≤ (kS K).heap.size := Nat.le_refl _
  have hP := hC.v
  have l0 := hP.l0
  have l1 := hP.l1
  have l2 := hP.l2
  have l4 := hP.l4
  have l5 := hP.l5
  have l8 := hP.l8
  have l9 := hP.l9
  have l10 := hP.l10
  have l71 := hP.l71
  have l76 := hP.l76
  have l77 := hP.l77
  have hx1 := hC.x1
  have hy1 := hC.y1
  have ht1 := hC.t1
  have he1 := hC.e1
  have hm1 := hC.m1
  have hcc : nC P ≤ 144 := Nat.mul_le_mul l9 l10
  refine vv_sub (lv' := [(0, .ref (g 0)), (1, .int (nI c))]) [0, 1] rfl ?_
  refine vv_aload_n X dX3_lambda_peaks_2_0 rfl 0 rfl ?_
  refine vv_iload_n X dX3_lambda_peaks_2_1 rfl 1 rfl ?_
  refine vv_callV X (mX3_isPeak (kL K) D u P T o g S pw c hC hV hA (by omega)) q2055 q2031 q2032 q150 q2033 nX3_isPeak ⟨(Nat.le_of_ble_eq_true rfl), (Nat.le_of_ble_eq_true rfl)⟩ dX3_lambda_peaks_2_2 rfl (Nat.le_of_ble_eq_true rfl) (recv X hR.ob CL_X3) ⟨hK, hU, hR, hPK⟩ (fun q z => by rcases z with rfl; exact (Or.inl rfl)) ⟨(Nat.le_of_ble_eq_true rfl), (Nat.le_of_ble_eq_true rfl)⟩ (fun v_ H hq hz_ hk => ?_)
  obtain ⟨rfl, a_1, hR2, hPK2, hold, hnew⟩ := hq
  replace hK := hK.to hk (fun q z => by rcases z with rfl; exact hR.kn X hK 0 (Or.inl (by decide)))
  replace hU := hU.own hA l4 (Q := (· = 0)) (fun k hk => by subst hk; exact Or.inl (by decide)) (fun q hl hq => hk q hl (hq 0 rfl))
  replace hz := Nat.le_trans hz hz_
  have hp_2 : lA D H a_1 (nC P) (pwc P S) := hPK2 a_1 rfl
  clear hk hz_ hR
  have hR := hR2
  clear hR2 hPK2
  exact vv_zret X (b2_nar _) hQ dX3_lambda_peaks_2_5 (Nat.le_of_ble_eq_true rfl) (Nat.le_of_ble_eq_true rfl) (⟨rfl, _, hR, (fun q e => by cases e; exact hp_2), hold, hnew⟩)
theorem nX3_lambda_peaks_3 : notMH yX3_lambda_peaks_3 2 := by decide +kernel
set_option maxHeartbeats 800000 in
theorem mX3_lambda_peaks_3 (l : Launch) (D : DD) (p n c : Nat) (f : Nat → Int64) (hc : c < n) (hn : n < 2 ^ 31) : Cp l yX3_lambda_peaks_3 cX3_lambda_peaks_3 2 (some .long) { frames := 1, cells := 0, slots := 0, locals := 12 } D [.ref p, .int (nI c)] (fun H => lA D H p n f) (.long (f c)) := by
  refine Ct.of (by decide +kernel) (Nat.le_of_ble_eq_true rfl) (fun K Qf hkl X hM hQ => ?_)
  subst hkl
  have hA_ := hM
  refine vv_sub (lv' := [(0, .ref p), (1, .int (nI c))]) [0, 1] rfl ?_
  refine vv_aload_n X dX3_lambda_peaks_3_0 rfl 0 rfl ?_
  refine vv_iload_n X dX3_lambda_peaks_3_1 rfl 1 rfl ?_
  refine vv_lald X hA_ (c) (by omega) (by omega) rfl dX3_lambda_peaks_3_2 ?_
  exact vv_lret X hQ dX3_lambda_peaks_3_3 (Nat.le_of_ble_eq_true rfl) (Nat.le_of_ble_eq_true rfl) (pql (rfl))
theorem nX1_lambda_loudest_8 : notMH yX1_lambda_loudest_8 1 := by decide +kernel
set_option maxHeartbeats 800000 in
theorem mX1_lambda_loudest_8 (l : Launch) (D : DD) (k : Int32)  : Cp l yX1_lambda_loudest_8 cX1_lambda_loudest_8 1 (some .boolean) { frames := 1, cells := 0, slots := 0, locals := 12 } D [.int (k)] (fun H => True) (.int (nI 1)) := by
  refine Ct.of (by decide +kernel) (Nat.le_of_ble_eq_true rfl) (fun K Qf hkl X hM hQ => ?_)
  subst hkl
  refine vv_sub (lv' := [(0, .int (k))]) [0] rfl ?_
  refine vv_iconst (v := nI 1) X dX1_lambda_loudest_8_0 (by decide) ?_
  exact vv_zret X (rfl) hQ dX1_lambda_loudest_8_1 (Nat.le_of_ble_eq_true rfl) (Nat.le_of_ble_eq_true rfl) (pq (rfl))
theorem nX1_lambda_loudest_9 : notMH yX1_lambda_loudest_9 2 := by decide +kernel
set_option maxHeartbeats 800000 in
theorem mX1_lambda_loudest_9 (l : Launch) (D : DD) (u : Nat → Nat) (P T : Nat → Int32) (o : Nat) (g : Nat → Nat) (S : Nat → Int32) (pw : Option Nat) (c : Nat) (hC : VC P) (hV : VS S) (hc : c < nM P) : Cp l yX1_lambda_loudest_9 cX1_lambda_loudest_9 2 (some .long) { frames := 2, cells := 0, slots := 0, locals := 40 } D [.ref (g 0), .int (nI c)] (fun H => KH D H ∧ UR D u P T o H ∧ SR D g u P S pw H) (.long (lev P S c)) := by
  refine Ct.of (by decide +kernel) (Nat.le_of_ble_eq_true rfl) (fun K Qf hkl X hM hQ => ?_)
  subst hkl
  obtain ⟨hK, hU, hR⟩ := hM
  have hP := hC.v
  have l0 := hP.l0
  have l1 := hP.l1
  have l2 := hP.l2
  have l4 := hP.l4
  have l5 := hP.l5
  have l8 := hP.l8
  have l9 := hP.l9
  have l10 := hP.l10
  have l71 := hP.l71
  have l76 := hP.l76
  have l77 := hP.l77
  have hx1 := hC.x1
  have hy1 := hC.y1
  have ht1 := hC.t1
  have he1 := hC.e1
  have hm1 := hC.m1
  have hcc : nC P ≤ 144 := Nat.mul_le_mul l9 l10
  refine vv_sub (lv' := [(0, .ref (g 0)), (1, .int (nI c))]) [0, 1] rfl ?_
  refine vv_aload_n X dX1_lambda_loudest_9_0 rfl 0 rfl ?_
  refine vv_iload_n X dX1_lambda_loudest_9_1 rfl 1 rfl ?_
  refine vv_callVp X (mX3_level (kL K) D u P T o g S pw c hC hV (by omega)) q2573 q2574 q2575 q150 q2576 nX3_level ⟨(Nat.le_of_ble_eq_true rfl), (Nat.le_of_ble_eq_true rfl)⟩ dX1_lambda_loudest_9_2 rfl (Nat.le_of_ble_eq_true rfl) (recv X hR.ob CL_X3) ⟨hK, hU, hR⟩ ⟨(Nat.le_of_ble_eq_true rfl), (Nat.le_of_ble_eq_true rfl)⟩ ?_
  exact vv_lret X hQ dX1_lambda_loudest_9_5 (Nat.le_of_ble_eq_true rfl) (Nat.le_of_ble_eq_true rfl) (pql (rfl))
/-- what stands while the peaks (the loudest) are ranked -/
def IPk (D : DD) (u : Nat → Nat) (P T : Nat → Int32) (o : Nat) (g : Nat → Nat) (S : Nat → Int32) (q1 q2 p : Nat) (H : Heap) : Prop := LO D H q1 6 [.ref (g 0)] ∧ LO D H q2 7 [.ref p] ∧ KH D H ∧ UR D u P T o H ∧ SR D g u P S (some p) H ∧ PK D P S (some p) H
def ILd (D : DD) (u : Nat → Nat) (P T : Nat → Int32) (o : Nat) (g : Nat → Nat) (S : Nat → Int32) (pw : Option Nat) (q1 q2 : Nat) (H : Heap) : Prop := LO D H q1 16 [] ∧ LO D H q2 17 [.ref (g 0)] ∧ KH D H ∧ UR D u P T o H ∧ SR D g u P S pw H
theorem IPk.st {D : DD} {u : Nat → Nat} {P T : Nat → Int32} {o : Nat} {g : Nat → Nat} {S : Nat → Int32} {q1 q2 p : Nat} {H0 : Heap} (h0 : IPk D u P T o g S q1 q2 p H0) {H H1 : Heap} (h : IPk D u P T o g S q1 q2 p H) (he : ∀ q, q < H0.size → H1[q]? = H[q]?) : IPk D u P T o g S q1 q2 p H1 :=
  ⟨h.1.kept (he _ h0.1.lt), h.2.1.kept (he _ h0.2.1.lt), h.2.2.1.stay (fun i hi => he _ (h0.2.2.1.lt hi)), h.2.2.2.1.kept (fun q _ hq => by obtain ⟨j, hj, rfl⟩ := hq; exact he _ (h0.2.2.2.1.ltB j hj)), h.2.2.2.2.1.kept (fun q _ hq => by obtain ⟨j, hj, rfl⟩ := hq; exact he _ (h0.2.2.2.2.1.ltA j hj)) (fun q _ hq => by obtain ⟨j, hj, rfl⟩ := hq; exact he _ (h0.2.2.2.2.1.ltS j hj)), fun r e => (h.2.2.2.2.2 r e).kept (he _ (h0.2.2.2.2.2 r e).lt)⟩
theorem ILd.st {D : DD} {u : Nat → Nat} {P T : Nat → Int32} {o : Nat} {g : Nat → Nat} {S : Nat → Int32} {pw : Option Nat} {q1 q2 : Nat} {H0 : Heap} (h0 : ILd D u P T o g S pw q1 q2 H0) {H H1 : Heap} (h : ILd D u P T o g S pw q1 q2 H) (he : ∀ q, q < H0.size → H1[q]? = H[q]?) : ILd D u P T o g S pw q1 q2 H1 :=
  ⟨h.1.kept (he _ h0.1.lt), h.2.1.kept (he _ h0.2.1.lt), h.2.2.1.stay (fun i hi => he _ (h0.2.2.1.lt hi)), h.2.2.2.1.kept (fun q _ hq => by obtain ⟨j, hj, rfl⟩ := hq; exact he _ (h0.2.2.2.1.ltB j hj)), h.2.2.2.2.kept (fun q _ hq => by obtain ⟨j, hj, rfl⟩ := hq; exact he _ (h0.2.2.2.2.ltA j hj)) (fun q _ hq => by obtain ⟨j, hj, rfl⟩ := hq; exact he _ (h0.2.2.2.2.ltS j hj))⟩
theorem cho6 {l : Launch} {D : DD} {u : Nat → Nat} {P T : Nat → Int32} {o : Nat} {g : Nat → Nat} {S : Nat → Int32} {q1 q2 p N : Nat} (hC : VC P) (hV : VS S) (hA : AP g u P) (hpg : p ≠ g 0) (hN : N ≤ nC P) : CHO l D q1 { frames := 9, cells := 1, slots := 144, locals := 198 } (IPk D u P T o g S q1 q2 p) (fun q => q = g 0) N (fun c => decide (top P (pwc P S) c)) := by
  intro K y cc nL ret rm A H cells slots Q pc lv st idx cnt k hk X hl q1_ hR d hw hi hA2 hc kk
  subst hl
  have l4 := hC.v.l4
  obtain ⟨hL, hM, hK, hU, hRw, hPw⟩ := hi
  refine vv_lam6 X (mX3_lambda_peaks_2 (kL K) D u P T o g S (some p) k hC hV hA (by omega)) hL (recv X hRw.ob CL_X3) q1_ ⟨hR.1, by have := hR.2; omega⟩ d rfl hw ⟨hK, hU, hRw, hPw⟩ hA2 hc (fun v H H1 h => ⟨_, h.1, b2_nar _⟩) (fun v_ H1 hq hz_ hk_ => ?_)
  obtain ⟨rfl, p2, hR2, hPK2, hold, hnew⟩ := hq
  obtain rfl := hold p rfl
  exact vv_eqi (b2_eq decide_eq_true_iff.symm) (kk H1 ⟨hL.kept (hk_ _ hL.lt (X.lo (by decide) hL hRw.ob)), hM.kept (hk_ _ hM.lt (X.lo (by decide) hM hRw.ob)), hK.to hk_ (fun q z => by rcases z with rfl; exact hRw.kn X hK 0 (Or.inl (by decide))), hU.own hA l4 (Q := (· = 0)) (fun k hk => by subst hk; exact Or.inl (by decide)) (fun q hl hq => hk_ q hl (hq 0 rfl)), hR2, hPK2⟩ hz_ hk_)
theorem sco7 {l : Launch} {D : DD} {a p n N : Nat} {f : Nat → Int64} {Inv : Heap → Prop} (hI : ∀ H, Inv H → LO D H a 7 [.ref p] ∧ lA D H p N f) (hn : n ≤ N) (hN : N < 2 ^ 31) : SCO l D a { frames := 1, cells := 0, slots := 0, locals := 12 } Inv (fun _ => False) n f := by
  intro K y cc nL ret rm A H cells slots Q pc lv st idx cnt k hk X hl q1 hR d hw hi hA hc kk
  subst hl
  refine vv_lam7 X (mX3_lambda_peaks_3 (kL K) D p N k f (by omega) hN) (hI H hi).1 q1 ⟨hR.1, by have := hR.2; omega⟩ d rfl hw (hI H hi).2 hA hc (fun v H H1 h => ⟨_, h.1⟩) (fun v_ H1 hq hz_ hk_ => ?_)
  obtain ⟨rfl, rfl⟩ := hq
  exact kk H1 hi hz_ hk_
theorem cho16 {l : Launch} {D : DD} {a N : Nat} {Inv : Heap → Prop} (hI : ∀ H, Inv H → LO D H a 16 []) : CHO l D a { frames := 1, cells := 0, slots := 0, locals := 12 } Inv (fun _ => False) N (fun _ => true) := by
  intro K y cc nL ret rm A H cells slots Q pc lv st idx cnt k hk X hl q1 hR d hw hi hA hc kk
  subst hl
  refine vv_lam16 X (mX1_lambda_loudest_8 (kL K) D (nI k)) (hI H hi) q1 ⟨hR.1, by have := hR.2; omega⟩ d rfl hw trivial hA hc (fun v H H1 h => ⟨_, h.1, rfl⟩) (fun v_ H1 hq hz_ hk_ => ?_)
  obtain ⟨rfl, rfl⟩ := hq
  exact vv_eqi (b2_y rfl).symm (kk H1 hi hz_ hk_)
theorem sco17 {l : Launch} {D : DD} {a N : Nat} {u : Nat → Nat} {P T : Nat → Int32} {o : Nat} {g : Nat → Nat} {S : Nat → Int32} {pw : Option Nat} {Inv : Heap → Prop} (hC : VC P) (hV : VS S) (hI : ∀ H, Inv H → LO D H a 17 [.ref (g 0)] ∧ KH D H ∧ UR D u P T o H ∧ SR D g u P S pw H) (hN : N ≤ nM P) : SCO l D a { frames := 2, cells := 0, slots := 0, locals := 40 } Inv (fun _ => False) N (lev P S) := by
  intro K y cc nL ret rm A H cells slots Q pc lv st idx cnt k hk X hl q1 hR d hw hi hA hc kk
  subst hl
  refine vv_lam17 X (mX1_lambda_loudest_9 (kL K) D u P T o g S pw k hC hV (by omega)) (hI H hi).1 q1 ⟨hR.1, by have := hR.2; omega⟩ d rfl hw (hI H hi).2 hA hc (fun v H H1 h => ⟨_, h.1⟩) (fun v_ H1 hq hz_ hk_ => ?_)
  obtain ⟨rfl, rfl⟩ := hq
  exact kk H1 hi hz_ hk_
theorem nX3_peaks : notMH yX3_peaks 0 := by decide +kernel
set_option maxHeartbeats 800000 in
theorem mX3_peaks (l : Launch) (D : DD) (u : Nat → Nat) (P T : Nat → Int32) (o : Nat) (g : Nat → Nat) (S : Nat → Int32) (pw : Option Nat)  (hC : VC P) (hV : VS S) (hA : AP g u P) : Ct l yX3_peaks cX3_peaks 2 (some (.object "java/util/LinkedList")) { frames := 21, cells := 580, slots := 23190, locals := 3327 } D [.ref (g 0)] (fun H => KH D H ∧ UR D u P T o H ∧ SR D g u P S pw H ∧ PK D P S pw H) (fun q => q = g 0) (fun r H H1 => (∃ b nd it, r = some (.ref b) ∧ H.size ≤ b ∧ LL D H1 b (rk (fun c => decide (top P (pwc P S) c)) (pwc P S) (nC P)).1 nd it ∧ ∀ j, j < (rk (fun c => decide (top P (pwc P S) c)) (pwc P S) (nC P)).1 → IN D H1 (it j) ((rk (fun c => decide (top P (pwc P S) c)) (pwc P S) (nC P)).2 j)) ∧ ∃ p, SR D g u P S (some p) H1 ∧ PK D P S (some p) H1 ∧ (∀ q, pw = some q → p = q) ∧ (pw = some p ∨ H.size ≤ p)) := by
  refine Ct.of (by decide +kernel) (Nat.le_of_ble_eq_true rfl) (fun K Qf hkl X hM hQ => ?_)
  subst hkl
  obtain ⟨hK, hU, hR, hPK⟩ := hM
  have hz : (kS K).heap.size ≤ (kS K).heap.size := Nat.le_refl _
  have hP := hC.v
  have l0 := hP.l0
  have l1 := hP.l1
  have l2 := hP.l2
  have l4 := hP.l4
  have l5 := hP.l5
  have l8 := hP.l8
  have l9 := hP.l9
  have l10 := hP.l10
  have l71 := hP.l71
  have l76 := hP.l76
  have l77 := hP.l77
  have hx1 := hC.x1
  have hy1 := hC.y1
  have ht1 := hC.t1
  have he1 := hC.e1
  have hm1 := hC.m1
  have hcc : nC P ≤ 144 := Nat.mul_le_mul l9 l10
  have hnc : 0 < nC P := Nat.mul_pos hx1 hy1
  refine vv_sub (lv' := [(0, .ref (g 0))]) [0] rfl ?_
  refine vv_aload_n X dX3_peaks_0 rfl 0 rfl ?_
  refine vv_callV X (mX3_powers (kL K) D u P T o g S pw hC hV hA) q1997 q1957 q1958 q150 q1959 nX3_powers ⟨(Nat.le_of_ble_eq_true rfl), (Nat.le_of_ble_eq_true rfl)⟩ dX3_peaks_1 rfl (Nat.le_of_ble_eq_true rfl) (recv X hR.ob CL_X3) ⟨hK, hU, hR, hPK⟩ (fun q z => by rcases z with rfl; exact (Or.inl rfl)) ⟨(Nat.le_of_ble_eq_true rfl), (Nat.le_of_ble_eq_true rfl)⟩ (fun v_ H hq hz_ hk => ?_)
  obtain ⟨a_1, rfl, hR2, hPK2, hold, hnew⟩ := hq
  replace hK := hK.to hk (fun q z => by rcases z with rfl; exact hR.kn X hK 0 (Or.inl (by decide)))
  replace hU := hU.own hA l4 (Q := (· = 0)) (fun k hk => by subst hk; exact Or.inl (by decide)) (fun q hl hq => hk q hl (hq 0 rfl))
  replace hz := Nat.le_trans hz hz_
  have hp_2 : lA D H a_1 (nC P) (pwc P S) := hPK2 a_1 rfl
  clear hk hz_ hR
  have hR := hR2
  clear hR2 hPK2
  refine vv_astore_n (lv' := [(1, .ref a_1), (0, .ref (g 0))]) X dX3_peaks_4 rfl (by decide) rfl ?_
  refine vv_aload_n X dX3_peaks_5 rfl 0 rfl ?_
  refine vv_alen (ty := 1) X hp_2 rfl dX3_peaks_6 ?_
  refine vv_aload_n X dX3_peaks_7 rfl 1 rfl ?_
  refine vv_indyA6 X rfl dX3_peaks_8 rfl (Nat.le_of_ble_eq_true rfl) (Nat.le_of_ble_eq_true rfl) (Nat.le_of_ble_eq_true rfl) (fun a_3 H eq_4 hx hl => ?_)
  have ng_5 : ∀ k, UK (nM P) k → a_3 ≠ g k := fun k hk e => by have h9 := hR.ltA k hk; rw [eq_4] at e; omega
  have ns_6 : ∀ j, SJ P j → a_3 ≠ g j := fun k hk e => by have h9 := hR.ltS k hk; rw [eq_4] at e; omega
  have nu_7 : ∀ j, VK P j → a_3 ≠ u j := fun k hk e => by have h9 := hU.ltB k hk; rw [eq_4] at e; omega
  have ne_8 : a_1 ≠ a_3 := Nat.ne_of_lt (eq_4.symm ▸ hp_2.lt)
  have ge_9 : (kS K).heap.size ≤ a_3 := by rw [eq_4]; exact hz
  have kn_10 : KN D a_3 := KN.new hK (Nat.le_of_eq eq_4.symm)
  replace hU := hU.ex hx
  replace hR := hR.ex hx
  replace hp_2 := hp_2.kept (hx.2 _ hp_2.lt)
  replace hK := hK.ex hx
  replace hz : (kS K).heap.size ≤ H.size := by have := hx.1; omega
  have hL_11 : LO D H a_3 6 [.ref (g 0)] := hl
  clear hl hx
  refine vv_aload_n X dX3_peaks_13 rfl 0 rfl ?_
  refine vv_indyA7 X rfl dX3_peaks_14 rfl (Nat.le_of_ble_eq_true rfl) (Nat.le_of_ble_eq_true rfl) (Nat.le_of_ble_eq_true rfl) (fun a_12 H eq_13 hx hl => ?_)
  have ng_14 : ∀ k, UK (nM P) k → a_12 ≠ g k := fun k hk e => by have h9 := hR.ltA k hk; rw [eq_13] at e; omega
  have ns_15 : ∀ j, SJ P j → a_12 ≠ g j := fun k hk e => by have h9 := hR.ltS k hk; rw [eq_13] at e; omega
  have nu_16 : ∀ j, VK P j → a_12 ≠ u j := fun k hk e => by have h9 := hU.ltB k hk; rw [eq_13] at e; omega
  have ne_17 : a_1 ≠ a_12 := Nat.ne_of_lt (eq_13.symm ▸ hp_2.lt)
  have ne_18 : a_3 ≠ a_12 := Nat.ne_of_lt (eq_13.symm ▸ hL_11.lt)
  have ge_19 : (kS K).heap.size ≤ a_12 := by rw [eq_13]; exact hz
  have kn_20 : KN D a_12 := KN.new hK (Nat.le_of_eq eq_13.symm)
  replace hU := hU.ex hx
  replace hR := hR.ex hx
  replace hp_2 := hp_2.kept (hx.2 _ hp_2.lt)
  replace hL_11 := hL_11.kept (hx.2 _ hL_11.lt)
  replace hK := hK.ex hx
  replace hz : (kS K).heap.size ≤ H.size := by have := hx.1; omega
  have hL_21 : LO D H a_12 7 [.ref a_1] := hl
  clear hl hx
  have hI0 : IPk D u P T o g S a_3 a_12 a_1 H := ⟨hL_11, hL_21, hK, hU, hR, fun q e => by cases e; exact hp_2⟩
  refine vv_callSN X (mX1_ranking (kL K) D a_3 a_12 (nC P) { frames := 9, cells := 1, slots := 144, locals := 198 } { frames := 1, cells := 0, slots := 0, locals := 12 } (IPk D u P T o g S a_3 a_12 a_1) (fun q => q = g 0) (fun c => decide (top P (pwc P S) c)) (pwc P S) H.size (by omega) (by decide) (by decide) (by decide) (by decide) (cho6 hC hV hA ((X.ao hp_2 hR.ob CL_X3 rfl)) (Nat.le_refl _)) (sco7 (fun H h => ⟨h.2.1, h.2.2.2.2.2 _ rfl⟩) (Nat.le_refl _) (by omega)) (fun H h => h.2.2.1) (fun q e => by rw [e]; exact hR.ob.lt) (fun H q k h e hN => X.oo hN h.2.2.2.2.1.ob CL_J20 CL_X3 (by decide) e) (fun H9 H1 h hz he => IPk.st hI0 h he)) q2058 q2059 q137 q2060 nX1_ranking ⟨(Nat.le_of_ble_eq_true rfl), (Nat.le_of_ble_eq_true rfl)⟩ dX3_peaks_19 rfl (Nat.le_of_ble_eq_true rfl) ⟨hI0, rfl⟩ (fun q z => by rcases z with rfl; exact (Or.inl rfl)) ⟨(Nat.le_of_ble_eq_true rfl), (Nat.le_of_ble_eq_true rfl)⟩ (fun v_ H hq hz_ hk => ?_)
  obtain ⟨b, nd, it, rfl, hbz, hL, hit, hI1⟩ := hq
  obtain ⟨-, -, hK1, hU1, hR1, hP1⟩ := hI1
  have hbz2 := Nat.le_trans hz hbz
  replace hz := Nat.le_trans hz hz_
  clear hk hz_ hI0 hK hU hR
  have hK := hK1
  have hU := hU1
  have hR := hR1
  have hPK9 := hP1
  exact vv_aret X (Or.inl ⟨_, rfl⟩) (Or.inr ⟨_, rfl⟩) hQ dX3_peaks_22 (Nat.le_of_ble_eq_true rfl) (Nat.le_of_ble_eq_true rfl) (⟨⟨b, nd, it, rfl, hbz2, hL, hit⟩, _, hR, hPK9, hold, hnew⟩)
set_option maxHeartbeats 800000 in
theorem mX1_peakAt (l : Launch) (D : DD) (u : Nat → Nat) (P T : Nat → Int32) (o : Nat) (g : Nat → Nat) (S : Nat → Int32) (pw : Option Nat) (c : Nat) (v0 v1 v2 v3 v5 v6 v7 : Value) (k : Nat) (hC : VC P) (hV : VS S) (hA : AP g u P) (hk9 : k < (rk (fun c => decide (top P (pwc P S) c)) (pwc P S) (nC P)).1) : Ct l yX1_peakAt cX1_peakAt 3 (some .int) { frames := 22, cells := 580, slots := 23190, locals := 3348 } D [.ref c, .int (nI k)] (fun H => KH D H ∧ oB D H c 0 [v0, v1, v2, v3, .ref (g 0), v5, v6, v7] ∧ UR D u P T o H ∧ SR D g u P S pw H ∧ PK D P S pw H) (fun q => q = g 0) (fun r H H1 => r = some (.int (nI ((rk (fun c => decide (top P (pwc P S) c)) (pwc P S) (nC P)).2 k))) ∧ ∃ p, SR D g u P S (some p) H1 ∧ PK D P S (some p) H1 ∧ (∀ q, pw = some q → p = q) ∧ (pw = some p ∨ H.size ≤ p)) := by
  refine Ct.of (by decide +kernel) (Nat.le_of_ble_eq_true rfl) (fun K Qf hkl X hM hQ => ?_)
  subst hkl
  obtain ⟨hK, hc, hU, hR, hPK⟩ := hM
  have hz : (kS K).heap.size ≤ (kS K).heap.size := Nat.le_refl _
  have hP := hC.v
  have l0 := hP.l0
  have l1 := hP.l1
  have l2 := hP.l2
  have l4 := hP.l4
  have l5 := hP.l5
  have l8 := hP.l8
  have l9 := hP.l9
  have l10 := hP.l10
  have l71 := hP.l71
  have l76 := hP.l76
  have l77 := hP.l77
  have hx1 := hC.x1
  have hy1 := hC.y1
  have ht1 := hC.t1
  have he1 := hC.e1
  have hm1 := hC.m1
  have hcc : nC P ≤ 144 := Nat.mul_le_mul l9 l10
  have hnc0 : 0 < nC P := Nat.mul_pos hx1 hy1
  refine vv_sub (lv' := [(0, .ref c), (1, .int (nI k))]) [0, 1] rfl ?_
  refine vv_aload_n X dX1_peakAt_0 rfl 0 rfl ?_
  refine vv_callVp X (mX1_there (kL K) D u P T o g S pw c v0 v1 v2 v3 v5 v6 v7  hC hV ) q1797 q1799 qs36 q137 q1800 nX1_there ⟨(Nat.le_of_ble_eq_true rfl), (Nat.le_of_ble_eq_true rfl)⟩ dX1_peakAt_1 rfl (Nat.le_of_ble_eq_true rfl) (recv X hc CL_X1) ⟨hK, hc, hU, hR⟩ ⟨(Nat.le_of_ble_eq_true rfl), (Nat.le_of_ble_eq_true rfl)⟩ ?_
  refine vv_callV X (mX3_peaks (kL K) D u P T o g S pw hC hV hA) q2048 q2049 q2050 q150 q2051 nX3_peaks ⟨(Nat.le_of_ble_eq_true rfl), (Nat.le_of_ble_eq_true rfl)⟩ dX1_peakAt_4 rfl (Nat.le_of_ble_eq_true rfl) (recv X hR.ob CL_X3) ⟨hK, hU, hR, hPK⟩ (fun q z => by rcases z with rfl; exact (Or.inl rfl)) ⟨(Nat.le_of_ble_eq_true rfl), (Nat.le_of_ble_eq_true rfl)⟩ (fun v_ H hq hz_ hk => ?_)
  obtain ⟨⟨b, nd, it, rfl, hbz, hL, hit⟩, p, hR2, hPK2, hold, hnew⟩ := hq
  replace hc := hc.kept (hk _ hc.lt (X.oo hc hR.ob CL_X1 CL_X3 (by decide)))
  replace hK := hK.to hk (fun q z => by rcases z with rfl; exact hR.kn X hK 0 (Or.inl (by decide)))
  replace hU := hU.own hA l4 (Q := (· = 0)) (fun k hk => by subst hk; exact Or.inl (by decide)) (fun q hl hq => hk q hl (hq 0 rfl))
  replace hz := Nat.le_trans hz hz_
  clear hk hz_ hR
  have hR := hR2
  clear hR2
  obtain ⟨m, hm⟩ : ∃ m, m = (rk (fun c => decide (top P (pwc P S) c)) (pwc P S) (nC P)).1 := ⟨_, rfl⟩
  have hm9 := rk_le (fun c => decide (top P (pwc P S) c)) (pwc P S) (nC P)
  rw [← hm] at hL hit hm9
  have hb := hL.1
  refine vv_astore_n (lv' := [(2, .ref b), (0, .ref c), (1, .int (nI k))]) X dX1_peakAt_7 rfl (by decide) rfl ?_
  have hkm : k < m := by rw [hm]; exact hk9
  refine vv_iload_n X dX1_peakAt_8 rfl 2 rfl ?_
  refine vv_aload_n X dX1_peakAt_9 rfl 0 rfl ?_
  refine vv_callVp X (mJ33_size (kL K) D b m _ _) q2329 q328 q3653 q182 q330 nJ33_size ⟨(Nat.le_of_ble_eq_true rfl), (Nat.le_of_ble_eq_true rfl)⟩ dX1_peakAt_10 rfl (Nat.le_of_ble_eq_true rfl) (recv X hb CL_J33) hb ⟨(Nat.le_of_ble_eq_true rfl), (Nat.le_of_ble_eq_true rfl)⟩ ?_
  refine vv_callSv X (mX1_checkIndex (kL K) D (nI k) m (ix_N (by omega) (by omega))) q446 q447 q137 q448 nX1_checkIndex ⟨(Nat.le_of_ble_eq_true rfl), (Nat.le_of_ble_eq_true rfl)⟩ dX1_peakAt_13 rfl (Nat.le_of_ble_eq_true rfl) trivial ⟨(Nat.le_of_ble_eq_true rfl), (Nat.le_of_ble_eq_true rfl)⟩ ?_
  refine vv_aload_n X dX1_peakAt_16 rfl 0 rfl ?_
  refine vv_iload_n X dX1_peakAt_17 rfl 2 rfl ?_
  refine vv_callVp X (mJ33_get (kL K) D b m k nd it (by omega) (by omega)) q2330 q1619 q3654 q182 q1621 nJ33_get ⟨(Nat.le_of_ble_eq_true rfl), (Nat.le_of_ble_eq_true rfl)⟩ dX1_peakAt_18 rfl (Nat.le_of_ble_eq_true rfl) (recv X hb CL_J33) hL ⟨(Nat.le_of_ble_eq_true rfl), (Nat.le_of_ble_eq_true rfl)⟩ ?_
  have hij := hit k (by omega)
  refine vv_castS X hij CL_J20 q2300 dX1_peakAt_21 ?_
  refine vv_callVp X (mJ20_intValue (kL K) D (it k) ((rk (fun c => decide (top P (pwc P S) c)) (pwc P S) (nC P)).2 k)) q2301 q1323 q1324 q163 q1325 nJ20_intValue ⟨(Nat.le_of_ble_eq_true rfl), (Nat.le_of_ble_eq_true rfl)⟩ dX1_peakAt_24 rfl (Nat.le_of_ble_eq_true rfl) (recv X hij CL_J20) hij ⟨(Nat.le_of_ble_eq_true rfl), (Nat.le_of_ble_eq_true rfl)⟩ ?_
  exact vv_iret X hQ dX1_peakAt_27 (Nat.le_of_ble_eq_true rfl) (Nat.le_of_ble_eq_true rfl) (⟨rfl, _, hR, hPK2, hold, hnew⟩)
set_option maxHeartbeats 800000 in
theorem xX1_peakAt (l : Launch) (D : DD) (hl : l.stackTraces = false) (u : Nat → Nat) (P T : Nat → Int32) (o : Nat) (g : Nat → Nat) (S : Nat → Int32) (pw : Option Nat) (c : Nat) (v0 v1 v2 v3 v5 v6 v7 : Value) (k : Int32) (hC : VC P) (hV : VS S) (hA : AP g u P) (hk9 : ¬ ix (rk (fun c => decide (top P (pwc P S) c)) (pwc P S) (nC P)).1 k) : Cx l yX1_peakAt cX1_peakAt 3 (some .int) { frames := 22, cells := 581, slots := 23196, locals := 3348 } D [.ref c, .int (k)] (fun H => KH D H ∧ oB D H c 0 [v0, v1, v2, v3, .ref (g 0), v5, v6, v7] ∧ UR D u P T o H ∧ SR D g u P S pw H ∧ PK D P S pw H) (fun q => q = g 0) (fun r H H1 => False) (fun Xn q H H1 => Xn = "java/lang/IndexOutOfBoundsException" ∧ ∃ p, SR D g u P S (some p) H1 ∧ PK D P S (some p) H1 ∧ (∀ q, pw = some q → p = q) ∧ (pw = some p ∨ H.size ≤ p)) := by
  refine Cx.of (by decide +kernel) (Nat.le_of_ble_eq_true rfl) (fun K Qf hkl X ht hM hQ => ?_)
  subst hkl
  obtain ⟨hK, hc, hU, hR, hPK⟩ := hM
  have hz : (kS K).heap.size ≤ (kS K).heap.size := Nat.le_refl _
  have hP := hC.v
  have l0 := hP.l0
  have l1 := hP.l1
  have l2 := hP.l2
  have l4 := hP.l4
  have l5 := hP.l5
  have l8 := hP.l8
  have l9 := hP.l9
  have l10 := hP.l10
  have l71 := hP.l71
  have l76 := hP.l76
  have l77 := hP.l77
  have hx1 := hC.x1
  have hy1 := hC.y1
  have ht1 := hC.t1
  have he1 := hC.e1
  have hm1 := hC.m1
  have hcc : nC P ≤ 144 := Nat.mul_le_mul l9 l10
  have hnc0 : 0 < nC P := Nat.mul_pos hx1 hy1
  refine vv_sub (lv' := [(0, .ref c), (1, .int (k))]) [0, 1] rfl ?_
  refine vv_aload_n X dX1_peakAt_0 rfl 0 rfl ?_
  refine vv_callVp X (mX1_there (kL K) D u P T o g S pw c v0 v1 v2 v3 v5 v6 v7  hC hV ) q1797 q1799 qs36 q137 q1800 nX1_there ⟨(Nat.le_of_ble_eq_true rfl), (Nat.le_of_ble_eq_true rfl)⟩ dX1_peakAt_1 rfl (Nat.le_of_ble_eq_true rfl) (recv X hc CL_X1) ⟨hK, hc, hU, hR⟩ ⟨(Nat.le_of_ble_eq_true rfl), (Nat.le_of_ble_eq_true rfl)⟩ ?_
  refine vv_callV X (mX3_peaks (kL K) D u P T o g S pw hC hV hA) q2048 q2049 q2050 q150 q2051 nX3_peaks ⟨(Nat.le_of_ble_eq_true rfl), (Nat.le_of_ble_eq_true rfl)⟩ dX1_peakAt_4 rfl (Nat.le_of_ble_eq_true rfl) (recv X hR.ob CL_X3) ⟨hK, hU, hR, hPK⟩ (fun q z => by rcases z with rfl; exact (Or.inl rfl)) ⟨(Nat.le_of_ble_eq_true rfl), (Nat.le_of_ble_eq_true rfl)⟩ (fun v_ H hq hz_ hk => ?_)
  obtain ⟨⟨b, nd, it, rfl, hbz, hL, hit⟩, p, hR2, hPK2, hold, hnew⟩ := hq
  replace hc := hc.kept (hk _ hc.lt (X.oo hc hR.ob CL_X1 CL_X3 (by decide)))
  replace hK := hK.to hk (fun q z => by rcases z with rfl; exact hR.kn X hK 0 (Or.inl (by decide)))
  replace hU := hU.own hA l4 (Q := (· = 0)) (fun k hk => by subst hk; exact Or.inl (by decide)) (fun q hl hq => hk q hl (hq 0 rfl))
  replace hz := Nat.le_trans hz hz_
  clear hk hz_ hR
  have hR := hR2
  clear hR2
  obtain ⟨m, hm⟩ : ∃ m, m = (rk (fun c => decide (top P (pwc P S) c)) (pwc P S) (nC P)).1 := ⟨_, rfl⟩
  have hm9 := rk_le (fun c => decide (top P (pwc P S) c)) (pwc P S) (nC P)
  rw [← hm] at hL hit hm9
  have hb := hL.1
  refine vv_astore_n (lv' := [(2, .ref b), (0, .ref c), (1, .int (k))]) X dX1_peakAt_7 rfl (by decide) rfl ?_
  refine vv_iload_n X dX1_peakAt_8 rfl 2 rfl ?_
  refine vv_aload_n X dX1_peakAt_9 rfl 0 rfl ?_
  refine vv_callVp X (mJ33_size (kL K) D b m _ _) q2329 q328 q3653 q182 q330 nJ33_size ⟨(Nat.le_of_ble_eq_true rfl), (Nat.le_of_ble_eq_true rfl)⟩ dX1_peakAt_10 rfl (Nat.le_of_ble_eq_true rfl) (recv X hb CL_J33) hb ⟨(Nat.le_of_ble_eq_true rfl), (Nat.le_of_ble_eq_true rfl)⟩ ?_
  refine vx_cS X (xX1_checkIndex (kL K) D hl k m (by rw [hm]; exact hk9)) q446 q447 q137 q448 nX1_checkIndex ⟨(Nat.le_of_ble_eq_true rfl), (Nat.le_of_ble_eq_true rfl)⟩ dX1_peakAt_13 rfl (Nat.le_of_ble_eq_true rfl) hK (fun _ z => z.elim) ⟨(Nat.le_of_ble_eq_true rfl), (Nat.le_of_ble_eq_true rfl)⟩ (fun Xn q H hq hz_ hk hXO => ?_) (fun v_ H hq hz_ hk => hq.elim)
  obtain rfl := hq
  exact vt_out X (fun x hx => (ht x hx).elim) hQ hXO (Nat.le_of_ble_eq_true rfl) (Nat.le_of_ble_eq_true rfl) (⟨rfl, _, hR.kept (fun q hl _ => hk q hl (fun z => z)) (fun q hl _ => hk q hl (fun z => z)), fun q e => (hPK2 q e).kept (hk _ (hPK2 q e).lt (fun z => z)), hold, hnew⟩)
theorem rk_all (sc : Nat → Int64) : ∀ n, (rk (fun _ => true) sc n).1 = n
  | 0 => rfl
  | n + 1 => by
    unfold rk
    rw [if_pos rfl]
    exact congrArg (· + 1) (rk_all sc n)
set_option maxHeartbeats 800000 in
theorem mX1_loudest (l : Launch) (D : DD) (u : Nat → Nat) (P T : Nat → Int32) (o : Nat) (g : Nat → Nat) (S : Nat → Int32) (pw : Option Nat) (c : Nat) (v0 v1 v2 v3 v5 v6 v7 : Value) (k : Nat) (hC : VC P) (hV : VS S) (hA : AP g u P) (hk9 : k < nM P) : Ct l yX1_loudest cX1_loudest 3 (some .int) { frames := 21, cells := 578, slots := 23045, locals := 3327 } D [.ref c, .int (nI k)] (fun H => KH D H ∧ oB D H c 0 [v0, v1, v2, v3, .ref (g 0), v5, v6, v7] ∧ UR D u P T o H ∧ SR D g u P S pw H) (fun _ => False) (fun r H H1 => r = some (.int (nI ((rk (fun _ => true) (lev P S) (nM P)).2 k)))) := by
  refine Ct.of (by decide +kernel) (Nat.le_of_ble_eq_true rfl) (fun K Qf hkl X hM hQ => ?_)
  subst hkl
  obtain ⟨hK, hc, hU, hR⟩ := hM
  have hz : (kS K).heap.size ≤ (kS K).heap.size := Nat.le_refl _
  have hP := hC.v
  have l0 := hP.l0
  have l1 := hP.l1
  have l2 := hP.l2
  have l4 := hP.l4
  have l5 := hP.l5
  have l8 := hP.l8
  have l9 := hP.l9
  have l10 := hP.l10
  have l71 := hP.l71
  have l76 := hP.l76
  have l77 := hP.l77
  have hx1 := hC.x1
  have hy1 := hC.y1
  have ht1 := hC.t1
  have he1 := hC.e1
  have hm1 := hC.m1
  have hcc : nC P ≤ 144 := Nat.mul_le_mul l9 l10
  have hnc0 : 0 < nC P := Nat.mul_pos hx1 hy1
  have hrl := rk_lt (fun _ => true) (lev P S) (nM P) k (by rw [rk_all]; exact hk9)
  refine vv_sub (lv' := [(0, .ref c), (1, .int (nI k))]) [0, 1] rfl ?_
  refine vv_aload_n X dX1_loudest_0 rfl 0 rfl ?_
  refine vv_iload_n X dX1_loudest_1 rfl 1 rfl ?_
  refine vv_callVp X (mX1_withMic (kL K) D u P T o g S pw c v0 v1 v2 v3 v5 v6 v7 k hC hV (by omega)) q1793 q1795 qs35 q137 q1796 nX1_withMic ⟨(Nat.le_of_ble_eq_true rfl), (Nat.le_of_ble_eq_true rfl)⟩ dX1_loudest_2 rfl (Nat.le_of_ble_eq_true rfl) (recv X hc CL_X1) ⟨hK, hc, hU, hR⟩ ⟨(Nat.le_of_ble_eq_true rfl), (Nat.le_of_ble_eq_true rfl)⟩ ?_
  refine vv_astore_n (lv' := [(2, .ref (g 0)), (0, .ref c), (1, .int (nI k))]) X dX1_loudest_5 rfl (by decide) rfl ?_
  refine vv_aload_n X dX1_loudest_6 rfl 0 rfl ?_
  refine vv_getfN (C := RX3) (T := TX3) (N := 8) (ref := "AcousticCamera$State") X hR.ob in_X3 CL_X3 4 (by decide) q1696 rfl rfl dX1_loudest_7 ?_
  refine vv_alen (ty := 0) X hR.wt rfl dX1_loudest_10 ?_
  refine vv_indy16 X rfl dX1_loudest_11 (Nat.le_of_ble_eq_true rfl) ?_
  have hL_1 : LO D _ (D.2.2 616) 16 [] := KH.lo16 hK
  refine vv_aload_n X dX1_loudest_16 rfl 0 rfl ?_
  refine vv_indyA17 X rfl dX1_loudest_17 rfl (Nat.le_of_ble_eq_true rfl) (Nat.le_of_ble_eq_true rfl) (Nat.le_of_ble_eq_true rfl) (fun a_2 H eq_3 hx hl => ?_)
  have lt_4 : c < a_2 := by have h9 := hc.lt; first | omega | exact Nat.lt_of_lt_of_eq h9 (Eq.symm (by assumption))
  have lt_5 : (D.2.2 616) < a_2 := by have h9 := hL_1.lt; first | omega | exact Nat.lt_of_lt_of_eq h9 (Eq.symm (by assumption))
  have ng_6 : ∀ k, UK (nM P) k → a_2 ≠ g k := fun k hk e => by have h9 := hR.ltA k hk; rw [eq_3] at e; omega
  have ns_7 : ∀ j, SJ P j → a_2 ≠ g j := fun k hk e => by have h9 := hR.ltS k hk; rw [eq_3] at e; omega
  have nu_8 : ∀ j, VK P j → a_2 ≠ u j := fun k hk e => by have h9 := hU.ltB k hk; rw [eq_3] at e; omega
  have ne_9 : c ≠ a_2 := Nat.ne_of_lt (eq_3.symm ▸ hc.lt)
  have ne_10 : (D.2.2 616) ≠ a_2 := Nat.ne_of_lt (eq_3.symm ▸ hL_1.lt)
  have ge_11 : (kS K).heap.size ≤ a_2 := by rw [eq_3]; exact hz
  have kn_12 : KN D a_2 := KN.new hK (Nat.le_of_eq eq_3.symm)
  replace hU := hU.ex hx
  replace hR := hR.ex hx
  replace hc := hc.kept (hx.2 _ hc.lt)
  replace hL_1 := hL_1.kept (hx.2 _ hL_1.lt)
  replace hK := hK.ex hx
  replace hz : (kS K).heap.size ≤ H.size := by have := hx.1; omega
  have hL_13 : LO D H a_2 17 [.ref (g 0)] := hl
  clear hl hx
  have hI0 : ILd D u P T o g S pw (D.2.2 616) a_2 H := ⟨hL_1, hL_13, hK, hU, hR⟩
  refine vv_callS X (mX1_ranking (kL K) D (D.2.2 616) a_2 (nM P) { frames := 1, cells := 0, slots := 0, locals := 12 } { frames := 2, cells := 0, slots := 0, locals := 40 } (ILd D u P T o g S pw (D.2.2 616) a_2) (fun _ => False) (fun _ => true) (lev P S) H.size (by omega) (by decide) (by decide) (by decide) (by decide) (cho16 (fun H h => h.1)) (sco17 hC hV (fun H h => h.2) (Nat.le_refl _)) (fun H h => h.2.2.1) (fun q e => e.elim) (fun H q k h e hN => e.elim) (fun H9 H1 h hz he => ILd.st hI0 h he)) q2588 q2059 q137 q2060 nX1_ranking ⟨(Nat.le_of_ble_eq_true rfl), (Nat.le_of_ble_eq_true rfl)⟩ dX1_loudest_22 rfl (Nat.le_of_ble_eq_true rfl) ⟨hI0, rfl⟩ (fun _ z => z.elim) ⟨(Nat.le_of_ble_eq_true rfl), (Nat.le_of_ble_eq_true rfl)⟩ (fun v_ H hq hz_ hk => ?_)
  obtain ⟨b, nd, it, rfl, hbz, hL, hit, hI1⟩ := hq
  obtain ⟨-, -, hK1, hU1, hR1⟩ := hI1
  replace hz := Nat.le_trans hz hz_
  clear hk hz_ hI0 hK hU hR
  have hK := hK1
  have hU := hU1
  have hR := hR1
  rw [rk_all] at hL hit
  obtain ⟨m, hm⟩ : ∃ m, m = nM P := ⟨_, rfl⟩
  rw [← hm] at hL
  have hb := hL.1
  refine vv_iload_n X dX1_loudest_25 rfl 2 rfl ?_
  refine vv_callVp X (mJ33_get (kL K) D b m k nd it (by omega) (by omega)) q2330 q1619 q3654 q182 q1621 nJ33_get ⟨(Nat.le_of_ble_eq_true rfl), (Nat.le_of_ble_eq_true rfl)⟩ dX1_loudest_26 rfl (Nat.le_of_ble_eq_true rfl) (recv X hb CL_J33) hL ⟨(Nat.le_of_ble_eq_true rfl), (Nat.le_of_ble_eq_true rfl)⟩ ?_
  have hij := hit k (by omega)
  refine vv_castS X hij CL_J20 q2300 dX1_loudest_29 ?_
  refine vv_callVp X (mJ20_intValue (kL K) D (it k) ((rk (fun _ => true) (lev P S) (nM P)).2 k)) q2301 q1323 q1324 q163 q1325 nJ20_intValue ⟨(Nat.le_of_ble_eq_true rfl), (Nat.le_of_ble_eq_true rfl)⟩ dX1_loudest_32 rfl (Nat.le_of_ble_eq_true rfl) (recv X hij CL_J20) hij ⟨(Nat.le_of_ble_eq_true rfl), (Nat.le_of_ble_eq_true rfl)⟩ ?_
  exact vv_iret X hQ dX1_loudest_35 (Nat.le_of_ble_eq_true rfl) (Nat.le_of_ble_eq_true rfl) (rfl)
