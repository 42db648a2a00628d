/-! State.powers, best, blockBest, isPeak: printed by gen/s7.py -/
set_option maxRecDepth 100000
theorem SR.ltA {D : DD} {g u : Nat → Nat} {P S : Nat → Int32} {pw : Option Nat} {H : Heap} (h : SR D g u P S pw H) : ∀ k, UK (nM P) k → g k < H.size := by
  intro k hk
  rcases (show k = 0 ∨ k = 1 ∨ k = 2 ∨ k = 3 ∨ k = 4 ∨ k = 5 ∨ k = 6 ∨ k = 7 ∨ (10 ≤ k ∧ k < 10 + nM P) by rcases hk with q | q <;> omega) with e | e | e | e | e | e | e | e | ⟨e, e'⟩
  · subst e; exact h.ob.lt
  · subst e; exact h.mu.1.lt
  · subst e; exact h.mu.2.lt
  · subst e; exact h.on.1.lt
  · subst e; exact h.on.2.lt
  · subst e; exact h.sa.lt
  · subst e; exact h.wt.lt
  · subst e; exact h.ra.lt
  · obtain ⟨m, rfl⟩ : ∃ m, k = 10 + m := ⟨k - 10, by omega⟩
    exact (h.row m (by omega)).lt
theorem UR.ex {D : DD} {u : Nat → Nat} {P T : Nat → Int32} {o : Nat} {H H1 : Heap} (h : UR D u P T o H) (hx : Ex H H1) : UR D u P T o H1 := h.kept (fun q hl _ => hx.2 q hl)
theorem SR.ex {D : DD} {g u : Nat → Nat} {P S : Nat → Int32} {pw : Option Nat} {H H1 : Heap} (h : SR D g u P S pw H) (hx : Ex H H1) : SR D g u P S pw H1 := h.kept (fun q hl _ => hx.2 q hl) (fun q hl _ => hx.2 q hl)
theorem nX3_powers : notMH yX3_powers 0 := by decide +kernel
set_option maxHeartbeats 800000 in
theorem mX3_powers (l : Launch) (D : DD) (u : Nat → Nat) (P T : Nat → Int32) (o : Nat) (g : Nat → Nat) (S : Nat → Int32) (pw : Option Nat)  (hC : VC P) (hV : VS S) (hA : AP g u P) : Ct l yX3_powers cX3_powers 3 (some (.array .long)) { frames := 7, cells := 1, slots := 144, locals := 149 } D [.ref (g 0)] (fun H => KH D H ∧ UR D u P T o H ∧ SR D g u P S pw H ∧ PK D P S pw H) (fun q => q = g 0) (fun r H H1 => ∃ p, r = some (.ref p) ∧ SR D g u P S (some p) H1 ∧ PK D P S (some p) H1 ∧ (∀ q, pw = some q → p = q) ∧ (pw = some p ∨ H.size ≤ p)) := by
  refine Ct.of (by decide +kernel) (Nat.le_of_ble_eq_true rfl) (fun K Qf hkl X hM hQ => ?_)
  subst hkl
  obtain ⟨hK, hU, hR, hPK⟩ := hM
  have hz : (kS K).heap.size ≤ (kS K).heap.size := Nat.le_refl _
  have hP := hC.v
  have l0 := hP.l0
  have l1 := hP.l1
  have l2 := hP.l2
  have l4 := hP.l4
  have l5 := hP.l5
  have l8 := hP.l8
  have l9 := hP.l9
  have l10 := hP.l10
  have l71 := hP.l71
  have l76 := hP.l76
  have l77 := hP.l77
  have hx1 := hC.x1
  have hy1 := hC.y1
  have ht1 := hC.t1
  have he1 := hC.e1
  have hm1 := hC.m1
  have hcc : nC P ≤ 144 := Nat.mul_le_mul l9 l10
  refine vv_sub (lv' := [(0, .ref (g 0))]) [0] rfl ?_
  refine vv_aload_n X dX3_powers_0 rfl 0 rfl ?_
  refine vv_getf (C := RX3) (T := TX3) (N := 8) (ref := "AcousticCamera$State") X hR.ob in_X3 CL_X3 7 (by decide) q1701 rfl rfl dX3_powers_1 ?_
  cases pw with
  | none =>
    refine vv_ifnullN (tgt := 12) X dX3_powers_4 (by decide) ?_
    refine vv_aload_n X dX3_powers_12 rfl 0 rfl ?_
    refine vv_getf (C := RX3) (T := TX3) (N := 8) (ref := "AcousticCamera$State") X hR.ob in_X3 CL_X3 0 (by decide) q1687 rfl rfl dX3_powers_13 ?_
    refine vv_callVp X (mX5_cells (kL K) D u P T o  ) q1960 q1216 q1217 q152 q1218 nX5_cells ⟨(Nat.le_of_ble_eq_true rfl), (Nat.le_of_ble_eq_true rfl)⟩ dX3_powers_16 rfl (Nat.le_of_ble_eq_true rfl) (recv X hU.ob CL_X5) hU ⟨(Nat.le_of_ble_eq_true rfl), (Nat.le_of_ble_eq_true rfl)⟩ ?_
    refine vv_newlA (M := 144) X (by omega) (by decide) (Nat.le_of_ble_eq_true rfl) (Nat.le_of_ble_eq_true rfl) rfl dX3_powers_19 (fun a_1 H eq_2 hx ho => ?_)
    have ng_3 : ∀ k, UK (nM P) k → a_1 ≠ g k := fun k hk e => by have h9 := hR.ltA k hk; rw [eq_2] at e; omega
    have ns_4 : ∀ j, SJ P j → a_1 ≠ g j := fun k hk e => by have h9 := hR.ltS k hk; rw [eq_2] at e; omega
    have nu_5 : ∀ j, VK P j → a_1 ≠ u j := fun k hk e => by have h9 := hU.ltB k hk; rw [eq_2] at e; omega
    have ge_6 : (kS K).heap.size ≤ a_1 := by rw [eq_2]; exact hz
    have kn_7 : KN D a_1 := KN.new hK (Nat.le_of_eq eq_2.symm)
    replace hU := hU.ex hx
    replace hR := hR.ex hx
    replace hK := hK.ex hx
    replace hz : (kS K).heap.size ≤ H.size := by have := hx.1; omega
    have hR_8 : lA D H a_1 (nC P) (fun _ => 0) := ho
    clear ho hx
    refine vv_astore_n (lv' := [(1, .ref a_1), (0, .ref (g 0))]) X dX3_powers_21 rfl (by decide) rfl ?_
    refine vv_iconst (v := nI 0) X dX3_powers_22 (by decide) ?_
    refine vv_istore_n (lv' := [(2, .int (nI 0)), (1, .ref a_1), (0, .ref (g 0))]) X dX3_powers_23 rfl (by decide) rfl ?_
    have hx_9 : ∀ (H : Heap) (hK : KH D H) (hU : UR D u P T o H) (hR : SR D g u P S none H) (hz : (kS K).heap.size ≤ H.size) (hm : lA D H a_1 (nC P) (rz (fun _ => 0) (pwc P S) (nC P))), V K 3 (fun q => q = g 0) H 1 144 Qf 44 [(0, .ref (g 0)), (1, .ref a_1), (2, .int (nI (nC P)))] [] := by
      intro H hK hU hR hz hm
      refine vv_aload_n X dX3_powers_44 rfl 0 rfl ?_
      refine vv_aload_n X dX3_powers_45 rfl 1 rfl ?_
      refine vv_putf (C := RX3) (T := TX3) (N := 8) (ref := "AcousticCamera$State") X hR.ob in_X3 CL_X3 tyX3 tyX3_ok nmX3 7 (by decide) q1701 rfl rfl rfl rfl (Nat.le_of_ble_eq_true rfl) (Or.inl rfl) dX3_powers_46 (fun H hc ho => ?_)
      replace hm := hm.kept (hc.2 _ (ng_3 _ (Or.inl (by decide))))
      replace hK := hK.ch hc (hR.kn X hK 0 (Or.inl (by decide)))
      replace hU := hU.own hA l4 (Q := (· = 0)) (fun k hk => by subst hk; exact Or.inl (by decide)) hc.own
      replace hz := Nat.le_trans hz (Nat.le_of_eq hc.1.symm)
      replace hR := hR.putP hA l4 l5 (pw' := some a_1) hc ho
      clear hc ho
      refine vv_aload_n X dX3_powers_49 rfl 1 rfl ?_
      exact vv_aret X (Or.inr ⟨_, rfl⟩) (Or.inr ⟨_, rfl⟩) hQ dX3_powers_50 (Nat.le_of_ble_eq_true rfl) (Nat.le_of_ble_eq_true rfl) (⟨a_1, rfl, hR, (fun q e => by cases e; exact lA_cg hm (fun j hj => rz_in hj)), (fun q e => by cases e), Or.inr ge_6⟩)
    have hl_10 : ∀ (n_i i : Nat) (H : Heap), i + n_i = nC P → (KH D H) → (UR D u P T o H) → (SR D g u P S none H) → ((kS K).heap.size ≤ H.size) → (lA D H a_1 (nC P) (rz (fun _ => 0) (pwc P S) i)) → V K 3 (fun q => q = g 0) H 1 144 Qf 24 [(0, .ref (g 0)), (1, .ref a_1), (2, .int (nI i))] [] := by
      intro n_i
      induction n_i with
      | zero =>
        intro i H hi hK hU hR hz hm
        obtain rfl : i = nC P := by omega
        refine vv_iload_n X dX3_powers_24 rfl 2 rfl ?_
        refine vv_aload_n X dX3_powers_25 rfl 1 rfl ?_
        refine vv_alen (ty := 1) X hm rfl dX3_powers_26 ?_
        refine vn_ge (tgt := 44) X (by omega) (by omega) dX3_powers_27 (by decide) (fun c_27 => ?_) (fun c_27 => ?_)
        · exact hx_9 H hK hU hR hz hm
        · exact absurd c_27 (by omega)
      | succ n_i ihi =>
        intro i H hi hK hU hR hz hm
        refine vv_iload_n X dX3_powers_24 rfl 2 rfl ?_
        refine vv_aload_n X dX3_powers_25 rfl 1 rfl ?_
        refine vv_alen (ty := 1) X hm rfl dX3_powers_26 ?_
        refine vn_ge (tgt := 44) X (by omega) (by omega) dX3_powers_27 (by decide) (fun c_27 => ?_) (fun c_27 => ?_)
        · exact absurd hi (by omega)
        · refine vv_aload_n X dX3_powers_30 rfl 1 rfl ?_
          refine vv_iload_n X dX3_powers_31 rfl 2 rfl ?_
          refine vv_aload_n X dX3_powers_32 rfl 0 rfl ?_
          refine vv_iload_n X dX3_powers_33 rfl 2 rfl ?_
          refine vv_callVp X (mX3_powerOf (kL K) D u P T o g S none i hC hV (by omega)) q1961 q1963 qs40 q150 q1964 nX3_powerOf ⟨(Nat.le_of_ble_eq_true rfl), (Nat.le_of_ble_eq_true rfl)⟩ dX3_powers_34 rfl (Nat.le_of_ble_eq_true rfl) (recv X hR.ob CL_X3) ⟨hK, hU, hR⟩ ⟨(Nat.le_of_ble_eq_true rfl), (Nat.le_of_ble_eq_true rfl)⟩ ?_
          refine vv_last X hm (i) (by omega) (by omega) rfl (Or.inr ge_6) dX3_powers_37 (fun H hc ho => ?_)
          replace hK := hK.ch hc kn_7
          replace hU := hU.kept (fun q hl hq => hc.2 q (fun e => by obtain ⟨j_, h_, e_⟩ := hq; exact nu_5 j_ h_ (e.symm.trans e_)))
          replace hR := hR.kept (fun q hl hq => hc.2 q (fun e => by obtain ⟨k_, hk_, e_⟩ := hq; exact ng_3 k_ hk_ (e.symm.trans e_))) (fun q hl hq => hc.2 q (fun e => by obtain ⟨j_, h_, e_⟩ := hq; exact ns_4 j_ h_ (e.symm.trans e_)))
          replace hz := Nat.le_trans hz (Nat.le_of_eq hc.1.symm)
          clear hm
          have hm := ho
          clear hc ho
          refine vv_iinc (v := nI (i + 1)) (lv' := [(2, .int (nI (i + 1))), (0, .ref (g 0)), (1, .ref a_1)]) X dX3_powers_38 (k := 2) rfl (nI_add _ 1) (by decide) rfl ?_
          refine vv_goto (tgt := 24) X dX3_powers_41 (by decide) ?_
          refine vv_sub [1, 2, 0] rfl ?_
          exact ihi (i + 1) H (by omega) (hK) (hU) (hR) (hz) (by have e := rz_s (f := fun _ => (0 : Int64)) (g := pwc P S) (n := i) rfl; rw [e] at hm; exact hm)
    refine vv_sub [2, 1, 0] rfl ?_
    exact hl_10 (nC P) 0 H (by first | omega | assumption) (hK) (hU) (hR) (hz) (by rw [rz_0]; exact hR_8)
  | some p =>
    refine vv_ifnull X dX3_powers_4 ?_
    refine vv_aload_n X dX3_powers_7 rfl 0 rfl ?_
    refine vv_getf (C := RX3) (T := TX3) (N := 8) (ref := "AcousticCamera$State") X hR.ob in_X3 CL_X3 7 (by decide) q1701 rfl rfl dX3_powers_8 ?_
    exact vv_aret X (Or.inr ⟨_, rfl⟩) (Or.inr ⟨_, rfl⟩) hQ dX3_powers_11 (Nat.le_of_ble_eq_true rfl) (Nat.le_of_ble_eq_true rfl) (⟨p, rfl, hR, hPK, fun q e => Option.some.inj e, Or.inl rfl⟩)
theorem nX3_lambda_best_0 : notMH yX3_lambda_best_0 2 := by decide +kernel
set_option maxHeartbeats 800000 in
theorem mX3_lambda_best_0 (l : Launch) (D : DD) (p n c : Nat) (f : Nat → Int64) (hc : c < n) (hn : n < 2 ^ 31) : Cp l yX3_lambda_best_0 cX3_lambda_best_0 2 (some .long) { frames := 1, cells := 0, slots := 0, locals := 12 } D [.ref p, .int (nI c)] (fun H => lA D H p n f) (.long (f c)) := by
  refine Ct.of (by decide +kernel) (Nat.le_of_ble_eq_true rfl) (fun K Qf hkl X hM hQ => ?_)
  subst hkl
  have hA_ := hM
  refine vv_sub (lv' := [(0, .ref p), (1, .int (nI c))]) [0, 1] rfl ?_
  refine vv_aload_n X dX3_lambda_best_0_0 rfl 0 rfl ?_
  refine vv_iload_n X dX3_lambda_best_0_1 rfl 1 rfl ?_
  refine vv_lald X hA_ (c) (by omega) (by omega) rfl dX3_lambda_best_0_2 ?_
  exact vv_lret X hQ dX3_lambda_best_0_3 (Nat.le_of_ble_eq_true rfl) (Nat.le_of_ble_eq_true rfl) (pql (rfl))
/-- the score of site 4: the entry of an array of longs -/
theorem sco4 {l : Launch} {D : DD} {a p n N : Nat} {f : Nat → Int64} {Inv : Heap → Prop} (hI : ∀ H, Inv H → LO D H a 4 [.ref p] ∧ lA D H p N f) (hn : n ≤ N) (hN : N < 2 ^ 31) : SCO l D a { frames := 1, cells := 0, slots := 0, locals := 12 } Inv (fun _ => False) n f := by
  intro K y cc nL ret rm A H cells slots Q pc lv st idx cnt k hk X hl q1 hR d hw hi hA hc kk
  subst hl
  refine vv_lam4 X (mX3_lambda_best_0 (kL K) D p N k f (by omega) hN) (hI H hi).1 q1 ⟨hR.1, by have := hR.2; omega⟩ d rfl hw (hI H hi).2 hA hc (fun v H H1 h => ⟨_, h.1⟩) (fun v_ H1 hq hz_ hk_ => ?_)
  obtain ⟨rfl, rfl⟩ := hq
  exact kk H1 hi hz_ hk_
theorem nX3_best : notMH yX3_best 0 := by decide +kernel
set_option maxHeartbeats 800000 in
theorem mX3_best (l : Launch) (D : DD) (u : Nat → Nat) (P T : Nat → Int32) (o : Nat) (g : Nat → Nat) (S : Nat → Int32) (pw : Option Nat)  (hC : VC P) (hV : VS S) (hA : AP g u P) : Ct l yX3_best cX3_best 2 (some .int) { frames := 8, cells := 2, slots := 145, locals := 3100 } D [.ref (g 0)] (fun H => KH D H ∧ UR D u P T o H ∧ SR D g u P S pw H ∧ PK D P S pw H) (fun q => q = g 0) (fun r H H1 => r = some (.int (nI (bsN (pwc P S) (nC P)))) ∧ ∃ p, SR D g u P S (some p) H1 ∧ PK D P S (some p) H1 ∧ (∀ q, pw = some q → p = q) ∧ (pw = some p ∨ H.size ≤ p)) := by
  refine Ct.of (by decide +kernel) (Nat.le_of_ble_eq_true rfl) (fun K Qf hkl X hM hQ => ?_)
  subst hkl
  obtain ⟨hK, hU, hR, hPK⟩ := hM
  have hz : (kS K).heap.size ≤ (kS K).heap.size := Nat.le_refl _
  have hP := hC.v
  have l0 := hP.l0
  have l1 := hP.l1
  have l2 := hP.l2
  have l4 := hP.l4
  have l5 := hP.l5
  have l8 := hP.l8
  have l9 := hP.l9
  have l10 := hP.l10
  have l71 := hP.l71
  have l76 := hP.l76
  have l77 := hP.l77
  have hx1 := hC.x1
  have hy1 := hC.y1
  have ht1 := hC.t1
  have he1 := hC.e1
  have hm1 := hC.m1
  have hcc : nC P ≤ 144 := Nat.mul_le_mul l9 l10
  have hnc : 0 < nC P := Nat.mul_pos hx1 hy1
  refine vv_sub (lv' := [(0, .ref (g 0))]) [0] rfl ?_
  refine vv_aload_n X dX3_best_0 rfl 0 rfl ?_
  refine vv_callV X (mX3_powers (kL K) D u P T o g S pw hC hV hA) q1997 q1957 q1958 q150 q1959 nX3_powers ⟨(Nat.le_of_ble_eq_true rfl), (Nat.le_of_ble_eq_true rfl)⟩ dX3_best_1 rfl (Nat.le_of_ble_eq_true rfl) (recv X hR.ob CL_X3) ⟨hK, hU, hR, hPK⟩ (fun q z => by rcases z with rfl; exact (Or.inl rfl)) ⟨(Nat.le_of_ble_eq_true rfl), (Nat.le_of_ble_eq_true rfl)⟩ (fun v_ H hq hz_ hk => ?_)
  obtain ⟨a_1, rfl, hR2, hPK2, hold, hnew⟩ := hq
  replace hK := hK.to hk (fun q z => by rcases z with rfl; exact hR.kn X hK 0 (Or.inl (by decide)))
  replace hU := hU.own hA l4 (Q := (· = 0)) (fun k hk => by subst hk; exact Or.inl (by decide)) (fun q hl hq => hk q hl (hq 0 rfl))
  replace hz := Nat.le_trans hz hz_
  have hp_2 : lA D H a_1 (nC P) (pwc P S) := hPK2 a_1 rfl
  clear hk hz_ hR
  have hR := hR2
  clear hR2 hPK2
  refine vv_astore_n (lv' := [(1, .ref a_1), (0, .ref (g 0))]) X dX3_best_4 rfl (by decide) rfl ?_
  refine vv_aload_n X dX3_best_5 rfl 0 rfl ?_
  refine vv_alen (ty := 1) X hp_2 rfl dX3_best_6 ?_
  refine vv_aload_n X dX3_best_7 rfl 0 rfl ?_
  refine vv_indyA4 X rfl dX3_best_8 rfl (Nat.le_of_ble_eq_true rfl) (Nat.le_of_ble_eq_true rfl) (Nat.le_of_ble_eq_true rfl) (fun a_3 H eq_4 hx hl => ?_)
  have ng_5 : ∀ k, UK (nM P) k → a_3 ≠ g k := fun k hk e => by have h9 := hR.ltA k hk; rw [eq_4] at e; omega
  have ns_6 : ∀ j, SJ P j → a_3 ≠ g j := fun k hk e => by have h9 := hR.ltS k hk; rw [eq_4] at e; omega
  have nu_7 : ∀ j, VK P j → a_3 ≠ u j := fun k hk e => by have h9 := hU.ltB k hk; rw [eq_4] at e; omega
  have ne_8 : a_1 ≠ a_3 := Nat.ne_of_lt (eq_4.symm ▸ hp_2.lt)
  have ge_9 : (kS K).heap.size ≤ a_3 := by rw [eq_4]; exact hz
  have kn_10 : KN D a_3 := KN.new hK (Nat.le_of_eq eq_4.symm)
  replace hU := hU.ex hx
  replace hR := hR.ex hx
  replace hp_2 := hp_2.kept (hx.2 _ hp_2.lt)
  replace hK := hK.ex hx
  replace hz : (kS K).heap.size ≤ H.size := by have := hx.1; omega
  have hL_11 : LO D H a_3 4 [.ref a_1] := hl
  clear hl hx
  refine vv_callSN X (mX1_best_2 (kL K) D a_3 (nC P) { frames := 1, cells := 0, slots := 0, locals := 12 } (fun H => LO D H a_3 4 [.ref a_1] ∧ lA D H a_1 (nC P) (pwc P S)) (fun _ => False) (pwc P S) (by omega) (by omega) (sco4 (fun H h => h) (Nat.le_refl _) (by omega))) q2000 q2001 q137 q2002 nX1_best_2 ⟨(Nat.le_of_ble_eq_true rfl), (Nat.le_of_ble_eq_true rfl)⟩ dX3_best_13 rfl (Nat.le_of_ble_eq_true rfl) ⟨hL_11, hp_2⟩ (fun _ z => z.elim) ⟨(Nat.le_of_ble_eq_true rfl), (Nat.le_of_ble_eq_true rfl)⟩ (fun v_ H hq hz_ hk => ?_)
  obtain ⟨rfl, -⟩ := hq
  replace hp_2 := hp_2.kept (hk _ hp_2.lt (fun z => z))
  replace hL_11 := hL_11.kept (hk _ hL_11.lt (fun z => z))
  replace hK := hK.to hk (fun _ z => z.elim)
  replace hU := hU.kept (fun q hl _ => hk q hl (fun z => z))
  replace hR := hR.kept (fun q hl _ => hk q hl (fun z => z)) (fun q hl _ => hk q hl (fun z => z))
  replace hz := Nat.le_trans hz hz_
  clear hk hz_
  exact vv_iret X hQ dX3_best_16 (Nat.le_of_ble_eq_true rfl) (Nat.le_of_ble_eq_true rfl) (⟨rfl, _, hR, (fun q e => by cases e; exact hp_2), hold, hnew⟩)
