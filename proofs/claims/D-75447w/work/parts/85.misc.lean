/-! AcousticCamera: contrast, micAt, sourceAt: printed by gen/s32.py -/
set_option maxRecDepth 100000
theorem nX1_lambda_contrast_2 : notMH yX1_lambda_contrast_2 3 := by decide +kernel
set_option maxHeartbeats 800000 in
theorem mX1_lambda_contrast_2 (l : Launch) (D : DD) (b p n c : Nat) (f : Nat → Int64) (hc : c < n) (hb : b < n) (hn : n < 2 ^ 31) : Cp l yX1_lambda_contrast_2 cX1_lambda_contrast_2 3 (some .long) { frames := 1, cells := 0, slots := 0, locals := 12 } D [.int (nI b), .ref p, .int (nI c)] (fun H => lA D H p n f) (.long ((if c = b then -1 else f c))) := by
  refine Ct.of (by decide +kernel) (Nat.le_of_ble_eq_true rfl) (fun K Qf hkl X hM hQ => ?_)
  subst hkl
  have hA_ := hM
  refine vv_sub (lv' := [(0, .int (nI b)), (1, .ref p), (2, .int (nI c))]) [0, 1, 2] rfl ?_
  refine vv_iload_n X dX1_lambda_contrast_2_0 rfl 2 rfl ?_
  refine vv_iload_n X dX1_lambda_contrast_2_1 rfl 0 rfl ?_
  refine vn_ne (tgt := 11) X (by omega) (by omega) dX1_lambda_contrast_2_2 (by decide) (fun c_2 => ?_) (fun c_2 => ?_)
  · refine vv_aload_n X dX1_lambda_contrast_2_11 rfl 1 rfl ?_
    refine vv_iload_n X dX1_lambda_contrast_2_12 rfl 2 rfl ?_
    refine vv_lald X hA_ (c) (by omega) (by omega) rfl dX1_lambda_contrast_2_13 ?_
    exact vv_lret X hQ dX1_lambda_contrast_2_14 (Nat.le_of_ble_eq_true rfl) (Nat.le_of_ble_eq_true rfl) (pql ((if_neg c_2).symm))
  · refine vv_ldc2 (v := -1) X q2368 dX1_lambda_contrast_2_5 ?_
    refine vv_goto (tgt := 14) X dX1_lambda_contrast_2_8 (by decide) ?_
    exact vv_lret X hQ dX1_lambda_contrast_2_14 (Nat.le_of_ble_eq_true rfl) (Nat.le_of_ble_eq_true rfl) (pql ((if_pos c_2).symm))
theorem sco9 {l : Launch} {D : DD} {a b p n N : Nat} {f : Nat → Int64} {Inv : Heap → Prop} (hI : ∀ H, Inv H → LO D H a 9 [.int (nI b), .ref p] ∧ lA D H p N f) (hb : b < N) (hn : n ≤ N) (hN : N < 2 ^ 31) : SCO l D a { frames := 1, cells := 0, slots := 0, locals := 12 } Inv (fun _ => False) n (fun c => if c = b then -1 else f c) := by
  intro K y cc nL ret rm A H cells slots Q pc lv st idx cnt k hk X hl q1 hR d hw hi hA hc kk
  subst hl
  refine vv_lam9 X (mX1_lambda_contrast_2 (kL K) D b p N k f (by omega) hb hN) (hI H hi).1 q1 ⟨hR.1, by have := hR.2; omega⟩ d rfl hw (hI H hi).2 hA hc (fun v H H1 h => ⟨_, h.1⟩) (fun v_ H1 hq hz_ hk_ => ?_)
  obtain ⟨rfl, rfl⟩ := hq
  exact kk H1 hi hz_ hk_
/-- the second best as the component finds it, and the contrast -/
def sec (P S : Nat → Int32) : Nat := bsN (fun c => if c = bsN (pwc P S) (nC P) then -1 else pwc P S c) (nC P)
def ctD (P S : Nat → Int32) : UInt32 := if nC P = 1 then FP.fconst0 else if pwc P S (sec P S) = 0 then FP.fconst0 else FP.fdiv (FP.l2f (pwc P S (bsN (pwc P S) (nC P)))) (FP.l2f (pwc P S (sec P S)))
set_option maxHeartbeats 800000 in
theorem mX1_contrast (l : Launch) (D : DD) (u : Nat → Nat) (P T : Nat → Int32) (o : Nat) (g : Nat → Nat) (S : Nat → Int32) (pw : Option Nat) (c : Nat) (v0 v1 v2 v3 v5 v6 v7 : Value)  (hC : VC P) (hV : VS S) (hA : AP g u P) : Ct l yX1_contrast cX1_contrast 4 (some .float) { frames := 9, cells := 4, slots := 291, locals := 3121 } D [.ref c] (fun H => KH D H ∧ oB D H c 0 [v0, v1, v2, v3, .ref (g 0), v5, v6, v7] ∧ UR D u P T o H ∧ SR D g u P S pw H ∧ PK D P S pw H) (fun q => q = g 0) (fun r H H1 => r = some (.float (ctD P S)) ∧ ∃ p, SR D g u P S (some p) H1 ∧ PK D P S (some p) H1 ∧ (∀ q, pw = some q → p = q) ∧ (pw = some p ∨ H.size ≤ p)) := by
  refine Ct.of (by decide +kernel) (Nat.le_of_ble_eq_true rfl) (fun K Qf hkl X hM hQ => ?_)
  subst hkl
  obtain ⟨hK, hc, hU, hR, hPK⟩ := hM
  have hz : (kS K).heap.size ≤ (kS K).heap.size := Nat.le_refl _
  have hP := hC.v
  have l0 := hP.l0
  have l1 := hP.l1
  have l2 := hP.l2
  have l4 := hP.l4
  have l5 := hP.l5
  have l8 := hP.l8
  have l9 := hP.l9
  have l10 := hP.l10
  have l71 := hP.l71
  have l76 := hP.l76
  have l77 := hP.l77
  have hx1 := hC.x1
  have hy1 := hC.y1
  have ht1 := hC.t1
  have he1 := hC.e1
  have hm1 := hC.m1
  have hcc : nC P ≤ 144 := Nat.mul_le_mul l9 l10
  have hnc0 : 0 < nC P := Nat.mul_pos hx1 hy1
  have hbb : bsN (pwc P S) (nC P) < nC P := bsN_lt hnc0
  have hsb : sec P S < nC P := bsN_lt hnc0
  have hsb2 : bsN (fun c => if c = bsN (pwc P S) (nC P) then -1 else pwc P S c) (nC P) < nC P := bsN_lt hnc0
  refine vv_sub (lv' := [(0, .ref c)]) [0] rfl ?_
  refine vv_aload_n X dX1_contrast_0 rfl 0 rfl ?_
  refine vv_callVp X (mX1_there (kL K) D u P T o g S pw c v0 v1 v2 v3 v5 v6 v7  hC hV ) q1797 q1799 qs36 q137 q1800 nX1_there ⟨(Nat.le_of_ble_eq_true rfl), (Nat.le_of_ble_eq_true rfl)⟩ dX1_contrast_1 rfl (Nat.le_of_ble_eq_true rfl) (recv X hc CL_X1) ⟨hK, hc, hU, hR⟩ ⟨(Nat.le_of_ble_eq_true rfl), (Nat.le_of_ble_eq_true rfl)⟩ ?_
  refine vv_callV X (mX3_powers (kL K) D u P T o g S pw hC hV hA) q1956 q1957 q1958 q150 q1959 nX3_powers ⟨(Nat.le_of_ble_eq_true rfl), (Nat.le_of_ble_eq_true rfl)⟩ dX1_contrast_4 rfl (Nat.le_of_ble_eq_true rfl) (recv X hR.ob CL_X3) ⟨hK, hU, hR, hPK⟩ (fun q z => by rcases z with rfl; exact (Or.inl rfl)) ⟨(Nat.le_of_ble_eq_true rfl), (Nat.le_of_ble_eq_true rfl)⟩ (fun v_ H hq hz_ hk => ?_)
  obtain ⟨a_1, rfl, hR2, hPK2, hold, hnew⟩ := hq
  replace hc := hc.kept (hk _ hc.lt (X.oo hc hR.ob CL_X1 CL_X3 (by decide)))
  replace hK := hK.to hk (fun q z => by rcases z with rfl; exact hR.kn X hK 0 (Or.inl (by decide)))
  replace hU := hU.own hA l4 (Q := (· = 0)) (fun k hk => by subst hk; exact Or.inl (by decide)) (fun q hl hq => hk q hl (hq 0 rfl))
  replace hz := Nat.le_trans hz hz_
  have hp_2 : lA D H a_1 (nC P) (pwc P S) := hPK2 a_1 rfl
  clear hk hz_ hR
  have hR := hR2
  clear hR2 hPK2
  refine vv_astore_n (lv' := [(1, .ref a_1), (0, .ref c)]) X dX1_contrast_7 rfl (by decide) rfl ?_
  refine vv_aload_n X dX1_contrast_8 rfl 1 rfl ?_
  refine vv_getf (C := RX1) (T := TX1) (N := 8) (ref := "AcousticCamera") X hc in_X1 CL_X1 4 (by decide) q259 rfl rfl dX1_contrast_9 ?_
  refine vv_callV X (mX3_best (kL K) D u P T o g S (some a_1) hC hV hA) q1993 q1994 q1995 q150 q1996 nX3_best ⟨(Nat.le_of_ble_eq_true rfl), (Nat.le_of_ble_eq_true rfl)⟩ dX1_contrast_12 rfl (Nat.le_of_ble_eq_true rfl) (recv X hR.ob CL_X3) ⟨hK, hU, hR, (fun q e => by cases e; exact hp_2)⟩ (fun q z => by rcases z with rfl; exact (Or.inl rfl)) ⟨(Nat.le_of_ble_eq_true rfl), (Nat.le_of_ble_eq_true rfl)⟩ (fun v_ H hq hz_ hk => ?_)
  obtain ⟨rfl, a_3, hR2, hPK2, hold2, hnew2⟩ := hq
  replace hc := hc.kept (hk _ hc.lt (X.oo hc hR.ob CL_X1 CL_X3 (by decide)))
  replace hp_2 := hp_2.kept (hk _ hp_2.lt (X.ao hp_2 hR.ob CL_X3 rfl))
  replace hK := hK.to hk (fun q z => by rcases z with rfl; exact hR.kn X hK 0 (Or.inl (by decide)))
  replace hU := hU.own hA l4 (Q := (· = 0)) (fun k hk => by subst hk; exact Or.inl (by decide)) (fun q hl hq => hk q hl (hq 0 rfl))
  replace hz := Nat.le_trans hz hz_
  have hp_4 : lA D H a_3 (nC P) (pwc P S) := hPK2 a_3 rfl
  clear hk hz_ hR
  have hR := hR2
  clear hR2 hPK2
  clear hp_4
  obtain rfl : a_1 = a_3 := (hold2 _ rfl).symm
  clear hold2 hnew2
  refine vv_istore_n (lv' := [(2, .int (nI (bsN (pwc P S) (nC P)))), (1, .ref a_1), (0, .ref c)]) X dX1_contrast_15 rfl (by decide) rfl ?_
  refine vv_aload_n X dX1_contrast_16 rfl 1 rfl ?_
  refine vv_alen (ty := 1) X hp_2 rfl dX1_contrast_17 ?_
  refine vv_iconst (v := nI 1) X dX1_contrast_18 (by decide) ?_
  refine vn_ne (tgt := 24) X (by omega) (by omega) dX1_contrast_19 (by decide) (fun c_19 => ?_) (fun c_19 => ?_)
  · refine vv_aload_n X dX1_contrast_24 rfl 1 rfl ?_
    refine vv_alen (ty := 1) X hp_2 rfl dX1_contrast_25 ?_
    refine vv_iload_n X dX1_contrast_26 rfl 0 rfl ?_
    refine vv_aload_n X dX1_contrast_27 rfl 1 rfl ?_
    refine vv_indyA9 X rfl dX1_contrast_28 rfl (Nat.le_of_ble_eq_true rfl) (Nat.le_of_ble_eq_true rfl) (Nat.le_of_ble_eq_true rfl) (fun a_5 H eq_6 hx hl => ?_)
    have lt_7 : c < a_5 := by have h9 := hc.lt; first | omega | exact Nat.lt_of_lt_of_eq h9 (Eq.symm (by assumption))
    have lt_8 : a_1 < a_5 := by have h9 := hp_2.lt; first | omega | exact Nat.lt_of_lt_of_eq h9 (Eq.symm (by assumption))
    have ng_9 : ∀ k, UK (nM P) k → a_5 ≠ g k := fun k hk e => by have h9 := hR.ltA k hk; rw [eq_6] at e; omega
    have ns_10 : ∀ j, SJ P j → a_5 ≠ g j := fun k hk e => by have h9 := hR.ltS k hk; rw [eq_6] at e; omega
    have nu_11 : ∀ j, VK P j → a_5 ≠ u j := fun k hk e => by have h9 := hU.ltB k hk; rw [eq_6] at e; omega
    have ne_12 : c ≠ a_5 := Nat.ne_of_lt (eq_6.symm ▸ hc.lt)
    have ne_13 : a_1 ≠ a_5 := Nat.ne_of_lt (eq_6.symm ▸ hp_2.lt)
    have ge_14 : (kS K).heap.size ≤ a_5 := by rw [eq_6]; exact hz
    have kn_15 : KN D a_5 := KN.new hK (Nat.le_of_eq eq_6.symm)
    replace hU := hU.ex hx
    replace hR := hR.ex hx
    replace hc := hc.kept (hx.2 _ hc.lt)
    replace hp_2 := hp_2.kept (hx.2 _ hp_2.lt)
    replace hK := hK.ex hx
    replace hz : (kS K).heap.size ≤ H.size := by have := hx.1; omega
    have hL_16 : LO D H a_5 9 [.int (nI (bsN (pwc P S) (nC P))), .ref a_1] := hl
    clear hl hx
    refine vv_callS X (mX1_best_2 (kL K) D a_5 (nC P) { frames := 1, cells := 0, slots := 0, locals := 12 } (fun H => LO D H a_5 9 [.int (nI (bsN (pwc P S) (nC P))), .ref a_1] ∧ lA D H a_1 (nC P) (pwc P S)) (fun _ => False) (fun c => if c = bsN (pwc P S) (nC P) then -1 else pwc P S c) (by omega) (by omega) (sco9 (fun H h => h) hbb (Nat.le_refl _) (by omega))) q2369 q2001 q137 q2002 nX1_best_2 ⟨(Nat.le_of_ble_eq_true rfl), (Nat.le_of_ble_eq_true rfl)⟩ dX1_contrast_33 rfl (Nat.le_of_ble_eq_true rfl) ⟨hL_16, hp_2⟩ (fun _ z => z.elim) ⟨(Nat.le_of_ble_eq_true rfl), (Nat.le_of_ble_eq_true rfl)⟩ (fun v_ H hq hz_ hk => ?_)
    obtain ⟨rfl, -⟩ := hq
    replace hc := hc.kept (hk _ hc.lt (fun z => z))
    replace hp_2 := hp_2.kept (hk _ hp_2.lt (fun z => z))
    replace hL_16 := hL_16.kept (hk _ hL_16.lt (fun z => z))
    replace hK := hK.to hk (fun _ z => z.elim)
    replace hU := hU.kept (fun q hl _ => hk q hl (fun z => z))
    replace hR := hR.kept (fun q hl _ => hk q hl (fun z => z)) (fun q hl _ => hk q hl (fun z => z))
    replace hz := Nat.le_trans hz hz_
    clear hk hz_
    refine vv_istore_n (lv' := [(3, .int (nI (bsN (fun c => if c = bsN (pwc P S) (nC P) then -1 else pwc P S c) (nC P)))), (2, .int (nI (bsN (pwc P S) (nC P)))), (1, .ref a_1), (0, .ref c)]) X dX1_contrast_36 rfl (by decide) rfl ?_
    refine vv_aload_n X dX1_contrast_37 rfl 2 rfl ?_
    refine vv_iload_n X dX1_contrast_38 rfl 0 rfl ?_
    refine vv_lald X hp_2 (bsN (fun c => if c = bsN (pwc P S) (nC P) then -1 else pwc P S c) (nC P)) (by omega) (by omega) rfl dX1_contrast_39 ?_
    refine vv_lconst (v := 0) X dX1_contrast_40 (by decide) ?_
    refine vv_lcmp X dX1_contrast_41 ?_
    refine vz_ne (tgt := 49) X dX1_contrast_42 (by decide) (fun c_42 => ?_) (fun c_42 => ?_)
    · refine vv_aload_n X dX1_contrast_49 rfl 2 rfl ?_
      refine vv_iload_n X dX1_contrast_50 rfl 1 rfl ?_
      refine vv_lald X hp_2 (bsN (pwc P S) (nC P)) (by omega) (by omega) rfl dX1_contrast_51 ?_
      refine vv_l2f X dX1_contrast_52 ?_
      refine vv_aload_n X dX1_contrast_53 rfl 2 rfl ?_
      refine vv_iload_n X dX1_contrast_54 rfl 0 rfl ?_
      refine vv_lald X hp_2 (bsN (fun c => if c = bsN (pwc P S) (nC P) then -1 else pwc P S c) (nC P)) (by omega) (by omega) rfl dX1_contrast_55 ?_
      refine vv_l2f X dX1_contrast_56 ?_
      refine vv_fdiv X dX1_contrast_57 (fl_div c_42) ?_
      exact vv_fret X hQ dX1_contrast_58 (Nat.le_of_ble_eq_true rfl) (Nat.le_of_ble_eq_true rfl) (⟨by unfold ctD; rw [if_neg c_19]; exact congrArg (fun z => some (Value.float z)) (if_neg c_42).symm, _, hR, (fun q e => by cases e; exact hp_2), hold, hnew⟩)
    · refine vv_fconst0 X dX1_contrast_45 ?_
      refine vv_goto (tgt := 58) X dX1_contrast_46 (by decide) ?_
      exact vv_fret X hQ dX1_contrast_58 (Nat.le_of_ble_eq_true rfl) (Nat.le_of_ble_eq_true rfl) (⟨by unfold ctD; rw [if_neg c_19]; exact congrArg (fun z => some (Value.float z)) (if_pos c_42).symm, _, hR, (fun q e => by cases e; exact hp_2), hold, hnew⟩)
  · refine vv_fconst0 X dX1_contrast_22 ?_
    exact vv_fret X hQ dX1_contrast_23 (Nat.le_of_ble_eq_true rfl) (Nat.le_of_ble_eq_true rfl) (⟨by unfold ctD; rw [if_pos c_19], _, hR, (fun q e => by cases e; exact hp_2), hold, hnew⟩)
set_option maxHeartbeats 800000 in
theorem mX1_micAt (l : Launch) (D : DD) (u : Nat → Nat) (P T : Nat → Int32) (o : Nat) (g : Nat → Nat) (S : Nat → Int32) (pw : Option Nat) (c : Nat) (v0 v1 v2 v3 v5 v6 v7 : Value) (m : Nat) (b : Int32) (hC : VC P) (hV : VS S) (hm : m < nM P) (hp : nI 0 ≤ b ∧ b ≤ nI 3) : Cp l yX1_micAt cX1_micAt 4 (some .int) { frames := 4, cells := 0, slots := 0, locals := 79 } D [.ref c, .int (nI m), .int (b)] (fun H => KH D H ∧ oB D H c 0 [v0, v1, v2, v3, .ref (g 0), v5, v6, v7] ∧ UR D u P T o H ∧ SR D g u P S pw H) (.int (if b = 0 then P (11 + m) else if b = nI 1 then P (23 + m) else if b = nI 2 then nI (gain P m) else nI (wgt S m))) := by
  refine Ct.of (by decide +kernel) (Nat.le_of_ble_eq_true rfl) (fun K Qf hkl X hM hQ => ?_)
  subst hkl
  obtain ⟨hK, hc, hU, hR⟩ := hM
  have hP := hC.v
  have l0 := hP.l0
  have l1 := hP.l1
  have l2 := hP.l2
  have l4 := hP.l4
  have l5 := hP.l5
  have l8 := hP.l8
  have l9 := hP.l9
  have l10 := hP.l10
  have l71 := hP.l71
  have l76 := hP.l76
  have l77 := hP.l77
  have hx1 := hC.x1
  have hy1 := hC.y1
  have ht1 := hC.t1
  have he1 := hC.e1
  have hm1 := hC.m1
  have hcc : nC P ≤ 144 := Nat.mul_le_mul l9 l10
  refine vv_sub (lv' := [(0, .ref c), (1, .int (nI m)), (2, .int (b))]) [0, 1, 2] rfl ?_
  refine vv_aload_n X dX1_micAt_0 rfl 0 rfl ?_
  refine vv_iload_n X dX1_micAt_1 rfl 1 rfl ?_
  refine vv_callVp X (mX1_withMic (kL K) D u P T o g S pw c v0 v1 v2 v3 v5 v6 v7 m hC hV (by omega)) q1793 q1795 qs35 q137 q1796 nX1_withMic ⟨(Nat.le_of_ble_eq_true rfl), (Nat.le_of_ble_eq_true rfl)⟩ dX1_micAt_2 rfl (Nat.le_of_ble_eq_true rfl) (recv X hc CL_X1) ⟨hK, hc, hU, hR⟩ ⟨(Nat.le_of_ble_eq_true rfl), (Nat.le_of_ble_eq_true rfl)⟩ ?_
  refine vv_pop X dX1_micAt_5 rfl ?_
  refine vv_iload_n X dX1_micAt_6 rfl 2 rfl ?_
  refine vv_i2l (v := (b).toInt64) X dX1_micAt_7 rfl ?_
  refine vv_lconst (v := 0) X dX1_micAt_8 (by decide) ?_
  refine vv_eql (show (0 : Int64) = (nI 0).toInt64 from by decide) ?_
  refine vv_ldc2 (v := 3) X q1819 dX1_micAt_9 ?_
  refine vv_eql (show _ = (nI 3 : Int32).toInt64 from by decide) ?_
  refine vv_callSp X (mX1_in (kL K) D ((b).toInt64) ((nI 0).toInt64) ((nI 3 : Int32).toInt64)) q449 q450 q137 q451 nX1_in ⟨(Nat.le_of_ble_eq_true rfl), (Nat.le_of_ble_eq_true rfl)⟩ dX1_micAt_12 rfl (Nat.le_of_ble_eq_true rfl) trivial ⟨(Nat.le_of_ble_eq_true rfl), (Nat.le_of_ble_eq_true rfl)⟩ ?_
  refine vv_eqi (b2_eq (in_I)) ?_
  refine vv_callSv X (mX1_checkArgument (kL K) D ((nI 0) ≤ (b) ∧ (b) ≤ (nI 3 : Int32)) (hp)) q1820 q1821 q137 q1822 nX1_checkArgument ⟨(Nat.le_of_ble_eq_true rfl), (Nat.le_of_ble_eq_true rfl)⟩ dX1_micAt_15 rfl (Nat.le_of_ble_eq_true rfl) trivial ⟨(Nat.le_of_ble_eq_true rfl), (Nat.le_of_ble_eq_true rfl)⟩ ?_
  refine vv_aload_n X dX1_micAt_18 rfl 0 rfl ?_
  refine vv_getf (C := RX1) (T := TX1) (N := 8) (ref := "AcousticCamera") X hc in_X1 CL_X1 4 (by decide) q259 rfl rfl dX1_micAt_19 ?_
  refine vv_getfN (C := RX3) (T := TX3) (N := 8) (ref := "AcousticCamera$State") X hR.ob in_X3 CL_X3 0 (by decide) q1688 rfl rfl dX1_micAt_22 ?_
  refine vv_getfN (C := RX5) (T := TX5) (N := 19) (ref := "AcousticCamera$Setup") X hU.ob in_X5 CL_X5 0 (by decide) q774 rfl rfl dX1_micAt_25 ?_
  refine vv_iload_n X dX1_micAt_28 rfl 1 rfl ?_
  refine vv_callFp X (mJ12_get (kL K) D _ _ _ _ _ (by omega)) (by decide) q1824 q1577 q1575 q154 q1579 (show notMH ⟨"java/util/List", "get", "(I)Ljava/lang/Object;"⟩ 1 by decide +kernel) ⟨(Nat.le_of_ble_eq_true rfl), (Nat.le_of_ble_eq_true rfl)⟩ dX1_micAt_29 rfl (Nat.le_of_ble_eq_true rfl) hU.lm.1 CL_J12 hU.lm ⟨(Nat.le_of_ble_eq_true rfl), (Nat.le_of_ble_eq_true rfl)⟩ ?_
  refine vv_castS X (hU.mic m (by omega)) CL_X7 q1825 dX1_micAt_34 ?_
  refine vv_astore_n (lv' := [(3, .ref (u (40 + m))), (0, .ref c), (1, .int (nI m)), (2, .int (b))]) X dX1_micAt_37 rfl (by decide) rfl ?_
  refine vv_iload_n X dX1_micAt_38 rfl 3 rfl ?_
  refine vv_if_ne (tgt := 49) X dX1_micAt_39 (by decide) (fun c_39 => ?_) (fun c_39 => ?_)
  · refine vv_iload_n X dX1_micAt_49 rfl 3 rfl ?_
    refine vv_iconst (v := nI 1) X dX1_micAt_50 (by decide) ?_
    refine vv_icmp_ne (tgt := 61) X dX1_micAt_51 (by decide) (fun c_51 => ?_) (fun c_51 => ?_)
    · refine vv_iload_n X dX1_micAt_61 rfl 3 rfl ?_
      refine vv_iconst (v := nI 2) X dX1_micAt_62 (by decide) ?_
      refine vv_icmp_ne (tgt := 73) X dX1_micAt_63 (by decide) (fun c_63 => ?_) (fun c_63 => ?_)
      · refine vv_aload_n X dX1_micAt_73 rfl 1 rfl ?_
        refine vv_getf (C := RX1) (T := TX1) (N := 8) (ref := "AcousticCamera") X hc in_X1 CL_X1 4 (by decide) q259 rfl rfl dX1_micAt_74 ?_
        refine vv_getfN (C := RX3) (T := TX3) (N := 8) (ref := "AcousticCamera$State") X hR.ob in_X3 CL_X3 4 (by decide) q1696 rfl rfl dX1_micAt_77 ?_
        refine vv_iload_n X dX1_micAt_80 rfl 2 rfl ?_
        refine vv_iald X hR.wt (m) (by omega) (by omega) rfl dX1_micAt_81 ?_
        exact vv_iret X hQ dX1_micAt_82 (Nat.le_of_ble_eq_true rfl) (Nat.le_of_ble_eq_true rfl) (pq (((if_neg c_39).trans ((if_neg c_51).trans (if_neg c_63))).symm))
      · refine vv_aload_n X dX1_micAt_66 rfl 0 rfl ?_
        refine vv_getfN (C := RX7) (T := TX7) (N := 3) (ref := "AcousticCamera$Mic") X (hU.mic m (by omega)) in_X7 CL_X7 2 (by decide) q1103 rfl rfl dX1_micAt_67 ?_
        refine vv_goto (tgt := 82) X dX1_micAt_70 (by decide) ?_
        exact vv_iret X hQ dX1_micAt_82 (Nat.le_of_ble_eq_true rfl) (Nat.le_of_ble_eq_true rfl) (pq (((if_neg c_39).trans ((if_neg c_51).trans (if_pos c_63))).symm))
    · refine vv_aload_n X dX1_micAt_54 rfl 0 rfl ?_
      refine vv_getfN (C := RX7) (T := TX7) (N := 3) (ref := "AcousticCamera$Mic") X (hU.mic m (by omega)) in_X7 CL_X7 1 (by decide) q1100 rfl rfl dX1_micAt_55 ?_
      refine vv_goto (tgt := 82) X dX1_micAt_58 (by decide) ?_
      exact vv_iret X hQ dX1_micAt_82 (Nat.le_of_ble_eq_true rfl) (Nat.le_of_ble_eq_true rfl) (pq (((if_neg c_39).trans (if_pos c_51)).symm))
  · refine vv_aload_n X dX1_micAt_42 rfl 0 rfl ?_
    refine vv_getfN (C := RX7) (T := TX7) (N := 3) (ref := "AcousticCamera$Mic") X (hU.mic m (by omega)) in_X7 CL_X7 0 (by decide) q1097 rfl rfl dX1_micAt_43 ?_
    refine vv_goto (tgt := 82) X dX1_micAt_46 (by decide) ?_
    exact vv_iret X hQ dX1_micAt_82 (Nat.le_of_ble_eq_true rfl) (Nat.le_of_ble_eq_true rfl) (pq ((if_pos c_39).symm))
set_option maxHeartbeats 800000 in
theorem mX1_sourceAt (l : Launch) (D : DD) (u : Nat → Nat) (P T : Nat → Int32) (o : Nat) (g : Nat → Nat) (S : Nat → Int32) (pw : Option Nat) (c : Nat) (v0 v1 v2 v3 v5 v6 v7 : Value) (m : Nat) (b : Int32) (t : Nat) (hC : VC P) (hV : VS S) (hm : m < nS P) (hb : (b = 0 ∨ b = nI 1)) (ht : t < nT P) : Cp l yX1_sourceAt cX1_sourceAt 4 (some .int) { frames := 4, cells := 0, slots := 0, locals := 79 } D [.ref c, .int (nI m), .int (b), .int (nI t)] (fun H => KH D H ∧ oB D H c 0 [v0, v1, v2, v3, .ref (g 0), v5, v6, v7] ∧ UR D u P T o H ∧ SR D g u P S pw H) (.int (if b = 0 then sxA S m t else syA S m t)) := by
  refine Ct.of (by decide +kernel) (Nat.le_of_ble_eq_true rfl) (fun K Qf hkl X hM hQ => ?_)
  subst hkl
  obtain ⟨hK, hc, hU, hR⟩ := hM
  have hP := hC.v
  have l0 := hP.l0
  have l1 := hP.l1
  have l2 := hP.l2
  have l4 := hP.l4
  have l5 := hP.l5
  have l8 := hP.l8
  have l9 := hP.l9
  have l10 := hP.l10
  have l71 := hP.l71
  have l76 := hP.l76
  have l77 := hP.l77
  have hx1 := hC.x1
  have hy1 := hC.y1
  have ht1 := hC.t1
  have he1 := hC.e1
  have hm1 := hC.m1
  have hcc : nC P ≤ 144 := Nat.mul_le_mul l9 l10
  refine vv_sub (lv' := [(0, .ref c), (1, .int (nI m)), (2, .int (b)), (3, .int (nI t))]) [0, 1, 2, 3] rfl ?_
  refine vv_aload_n X dX1_sourceAt_0 rfl 0 rfl ?_
  refine vv_iload_n X dX1_sourceAt_1 rfl 1 rfl ?_
  refine vv_callVp X (mX1_withSource (kL K) D u P T o g S pw c v0 v1 v2 v3 v5 v6 v7 m hC hV (by omega)) q1858 q1860 qs38 q137 q1861 nX1_withSource ⟨(Nat.le_of_ble_eq_true rfl), (Nat.le_of_ble_eq_true rfl)⟩ dX1_sourceAt_2 rfl (Nat.le_of_ble_eq_true rfl) (recv X hc CL_X1) ⟨hK, hc, hU, hR⟩ ⟨(Nat.le_of_ble_eq_true rfl), (Nat.le_of_ble_eq_true rfl)⟩ ?_
  refine vv_pop X dX1_sourceAt_5 rfl ?_
  refine vv_iload_n X dX1_sourceAt_6 rfl 2 rfl ?_
  refine vv_if_eq (tgt := 15) X dX1_sourceAt_7 (by decide) (fun c_7 => ?_) (fun c_7 => ?_)
  · refine vv_aload_n X dX1_sourceAt_15 rfl 0 rfl ?_
    refine vv_iload_n X dX1_sourceAt_16 rfl 3 rfl ?_
    refine vv_callVp X (mX1_isSample (kL K) D u P T o g S pw c v0 v1 v2 v3 v5 v6 v7 (nI t) hC hV ) q1862 q1864 qs39 q137 q1865 nX1_isSample ⟨(Nat.le_of_ble_eq_true rfl), (Nat.le_of_ble_eq_true rfl)⟩ dX1_sourceAt_17 rfl (Nat.le_of_ble_eq_true rfl) (recv X hc CL_X1) ⟨hK, hc, hU, hR⟩ ⟨(Nat.le_of_ble_eq_true rfl), (Nat.le_of_ble_eq_true rfl)⟩ ?_
    refine vb_eq (tgt := 27) X dX1_sourceAt_20 (by decide) (fun c_20 => ?_) (fun c_20 => ?_)
    · exact absurd (ix_N ht (by omega)) c_20
    · refine vv_iconst (v := nI 1) X dX1_sourceAt_23 (by decide) ?_
      refine vv_goto (tgt := 28) X dX1_sourceAt_24 (by decide) ?_
      refine vv_callSv X (mX1_checkArgument (kL K) D True trivial) q1820 q1821 q137 q1822 nX1_checkArgument ⟨(Nat.le_of_ble_eq_true rfl), (Nat.le_of_ble_eq_true rfl)⟩ dX1_sourceAt_28 rfl (Nat.le_of_ble_eq_true rfl) trivial ⟨(Nat.le_of_ble_eq_true rfl), (Nat.le_of_ble_eq_true rfl)⟩ ?_
      refine vv_iload_n X dX1_sourceAt_31 rfl 2 rfl ?_
      refine vv_if_ne (tgt := 51) X dX1_sourceAt_32 (by decide) (fun c_32 => ?_) (fun c_32 => ?_)
      · refine vv_aload_n X dX1_sourceAt_51 rfl 0 rfl ?_
        refine vv_getf (C := RX1) (T := TX1) (N := 8) (ref := "AcousticCamera") X hc in_X1 CL_X1 4 (by decide) q259 rfl rfl dX1_sourceAt_52 ?_
        refine vv_getfN (C := RX3) (T := TX3) (N := 8) (ref := "AcousticCamera$State") X hR.ob in_X3 CL_X3 3 (by decide) q1694 rfl rfl dX1_sourceAt_55 ?_
        refine vv_iload_n X dX1_sourceAt_58 rfl 1 rfl ?_
        refine vv_aald (ty := 8) X hR.sa rfl rfl (m) (by omega) (by omega) rfl dX1_sourceAt_59 (v := .ref (g (30 + m))) rfl ?_
        refine vv_iload_n X dX1_sourceAt_60 rfl 3 rfl ?_
        refine vv_callVp X (mX8_yAt (kL K) D _ _ _ _ _ _ _ _ _ _ _ t) q1867 q1748 q1749 q175 q1750 nX8_yAt ⟨(Nat.le_of_ble_eq_true rfl), (Nat.le_of_ble_eq_true rfl)⟩ dX1_sourceAt_61 rfl (Nat.le_of_ble_eq_true rfl) (recv X (hR.src m (by omega)).1 CL_X8) (hR.src m (by omega)) ⟨(Nat.le_of_ble_eq_true rfl), (Nat.le_of_ble_eq_true rfl)⟩ ?_
        exact vv_iret X hQ dX1_sourceAt_64 (Nat.le_of_ble_eq_true rfl) (Nat.le_of_ble_eq_true rfl) (pq ((if_neg c_32).symm))
      · refine vv_aload_n X dX1_sourceAt_35 rfl 0 rfl ?_
        refine vv_getf (C := RX1) (T := TX1) (N := 8) (ref := "AcousticCamera") X hc in_X1 CL_X1 4 (by decide) q259 rfl rfl dX1_sourceAt_36 ?_
        refine vv_getfN (C := RX3) (T := TX3) (N := 8) (ref := "AcousticCamera$State") X hR.ob in_X3 CL_X3 3 (by decide) q1694 rfl rfl dX1_sourceAt_39 ?_
        refine vv_iload_n X dX1_sourceAt_42 rfl 1 rfl ?_
        refine vv_aald (ty := 8) X hR.sa rfl rfl (m) (by omega) (by omega) rfl dX1_sourceAt_43 (v := .ref (g (30 + m))) rfl ?_
        refine vv_iload_n X dX1_sourceAt_44 rfl 3 rfl ?_
        refine vv_callVp X (mX8_xAt (kL K) D _ _ _ _ _ _ _ _ _ _ _ t) q1866 q1744 q1745 q175 q1746 nX8_xAt ⟨(Nat.le_of_ble_eq_true rfl), (Nat.le_of_ble_eq_true rfl)⟩ dX1_sourceAt_45 rfl (Nat.le_of_ble_eq_true rfl) (recv X (hR.src m (by omega)).1 CL_X8) (hR.src m (by omega)) ⟨(Nat.le_of_ble_eq_true rfl), (Nat.le_of_ble_eq_true rfl)⟩ ?_
        refine vv_goto (tgt := 64) X dX1_sourceAt_48 (by decide) ?_
        exact vv_iret X hQ dX1_sourceAt_64 (Nat.le_of_ble_eq_true rfl) (Nat.le_of_ble_eq_true rfl) (pq ((if_pos c_32).symm))
  · refine vv_iload_n X dX1_sourceAt_10 rfl 2 rfl ?_
    refine vv_iconst (v := nI 1) X dX1_sourceAt_11 (by decide) ?_
    refine vv_icmp_ne (tgt := 27) X dX1_sourceAt_12 (by decide) (fun c_12 => ?_) (fun c_12 => ?_)
    · exact (hb.elim c_7 c_12).elim
    · refine vv_aload_n X dX1_sourceAt_15 rfl 0 rfl ?_
      refine vv_iload_n X dX1_sourceAt_16 rfl 3 rfl ?_
      refine vv_callVp X (mX1_isSample (kL K) D u P T o g S pw c v0 v1 v2 v3 v5 v6 v7 (nI t) hC hV ) q1862 q1864 qs39 q137 q1865 nX1_isSample ⟨(Nat.le_of_ble_eq_true rfl), (Nat.le_of_ble_eq_true rfl)⟩ dX1_sourceAt_17 rfl (Nat.le_of_ble_eq_true rfl) (recv X hc CL_X1) ⟨hK, hc, hU, hR⟩ ⟨(Nat.le_of_ble_eq_true rfl), (Nat.le_of_ble_eq_true rfl)⟩ ?_
      refine vb_eq (tgt := 27) X dX1_sourceAt_20 (by decide) (fun c_20 => ?_) (fun c_20 => ?_)
      · exact absurd (ix_N ht (by omega)) c_20
      · refine vv_iconst (v := nI 1) X dX1_sourceAt_23 (by decide) ?_
        refine vv_goto (tgt := 28) X dX1_sourceAt_24 (by decide) ?_
        refine vv_callSv X (mX1_checkArgument (kL K) D True trivial) q1820 q1821 q137 q1822 nX1_checkArgument ⟨(Nat.le_of_ble_eq_true rfl), (Nat.le_of_ble_eq_true rfl)⟩ dX1_sourceAt_28 rfl (Nat.le_of_ble_eq_true rfl) trivial ⟨(Nat.le_of_ble_eq_true rfl), (Nat.le_of_ble_eq_true rfl)⟩ ?_
        refine vv_iload_n X dX1_sourceAt_31 rfl 2 rfl ?_
        refine vv_if_ne (tgt := 51) X dX1_sourceAt_32 (by decide) (fun c_32 => ?_) (fun c_32 => ?_)
        · refine vv_aload_n X dX1_sourceAt_51 rfl 0 rfl ?_
          refine vv_getf (C := RX1) (T := TX1) (N := 8) (ref := "AcousticCamera") X hc in_X1 CL_X1 4 (by decide) q259 rfl rfl dX1_sourceAt_52 ?_
          refine vv_getfN (C := RX3) (T := TX3) (N := 8) (ref := "AcousticCamera$State") X hR.ob in_X3 CL_X3 3 (by decide) q1694 rfl rfl dX1_sourceAt_55 ?_
          refine vv_iload_n X dX1_sourceAt_58 rfl 1 rfl ?_
          refine vv_aald (ty := 8) X hR.sa rfl rfl (m) (by omega) (by omega) rfl dX1_sourceAt_59 (v := .ref (g (30 + m))) rfl ?_
          refine vv_iload_n X dX1_sourceAt_60 rfl 3 rfl ?_
          refine vv_callVp X (mX8_yAt (kL K) D _ _ _ _ _ _ _ _ _ _ _ t) q1867 q1748 q1749 q175 q1750 nX8_yAt ⟨(Nat.le_of_ble_eq_true rfl), (Nat.le_of_ble_eq_true rfl)⟩ dX1_sourceAt_61 rfl (Nat.le_of_ble_eq_true rfl) (recv X (hR.src m (by omega)).1 CL_X8) (hR.src m (by omega)) ⟨(Nat.le_of_ble_eq_true rfl), (Nat.le_of_ble_eq_true rfl)⟩ ?_
          exact vv_iret X hQ dX1_sourceAt_64 (Nat.le_of_ble_eq_true rfl) (Nat.le_of_ble_eq_true rfl) (pq ((if_neg c_32).symm))
        · refine vv_aload_n X dX1_sourceAt_35 rfl 0 rfl ?_
          refine vv_getf (C := RX1) (T := TX1) (N := 8) (ref := "AcousticCamera") X hc in_X1 CL_X1 4 (by decide) q259 rfl rfl dX1_sourceAt_36 ?_
          refine vv_getfN (C := RX3) (T := TX3) (N := 8) (ref := "AcousticCamera$State") X hR.ob in_X3 CL_X3 3 (by decide) q1694 rfl rfl dX1_sourceAt_39 ?_
          refine vv_iload_n X dX1_sourceAt_42 rfl 1 rfl ?_
          refine vv_aald (ty := 8) X hR.sa rfl rfl (m) (by omega) (by omega) rfl dX1_sourceAt_43 (v := .ref (g (30 + m))) rfl ?_
          refine vv_iload_n X dX1_sourceAt_44 rfl 3 rfl ?_
          refine vv_callVp X (mX8_xAt (kL K) D _ _ _ _ _ _ _ _ _ _ _ t) q1866 q1744 q1745 q175 q1746 nX8_xAt ⟨(Nat.le_of_ble_eq_true rfl), (Nat.le_of_ble_eq_true rfl)⟩ dX1_sourceAt_45 rfl (Nat.le_of_ble_eq_true rfl) (recv X (hR.src m (by omega)).1 CL_X8) (hR.src m (by omega)) ⟨(Nat.le_of_ble_eq_true rfl), (Nat.le_of_ble_eq_true rfl)⟩ ?_
          refine vv_goto (tgt := 64) X dX1_sourceAt_48 (by decide) ?_
          exact vv_iret X hQ dX1_sourceAt_64 (Nat.le_of_ble_eq_true rfl) (Nat.le_of_ble_eq_true rfl) (pq ((if_pos c_32).symm))
set_option maxHeartbeats 800000 in
theorem w2X1_sourceAt (l : Launch) (D : DD) (hl : l.stackTraces = false) (u : Nat → Nat) (P T : Nat → Int32) (o : Nat) (g : Nat → Nat) (S : Nat → Int32) (pw : Option Nat) (c : Nat) (v0 v1 v2 v3 v5 v6 v7 : Value) (m : Nat) (b t : Int32) (hC : VC P) (hV : VS S) (hm : m < nS P) (hp : ¬ ((b = 0 ∨ b = nI 1) ∧ ix (nT P) t)) : Cx l yX1_sourceAt cX1_sourceAt 4 (some .int) { frames := 7, cells := 1, slots := 6, locals := 109 } D [.ref c, .int (nI m), .int (b), .int (t)] (fun H => KH D H ∧ oB D H c 0 [v0, v1, v2, v3, .ref (g 0), v5, v6, v7] ∧ UR D u P T o H ∧ SR D g u P S pw H) (fun _ => False) (fun r H H1 => False) (fun Xn q H H1 => Xn = "java/lang/IllegalArgumentException") := by
  refine Cx.of (by decide +kernel) (Nat.le_of_ble_eq_true rfl) (fun K Qf hkl X ht hM hQ => ?_)
  subst hkl
  obtain ⟨hK, hc, hU, hR⟩ := hM
  have hz : (kS K).heap.size ≤ (kS K).heap.size := Nat.le_refl _
  have hP := hC.v
  have l0 := hP.l0
  have l1 := hP.l1
  have l2 := hP.l2
  have l4 := hP.l4
  have l5 := hP.l5
  have l8 := hP.l8
  have l9 := hP.l9
  have l10 := hP.l10
  have l71 := hP.l71
  have l76 := hP.l76
  have l77 := hP.l77
  have hx1 := hC.x1
  have hy1 := hC.y1
  have ht1 := hC.t1
  have he1 := hC.e1
  have hm1 := hC.m1
  have hcc : nC P ≤ 144 := Nat.mul_le_mul l9 l10
  refine vv_sub (lv' := [(0, .ref c), (1, .int (nI m)), (2, .int (b)), (3, .int (t))]) [0, 1, 2, 3] rfl ?_
  refine vv_aload_n X dX1_sourceAt_0 rfl 0 rfl ?_
  refine vv_iload_n X dX1_sourceAt_1 rfl 1 rfl ?_
  refine vv_callVp X (mX1_withSource (kL K) D u P T o g S pw c v0 v1 v2 v3 v5 v6 v7 m hC hV (by omega)) q1858 q1860 qs38 q137 q1861 nX1_withSource ⟨(Nat.le_of_ble_eq_true rfl), (Nat.le_of_ble_eq_true rfl)⟩ dX1_sourceAt_2 rfl (Nat.le_of_ble_eq_true rfl) (recv X hc CL_X1) ⟨hK, hc, hU, hR⟩ ⟨(Nat.le_of_ble_eq_true rfl), (Nat.le_of_ble_eq_true rfl)⟩ ?_
  refine vv_pop X dX1_sourceAt_5 rfl ?_
  refine vv_iload_n X dX1_sourceAt_6 rfl 2 rfl ?_
  refine vv_if_eq (tgt := 15) X dX1_sourceAt_7 (by decide) (fun c_7 => ?_) (fun c_7 => ?_)
  · refine vv_aload_n X dX1_sourceAt_15 rfl 0 rfl ?_
    refine vv_iload_n X dX1_sourceAt_16 rfl 3 rfl ?_
    refine vv_callVp X (mX1_isSample (kL K) D u P T o g S pw c v0 v1 v2 v3 v5 v6 v7 t hC hV ) q1862 q1864 qs39 q137 q1865 nX1_isSample ⟨(Nat.le_of_ble_eq_true rfl), (Nat.le_of_ble_eq_true rfl)⟩ dX1_sourceAt_17 rfl (Nat.le_of_ble_eq_true rfl) (recv X hc CL_X1) ⟨hK, hc, hU, hR⟩ ⟨(Nat.le_of_ble_eq_true rfl), (Nat.le_of_ble_eq_true rfl)⟩ ?_
    refine vb_eq (tgt := 27) X dX1_sourceAt_20 (by decide) (fun c_20 => ?_) (fun c_20 => ?_)
    · refine vv_iconst (v := nI 0) X dX1_sourceAt_27 (by decide) ?_
      refine vx_cS X (xX1_checkArgument (kL K) D hl False (fun z => z)) q1820 q1821 q137 q1822 nX1_checkArgument ⟨(Nat.le_of_ble_eq_true rfl), (Nat.le_of_ble_eq_true rfl)⟩ dX1_sourceAt_28 rfl (Nat.le_of_ble_eq_true rfl) hK (fun _ z => z.elim) ⟨(Nat.le_of_ble_eq_true rfl), (Nat.le_of_ble_eq_true rfl)⟩ (fun Xn q H hq hz_ hk hXO => ?_) (fun v_ H hq hz_ hk => hq.elim)
      obtain rfl := hq
      exact vt_out X (fun x hx => (ht x hx).elim) hQ hXO (Nat.le_of_ble_eq_true rfl) (Nat.le_of_ble_eq_true rfl) (rfl)
    · exact absurd ⟨by first | exact Or.inl c_7 | exact Or.inr c_12, c_20⟩ hp
  · refine vv_iload_n X dX1_sourceAt_10 rfl 2 rfl ?_
    refine vv_iconst (v := nI 1) X dX1_sourceAt_11 (by decide) ?_
    refine vv_icmp_ne (tgt := 27) X dX1_sourceAt_12 (by decide) (fun c_12 => ?_) (fun c_12 => ?_)
    · refine vv_iconst (v := nI 0) X dX1_sourceAt_27 (by decide) ?_
      refine vx_cS X (xX1_checkArgument (kL K) D hl False (fun z => z)) q1820 q1821 q137 q1822 nX1_checkArgument ⟨(Nat.le_of_ble_eq_true rfl), (Nat.le_of_ble_eq_true rfl)⟩ dX1_sourceAt_28 rfl (Nat.le_of_ble_eq_true rfl) hK (fun _ z => z.elim) ⟨(Nat.le_of_ble_eq_true rfl), (Nat.le_of_ble_eq_true rfl)⟩ (fun Xn q H hq hz_ hk hXO => ?_) (fun v_ H hq hz_ hk => hq.elim)
      obtain rfl := hq
      exact vt_out X (fun x hx => (ht x hx).elim) hQ hXO (Nat.le_of_ble_eq_true rfl) (Nat.le_of_ble_eq_true rfl) (rfl)
    · refine vv_aload_n X dX1_sourceAt_15 rfl 0 rfl ?_
      refine vv_iload_n X dX1_sourceAt_16 rfl 3 rfl ?_
      refine vv_callVp X (mX1_isSample (kL K) D u P T o g S pw c v0 v1 v2 v3 v5 v6 v7 t hC hV ) q1862 q1864 qs39 q137 q1865 nX1_isSample ⟨(Nat.le_of_ble_eq_true rfl), (Nat.le_of_ble_eq_true rfl)⟩ dX1_sourceAt_17 rfl (Nat.le_of_ble_eq_true rfl) (recv X hc CL_X1) ⟨hK, hc, hU, hR⟩ ⟨(Nat.le_of_ble_eq_true rfl), (Nat.le_of_ble_eq_true rfl)⟩ ?_
      refine vb_eq (tgt := 27) X dX1_sourceAt_20 (by decide) (fun c_20 => ?_) (fun c_20 => ?_)
      · refine vv_iconst (v := nI 0) X dX1_sourceAt_27 (by decide) ?_
        refine vx_cS X (xX1_checkArgument (kL K) D hl False (fun z => z)) q1820 q1821 q137 q1822 nX1_checkArgument ⟨(Nat.le_of_ble_eq_true rfl), (Nat.le_of_ble_eq_true rfl)⟩ dX1_sourceAt_28 rfl (Nat.le_of_ble_eq_true rfl) hK (fun _ z => z.elim) ⟨(Nat.le_of_ble_eq_true rfl), (Nat.le_of_ble_eq_true rfl)⟩ (fun Xn q H hq hz_ hk hXO => ?_) (fun v_ H hq hz_ hk => hq.elim)
        obtain rfl := hq
        exact vt_out X (fun x hx => (ht x hx).elim) hQ hXO (Nat.le_of_ble_eq_true rfl) (Nat.le_of_ble_eq_true rfl) (rfl)
      · exact absurd ⟨by first | exact Or.inl c_7 | exact Or.inr c_12, c_20⟩ hp
