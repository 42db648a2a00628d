/-! State.isAlias, clean: printed by gen/s10.py -/
set_option maxRecDepth 100000
theorem nX3_isAlias : notMH yX3_isAlias 3 := by decide +kernel
set_option maxHeartbeats 800000 in
theorem mX3_isAlias (l : Launch) (D : DD) (u : Nat → Nat) (P T : Nat → Int32) (o : Nat) (g : Nat → Nat) (S : Nat → Int32) (pw : Option Nat) (c p h : Nat) (hC : VC P) (hV : VS S) (hA : AP g u P) (hc : c < nC P) (hp : 2 ≤ p ∧ p ≤ 99) (hh : h ≤ 100) : Ct l yX3_isAlias cX3_isAlias 5 (some .boolean) { frames := 9, cells := 4, slots := 388, locals := 3121 } D [.ref (g 0), .int (nI c), .int (nI p), .int (nI h)] (fun H => KH D H ∧ UR D u P T o H ∧ SR D g u P S pw H ∧ PK D P S pw H) (fun q => q = g 0) (fun r H H1 => r = some (.int (b2 (mrk P S (pwc P S) c (bsN (pwc P S) (nC P)) p h))) ∧ ∃ p, SR D g u P S (some p) H1 ∧ PK D P S (some p) H1 ∧ (∀ q, pw = some q → p = q) ∧ (pw = some p ∨ H.size ≤ p)) := by
  refine Ct.of (by decide +kernel) (Nat.le_of_ble_eq_true rfl) (fun K Qf hkl X hM hQ => ?_)
  subst hkl
  obtain ⟨hK, hU, hR, hPK⟩ := hM
  have hz : (kS K).heap.size ≤ (kS K).heap.size := Nat.le_refl _
  have hP := hC.v
  have l0 := hP.l0
  have l1 := hP.l1
  have l2 := hP.l2
  have l4 := hP.l4
  have l5 := hP.l5
  have l8 := hP.l8
  have l9 := hP.l9
  have l10 := hP.l10
  have l71 := hP.l71
  have l76 := hP.l76
  have l77 := hP.l77
  have hx1 := hC.x1
  have hy1 := hC.y1
  have ht1 := hC.t1
  have he1 := hC.e1
  have hm1 := hC.m1
  have hcc : nC P ≤ 144 := Nat.mul_le_mul l9 l10
  have ha4 := act_le S (nM P)
  refine vv_sub (lv' := [(0, .ref (g 0)), (1, .int (nI c)), (2, .int (nI p)), (3, .int (nI h))]) [0, 1, 2, 3] rfl ?_
  refine vv_aload_n X dX3_isAlias_0 rfl 0 rfl ?_
  refine vv_callV X (mX3_best (kL K) D u P T o g S pw hC hV hA) q2417 q1994 q1995 q150 q1996 nX3_best ⟨(Nat.le_of_ble_eq_true rfl), (Nat.le_of_ble_eq_true rfl)⟩ dX3_isAlias_1 rfl (Nat.le_of_ble_eq_true rfl) (recv X hR.ob CL_X3) ⟨hK, hU, hR, hPK⟩ (fun q z => by rcases z with rfl; exact (Or.inl rfl)) ⟨(Nat.le_of_ble_eq_true rfl), (Nat.le_of_ble_eq_true rfl)⟩ (fun v_ H hq hz_ hk => ?_)
  obtain ⟨rfl, a_1, hR2, hPK2, hold, hnew⟩ := hq
  replace hK := hK.to hk (fun q z => by rcases z with rfl; exact hR.kn X hK 0 (Or.inl (by decide)))
  replace hU := hU.own hA l4 (Q := (· = 0)) (fun k hk => by subst hk; exact Or.inl (by decide)) (fun q hl hq => hk q hl (hq 0 rfl))
  replace hz := Nat.le_trans hz hz_
  have hp_2 : lA D H a_1 (nC P) (pwc P S) := hPK2 a_1 rfl
  clear hk hz_ hR
  have hR := hR2
  clear hR2 hPK2
  obtain ⟨b, hb⟩ : ∃ b, b = bsN (pwc P S) (nC P) := ⟨_, rfl⟩
  have hbn : b < nC P := by rw [hb]; exact bsN_lt (Nat.mul_pos hx1 hy1)
  rw [← hb]
  refine vv_istore (lv' := [(4, .int (nI b)), (0, .ref (g 0)), (1, .int (nI c)), (2, .int (nI p)), (3, .int (nI h))]) X dX3_isAlias_4 (by decide) rfl ?_
  refine vv_iload_n X dX3_isAlias_6 rfl 2 rfl ?_
  refine vv_iload X dX3_isAlias_7 0 rfl ?_
  refine vn_eq (tgt := 27) X (by omega) (by omega) dX3_isAlias_9 (by decide) (fun c_9 => ?_) (fun c_9 => ?_)
  · refine vv_iconst (v := nI 0) X dX3_isAlias_27 (by decide) ?_
    exact vv_zret X (rfl) hQ dX3_isAlias_28 (Nat.le_of_ble_eq_true rfl) (Nat.le_of_ble_eq_true rfl) (⟨congrArg (fun z => some (Value.int z)) (b2_0 (by rw [← hb]; exact fun z => z.1 c_9)), _, hR, (fun q e => by cases e; exact hp_2), hold, hnew⟩)
  · refine vv_aload_n X dX3_isAlias_12 rfl 1 rfl ?_
    refine vv_callVp X (mX3_actives (kL K) D u P T o g S (some a_1)  hC hV ) q2418 q2419 q2420 q150 q2421 nX3_actives ⟨(Nat.le_of_ble_eq_true rfl), (Nat.le_of_ble_eq_true rfl)⟩ dX3_isAlias_13 rfl (Nat.le_of_ble_eq_true rfl) (recv X hR.ob CL_X3) ⟨hK, hU, hR⟩ ⟨(Nat.le_of_ble_eq_true rfl), (Nat.le_of_ble_eq_true rfl)⟩ ?_
    refine vn_if_eq (tgt := 27) X (by omega) dX3_isAlias_16 (by decide) (fun c_16 => ?_) (fun c_16 => ?_)
    · refine vv_iconst (v := nI 0) X dX3_isAlias_27 (by decide) ?_
      exact vv_zret X (rfl) hQ dX3_isAlias_28 (Nat.le_of_ble_eq_true rfl) (Nat.le_of_ble_eq_true rfl) (⟨congrArg (fun z => some (Value.int z)) (b2_0 (by rw [← hb]; exact fun z => absurd z.2.2.1 (by omega))), _, hR, (fun q e => by cases e; exact hp_2), hold, hnew⟩)
    · refine vv_aload_n X dX3_isAlias_19 rfl 1 rfl ?_
      refine vv_iload_n X dX3_isAlias_20 rfl 2 rfl ?_
      refine vv_callV X (mX3_isPeak (kL K) D u P T o g S (some a_1) c hC hV hA (by omega)) q2055 q2031 q2032 q150 q2033 nX3_isPeak ⟨(Nat.le_of_ble_eq_true rfl), (Nat.le_of_ble_eq_true rfl)⟩ dX3_isAlias_21 rfl (Nat.le_of_ble_eq_true rfl) (recv X hR.ob CL_X3) ⟨hK, hU, hR, (fun q e => by cases e; exact hp_2)⟩ (fun q z => by rcases z with rfl; exact (Or.inl rfl)) ⟨(Nat.le_of_ble_eq_true rfl), (Nat.le_of_ble_eq_true rfl)⟩ (fun v_ H hq hz_ hk => ?_)
      obtain ⟨rfl, a_3, hR2, hPK2, hold2, hnew2⟩ := hq
      replace hp_2 := hp_2.kept (hk _ hp_2.lt (X.ao hp_2 hR.ob CL_X3 rfl))
      replace hK := hK.to hk (fun q z => by rcases z with rfl; exact hR.kn X hK 0 (Or.inl (by decide)))
      replace hU := hU.own hA l4 (Q := (· = 0)) (fun k hk => by subst hk; exact Or.inl (by decide)) (fun q hl hq => hk q hl (hq 0 rfl))
      replace hz := Nat.le_trans hz hz_
      have hp_4 : lA D H a_3 (nC P) (pwc P S) := hPK2 a_3 rfl
      clear hk hz_ hR
      have hR := hR2
      clear hR2 hPK2
      clear hp_4
      obtain rfl : a_1 = a_3 := (hold2 _ rfl).symm
      clear hold2 hnew2
      refine vb_ne (tgt := 29) X dX3_isAlias_24 (by decide) (fun c_24 => ?_) (fun c_24 => ?_)
      · refine vv_bipush (v := nI 100) X dX3_isAlias_29 (by decide) ?_
        refine vv_aload_n X dX3_isAlias_31 rfl 1 rfl ?_
        refine vv_iload_n X dX3_isAlias_32 rfl 2 rfl ?_
        refine vv_iload X dX3_isAlias_33 0 rfl ?_
        refine vv_iload_n X dX3_isAlias_35 rfl 3 rfl ?_
        refine vv_callV X (mX3_alias (kL K) D u P T o g S (some a_1) c b p hC hV hA (by omega) (by omega) (by omega)) q2432 q2396 q2397 q150 q2398 nX3_alias ⟨(Nat.le_of_ble_eq_true rfl), (Nat.le_of_ble_eq_true rfl)⟩ dX3_isAlias_36 rfl (Nat.le_of_ble_eq_true rfl) (recv X hR.ob CL_X3) ⟨hK, hU, hR⟩ (fun _ z => z.elim) ⟨(Nat.le_of_ble_eq_true rfl), (Nat.le_of_ble_eq_true rfl)⟩ (fun v_ H hq hz_ hk => ?_)
        obtain rfl := hq
        replace hp_2 := hp_2.kept (hk _ hp_2.lt (fun z => z))
        replace hK := hK.to hk (fun _ z => z.elim)
        replace hU := hU.kept (fun q hl _ => hk q hl (fun z => z))
        replace hR := hR.kept (fun q hl _ => hk q hl (fun z => z)) (fun q hl _ => hk q hl (fun z => z))
        replace hz := Nat.le_trans hz hz_
        clear hk hz_
        have hb4 := cnf_le P S c b p (nM P)
        have hm4 : h * act S (nM P) ≤ 100 * 12 := Nat.mul_le_mul hh (by omega)
        refine vn_mul X dX3_isAlias_39 ?_
        refine vv_iload_n X dX3_isAlias_40 rfl 4 rfl ?_
        refine vv_aload_n X dX3_isAlias_41 rfl 1 rfl ?_
        refine vv_callVp X (mX3_actives (kL K) D u P T o g S (some a_1)  hC hV ) q2418 q2419 q2420 q150 q2421 nX3_actives ⟨(Nat.le_of_ble_eq_true rfl), (Nat.le_of_ble_eq_true rfl)⟩ dX3_isAlias_42 rfl (Nat.le_of_ble_eq_true rfl) (recv X hR.ob CL_X3) ⟨hK, hU, hR⟩ ⟨(Nat.le_of_ble_eq_true rfl), (Nat.le_of_ble_eq_true rfl)⟩ ?_
        refine vn_mul X dX3_isAlias_45 ?_
        refine vn_lt (tgt := 53) X (by omega) (by omega) dX3_isAlias_46 (by decide) (fun c_46 => ?_) (fun c_46 => ?_)
        · refine vv_iconst (v := nI 0) X dX3_isAlias_53 (by decide) ?_
          exact vv_zret X (rfl) hQ dX3_isAlias_54 (Nat.le_of_ble_eq_true rfl) (Nat.le_of_ble_eq_true rfl) (⟨congrArg (fun z => some (Value.int z)) (b2_0 (by rw [← hb]; exact fun z => absurd z.2.2.2 (Nat.not_le.mpr c_46))), _, hR, (fun q e => by cases e; exact hp_2), hold, hnew⟩)
        · refine vv_iconst (v := nI 1) X dX3_isAlias_49 (by decide) ?_
          refine vv_goto (tgt := 54) X dX3_isAlias_50 (by decide) ?_
          exact vv_zret X (rfl) hQ dX3_isAlias_54 (Nat.le_of_ble_eq_true rfl) (Nat.le_of_ble_eq_true rfl) (⟨congrArg (fun z => some (Value.int z)) (b2_1 (by rw [← hb]; exact ⟨c_9, c_24, c_16, c_46⟩)), _, hR, (fun q e => by cases e; exact hp_2), hold, hnew⟩)
      · refine vv_iconst (v := nI 0) X dX3_isAlias_27 (by decide) ?_
        exact vv_zret X (rfl) hQ dX3_isAlias_28 (Nat.le_of_ble_eq_true rfl) (Nat.le_of_ble_eq_true rfl) (⟨congrArg (fun z => some (Value.int z)) (b2_0 (by rw [← hb]; exact fun z => c_24 z.2.1)), _, hR, (fun q e => by cases e; exact hp_2), hold, hnew⟩)
theorem clp_00 {P S : Nat → Int32} {b p : Nat} : clp P S b p 0 0 = S := by
  funext i
  unfold clp
  rw [if_neg (fun z => by have := z.2.2.2.2.2; omega)]
theorem nX3_clean : notMH yX3_clean 1 := by decide +kernel
set_option maxHeartbeats 800000 in
theorem mX3_clean (l : Launch) (D : DD) (u : Nat → Nat) (P T : Nat → Int32) (o : Nat) (g : Nat → Nat) (S : Nat → Int32) (pw : Option Nat) (p : Nat) (hC : VC P) (hV : VS S) (hA : AP g u P) (hp : 1 ≤ p ∧ p ≤ 100) (hw : 0 < wsm S (nM P)) : Ct l yX3_clean cX3_clean 7 (some .int) { frames := 9, cells := 3, slots := 345, locals := 3121 } D [.ref (g 0), .int (nI p)] (fun H => KH D H ∧ UR D u P T o H ∧ SR D g u P S pw H ∧ PK D P S pw H) (OA g (nM P)) (fun r H H1 => r = some (.int (nI (bsN (pwc P S) (nC P)))) ∧ SR D g u P (cln P S (bsN (pwc P S) (nC P)) p) none H1) := by
  refine Ct.of (by decide +kernel) (Nat.le_of_ble_eq_true rfl) (fun K Qf hkl X hM hQ => ?_)
  subst hkl
  obtain ⟨hK, hU, hR, hPK⟩ := hM
  have hz : (kS K).heap.size ≤ (kS K).heap.size := Nat.le_refl _
  have hP := hC.v
  have l0 := hP.l0
  have l1 := hP.l1
  have l2 := hP.l2
  have l4 := hP.l4
  have l5 := hP.l5
  have l8 := hP.l8
  have l9 := hP.l9
  have l10 := hP.l10
  have l71 := hP.l71
  have l76 := hP.l76
  have l77 := hP.l77
  have hx1 := hC.x1
  have hy1 := hC.y1
  have ht1 := hC.t1
  have he1 := hC.e1
  have hm1 := hC.m1
  have hcc : nC P ≤ 144 := Nat.mul_le_mul l9 l10
  have hws : wsm S (nM P) ≤ 9 * nM P := wsm_le hV l4
  refine vv_sub (lv' := [(0, .ref (g 0)), (1, .int (nI p))]) [0, 1] rfl ?_
  refine vv_aload_n X dX3_clean_0 rfl 0 rfl ?_
  refine vv_callV X (mX3_best (kL K) D u P T o g S pw hC hV hA) q2417 q1994 q1995 q150 q1996 nX3_best ⟨(Nat.le_of_ble_eq_true rfl), (Nat.le_of_ble_eq_true rfl)⟩ dX3_clean_1 rfl (Nat.le_of_ble_eq_true rfl) (recv X hR.ob CL_X3) ⟨hK, hU, hR, hPK⟩ (fun q z => by rcases z with rfl; exact (Or.inl (OA.of (Or.inl (by decide))))) ⟨(Nat.le_of_ble_eq_true rfl), (Nat.le_of_ble_eq_true rfl)⟩ (fun v_ H hq hz_ hk => ?_)
  obtain ⟨rfl, a_1, hR2, hPK2, hold, hnew⟩ := hq
  replace hK := hK.to hk (fun q z => by rcases z with rfl; exact hR.kn X hK 0 (Or.inl (by decide)))
  replace hU := hU.own hA l4 (Q := (· = 0)) (fun k hk => by subst hk; exact Or.inl (by decide)) (fun q hl hq => hk q hl (hq 0 rfl))
  replace hz := Nat.le_trans hz hz_
  have hp_2 : lA D H a_1 (nC P) (pwc P S) := hPK2 a_1 rfl
  clear hk hz_ hR
  have hR := hR2
  clear hR2 hPK2
  obtain ⟨b, hb⟩ : ∃ b, b = bsN (pwc P S) (nC P) := ⟨_, rfl⟩
  have hbn : b < nC P := by rw [hb]; exact bsN_lt (Nat.mul_pos hx1 hy1)
  rw [← hb]
  clear hp_2
  refine vv_istore_n (lv' := [(2, .int (nI b)), (0, .ref (g 0)), (1, .int (nI p))]) X dX3_clean_4 rfl (by decide) rfl ?_
  refine vv_aload_n X dX3_clean_5 rfl 1 rfl ?_
  refine vv_iload_n X dX3_clean_6 rfl 0 rfl ?_
  refine vv_callVp X (mX3_window (kL K) D u P T o g S (some a_1) b hC hV (by omega)) q1965 q1928 q1929 q150 q1930 nX3_window ⟨(Nat.le_of_ble_eq_true rfl), (Nat.le_of_ble_eq_true rfl)⟩ dX3_clean_7 rfl (Nat.le_of_ble_eq_true rfl) (recv X hR.ob CL_X3) ⟨hK, hU, hR⟩ ⟨(Nat.le_of_ble_eq_true rfl), (Nat.le_of_ble_eq_true rfl)⟩ ?_
  have hwb : win P S (dc P b) ≤ 200 := Nat.le_trans (Nat.sub_le _ _) l2
  obtain ⟨pw2, hpw2⟩ : ∃ pw2, pw2 = (some a_1) := ⟨_, rfl⟩
  rw [← hpw2] at hR
  refine vv_newiA (M := 200) X (by omega) (by decide) (Nat.le_of_ble_eq_true rfl) (Nat.le_of_ble_eq_true rfl) rfl dX3_clean_10 (fun a_3 H eq_4 hx ho => ?_)
  have ng_5 : ∀ k, UK (nM P) k → a_3 ≠ g k := fun k hk e => by have h9 := hR.ltA k hk; rw [eq_4] at e; omega
  have ns_6 : ∀ j, SJ P j → a_3 ≠ g j := fun k hk e => by have h9 := hR.ltS k hk; rw [eq_4] at e; omega
  have nu_7 : ∀ j, VK P j → a_3 ≠ u j := fun k hk e => by have h9 := hU.ltB k hk; rw [eq_4] at e; omega
  have ge_8 : (kS K).heap.size ≤ a_3 := by rw [eq_4]; exact hz
  have kn_9 : KN D a_3 := KN.new hK (Nat.le_of_eq eq_4.symm)
  replace hU := hU.ex hx
  replace hR := hR.ex hx
  replace hK := hK.ex hx
  replace hz : (kS K).heap.size ≤ H.size := by have := hx.1; omega
  have hR_10 : iA D H a_3 (win P S (dc P b)) (fun _ => 0) := ho
  clear ho hx
  refine vv_astore_n (lv' := [(3, .ref a_3), (2, .int (nI b)), (0, .ref (g 0)), (1, .int (nI p))]) X dX3_clean_12 rfl (by decide) rfl ?_
  refine vv_iconst (v := nI 0) X dX3_clean_13 (by decide) ?_
  refine vv_istore (lv' := [(4, .int (nI 0)), (3, .ref a_3), (2, .int (nI b)), (0, .ref (g 0)), (1, .int (nI p))]) X dX3_clean_14 (by decide) rfl ?_
  have hx_11 : ∀ (H : Heap) (hK : KH D H) (hU : UR D u P T o H) (hR : SR D g u P (S) pw2 H) (hz : (kS K).heap.size ≤ H.size) (hm : iA D H a_3 (win P S (dc P b)) (rz (fun _ => 0) (bm P S (dc P b)) (win P S (dc P b)))), V K 7 (OA g (nM P)) H 3 345 Qf 40 [(0, .ref (g 0)), (1, .int (nI p)), (2, .int (nI b)), (3, .ref a_3), (4, .int (nI (win P S (dc P b))))] [] := by
    intro H hK hU hR hz hm
    replace hm := iA_cg hm (fun j hj => rz_in hj)
    refine vv_bipush (v := nI 100) X dX3_clean_40 (by decide) ?_
    refine vv_aload_n X dX3_clean_42 rfl 0 rfl ?_
    refine vv_callVp X (mX3_weightSum (kL K) D u P T o g S pw2  hC hV ) q2861 q2854 q2855 q150 q2856 nX3_weightSum ⟨(Nat.le_of_ble_eq_true rfl), (Nat.le_of_ble_eq_true rfl)⟩ dX3_clean_43 rfl (Nat.le_of_ble_eq_true rfl) (recv X hR.ob CL_X3) ⟨hK, hU, hR⟩ ⟨(Nat.le_of_ble_eq_true rfl), (Nat.le_of_ble_eq_true rfl)⟩ ?_
    refine vn_mul X dX3_clean_46 ?_
    refine vv_istore (lv' := [(4, .int (nI (100 * (wsm S (nM P))))), (0, .ref (g 0)), (1, .int (nI p)), (2, .int (nI b)), (3, .ref a_3)]) X dX3_clean_47 (by decide) rfl ?_
    refine vv_iconst (v := nI 0) X dX3_clean_49 (by decide) ?_
    refine vv_istore (lv' := [(5, .int (nI 0)), (4, .int (nI (100 * (wsm S (nM P))))), (0, .ref (g 0)), (1, .int (nI p)), (2, .int (nI b)), (3, .ref a_3)]) X dX3_clean_50 (by decide) rfl ?_
    have hx_12 : ∀ (H : Heap) (hK : KH D H) (hU : UR D u P T o H) (hR : SR D g u P (clp P S b p (nM P) 0) pw2 H) (hz : (kS K).heap.size ≤ H.size) (hm : iA D H a_3 (win P S (dc P b)) (bm P S (dc P b))), V K 7 (OA g (nM P)) H 3 345 Qf 135 [(0, .ref (g 0)), (1, .int (nI p)), (2, .int (nI b)), (3, .ref a_3), (4, .int (nI (100 * wsm S (nM P)))), (5, .int (nI (nM P)))] [] := by
      intro H hK hU hR hz hm
      refine vv_aload_n X dX3_clean_135 rfl 0 rfl ?_
      refine vv_dup X dX3_clean_136 rfl ?_
      refine vv_getf (C := RX3) (T := TX3) (N := 8) (ref := "AcousticCamera$State") X hR.ob in_X3 CL_X3 6 (by decide) q1699 rfl rfl dX3_clean_137 ?_
      refine vv_iconst (v := nI 1) X dX3_clean_140 (by decide) ?_
      refine vv_iadd X dX3_clean_141 ?_
      refine vv_putf (C := RX3) (T := TX3) (N := 8) (ref := "AcousticCamera$State") X hR.ob in_X3 CL_X3 tyX3 tyX3_ok nmX3 6 (by decide) q1699 rfl rfl rfl rfl (Nat.le_of_ble_eq_true rfl) (Or.inl (OA.of (Or.inl (by decide)))) dX3_clean_142 (fun H hc ho => ?_)
      replace hm := hm.kept (hc.2 _ (ng_5 _ (Or.inl (by decide))))
      replace hK := hK.ch hc (hR.kn X hK 0 (Or.inl (by decide)))
      replace hU := hU.own hA l4 (Q := (· = 0)) (fun k hk => by subst hk; exact Or.inl (by decide)) hc.own
      replace hz := Nat.le_trans hz (Nat.le_of_eq hc.1.symm)
      replace hR := hR.put0 hA l4 l5 (x := ((clp P S b p (nM P) 0) 0) + (nI 1)) hc ho
      clear hc ho
      refine vv_aload_n X dX3_clean_145 rfl 0 rfl ?_
      refine vv_null X dX3_clean_146 ?_
      refine vv_putf (C := RX3) (T := TX3) (N := 8) (ref := "AcousticCamera$State") X hR.ob in_X3 CL_X3 tyX3 tyX3_ok nmX3 7 (by decide) q1701 rfl rfl rfl rfl (Nat.le_of_ble_eq_true rfl) (Or.inl (OA.of (Or.inl (by decide)))) dX3_clean_147 (fun H hc ho => ?_)
      replace hm := hm.kept (hc.2 _ (ng_5 _ (Or.inl (by decide))))
      replace hK := hK.ch hc (hR.kn X hK 0 (Or.inl (by decide)))
      replace hU := hU.own hA l4 (Q := (· = 0)) (fun k hk => by subst hk; exact Or.inl (by decide)) hc.own
      replace hz := Nat.le_trans hz (Nat.le_of_eq hc.1.symm)
      replace hR := hR.putP hA l4 l5 (pw' := none) hc ho
      clear hc ho
      refine vv_iload_n X dX3_clean_150 rfl 2 rfl ?_
      exact vv_iret X hQ dX3_clean_151 (Nat.le_of_ble_eq_true rfl) (Nat.le_of_ble_eq_true rfl) (⟨by rw [hb], hR.cg l4 l5 (fun i hi => by
          rw [← hb]
          by_cases z : i = 0
          · subst z; rw [cln, va_up_self, va_up_self, clp_z]
          · rw [cln, va_up_ne _ _ z, va_up_ne _ _ z]) (fun m hm t ht => by rw [← hb, cln, va_up_ne _ _ (by omega), va_up_ne _ _ (by omega)])⟩)
    have hl_13 : ∀ (n_i i : Nat) (H : Heap), i + n_i = nM P → (KH D H) → (UR D u P T o H) → (SR D g u P (clp P S b p i 0) pw2 H) → ((kS K).heap.size ≤ H.size) → (iA D H a_3 (win P S (dc P b)) (bm P S (dc P b))) → V K 7 (OA g (nM P)) H 3 345 Qf 52 [(0, .ref (g 0)), (1, .int (nI p)), (2, .int (nI b)), (3, .ref a_3), (4, .int (nI (100 * wsm S (nM P)))), (5, .int (nI i))] [] := by
      intro n_i
      induction n_i with
      | zero =>
        intro i H hi hK hU hR hz hm
        obtain rfl : i = nM P := by omega
        refine vv_iload X dX3_clean_52 5 rfl ?_
        refine vv_aload_n X dX3_clean_54 rfl 0 rfl ?_
        refine vv_getf (C := RX3) (T := TX3) (N := 8) (ref := "AcousticCamera$State") X hR.ob in_X3 CL_X3 4 (by decide) q1695 rfl rfl dX3_clean_55 ?_
        refine vv_alen (ty := 0) X hR.wt rfl dX3_clean_58 ?_
        refine vn_ge (tgt := 135) X (by omega) (by omega) dX3_clean_59 (by decide) (fun c_59 => ?_) (fun c_59 => ?_)
        · exact hx_12 H hK hU hR hz hm
        · exact absurd c_59 (by omega)
      | succ n_i ihi =>
        intro i H hi hK hU hR hz hm
        refine vv_iload X dX3_clean_52 5 rfl ?_
        refine vv_aload_n X dX3_clean_54 rfl 0 rfl ?_
        refine vv_getf (C := RX3) (T := TX3) (N := 8) (ref := "AcousticCamera$State") X hR.ob in_X3 CL_X3 4 (by decide) q1695 rfl rfl dX3_clean_55 ?_
        refine vv_alen (ty := 0) X hR.wt rfl dX3_clean_58 ?_
        refine vn_ge (tgt := 135) X (by omega) (by omega) dX3_clean_59 (by decide) (fun c_59 => ?_) (fun c_59 => ?_)
        · exact absurd hi (by omega)
        · refine vv_aload_n X dX3_clean_62 rfl 0 rfl ?_
          refine vv_iload X dX3_clean_63 5 rfl ?_
          refine vv_callVp X (mX3_isActive (kL K) D u P T o g (clp P S b p i 0) pw2 i hC (lowS.vs clp_low hV) (by omega)) q1919 q1834 q1835 q150 q1836 nX3_isActive ⟨(Nat.le_of_ble_eq_true rfl), (Nat.le_of_ble_eq_true rfl)⟩ dX3_clean_65 rfl (Nat.le_of_ble_eq_true rfl) (recv X hR.ob CL_X3) ⟨hK, hU, hR⟩ ⟨(Nat.le_of_ble_eq_true rfl), (Nat.le_of_ble_eq_true rfl)⟩ ?_
          refine vv_eqi (b2_eq (show clp P S b p i 0 (1 + i) = 0 ↔ S (1 + i) = 0 by rw [clp_low (1 + i) (by omega) (by omega)])) ?_
          refine vb_ne (tgt := 74) X dX3_clean_68 (by decide) (fun c_68 => ?_) (fun c_68 => ?_)
          · refine vv_iconst (v := nI 0) X dX3_clean_74 (by decide) ?_
            refine vv_istore (lv' := [(6, .int (nI 0)), (0, .ref (g 0)), (1, .int (nI p)), (2, .int (nI b)), (3, .ref a_3), (4, .int (nI (100 * wsm S (nM P)))), (5, .int (nI i))]) X dX3_clean_75 (by decide) rfl ?_
            have hx_14 : ∀ (H : Heap) (hK : KH D H) (hU : UR D u P T o H) (hR : SR D g u P (clp P S b p i (win P S (dc P b))) pw2 H) (hz : (kS K).heap.size ≤ H.size) (hm : iA D H a_3 (win P S (dc P b)) (bm P S (dc P b))), V K 7 (OA g (nM P)) H 3 345 Qf 129 [(0, .ref (g 0)), (1, .int (nI p)), (2, .int (nI b)), (3, .ref a_3), (4, .int (nI (100 * wsm S (nM P)))), (5, .int (nI i)), (6, .int (nI (win P S (dc P b))))] [] := by
              intro H hK hU hR hz hm
              refine vv_iinc (v := nI (i + 1)) (lv' := [(5, .int (nI (i + 1))), (0, .ref (g 0)), (1, .int (nI p)), (2, .int (nI b)), (3, .ref a_3), (4, .int (nI (100 * wsm S (nM P)))), (6, .int (nI (win P S (dc P b))))]) X dX3_clean_129 (k := 5) rfl (nI_add _ 1) (by decide) rfl ?_
              refine vv_goto (tgt := 52) X dX3_clean_132 (by decide) ?_
              refine vv_sub [1, 2, 3, 4, 5, 0] rfl ?_
              exact ihi (i + 1) H (by omega) (hK) (hU) (by rw [clp_n (Or.inr (Nat.le_refl _))] at hR; exact hR) (hz) (hm)
            have hl_15 : ∀ (n_j j : Nat) (H : Heap), j + n_j = win P S (dc P b) → (KH D H) → (UR D u P T o H) → (SR D g u P (clp P S b p i j) pw2 H) → ((kS K).heap.size ≤ H.size) → (iA D H a_3 (win P S (dc P b)) (bm P S (dc P b))) → V K 7 (OA g (nM P)) H 3 345 Qf 77 [(0, .ref (g 0)), (1, .int (nI p)), (2, .int (nI b)), (3, .ref a_3), (4, .int (nI (100 * wsm S (nM P)))), (5, .int (nI i)), (6, .int (nI j))] [] := by
              intro n_j
              induction n_j with
              | zero =>
                intro j H hj hK hU hR hz hm
                obtain rfl : j = win P S (dc P b) := by omega
                refine vv_iload X dX3_clean_77 6 rfl ?_
                refine vv_aload_n X dX3_clean_79 rfl 3 rfl ?_
                refine vv_alen (ty := 0) X hm rfl dX3_clean_80 ?_
                refine vn_ge (tgt := 129) X (by omega) (by omega) dX3_clean_81 (by decide) (fun c_81 => ?_) (fun c_81 => ?_)
                · exact hx_14 H hK hU hR hz hm
                · exact absurd c_81 (by omega)
              | succ n_j ihj =>
                intro j H hj hK hU hR hz hm
                have hwj := win_in (by omega : j < win P S (dc P b)) (by omega : i < nM P) c_68
                refine vv_iload X dX3_clean_77 6 rfl ?_
                refine vv_aload_n X dX3_clean_79 rfl 3 rfl ?_
                refine vv_alen (ty := 0) X hm rfl dX3_clean_80 ?_
                refine vn_ge (tgt := 129) X (by omega) (by omega) dX3_clean_81 (by decide) (fun c_81 => ?_) (fun c_81 => ?_)
                · exact absurd hj (by omega)
                · refine vv_aload_n X dX3_clean_84 rfl 0 rfl ?_
                  refine vv_getf (C := RX3) (T := TX3) (N := 8) (ref := "AcousticCamera$State") X hR.ob in_X3 CL_X3 5 (by decide) q1697 rfl rfl dX3_clean_85 ?_
                  refine vv_iload X dX3_clean_88 5 rfl ?_
                  refine vv_aald (ty := 5) X hR.ra rfl rfl (i) (by omega) (by omega) rfl dX3_clean_90 (v := .ref (g (10 + i))) rfl ?_
                  refine vv_iload X dX3_clean_91 6 rfl ?_
                  refine vv_aload_n X dX3_clean_93 rfl 0 rfl ?_
                  refine vv_getf (C := RX3) (T := TX3) (N := 8) (ref := "AcousticCamera$State") X hR.ob in_X3 CL_X3 0 (by decide) q1687 rfl rfl dX3_clean_94 ?_
                  refine vv_getfN (C := RX5) (T := TX5) (N := 19) (ref := "AcousticCamera$Setup") X hU.ob in_X5 CL_X5 18 (by decide) q824 rfl rfl dX3_clean_97 ?_
                  refine vv_iload X dX3_clean_100 5 rfl ?_
                  refine vv_aald (ty := 5) X hU.de rfl rfl (i) (by omega) (by omega) rfl dX3_clean_102 (v := .ref (u (20 + i))) rfl ?_
                  refine vv_iload_n X dX3_clean_103 rfl 2 rfl ?_
                  refine vv_iald X (hU.row i (by omega)) (b) (by omega) (by omega) rfl dX3_clean_104 ?_
                  refine vn_add X dX3_clean_105 ?_
                  refine vv_dup2_11 X dX3_clean_106 rfl rfl ?_
                  refine vv_iald X (hR.row i (by omega)) (j + (dc P b i)) (by omega) (by omega) rfl dX3_clean_107 ?_
                  refine vv_eqi ((congrArg (clp P S b p i j) (Nat.add_assoc _ _ _).symm).trans (clp_at (by omega))) ?_
                  refine vv_aload_n X dX3_clean_108 rfl 3 rfl ?_
                  refine vv_iload X dX3_clean_109 6 rfl ?_
                  refine vv_iald X hm (j) (by omega) (by omega) rfl dX3_clean_111 ?_
                  refine vv_i2l (v := (bm P S (dc P b) j).toInt64) X dX3_clean_112 rfl ?_
                  refine vv_iload_n X dX3_clean_113 rfl 1 rfl ?_
                  refine vv_i2l (v := lN p) X dX3_clean_114 (nI_l (by omega)) ?_
                  refine vv_lmul X dX3_clean_115 ?_
                  refine vv_iload X dX3_clean_116 4 rfl ?_
                  refine vv_i2l (v := lN (100 * wsm S (nM P))) X dX3_clean_118 (nI_l (by omega)) ?_
                  refine vv_ldiv X dX3_clean_119 (lN_ne0 (by omega) (by omega)) ?_
                  refine vv_l2i X dX3_clean_120 rfl ?_
                  refine vv_eqi (show _ = cq P S b p j from rfl) ?_
                  refine vv_isub X dX3_clean_121 ?_
                  refine vv_iast X (hR.row i (by omega)) (j + (dc P b i)) (by omega) (by omega) rfl (Or.inl (OA.of (Or.inr ⟨by omega, by omega⟩))) dX3_clean_122 (fun H hc ho => ?_)
                  replace hm := hm.kept (hc.2 _ (ng_5 _ (Or.inr ⟨by omega, by omega⟩)))
                  replace hK := hK.ch hc (hR.kn X hK _ (Or.inr ⟨by omega, by omega⟩))
                  replace hU := hU.own hA l4 (Q := (· = (10 + i))) (fun k hk => by subst hk; exact Or.inr ⟨by omega, by omega⟩) hc.own
                  replace hz := Nat.le_trans hz (Nat.le_of_eq hc.1.symm)
                  replace hR := hR.putR hA l4 l5 l2 (m := i) (t := j + (dc P b i)) (x := (S (55 + 200 * i + j + dc P b i)) - (cq P S b p j)) (by omega) (by omega) hc ho
                  clear hc ho
                  refine vv_iinc (v := nI (j + 1)) (lv' := [(6, .int (nI (j + 1))), (0, .ref (g 0)), (1, .int (nI p)), (2, .int (nI b)), (3, .ref a_3), (4, .int (nI (100 * wsm S (nM P)))), (5, .int (nI i))]) X dX3_clean_123 (k := 6) rfl (nI_add _ 1) (by decide) rfl ?_
                  refine vv_goto (tgt := 77) X dX3_clean_126 (by decide) ?_
                  refine vv_sub [1, 2, 3, 4, 5, 6, 0] rfl ?_
                  exact ihj (j + 1) H (by omega) (hK) (hU) (by rw [show 55 + 200 * i + (j + dc P b i) = 55 + 200 * i + j + dc P b i from (Nat.add_assoc _ _ _).symm, clp_s (by omega) c_68 (by omega) (by omega) rfl] at hR; exact hR) (hz) (hm)
            refine vv_sub [1, 2, 3, 4, 5, 6, 0] rfl ?_
            exact hl_15 (win P S (dc P b)) 0 H (by first | omega | assumption) (hK) (hU) (hR) (hz) (hm)
          · refine vv_goto (tgt := 129) X dX3_clean_71 (by decide) ?_
            refine vv_iinc (v := nI (i + 1)) (lv' := [(5, .int (nI (i + 1))), (0, .ref (g 0)), (1, .int (nI p)), (2, .int (nI b)), (3, .ref a_3), (4, .int (nI (100 * wsm S (nM P))))]) X dX3_clean_129 (k := 5) rfl (nI_add _ 1) (by decide) rfl ?_
            refine vv_goto (tgt := 52) X dX3_clean_132 (by decide) ?_
            refine vv_sub [1, 2, 3, 4, 5, 0] rfl ?_
            exact ihi (i + 1) H (by omega) (hK) (hU) (by rw [clp_n (Or.inl c_68)] at hR; exact hR) (hz) (hm)
    refine vv_sub [2, 3, 4, 5, 1, 0] rfl ?_
    exact hl_13 (nM P) 0 H (by first | omega | assumption) (hK) (hU) (by have e : clp P S b p 0 0 = S := clp_00; rw [e]; exact hR) (hz) (hm)
  have hl_16 : ∀ (n_i i : Nat) (H : Heap), i + n_i = win P S (dc P b) → (KH D H) → (UR D u P T o H) → (SR D g u P (S) pw2 H) → ((kS K).heap.size ≤ H.size) → (iA D H a_3 (win P S (dc P b)) (rz (fun _ => 0) (bm P S (dc P b)) i)) → V K 7 (OA g (nM P)) H 3 345 Qf 16 [(0, .ref (g 0)), (1, .int (nI p)), (2, .int (nI b)), (3, .ref a_3), (4, .int (nI i))] [] := by
    intro n_i
    induction n_i with
    | zero =>
      intro i H hi hK hU hR hz hm
      obtain rfl : i = win P S (dc P b) := by omega
      refine vv_iload X dX3_clean_16 4 rfl ?_
      refine vv_aload_n X dX3_clean_18 rfl 3 rfl ?_
      refine vv_alen (ty := 0) X hm rfl dX3_clean_19 ?_
      refine vn_ge (tgt := 40) X (by omega) (by omega) dX3_clean_20 (by decide) (fun c_20 => ?_) (fun c_20 => ?_)
      · exact hx_11 H hK hU hR hz hm
      · exact absurd c_20 (by omega)
    | succ n_i ihi =>
      intro i H hi hK hU hR hz hm
      refine vv_iload X dX3_clean_16 4 rfl ?_
      refine vv_aload_n X dX3_clean_18 rfl 3 rfl ?_
      refine vv_alen (ty := 0) X hm rfl dX3_clean_19 ?_
      refine vn_ge (tgt := 40) X (by omega) (by omega) dX3_clean_20 (by decide) (fun c_20 => ?_) (fun c_20 => ?_)
      · exact absurd hi (by omega)
      · refine vv_aload_n X dX3_clean_23 rfl 3 rfl ?_
        refine vv_iload X dX3_clean_24 4 rfl ?_
        refine vv_aload_n X dX3_clean_26 rfl 0 rfl ?_
        refine vv_iload_n X dX3_clean_27 rfl 2 rfl ?_
        refine vv_iload X dX3_clean_28 4 rfl ?_
        refine vv_callVp X (mX3_beam (kL K) D u P T o g S pw2 b i hC hV (by omega) (by omega)) q1970 q1946 q1947 q150 q1948 nX3_beam ⟨(Nat.le_of_ble_eq_true rfl), (Nat.le_of_ble_eq_true rfl)⟩ dX3_clean_30 rfl (Nat.le_of_ble_eq_true rfl) (recv X hR.ob CL_X3) ⟨hK, hU, hR⟩ ⟨(Nat.le_of_ble_eq_true rfl), (Nat.le_of_ble_eq_true rfl)⟩ ?_
        refine vv_iast X hm (i) (by omega) (by omega) rfl (Or.inr ge_8) dX3_clean_33 (fun H hc ho => ?_)
        replace hK := hK.ch hc kn_9
        replace hU := hU.kept (fun q hl hq => hc.2 q (fun e => by obtain ⟨j_, h_, e_⟩ := hq; exact nu_7 j_ h_ (e.symm.trans e_)))
        replace hR := hR.kept (fun q hl hq => hc.2 q (fun e => by obtain ⟨k_, hk_, e_⟩ := hq; exact ng_5 k_ hk_ (e.symm.trans e_))) (fun q hl hq => hc.2 q (fun e => by obtain ⟨j_, h_, e_⟩ := hq; exact ns_6 j_ h_ (e.symm.trans e_)))
        replace hz := Nat.le_trans hz (Nat.le_of_eq hc.1.symm)
        clear hm
        have hm := ho
        clear hc ho
        refine vv_iinc (v := nI (i + 1)) (lv' := [(4, .int (nI (i + 1))), (0, .ref (g 0)), (1, .int (nI p)), (2, .int (nI b)), (3, .ref a_3)]) X dX3_clean_34 (k := 4) rfl (nI_add _ 1) (by decide) rfl ?_
        refine vv_goto (tgt := 16) X dX3_clean_37 (by decide) ?_
        refine vv_sub [1, 2, 3, 4, 0] rfl ?_
        exact ihi (i + 1) H (by omega) (hK) (hU) (hR) (hz) (by have e := rz_s (f := fun _ => (0 : Int32)) (g := bm P S (dc P b)) (n := i) rfl; rw [e] at hm; exact hm)
  refine vv_sub [3, 4, 2, 1, 0] rfl ?_
  exact hl_16 (win P S (dc P b)) 0 H (by first | omega | assumption) (hK) (hU) (hR) (hz) (by rw [rz_0]; exact hR_10)
