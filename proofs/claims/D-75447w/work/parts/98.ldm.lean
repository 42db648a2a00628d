/-! the model's load: printed by gen/m8.py -/
set_option maxRecDepth 100000
/-- the numbers at which the text is read; the weights of a new state -/
def ldX (x : Nat → Int32) (e : Nat) : Nat → Int32 := va_up (va_up (va_up (va_up (va_up (va_up x 0 (nI 0)) 3 (nI e)) 2 (nI 0)) 4 (nI 0)) 5 (nI 0)) 6 (-1)
def wts (P S : Nat → Int32) (n : Nat) : Nat → Int32 := fun j => if 13 ≤ j ∧ j < 13 + n then (if j - 13 < nH P then nI (shd P (j - 13)) else nI 1) else S j
theorem wts_0 {P S : Nat → Int32} : wts P S 0 = S := by
  funext j
  unfold wts
  rw [if_neg (by omega)]
theorem wts_s {P S : Nat → Int32} {n : Nat} {v : Int32} (h : v = if n < nH P then nI (shd P n) else nI 1) : va_up (wts P S n) (13 + n) v = wts P S (n + 1) := by
  funext j
  by_cases e : j = 13 + n
  · subst e
    rw [va_up_self, h]
    unfold wts
    rw [if_pos (show 13 ≤ 13 + n ∧ 13 + n < 13 + (n + 1) by omega), show 13 + n - 13 = n by omega]
  · rw [va_up_ne _ _ e]
    unfold wts
    by_cases q : 13 ≤ j ∧ j < 13 + n
    · rw [if_pos q, if_pos (show 13 ≤ j ∧ j < 13 + (n + 1) by omega)]
    · rw [if_neg q, if_neg (show ¬ (13 ≤ j ∧ j < 13 + (n + 1)) by omega)]
theorem VS_wts {P S : Nat → Int32} {n : Nat} (h : VS S) (hP : VP P) (hn : n ≤ 12) : VS (wts P S n) := by
  induction n with
  | zero => rw [wts_0]; exact h
  | succ n ih =>
    rw [← wts_s (v := if n < nH P then nI (shd P n) else nI 1) rfl]
    refine (ih (by omega)).up ?_
    split
    · exact vok_w (by omega) (hP.shd n (by omega)).2
    · exact vok_w (by omega) (by decide)
theorem ldX_PX {x : Nat → Int32} {e : Nat} (he : e ≤ 1000) (h7 : ∃ k, k ≤ 4 ∧ x 7 = nI k) : PX e (ldX x e) := ⟨rfl, he, ⟨0, Nat.zero_le _, rfl⟩, ⟨0, Nat.zero_le _, rfl⟩, h7⟩
theorem txG_50 {z : (Nat → Int32) × (Nat → Int32) × (Nat → Int32)} (h : txG z 5 = nI 0) : txG z = z.1 ∧ z.1 5 = nI 0 ∧ z.1 7 = nI 1 := by
  unfold txG at h ⊢
  by_cases c : z.1 5 = nI 0 ∧ ¬ z.1 7 = nI 1
  · rw [if_pos c] at h
    exact (fau_50 (by decide) h).elim
  · rw [if_neg c] at h ⊢
    exact ⟨rfl, h, Decidable.byContradiction fun q => c ⟨h, q⟩⟩
theorem txF_50 {z : (Nat → Int32) × (Nat → Int32) × (Nat → Int32)} (h : txF z 5 = nI 0) : txF z = z.1 ∧ z.1 5 = nI 0 ∧ z.1 7 = nI 1 ∧ ¬ nM z.2.1 = 0 ∧ ¬ pC z.2.1 = 0 := by
  unfold txF at h ⊢
  by_cases c : nM z.2.1 = 0 ∨ pC z.2.1 = 0
  · rw [if_pos c] at h
    exact (fau_50 (by decide) h).elim
  · rw [if_neg c] at h ⊢
    obtain ⟨a, b, d⟩ := txG_50 h
    exact ⟨a, b, d, fun q => c (Or.inl q), fun q => c (Or.inr q)⟩
/-- a table of delays under way -/
def TBL (P W : Nat → Int32) (c m : Nat) : Prop := ∀ c' m', (c' < c ∧ m' < nM P) ∨ (c' = c ∧ m' < m) → W (12 * c' + m') = nI (dc P c' m')
theorem TBL_s {P W : Nat → Int32} {c m : Nat} (h : TBL P W c m) (hm : m < 12) (hM : nM P ≤ 12) : TBL P (va_up W (12 * c + m) (nI (dc P c m))) c (m + 1) := by
  intro c' m' q
  by_cases e : 12 * c' + m' = 12 * c + m
  · rw [e, va_up_self, show c' = c by omega, show m' = m by omega]
  · rw [va_up_ne _ _ e]
    exact h c' m' (by omega)
theorem TBL_c {P W : Nat → Int32} {c : Nat} (h : TBL P W c (nM P)) : TBL P W (c + 1) 0 := fun c' m' q => h c' m' (by omega)
theorem nX2_load : notMH yX2_load 1 := by decide +kernel
set_option maxHeartbeats 800000 in
theorem mX2_load1 (l : Launch) (D : DD) (g : Nat → Nat) (x : Nat → Int32) (I : Nat → Nat → Int32) (J : Nat → Nat → Int64) (n : Int32) (u2 : Nat) (hg : MG g) (hka : KA D (MA g)) (hb : x 2 = nI u2) (hbad : ¬ (nI 0 ≤ n ∧ n ≤ nI u2)) : Ct l yX2_load cX2_load 4 (some .int) { frames := 2, cells := 0, slots := 0, locals := 34 } D [.ref (g 0), .int (n)] (fun H => MR D g x I J H ∧ KH D H) (MA g) (fun v H H1 => v = some (.int (nI 0)) ∧ MR D g (va_up x 0 (nI 1)) I J H1) := by
  refine Ct.of (by decide +kernel) (Nat.le_of_ble_eq_true rfl) (fun K Qf hkl X hM hQ => ?_)
  subst hkl
  obtain ⟨hM, hK⟩ := hM
  refine vv_sub (lv' := [(0, .ref (g 0)), (1, .int (n))]) [0, 1] rfl ?_
  refine vv_aload_n X dX2_load_0 rfl 0 rfl ?_
  refine vv_iconst (v := nI 0) X dX2_load_1 (by decide) ?_
  refine vv_putf (C := RX2) (T := TX2) (N := 30) (ref := RX2) X hM.1 in_X2 CL_X2 tyX2 tyX2_ok nmX2 0 (by decide) q2911 rfl rfl rfl rfl (Nat.le_of_ble_eq_true rfl) (Or.inl (MA.in (by decide))) dX2_load_2 (fun H1 hc ho => ?_)
  replace hM := hM.setx hg (x' := va_up x 0 (nI 0)) hc ho
  replace hK := hK.ch1 hka (MA.in (by decide)) hc
  clear hc ho
  refine vv_iload_n X dX2_load_5 rfl 1 rfl ?_
  refine vv_iconst (v := nI 0) X dX2_load_6 (by decide) ?_
  refine vv_aload_n X dX2_load_7 rfl 0 rfl ?_
  refine mg2 X rfl hM dX2_load_8 ?_
  refine vv_eqi ((va_up_ne _ _ (by decide)).trans hb) ?_
  refine vv_callSp X (mX2_in (kL K) D n (nI 0) (nI u2)) q3031 q3032 q144 q3033 nX2_in ⟨(Nat.le_of_ble_eq_true rfl), (Nat.le_of_ble_eq_true rfl)⟩ dX2_load_11 rfl (Nat.le_of_ble_eq_true rfl) trivial ⟨(Nat.le_of_ble_eq_true rfl), (Nat.le_of_ble_eq_true rfl)⟩ ?_
  refine vb_ne (tgt := 23) X dX2_load_14 (by decide) (fun c_14 => ?_) (fun c_14 => ?_)
  · exact absurd c_14 hbad
  · refine vv_aload_n X dX2_load_17 rfl 0 rfl ?_
    refine vv_iconst (v := nI 1) X dX2_load_18 (by decide) ?_
    refine vv_callV X (mX2_throwsAt (kL K) D g (va_up x 0 (nI 0)) I J hg (nI 1)) q3034 q3036 qs59 q144 q3037 nX2_throwsAt ⟨(Nat.le_of_ble_eq_true rfl), (Nat.le_of_ble_eq_true rfl)⟩ dX2_load_19 rfl (Nat.le_of_ble_eq_true rfl) (recv X hM.1 CL_X2) hM  (fun _ z => Or.inl z) ⟨(Nat.le_of_ble_eq_true rfl), (Nat.le_of_ble_eq_true rfl)⟩ (fun v_ H hq hz hk => ?_)
    obtain ⟨rfl, hM⟩ := hq
    clear hz hk
    rw [up_up] at hM
    exact vv_iret X hQ dX2_load_22 (Nat.le_refl _) (Nat.le_refl _) (⟨rfl, hM⟩)
theorem MR.p10 {D : DD} {g : Nat → Nat} {x : Nat → Int32} {I : Nat → Nat → Int32} {J : Nat → Nat → Int64} {H : Heap} {A P : Nat → Int32} (h : MR D g x (va_up I 10 (rz A P 131)) J H) (hg : MG g) : MR D g x (va_up I 10 P) J H := by
  have a := iA_cg (show iA D H (g 10) 131 (rz A P 131) from h.a10) (g := P) (fun j hj => rz_in hj)
  have h1 := h.setI hg (k := 10) (n := 131) (by decide) ⟨rfl, fun _ _ => rfl⟩ a
  rw [up_up] at h1
  exact h1
set_option maxHeartbeats 800000 in
theorem mX2_load (l : Launch) (D : DD) (g : Nat → Nat) (x : Nat → Int32) (I : Nat → Nat → Int32) (J : Nat → Nat → Int64) (e u2 : Nat) (y P S : Nat → Int32) (hg : MG g) (hka : KA D (MA g)) (he : e ≤ u2) (hu : u2 ≤ 1000) (hb : x 2 = nI u2) (h7 : ∃ k, k ≤ 4 ∧ x 7 = nI k) (hzA : txA (I 1) e (ldX x e) = (y, P, S)) (h21 : x 21 = -1) (h5 : txF (y, P, S) 5 = nI 0) : Ct l yX2_load cX2_load 4 (some .int) { frames := 11, cells := 0, slots := 0, locals := 226 } D [.ref (g 0), .int (nI e)] (fun H => MR D g x I J H ∧ KH D H) (MA g) (fun v H H1 => v = some (.int (nI (nC P))) ∧ ∃ W R, TBL P W (nC P) 0 ∧ MR D g (va_up (va_up y 20 (nI 1)) 19 (nI 0)) (va_up (va_up (va_up (va_up (va_up (va_up (va_up (va_up I 11 P) 13 S) 10 P) 12 (wts P S (nM P))) 17 W) 12 (rcd P (rawA P (wts P S (nM P))) (wts P S (nM P)))) 23 R) 18 (va_up (va_up (I 18) 0 (nI 0)) 1 (nI 0))) J H1) := by
  refine Ct.of (by decide +kernel) (Nat.le_of_ble_eq_true rfl) (fun K Qf hkl X hM hQ => ?_)
  subst hkl
  obtain ⟨hM, hK⟩ := hM
  have hpx := ldX_PX (x := x) (e := e) (by omega) h7
  have hinv := txA_inv (f := I 1) hpx (px5n rfl)
  rw [hzA] at hinv
  obtain ⟨hxy, hIv, hSv⟩ := hinv
  dsimp only at hxy hIv hSv
  obtain ⟨ey, y5, y7, nm0, pc0⟩ := txF_50 h5
  dsimp only at ey y5 y7 nm0 pc0
  have hC := IV_VC hIv nm0 pc0
  have hP := hIv.1
  have hsm := sm_txA (f := I 1) (e := e) (x := ldX x e)
  rw [hzA] at hsm
  dsimp only at hsm
  have h21y : y 21 = -1 := (hsm 21 (Or.inr (by decide))).trans h21
  have l4 := hP.l4
  have l9 := hP.l9
  have l10 := hP.l10
  have l118 := hP.l118
  have hx1 := hC.x1
  have hncc : nC P ≤ 144 := Nat.mul_le_mul l9 l10
  refine vv_sub (lv' := [(0, .ref (g 0)), (1, .int (nI e))]) [0, 1] rfl ?_
  refine vv_aload_n X dX2_load_0 rfl 0 rfl ?_
  refine vv_iconst (v := nI 0) X dX2_load_1 (by decide) ?_
  refine vv_putf (C := RX2) (T := TX2) (N := 30) (ref := RX2) X hM.1 in_X2 CL_X2 tyX2 tyX2_ok nmX2 0 (by decide) q2911 rfl rfl rfl rfl (Nat.le_of_ble_eq_true rfl) (Or.inl (MA.in (by decide))) dX2_load_2 (fun H1 hc ho => ?_)
  replace hM := hM.setx hg (x' := va_up x 0 (nI 0)) hc ho
  replace hK := hK.ch1 hka (MA.in (by decide)) hc
  clear hc ho
  refine vv_iload_n X dX2_load_5 rfl 1 rfl ?_
  refine vv_iconst (v := nI 0) X dX2_load_6 (by decide) ?_
  refine vv_aload_n X dX2_load_7 rfl 0 rfl ?_
  refine mg2 X rfl hM dX2_load_8 ?_
  refine vv_eqi ((va_up_ne _ _ (by decide)).trans hb) ?_
  refine vv_callSp X (mX2_inN (kL K) D e 0 u2 (by omega) (by omega) (by omega)) q3031 q3032 q144 q3033 nX2_in ⟨(Nat.le_of_ble_eq_true rfl), (Nat.le_of_ble_eq_true rfl)⟩ dX2_load_11 rfl (Nat.le_of_ble_eq_true rfl) trivial ⟨(Nat.le_of_ble_eq_true rfl), (Nat.le_of_ble_eq_true rfl)⟩ ?_
  refine vb_ne (tgt := 23) X dX2_load_14 (by decide) (fun c_14 => ?_) (fun c_14 => ?_)
  · refine vv_aload_n X dX2_load_23 rfl 0 rfl ?_
    refine vv_iload_n X dX2_load_24 rfl 1 rfl ?_
    refine vv_putf (C := RX2) (T := TX2) (N := 30) (ref := RX2) X hM.1 in_X2 CL_X2 tyX2 tyX2_ok nmX2 3 (by decide) q2914 rfl rfl rfl rfl (Nat.le_of_ble_eq_true rfl) (Or.inl (MA.in (by decide))) dX2_load_25 (fun H1 hc ho => ?_)
    replace hM := hM.setx hg (x' := va_up (va_up x 0 (nI 0)) 3 (nI e)) hc ho
    replace hK := hK.ch1 hka (MA.in (by decide)) hc
    clear hc ho
    refine vv_aload_n X dX2_load_28 rfl 0 rfl ?_
    refine vv_iconst (v := nI 0) X dX2_load_29 (by decide) ?_
    refine vv_putf (C := RX2) (T := TX2) (N := 30) (ref := RX2) X hM.1 in_X2 CL_X2 tyX2 tyX2_ok nmX2 2 (by decide) q2913 rfl rfl rfl rfl (Nat.le_of_ble_eq_true rfl) (Or.inl (MA.in (by decide))) dX2_load_30 (fun H1 hc ho => ?_)
    replace hM := hM.setx hg (x' := va_up (va_up (va_up x 0 (nI 0)) 3 (nI e)) 2 (nI 0)) hc ho
    replace hK := hK.ch1 hka (MA.in (by decide)) hc
    clear hc ho
    refine vv_aload_n X dX2_load_33 rfl 0 rfl ?_
    refine vv_iconst (v := nI 0) X dX2_load_34 (by decide) ?_
    refine vv_putf (C := RX2) (T := TX2) (N := 30) (ref := RX2) X hM.1 in_X2 CL_X2 tyX2 tyX2_ok nmX2 4 (by decide) q2915 rfl rfl rfl rfl (Nat.le_of_ble_eq_true rfl) (Or.inl (MA.in (by decide))) dX2_load_35 (fun H1 hc ho => ?_)
    replace hM := hM.setx hg (x' := va_up (va_up (va_up (va_up x 0 (nI 0)) 3 (nI e)) 2 (nI 0)) 4 (nI 0)) hc ho
    replace hK := hK.ch1 hka (MA.in (by decide)) hc
    clear hc ho
    refine vv_aload_n X dX2_load_38 rfl 0 rfl ?_
    refine vv_iconst (v := nI 0) X dX2_load_39 (by decide) ?_
    refine vv_putf (C := RX2) (T := TX2) (N := 30) (ref := RX2) X hM.1 in_X2 CL_X2 tyX2 tyX2_ok nmX2 5 (by decide) q2916 rfl rfl rfl rfl (Nat.le_of_ble_eq_true rfl) (Or.inl (MA.in (by decide))) dX2_load_40 (fun H1 hc ho => ?_)
    replace hM := hM.setx hg (x' := va_up (va_up (va_up (va_up (va_up x 0 (nI 0)) 3 (nI e)) 2 (nI 0)) 4 (nI 0)) 5 (nI 0)) hc ho
    replace hK := hK.ch1 hka (MA.in (by decide)) hc
    clear hc ho
    refine vv_aload_n X dX2_load_43 rfl 0 rfl ?_
    refine vv_iconst (v := -1) X dX2_load_44 (by decide) ?_
    refine vv_putf (C := RX2) (T := TX2) (N := 30) (ref := RX2) X hM.1 in_X2 CL_X2 tyX2 tyX2_ok nmX2 6 (by decide) q2917 rfl rfl rfl rfl (Nat.le_of_ble_eq_true rfl) (Or.inl (MA.in (by decide))) dX2_load_45 (fun H1 hc ho => ?_)
    replace hM := hM.setx hg (x' := va_up (va_up (va_up (va_up (va_up (va_up x 0 (nI 0)) 3 (nI e)) 2 (nI 0)) 4 (nI 0)) 5 (nI 0)) 6 (-1)) hc ho
    replace hK := hK.ch1 hka (MA.in (by decide)) hc
    clear hc ho
    refine vv_aload_n X dX2_load_48 rfl 0 rfl ?_
    refine vv_callV X (mX2_readText (kL K) D g (va_up (va_up (va_up (va_up (va_up (va_up x 0 (nI 0)) 3 (nI e)) 2 (nI 0)) 4 (nI 0)) 5 (nI 0)) 6 (-1)) I J e hg hka hpx (px5n rfl)) q3038 q3040 qs60 q144 q3041 nX2_readText ⟨(Nat.le_of_ble_eq_true rfl), (Nat.le_of_ble_eq_true rfl)⟩ dX2_load_49 rfl (Nat.le_of_ble_eq_true rfl) (recv X hM.1 CL_X2) ⟨hM, hK⟩  (fun _ z => Or.inl z) ⟨(Nat.le_of_ble_eq_true rfl), (Nat.le_of_ble_eq_true rfl)⟩ (fun v_ H hq hz hk => ?_)
    obtain ⟨rfl, hM⟩ := hq
    replace hK := hK.keep hka hk
    clear hz hk
    replace hM : MR D g (txF (y, P, S)) (va_up (va_up I 11 P) 13 S) J H := by have z := hM; rw [show va_up (va_up (va_up (va_up (va_up (va_up x 0 (nI 0)) 3 (nI e)) 2 (nI 0)) 4 (nI 0)) 5 (nI 0)) 6 (-1) = ldX x e from rfl, hzA] at z; dsimp only at z; exact z
    rw [ey] at hM
    refine vv_aload_n X dX2_load_52 rfl 0 rfl ?_
    refine mg5 X rfl hM dX2_load_53 ?_
    refine vv_if_le (tgt := 65) X dX2_load_56 (by decide) (fun c_56 => ?_) (fun c_56 => ?_)
    · refine vv_iconst (v := nI 0) X dX2_load_65 (by decide) ?_
      refine vv_istore_n (lv' := [(2, .int (nI 0)), (0, .ref (g 0)), (1, .int (nI e))]) X dX2_load_66 rfl (by decide) rfl ?_
      have hx_1 : ∀ (H : Heap) (hM : MR D g y (va_up (va_up (va_up I 11 P) 13 S) 10 (rz (I 10) P 131)) J H), V K 4 (MA g) H 0 0 Qf 92 [(0, .ref (g 0)), (1, .int (nI e)), (2, .int (nI 131))] [] := by
        intro H hM
        replace hM := hM.p10 hg
        refine vv_aload_n X dX2_load_92 rfl 0 rfl ?_
        refine mg13 X rfl hM dX2_load_93 ?_
        refine vv_iconst (v := nI 0) X dX2_load_96 (by decide) ?_
        refine vv_aload_n X dX2_load_97 rfl 0 rfl ?_
        refine mg12 X rfl hM dX2_load_98 ?_
        refine vv_iconst (v := nI 0) X dX2_load_101 (by decide) ?_
        refine vv_callS X (mX2_copy (kL K) D (g 13) (g 12) 2455 2455 0 0 S (I 12) (hg.ne (by decide) (by decide) (by decide)) (by decide) (by decide) (by omega) (by omega)) q3169 q3170 q144 q3171 nX2_copy ⟨(Nat.le_of_ble_eq_true rfl), (Nat.le_of_ble_eq_true rfl)⟩ dX2_load_102 rfl (Nat.le_of_ble_eq_true rfl) ⟨hM.a13, hM.a12⟩  (fun _ z => Or.inl (z ▸ MA.in (by decide))) ⟨(Nat.le_of_ble_eq_true rfl), (Nat.le_of_ble_eq_true rfl)⟩ (fun v_ H hq hz hk => ?_)
        obtain ⟨rfl, hz1, ha⟩ := hq
        replace ha := iA_cp0 (by decide) ha
        replace hM := hM.setI hg (k := 12) (n := 2455) (by decide) (Ch_of hz1 hk) ha
        clear hz hk hz1 ha
        refine vv_iconst (v := nI 0) X dX2_load_105 (by decide) ?_
        refine vv_istore_n (lv' := [(2, .int (nI 0)), (0, .ref (g 0)), (1, .int (nI e))]) X dX2_load_106 rfl (by decide) rfl ?_
        have hx_2 : ∀ (H : Heap) (hM : MR D g y (va_up (va_up (va_up (va_up I 11 P) 13 S) 10 P) 12 (wts P S (nM P))) J H), V K 4 (MA g) H 0 0 Qf 156 [(0, .ref (g 0)), (1, .int (nI e)), (2, .int (nI (nM P)))] [] := by
          intro H hM
          refine vv_iconst (v := nI 0) X dX2_load_156 (by decide) ?_
          refine vv_istore_n (lv' := [(2, .int (nI 0)), (0, .ref (g 0)), (1, .int (nI e))]) X dX2_load_157 rfl (by decide) rfl ?_
          have hx_3 : ∀ (H : Heap) (W : Nat → Int32) (hM : MR D g y (va_up (va_up (va_up (va_up (va_up I 11 P) 13 S) 10 P) 12 (wts P S (nM P))) 17 W) J H) (hT : TBL P W (nC P) 0), V K 4 (MA g) H 0 0 Qf 218 [(0, .ref (g 0)), (1, .int (nI e)), (2, .int (nI (nC P)))] [] := by
            intro H W hM hT
            refine vv_aload_n X dX2_load_218 rfl 0 rfl ?_
            refine vv_aload_n X dX2_load_219 rfl 0 rfl ?_
            refine mg12 X rfl hM dX2_load_220 ?_
            refine vv_callV X (mX2_records12 (kL K) D g y (va_up (va_up (va_up (va_up (va_up I 11 P) 13 S) 10 P) 12 (wts P S (nM P))) 17 W) J P rfl (wts P S (nM P)) rfl hg (rawA P (wts P S (nM P))) hC (VS_wts hSv hP hP.l4) (Or.inl ⟨h21y, fun _ _ => rfl⟩)) q3188 q3190 qs87 q144 q3191 nX2_records ⟨(Nat.le_of_ble_eq_true rfl), (Nat.le_of_ble_eq_true rfl)⟩ dX2_load_223 rfl (Nat.le_of_ble_eq_true rfl) (recv X hM.1 CL_X2) hM  (fun _ z => Or.inl z) ⟨(Nat.le_of_ble_eq_true rfl), (Nat.le_of_ble_eq_true rfl)⟩ (fun v_ H hq hz hk => ?_)
            obtain ⟨rfl, R, hM⟩ := hq
            clear hz hk
            refine vv_aload_n X dX2_load_226 rfl 0 rfl ?_
            refine vv_iconst (v := nI 1) X dX2_load_227 (by decide) ?_
            refine mp20 X rfl hM hg rfl rfl (Or.inl (MA.in (by decide))) dX2_load_228 (fun H hM => ?_)
            refine vv_aload_n X dX2_load_231 rfl 0 rfl ?_
            refine mg18 X rfl hM dX2_load_232 ?_
            refine vv_iconst (v := nI 0) X dX2_load_235 (by decide) ?_
            refine vv_iconst (v := nI 0) X dX2_load_236 (by decide) ?_
            refine vv_zast X hM.a18 (0) (by omega) (by decide) rfl (Or.inl (MA.in (by decide))) dX2_load_237 (fun H1 hc ha => ?_)
            rw [show vp_nar .boolean (nI 0) = nI 0 from by decide] at ha
            replace hM := hM.setZ hg hc ha
            clear hc ha
            refine vv_aload_n X dX2_load_238 rfl 0 rfl ?_
            refine mg18 X rfl hM dX2_load_239 ?_
            refine vv_iconst (v := nI 1) X dX2_load_242 (by decide) ?_
            refine vv_iconst (v := nI 0) X dX2_load_243 (by decide) ?_
            refine vv_zast X hM.a18 (1) (by omega) (by decide) rfl (Or.inl (MA.in (by decide))) dX2_load_244 (fun H1 hc ha => ?_)
            rw [show vp_nar .boolean (nI 0) = nI 0 from by decide] at ha
            replace hM := hM.setZ hg hc ha
            clear hc ha
            rw [up_up] at hM
            refine vv_aload_n X dX2_load_245 rfl 0 rfl ?_
            refine vv_iconst (v := nI 0) X dX2_load_246 (by decide) ?_
            refine mp19 X rfl hM hg (Or.inl (MA.in (by decide))) dX2_load_247 (fun H hM => ?_)
            refine vv_aload_n X dX2_load_250 rfl 0 rfl ?_
            refine vv_callVp X (mX2_cellCount (kL K) D g (va_up (va_up y 20 (nI 1)) 19 (nI 0)) (va_up (va_up (va_up (va_up (va_up (va_up (va_up (va_up I 11 P) 13 S) 10 P) 12 (wts P S (nM P))) 17 W) 12 (rcd P (rawA P (wts P S (nM P))) (wts P S (nM P)))) 23 R) 18 (va_up (va_up (I 18) 0 (nI 0)) 1 (nI 0))) J P rfl hP) q3172 q3174 qs84 q144 q3175 nX2_cellCount ⟨(Nat.le_of_ble_eq_true rfl), (Nat.le_of_ble_eq_true rfl)⟩ dX2_load_251 rfl (Nat.le_of_ble_eq_true rfl) (recv X hM.1 CL_X2) hM ⟨(Nat.le_of_ble_eq_true rfl), (Nat.le_of_ble_eq_true rfl)⟩ ?_
            exact vv_iret X hQ dX2_load_254 (Nat.le_refl _) (Nat.le_refl _) (⟨rfl, W, R, hT, hM⟩)
          have hl_4 : ∀ (n_i i : Nat) (H : Heap) (W : Nat → Int32), i + n_i = nC P → (MR D g y (va_up (va_up (va_up (va_up (va_up I 11 P) 13 S) 10 P) 12 (wts P S (nM P))) 17 W) J H) → (TBL P W i 0) → V K 4 (MA g) H 0 0 Qf 158 [(0, .ref (g 0)), (1, .int (nI e)), (2, .int (nI i))] [] := by
            intro n_i
            induction n_i with
            | zero =>
              intro i H W hi hM hT
              obtain rfl : i = nC P := by omega
              refine vv_iload_n X dX2_load_158 rfl 2 rfl ?_
              refine vv_aload_n X dX2_load_159 rfl 0 rfl ?_
              refine vv_callVp X (mX2_cellCount (kL K) D g y (va_up (va_up (va_up (va_up (va_up I 11 P) 13 S) 10 P) 12 (wts P S (nM P))) 17 W) J P rfl hP) q3172 q3174 qs84 q144 q3175 nX2_cellCount ⟨(Nat.le_of_ble_eq_true rfl), (Nat.le_of_ble_eq_true rfl)⟩ dX2_load_160 rfl (Nat.le_of_ble_eq_true rfl) (recv X hM.1 CL_X2) hM ⟨(Nat.le_of_ble_eq_true rfl), (Nat.le_of_ble_eq_true rfl)⟩ ?_
              refine vn_ge (tgt := 218) X (by omega) (by omega) dX2_load_163 (by decide) (fun c_163 => ?_) (fun c_163 => ?_)
              · exact hx_3 H W hM hT
              · exact absurd c_163 (by omega)
            | succ n_i ihi =>
              intro i H W hi hM hT
              refine vv_iload_n X dX2_load_158 rfl 2 rfl ?_
              refine vv_aload_n X dX2_load_159 rfl 0 rfl ?_
              refine vv_callVp X (mX2_cellCount (kL K) D g y (va_up (va_up (va_up (va_up (va_up I 11 P) 13 S) 10 P) 12 (wts P S (nM P))) 17 W) J P rfl hP) q3172 q3174 qs84 q144 q3175 nX2_cellCount ⟨(Nat.le_of_ble_eq_true rfl), (Nat.le_of_ble_eq_true rfl)⟩ dX2_load_160 rfl (Nat.le_of_ble_eq_true rfl) (recv X hM.1 CL_X2) hM ⟨(Nat.le_of_ble_eq_true rfl), (Nat.le_of_ble_eq_true rfl)⟩ ?_
              refine vn_ge (tgt := 218) X (by omega) (by omega) dX2_load_163 (by decide) (fun c_163 => ?_) (fun c_163 => ?_)
              · exact absurd hi (by omega)
              · refine vv_iconst (v := nI 0) X dX2_load_166 (by decide) ?_
                refine vv_istore_n (lv' := [(3, .int (nI 0)), (0, .ref (g 0)), (1, .int (nI e)), (2, .int (nI i))]) X dX2_load_167 rfl (by decide) rfl ?_
                have hx_5 : ∀ (H : Heap) (W : Nat → Int32) (hM : MR D g y (va_up (va_up (va_up (va_up (va_up I 11 P) 13 S) 10 P) 12 (wts P S (nM P))) 17 W) J H) (hT : TBL P W i (nM P)), V K 4 (MA g) H 0 0 Qf 212 [(0, .ref (g 0)), (1, .int (nI e)), (2, .int (nI i)), (3, .int (nI (nM P)))] [] := by
                  intro H W hM hT
                  refine vv_iinc (v := nI (i + 1)) (lv' := [(2, .int (nI (i + 1))), (0, .ref (g 0)), (1, .int (nI e)), (3, .int (nI (nM P)))]) X dX2_load_212 (k := 2) rfl (nI_add _ 1) (by decide) rfl ?_
                  refine vv_goto (tgt := 158) X dX2_load_215 (by decide) ?_
                  refine vv_sub [1, 2, 0] rfl ?_
                  exact ihi (i + 1) H W (by omega) (hM) (TBL_c hT)
                have hl_6 : ∀ (n_k k : Nat) (H : Heap) (W : Nat → Int32), k + n_k = nM P → (MR D g y (va_up (va_up (va_up (va_up (va_up I 11 P) 13 S) 10 P) 12 (wts P S (nM P))) 17 W) J H) → (TBL P W i k) → V K 4 (MA g) H 0 0 Qf 168 [(0, .ref (g 0)), (1, .int (nI e)), (2, .int (nI i)), (3, .int (nI k))] [] := by
                  intro n_k
                  induction n_k with
                  | zero =>
                    intro k H W hk hM hT
                    obtain rfl : k = nM P := by omega
                    refine vv_iload_n X dX2_load_168 rfl 3 rfl ?_
                    refine vv_aload_n X dX2_load_169 rfl 0 rfl ?_
                    refine mg10 X rfl hM dX2_load_170 ?_
                    refine vv_iconst (v := nI 4) X dX2_load_173 (by decide) ?_
                    refine vv_iald X hM.a10 (4) (by omega) (by decide) rfl dX2_load_174 ?_
                    refine vv_eqi hP.e4 ?_
                    refine vn_ge (tgt := 212) X (by omega) (by omega) dX2_load_175 (by decide) (fun c_175 => ?_) (fun c_175 => ?_)
                    · exact hx_5 H W hM hT
                    · exact absurd c_175 (by omega)
                  | succ n_k ihk =>
                    intro k H W hk hM hT
                    refine vv_iload_n X dX2_load_168 rfl 3 rfl ?_
                    refine vv_aload_n X dX2_load_169 rfl 0 rfl ?_
                    refine mg10 X rfl hM dX2_load_170 ?_
                    refine vv_iconst (v := nI 4) X dX2_load_173 (by decide) ?_
                    refine vv_iald X hM.a10 (4) (by omega) (by decide) rfl dX2_load_174 ?_
                    refine vv_eqi hP.e4 ?_
                    refine vn_ge (tgt := 212) X (by omega) (by omega) dX2_load_175 (by decide) (fun c_175 => ?_) (fun c_175 => ?_)
                    · exact absurd hk (by omega)
                    · refine vv_aload_n X dX2_load_178 rfl 0 rfl ?_
                      refine mg17 X rfl hM dX2_load_179 ?_
                      refine vv_bipush (v := nI 12) X dX2_load_182 (by decide) ?_
                      refine vv_iload_n X dX2_load_184 rfl 2 rfl ?_
                      refine vn_mul X dX2_load_185 ?_
                      refine vv_iload_n X dX2_load_186 rfl 3 rfl ?_
                      refine vn_add X dX2_load_187 ?_
                      refine vv_aload_n X dX2_load_188 rfl 0 rfl ?_
                      refine vv_iload_n X dX2_load_189 rfl 3 rfl ?_
                      refine vv_aload_n X dX2_load_190 rfl 0 rfl ?_
                      refine vv_iload_n X dX2_load_191 rfl 2 rfl ?_
                      refine vv_iconst (v := nI 0) X dX2_load_192 (by decide) ?_
                      refine vv_callVp X (mX2_centre (kL K) D g y (va_up (va_up (va_up (va_up (va_up I 11 P) 13 S) 10 P) 12 (wts P S (nM P))) 17 W) J P rfl i (nI 0) (cx P i) hC (by omega) ((if_pos rfl).symm)) q3176 q3178 qs85 q144 q3179 nX2_centre ⟨(Nat.le_of_ble_eq_true rfl), (Nat.le_of_ble_eq_true rfl)⟩ dX2_load_193 rfl (Nat.le_of_ble_eq_true rfl) (recv X hM.1 CL_X2) hM ⟨(Nat.le_of_ble_eq_true rfl), (Nat.le_of_ble_eq_true rfl)⟩ ?_
                      refine vv_aload_n X dX2_load_196 rfl 0 rfl ?_
                      refine vv_iload_n X dX2_load_197 rfl 2 rfl ?_
                      refine vv_iconst (v := nI 1) X dX2_load_198 (by decide) ?_
                      refine vv_callVp X (mX2_centre (kL K) D g y (va_up (va_up (va_up (va_up (va_up I 11 P) 13 S) 10 P) 12 (wts P S (nM P))) 17 W) J P rfl i (nI 1) (cy P i) hC (by omega) ((if_neg (by decide)).symm)) q3176 q3178 qs85 q144 q3179 nX2_centre ⟨(Nat.le_of_ble_eq_true rfl), (Nat.le_of_ble_eq_true rfl)⟩ dX2_load_199 rfl (Nat.le_of_ble_eq_true rfl) (recv X hM.1 CL_X2) hM ⟨(Nat.le_of_ble_eq_true rfl), (Nat.le_of_ble_eq_true rfl)⟩ ?_
                      refine vv_callVp X (mX2_delayFrom (kL K) D g y (va_up (va_up (va_up (va_up (va_up I 11 P) 13 S) 10 P) 12 (wts P S (nM P))) 17 W) J P rfl k (cx P i) (cy P i) hC (by omega) ((cx_rg hC i).mono (by omega)) ((cy_rg hC (by omega)).mono (by omega))) q3180 q3182 qs86 q144 q3183 nX2_delayFrom ⟨(Nat.le_of_ble_eq_true rfl), (Nat.le_of_ble_eq_true rfl)⟩ dX2_load_202 rfl (Nat.le_of_ble_eq_true rfl) (recv X hM.1 CL_X2) hM ⟨(Nat.le_of_ble_eq_true rfl), (Nat.le_of_ble_eq_true rfl)⟩ ?_
                      refine ms17 X hM hg ((12 * i) + k) (by omega) rfl (Or.inl (MA.in (by decide))) dX2_load_205 (fun H hM => ?_)
                      rw [up_up] at hM
                      refine vv_iinc (v := nI (k + 1)) (lv' := [(3, .int (nI (k + 1))), (0, .ref (g 0)), (1, .int (nI e)), (2, .int (nI i))]) X dX2_load_206 (k := 3) rfl (nI_add _ 1) (by decide) rfl ?_
                      refine vv_goto (tgt := 168) X dX2_load_209 (by decide) ?_
                      refine vv_sub [1, 2, 3, 0] rfl ?_
                      exact ihk (k + 1) H (va_up W ((12 * i) + k) (nI (dN P k (cx P i) (cy P i)))) (by omega) (hM) (TBL_s hT (by omega) hP.l4)
                refine vv_sub [1, 2, 3, 0] rfl ?_
                exact hl_6 (nM P) 0 H W (by first | omega | assumption) (hM) (hT)
          refine vv_sub [1, 2, 0] rfl ?_
          exact hl_4 (nC P) 0 H (I 17) (by first | omega | assumption) (by rw [show va_up (va_up (va_up (va_up (va_up I 11 P) 13 S) 10 P) 12 (wts P S (nM P))) 17 (I 17) = va_up (va_up (va_up (va_up I 11 P) 13 S) 10 P) 12 (wts P S (nM P)) from @up_same _ (va_up (va_up (va_up (va_up I 11 P) 13 S) 10 P) 12 (wts P S (nM P))) 17]; exact hM) (fun c' m' q => by omega)
        have hl_7 : ∀ (n_i i : Nat) (H : Heap), i + n_i = nM P → (MR D g y (va_up (va_up (va_up (va_up I 11 P) 13 S) 10 P) 12 (wts P S i)) J H) → V K 4 (MA g) H 0 0 Qf 107 [(0, .ref (g 0)), (1, .int (nI e)), (2, .int (nI i))] [] := by
          intro n_i
          induction n_i with
          | zero =>
            intro i H hi hM
            obtain rfl : i = nM P := by omega
            refine vv_iload_n X dX2_load_107 rfl 2 rfl ?_
            refine vv_aload_n X dX2_load_108 rfl 0 rfl ?_
            refine mg10 X rfl hM dX2_load_109 ?_
            refine vv_iconst (v := nI 4) X dX2_load_112 (by decide) ?_
            refine vv_iald X hM.a10 (4) (by omega) (by decide) rfl dX2_load_113 ?_
            refine vv_eqi hP.e4 ?_
            refine vn_ge (tgt := 156) X (by omega) (by omega) dX2_load_114 (by decide) (fun c_114 => ?_) (fun c_114 => ?_)
            · exact hx_2 H hM
            · exact absurd c_114 (by omega)
          | succ n_i ihi =>
            intro i H hi hM
            refine vv_iload_n X dX2_load_107 rfl 2 rfl ?_
            refine vv_aload_n X dX2_load_108 rfl 0 rfl ?_
            refine mg10 X rfl hM dX2_load_109 ?_
            refine vv_iconst (v := nI 4) X dX2_load_112 (by decide) ?_
            refine vv_iald X hM.a10 (4) (by omega) (by decide) rfl dX2_load_113 ?_
            refine vv_eqi hP.e4 ?_
            refine vn_ge (tgt := 156) X (by omega) (by omega) dX2_load_114 (by decide) (fun c_114 => ?_) (fun c_114 => ?_)
            · exact absurd hi (by omega)
            · refine vv_aload_n X dX2_load_117 rfl 0 rfl ?_
              refine mg12 X rfl hM dX2_load_118 ?_
              refine vv_bipush (v := nI 13) X dX2_load_121 (by decide) ?_
              refine vv_iload_n X dX2_load_123 rfl 2 rfl ?_
              refine vn_add X dX2_load_124 ?_
              refine vv_iload_n X dX2_load_125 rfl 2 rfl ?_
              refine vv_aload_n X dX2_load_126 rfl 0 rfl ?_
              refine mg10 X rfl hM dX2_load_127 ?_
              refine vv_bipush (v := nI 118) X dX2_load_130 (by decide) ?_
              refine vv_iald X hM.a10 (118) (by omega) (by decide) rfl dX2_load_132 ?_
              refine vv_eqi hP.e118 ?_
              refine vn_ge (tgt := 148) X (by omega) (by omega) dX2_load_133 (by decide) (fun c_133 => ?_) (fun c_133 => ?_)
              · refine vv_iconst (v := nI 1) X dX2_load_148 (by decide) ?_
                refine ms12 X hM hg (13 + i) (by omega) rfl (Or.inl (MA.in (by decide))) dX2_load_149 (fun H hM => ?_)
                rw [up_up] at hM
                refine vv_iinc (v := nI (i + 1)) (lv' := [(2, .int (nI (i + 1))), (0, .ref (g 0)), (1, .int (nI e))]) X dX2_load_150 (k := 2) rfl (nI_add _ 1) (by decide) rfl ?_
                refine vv_goto (tgt := 107) X dX2_load_153 (by decide) ?_
                refine vv_sub [1, 2, 0] rfl ?_
                exact ihi (i + 1) H (by omega) (by rw [← wts_s (P := P) (S := S) (n := i) (v := nI 1) (if_neg (Nat.not_lt.mpr c_133)).symm]; exact hM)
              · refine vv_aload_n X dX2_load_136 rfl 0 rfl ?_
                refine mg10 X rfl hM dX2_load_137 ?_
                refine vv_bipush (v := nI 119) X dX2_load_140 (by decide) ?_
                refine vv_iload_n X dX2_load_142 rfl 2 rfl ?_
                refine vn_add X dX2_load_143 ?_
                refine vv_iald X hM.a10 (119 + i) (by omega) (by decide) rfl dX2_load_144 ?_
                refine vv_eqi (hP.shd i (by omega)).1 ?_
                refine vv_goto (tgt := 149) X dX2_load_145 (by decide) ?_
                refine ms12 X hM hg (13 + i) (by omega) rfl (Or.inl (MA.in (by decide))) dX2_load_149 (fun H hM => ?_)
                rw [up_up] at hM
                refine vv_iinc (v := nI (i + 1)) (lv' := [(2, .int (nI (i + 1))), (0, .ref (g 0)), (1, .int (nI e))]) X dX2_load_150 (k := 2) rfl (nI_add _ 1) (by decide) rfl ?_
                refine vv_goto (tgt := 107) X dX2_load_153 (by decide) ?_
                refine vv_sub [1, 2, 0] rfl ?_
                exact ihi (i + 1) H (by omega) (by rw [← wts_s (P := P) (S := S) (n := i) (v := nI (shd P i)) (if_pos (Nat.not_le.mp (Nat.not_le.mpr (by omega)))).symm]; exact hM)
        refine vv_sub [1, 2, 0] rfl ?_
        exact hl_7 (nM P) 0 H (by first | omega | assumption) (by rw [wts_0]; exact hM)
      have hl_8 : ∀ (n_i i : Nat) (H : Heap), i + n_i = 131 → (MR D g y (va_up (va_up (va_up I 11 P) 13 S) 10 (rz (I 10) P i)) J H) → V K 4 (MA g) H 0 0 Qf 67 [(0, .ref (g 0)), (1, .int (nI e)), (2, .int (nI i))] [] := by
        intro n_i
        induction n_i with
        | zero =>
          intro i H hi hM
          obtain rfl : i = 131 := by omega
          refine vv_iload_n X dX2_load_67 rfl 2 rfl ?_
          refine vv_sipush (v := nI 131) X dX2_load_68 (by decide) ?_
          refine vn_ge (tgt := 92) X (by omega) (by omega) dX2_load_71 (by decide) (fun c_71 => ?_) (fun c_71 => ?_)
          · exact hx_1 H hM
          · exact absurd c_71 (by omega)
        | succ n_i ihi =>
          intro i H hi hM
          refine vv_iload_n X dX2_load_67 rfl 2 rfl ?_
          refine vv_sipush (v := nI 131) X dX2_load_68 (by decide) ?_
          refine vn_ge (tgt := 92) X (by omega) (by omega) dX2_load_71 (by decide) (fun c_71 => ?_) (fun c_71 => ?_)
          · exact absurd hi (by omega)
          · refine vv_aload_n X dX2_load_74 rfl 0 rfl ?_
            refine mg10 X rfl hM dX2_load_75 ?_
            refine vv_iload_n X dX2_load_78 rfl 2 rfl ?_
            refine vv_aload_n X dX2_load_79 rfl 0 rfl ?_
            refine mg11 X rfl hM dX2_load_80 ?_
            refine vv_iload_n X dX2_load_83 rfl 2 rfl ?_
            refine vv_iald X hM.a11 (i) (by omega) (by decide) rfl dX2_load_84 ?_
            refine ms10 X hM hg (i) (by omega) rfl (Or.inl (MA.in (by decide))) dX2_load_85 (fun H hM => ?_)
            rw [up_up] at hM
            refine vv_iinc (v := nI (i + 1)) (lv' := [(2, .int (nI (i + 1))), (0, .ref (g 0)), (1, .int (nI e))]) X dX2_load_86 (k := 2) rfl (nI_add _ 1) (by decide) rfl ?_
            refine vv_goto (tgt := 67) X dX2_load_89 (by decide) ?_
            refine vv_sub [1, 2, 0] rfl ?_
            exact ihi (i + 1) H (by omega) (by rw [← rz_s (f := I 10) (g := P) (n := i) (v := P i) rfl]; exact hM)
      refine vv_sub [1, 2, 0] rfl ?_
      exact hl_8 (131) 0 H (by first | omega | assumption) (by rw [rz_0, show va_up (va_up (va_up I 11 P) 13 S) 10 (I 10) = va_up (va_up I 11 P) 13 S from @up_same _ (va_up (va_up I 11 P) 13 S) 10]; exact hM)
    · exact absurd (Int32.not_le.mp c_56) (px5n y5)
  · exact absurd ⟨Nat.zero_le _, he⟩ c_14
set_option maxHeartbeats 800000 in
theorem mX2_load2 (l : Launch) (D : DD) (g : Nat → Nat) (x : Nat → Int32) (I : Nat → Nat → Int32) (J : Nat → Nat → Int64) (e u2 : Nat) (y P S : Nat → Int32) (hg : MG g) (hka : KA D (MA g)) (he : e ≤ u2) (hu : u2 ≤ 1000) (hb : x 2 = nI u2) (h7 : ∃ k, k ≤ 4 ∧ x 7 = nI k) (hzA : txA (I 1) e (ldX x e) = (y, P, S)) (h5 : 0 < txF (y, P, S) 5) : Ct l yX2_load cX2_load 4 (some .int) { frames := 11, cells := 0, slots := 0, locals := 226 } D [.ref (g 0), .int (nI e)] (fun H => MR D g x I J H ∧ KH D H) (MA g) (fun v H H1 => v = some (.int (nI 0)) ∧ MR D g (va_up (txF (y, P, S)) 0 (nI 2)) (va_up (va_up I 11 P) 13 S) J H1) := by
  refine Ct.of (by decide +kernel) (Nat.le_of_ble_eq_true rfl) (fun K Qf hkl X hM hQ => ?_)
  subst hkl
  obtain ⟨hM, hK⟩ := hM
  have hpx := ldX_PX (x := x) (e := e) (by omega) h7
  refine vv_sub (lv' := [(0, .ref (g 0)), (1, .int (nI e))]) [0, 1] rfl ?_
  refine vv_aload_n X dX2_load_0 rfl 0 rfl ?_
  refine vv_iconst (v := nI 0) X dX2_load_1 (by decide) ?_
  refine vv_putf (C := RX2) (T := TX2) (N := 30) (ref := RX2) X hM.1 in_X2 CL_X2 tyX2 tyX2_ok nmX2 0 (by decide) q2911 rfl rfl rfl rfl (Nat.le_of_ble_eq_true rfl) (Or.inl (MA.in (by decide))) dX2_load_2 (fun H1 hc ho => ?_)
  replace hM := hM.setx hg (x' := va_up x 0 (nI 0)) hc ho
  replace hK := hK.ch1 hka (MA.in (by decide)) hc
  clear hc ho
  refine vv_iload_n X dX2_load_5 rfl 1 rfl ?_
  refine vv_iconst (v := nI 0) X dX2_load_6 (by decide) ?_
  refine vv_aload_n X dX2_load_7 rfl 0 rfl ?_
  refine mg2 X rfl hM dX2_load_8 ?_
  refine vv_eqi ((va_up_ne _ _ (by decide)).trans hb) ?_
  refine vv_callSp X (mX2_inN (kL K) D e 0 u2 (by omega) (by omega) (by omega)) q3031 q3032 q144 q3033 nX2_in ⟨(Nat.le_of_ble_eq_true rfl), (Nat.le_of_ble_eq_true rfl)⟩ dX2_load_11 rfl (Nat.le_of_ble_eq_true rfl) trivial ⟨(Nat.le_of_ble_eq_true rfl), (Nat.le_of_ble_eq_true rfl)⟩ ?_
  refine vb_ne (tgt := 23) X dX2_load_14 (by decide) (fun c_14 => ?_) (fun c_14 => ?_)
  · refine vv_aload_n X dX2_load_23 rfl 0 rfl ?_
    refine vv_iload_n X dX2_load_24 rfl 1 rfl ?_
    refine vv_putf (C := RX2) (T := TX2) (N := 30) (ref := RX2) X hM.1 in_X2 CL_X2 tyX2 tyX2_ok nmX2 3 (by decide) q2914 rfl rfl rfl rfl (Nat.le_of_ble_eq_true rfl) (Or.inl (MA.in (by decide))) dX2_load_25 (fun H1 hc ho => ?_)
    replace hM := hM.setx hg (x' := va_up (va_up x 0 (nI 0)) 3 (nI e)) hc ho
    replace hK := hK.ch1 hka (MA.in (by decide)) hc
    clear hc ho
    refine vv_aload_n X dX2_load_28 rfl 0 rfl ?_
    refine vv_iconst (v := nI 0) X dX2_load_29 (by decide) ?_
    refine vv_putf (C := RX2) (T := TX2) (N := 30) (ref := RX2) X hM.1 in_X2 CL_X2 tyX2 tyX2_ok nmX2 2 (by decide) q2913 rfl rfl rfl rfl (Nat.le_of_ble_eq_true rfl) (Or.inl (MA.in (by decide))) dX2_load_30 (fun H1 hc ho => ?_)
    replace hM := hM.setx hg (x' := va_up (va_up (va_up x 0 (nI 0)) 3 (nI e)) 2 (nI 0)) hc ho
    replace hK := hK.ch1 hka (MA.in (by decide)) hc
    clear hc ho
    refine vv_aload_n X dX2_load_33 rfl 0 rfl ?_
    refine vv_iconst (v := nI 0) X dX2_load_34 (by decide) ?_
    refine vv_putf (C := RX2) (T := TX2) (N := 30) (ref := RX2) X hM.1 in_X2 CL_X2 tyX2 tyX2_ok nmX2 4 (by decide) q2915 rfl rfl rfl rfl (Nat.le_of_ble_eq_true rfl) (Or.inl (MA.in (by decide))) dX2_load_35 (fun H1 hc ho => ?_)
    replace hM := hM.setx hg (x' := va_up (va_up (va_up (va_up x 0 (nI 0)) 3 (nI e)) 2 (nI 0)) 4 (nI 0)) hc ho
    replace hK := hK.ch1 hka (MA.in (by decide)) hc
    clear hc ho
    refine vv_aload_n X dX2_load_38 rfl 0 rfl ?_
    refine vv_iconst (v := nI 0) X dX2_load_39 (by decide) ?_
    refine vv_putf (C := RX2) (T := TX2) (N := 30) (ref := RX2) X hM.1 in_X2 CL_X2 tyX2 tyX2_ok nmX2 5 (by decide) q2916 rfl rfl rfl rfl (Nat.le_of_ble_eq_true rfl) (Or.inl (MA.in (by decide))) dX2_load_40 (fun H1 hc ho => ?_)
    replace hM := hM.setx hg (x' := va_up (va_up (va_up (va_up (va_up x 0 (nI 0)) 3 (nI e)) 2 (nI 0)) 4 (nI 0)) 5 (nI 0)) hc ho
    replace hK := hK.ch1 hka (MA.in (by decide)) hc
    clear hc ho
    refine vv_aload_n X dX2_load_43 rfl 0 rfl ?_
    refine vv_iconst (v := -1) X dX2_load_44 (by decide) ?_
    refine vv_putf (C := RX2) (T := TX2) (N := 30) (ref := RX2) X hM.1 in_X2 CL_X2 tyX2 tyX2_ok nmX2 6 (by decide) q2917 rfl rfl rfl rfl (Nat.le_of_ble_eq_true rfl) (Or.inl (MA.in (by decide))) dX2_load_45 (fun H1 hc ho => ?_)
    replace hM := hM.setx hg (x' := va_up (va_up (va_up (va_up (va_up (va_up x 0 (nI 0)) 3 (nI e)) 2 (nI 0)) 4 (nI 0)) 5 (nI 0)) 6 (-1)) hc ho
    replace hK := hK.ch1 hka (MA.in (by decide)) hc
    clear hc ho
    refine vv_aload_n X dX2_load_48 rfl 0 rfl ?_
    refine vv_callV X (mX2_readText (kL K) D g (va_up (va_up (va_up (va_up (va_up (va_up x 0 (nI 0)) 3 (nI e)) 2 (nI 0)) 4 (nI 0)) 5 (nI 0)) 6 (-1)) I J e hg hka hpx (px5n rfl)) q3038 q3040 qs60 q144 q3041 nX2_readText ⟨(Nat.le_of_ble_eq_true rfl), (Nat.le_of_ble_eq_true rfl)⟩ dX2_load_49 rfl (Nat.le_of_ble_eq_true rfl) (recv X hM.1 CL_X2) ⟨hM, hK⟩  (fun _ z => Or.inl z) ⟨(Nat.le_of_ble_eq_true rfl), (Nat.le_of_ble_eq_true rfl)⟩ (fun v_ H hq hz hk => ?_)
    obtain ⟨rfl, hM⟩ := hq
    replace hK := hK.keep hka hk
    clear hz hk
    replace hM : MR D g (txF (y, P, S)) (va_up (va_up I 11 P) 13 S) J H := by have z := hM; rw [show va_up (va_up (va_up (va_up (va_up (va_up x 0 (nI 0)) 3 (nI e)) 2 (nI 0)) 4 (nI 0)) 5 (nI 0)) 6 (-1) = ldX x e from rfl, hzA] at z; dsimp only at z; exact z
    refine vv_aload_n X dX2_load_52 rfl 0 rfl ?_
    refine mg5 X rfl hM dX2_load_53 ?_
    refine vv_if_le (tgt := 65) X dX2_load_56 (by decide) (fun c_56 => ?_) (fun c_56 => ?_)
    · exact absurd h5 (Int32.not_lt.mpr c_56)
    · refine vv_aload_n X dX2_load_59 rfl 0 rfl ?_
      refine vv_iconst (v := nI 2) X dX2_load_60 (by decide) ?_
      refine vv_callV X (mX2_throwsAt (kL K) D g (txF (y, P, S)) (va_up (va_up I 11 P) 13 S) J hg (nI 2)) q3034 q3036 qs59 q144 q3037 nX2_throwsAt ⟨(Nat.le_of_ble_eq_true rfl), (Nat.le_of_ble_eq_true rfl)⟩ dX2_load_61 rfl (Nat.le_of_ble_eq_true rfl) (recv X hM.1 CL_X2) hM  (fun _ z => Or.inl z) ⟨(Nat.le_of_ble_eq_true rfl), (Nat.le_of_ble_eq_true rfl)⟩ (fun v_ H hq hz hk => ?_)
      obtain ⟨rfl, hM⟩ := hq
      clear hz hk
      exact vv_iret X hQ dX2_load_64 (Nat.le_refl _) (Nat.le_refl _) (⟨rfl, hM⟩)
  · exact absurd ⟨Nat.zero_le _, he⟩ c_14
