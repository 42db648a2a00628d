/-! the model's questions: printed by gen/m4.py -/
set_option maxRecDepth 100000
theorem nX2_mics : notMH yX2_mics 0 := by decide +kernel
set_option maxHeartbeats 800000 in
theorem aX2_mics (l : Launch) (D : DD) (g : Nat → Nat) (x : Nat → Int32) (I : Nat → Nat → Int32) (J : Nat → Nat → Int64) (P : Nat → Int32) (hIP : I 10 = P) (S : Nat → Int32) (hIS : I 12 = S) (C : Bool) (hg : MG g)  (hP : VP P) (hc : cam C (x 20) P S (I 17))  : Ct l yX2_mics cX2_mics 1 (some .int) { frames := 2, cells := 0, slots := 0, locals := 33 } D [.ref (g 0)] (fun H => MR D g x I J H) (MA g) (fun v H H1 => MEnd D g x I iV ((0, if C = true then nI (nM P) else nI 0)) v H1) := by
  refine Ct.of (by decide +kernel) (Nat.le_of_ble_eq_true rfl) (fun K Qf hkl X hM hQ => ?_)
  subst hkl
  subst hIP
  subst hIS
  have l4 := hP.l4
  have l5 := hP.l5
  have l2 := hP.l2
  have l9 := hP.l9
  have l10 := hP.l10
  have l101 := hP.l101
  have hn4 : nC (I 10) ≤ 144 := Nat.mul_le_mul l9 l10
  refine vv_sub (lv' := [(0, .ref (g 0))]) [0] rfl ?_
  rcases hc with ⟨rfl, h20⟩ | ⟨rfl, h20, hC, hS, hT⟩
  · refine vv_aload_n X dX2_mics_0 rfl 0 rfl ?_
    refine vv_aload_n X dX2_mics_1 rfl 0 rfl ?_
    refine mg10 X rfl hM dX2_mics_2 ?_
    refine vv_iconst (v := nI 4) X dX2_mics_5 (by decide) ?_
    refine vv_iald X hM.a10 (4) (by omega) (by decide) rfl dX2_mics_6 ?_
    refine vv_eqi hP.e4 ?_
    refine vv_callV X (mX2_told0 (kL K) D g x I J hg (nI (nM (I 10))) h20) q3232 q3234 qs96 q144 q3235 nX2_told ⟨(Nat.le_of_ble_eq_true rfl), (Nat.le_of_ble_eq_true rfl)⟩ dX2_mics_7 rfl (Nat.le_of_ble_eq_true rfl) (recv X hM.1 CL_X2) hM  (fun _ z => Or.inl z) ⟨(Nat.le_of_ble_eq_true rfl), (Nat.le_of_ble_eq_true rfl)⟩ (fun v_ H hq hz hk => ?_)
    obtain ⟨rfl, hM⟩ := hq
    clear hz hk
    exact vv_iret X hQ dX2_mics_10 (Nat.le_refl _) (Nat.le_refl _) (MEnd.of hM (ag_u (by decide) (ag_r)) (ag_r) 0 _ (nI 0) (rfl) rfl (fun _ => rfl) rfl)
  · refine vv_aload_n X dX2_mics_0 rfl 0 rfl ?_
    refine vv_aload_n X dX2_mics_1 rfl 0 rfl ?_
    refine mg10 X rfl hM dX2_mics_2 ?_
    refine vv_iconst (v := nI 4) X dX2_mics_5 (by decide) ?_
    refine vv_iald X hM.a10 (4) (by omega) (by decide) rfl dX2_mics_6 ?_
    refine vv_eqi hP.e4 ?_
    refine vv_callV X (mX2_told1 (kL K) D g x I J hg (nI (nM (I 10))) h20) q3232 q3234 qs96 q144 q3235 nX2_told ⟨(Nat.le_of_ble_eq_true rfl), (Nat.le_of_ble_eq_true rfl)⟩ dX2_mics_7 rfl (Nat.le_of_ble_eq_true rfl) (recv X hM.1 CL_X2) hM  (fun _ z => Or.inl z) ⟨(Nat.le_of_ble_eq_true rfl), (Nat.le_of_ble_eq_true rfl)⟩ (fun v_ H hq hz hk => ?_)
    obtain ⟨rfl, hM⟩ := hq
    clear hz hk
    exact vv_iret X hQ dX2_mics_10 (Nat.le_refl _) (Nat.le_refl _) (MEnd.of hM (ag_u (by decide) (ag_r)) (ag_r) 0 _ (nI (nM (I 10))) (rfl) rfl (fun _ => rfl) rfl)
theorem nX2_columns : notMH yX2_columns 0 := by decide +kernel
set_option maxHeartbeats 800000 in
theorem aX2_columns (l : Launch) (D : DD) (g : Nat → Nat) (x : Nat → Int32) (I : Nat → Nat → Int32) (J : Nat → Nat → Int64) (P : Nat → Int32) (hIP : I 10 = P) (S : Nat → Int32) (hIS : I 12 = S) (C : Bool) (hg : MG g)  (hP : VP P) (hc : cam C (x 20) P S (I 17))  : Ct l yX2_columns cX2_columns 1 (some .int) { frames := 2, cells := 0, slots := 0, locals := 33 } D [.ref (g 0)] (fun H => MR D g x I J H) (MA g) (fun v H H1 => MEnd D g x I iV ((0, if C = true then nI (nX P) else nI 0)) v H1) := by
  refine Ct.of (by decide +kernel) (Nat.le_of_ble_eq_true rfl) (fun K Qf hkl X hM hQ => ?_)
  subst hkl
  subst hIP
  subst hIS
  have l4 := hP.l4
  have l5 := hP.l5
  have l2 := hP.l2
  have l9 := hP.l9
  have l10 := hP.l10
  have l101 := hP.l101
  have hn4 : nC (I 10) ≤ 144 := Nat.mul_le_mul l9 l10
  refine vv_sub (lv' := [(0, .ref (g 0))]) [0] rfl ?_
  rcases hc with ⟨rfl, h20⟩ | ⟨rfl, h20, hC, hS, hT⟩
  · refine vv_aload_n X dX2_columns_0 rfl 0 rfl ?_
    refine vv_aload_n X dX2_columns_1 rfl 0 rfl ?_
    refine mg10 X rfl hM dX2_columns_2 ?_
    refine vv_bipush (v := nI 9) X dX2_columns_5 (by decide) ?_
    refine vv_iald X hM.a10 (9) (by omega) (by decide) rfl dX2_columns_7 ?_
    refine vv_eqi hP.e9 ?_
    refine vv_callV X (mX2_told0 (kL K) D g x I J hg (nI (nX (I 10))) h20) q3232 q3234 qs96 q144 q3235 nX2_told ⟨(Nat.le_of_ble_eq_true rfl), (Nat.le_of_ble_eq_true rfl)⟩ dX2_columns_8 rfl (Nat.le_of_ble_eq_true rfl) (recv X hM.1 CL_X2) hM  (fun _ z => Or.inl z) ⟨(Nat.le_of_ble_eq_true rfl), (Nat.le_of_ble_eq_true rfl)⟩ (fun v_ H hq hz hk => ?_)
    obtain ⟨rfl, hM⟩ := hq
    clear hz hk
    exact vv_iret X hQ dX2_columns_11 (Nat.le_refl _) (Nat.le_refl _) (MEnd.of hM (ag_u (by decide) (ag_r)) (ag_r) 0 _ (nI 0) (rfl) rfl (fun _ => rfl) rfl)
  · refine vv_aload_n X dX2_columns_0 rfl 0 rfl ?_
    refine vv_aload_n X dX2_columns_1 rfl 0 rfl ?_
    refine mg10 X rfl hM dX2_columns_2 ?_
    refine vv_bipush (v := nI 9) X dX2_columns_5 (by decide) ?_
    refine vv_iald X hM.a10 (9) (by omega) (by decide) rfl dX2_columns_7 ?_
    refine vv_eqi hP.e9 ?_
    refine vv_callV X (mX2_told1 (kL K) D g x I J hg (nI (nX (I 10))) h20) q3232 q3234 qs96 q144 q3235 nX2_told ⟨(Nat.le_of_ble_eq_true rfl), (Nat.le_of_ble_eq_true rfl)⟩ dX2_columns_8 rfl (Nat.le_of_ble_eq_true rfl) (recv X hM.1 CL_X2) hM  (fun _ z => Or.inl z) ⟨(Nat.le_of_ble_eq_true rfl), (Nat.le_of_ble_eq_true rfl)⟩ (fun v_ H hq hz hk => ?_)
    obtain ⟨rfl, hM⟩ := hq
    clear hz hk
    exact vv_iret X hQ dX2_columns_11 (Nat.le_refl _) (Nat.le_refl _) (MEnd.of hM (ag_u (by decide) (ag_r)) (ag_r) 0 _ (nI (nX (I 10))) (rfl) rfl (fun _ => rfl) rfl)
theorem nX2_rows : notMH yX2_rows 0 := by decide +kernel
set_option maxHeartbeats 800000 in
theorem aX2_rows (l : Launch) (D : DD) (g : Nat → Nat) (x : Nat → Int32) (I : Nat → Nat → Int32) (J : Nat → Nat → Int64) (P : Nat → Int32) (hIP : I 10 = P) (S : Nat → Int32) (hIS : I 12 = S) (C : Bool) (hg : MG g)  (hP : VP P) (hc : cam C (x 20) P S (I 17))  : Ct l yX2_rows cX2_rows 1 (some .int) { frames := 2, cells := 0, slots := 0, locals := 33 } D [.ref (g 0)] (fun H => MR D g x I J H) (MA g) (fun v H H1 => MEnd D g x I iV ((0, if C = true then nI (nY P) else nI 0)) v H1) := by
  refine Ct.of (by decide +kernel) (Nat.le_of_ble_eq_true rfl) (fun K Qf hkl X hM hQ => ?_)
  subst hkl
  subst hIP
  subst hIS
  have l4 := hP.l4
  have l5 := hP.l5
  have l2 := hP.l2
  have l9 := hP.l9
  have l10 := hP.l10
  have l101 := hP.l101
  have hn4 : nC (I 10) ≤ 144 := Nat.mul_le_mul l9 l10
  refine vv_sub (lv' := [(0, .ref (g 0))]) [0] rfl ?_
  rcases hc with ⟨rfl, h20⟩ | ⟨rfl, h20, hC, hS, hT⟩
  · refine vv_aload_n X dX2_rows_0 rfl 0 rfl ?_
    refine vv_aload_n X dX2_rows_1 rfl 0 rfl ?_
    refine mg10 X rfl hM dX2_rows_2 ?_
    refine vv_bipush (v := nI 10) X dX2_rows_5 (by decide) ?_
    refine vv_iald X hM.a10 (10) (by omega) (by decide) rfl dX2_rows_7 ?_
    refine vv_eqi hP.e10 ?_
    refine vv_callV X (mX2_told0 (kL K) D g x I J hg (nI (nY (I 10))) h20) q3232 q3234 qs96 q144 q3235 nX2_told ⟨(Nat.le_of_ble_eq_true rfl), (Nat.le_of_ble_eq_true rfl)⟩ dX2_rows_8 rfl (Nat.le_of_ble_eq_true rfl) (recv X hM.1 CL_X2) hM  (fun _ z => Or.inl z) ⟨(Nat.le_of_ble_eq_true rfl), (Nat.le_of_ble_eq_true rfl)⟩ (fun v_ H hq hz hk => ?_)
    obtain ⟨rfl, hM⟩ := hq
    clear hz hk
    exact vv_iret X hQ dX2_rows_11 (Nat.le_refl _) (Nat.le_refl _) (MEnd.of hM (ag_u (by decide) (ag_r)) (ag_r) 0 _ (nI 0) (rfl) rfl (fun _ => rfl) rfl)
  · refine vv_aload_n X dX2_rows_0 rfl 0 rfl ?_
    refine vv_aload_n X dX2_rows_1 rfl 0 rfl ?_
    refine mg10 X rfl hM dX2_rows_2 ?_
    refine vv_bipush (v := nI 10) X dX2_rows_5 (by decide) ?_
    refine vv_iald X hM.a10 (10) (by omega) (by decide) rfl dX2_rows_7 ?_
    refine vv_eqi hP.e10 ?_
    refine vv_callV X (mX2_told1 (kL K) D g x I J hg (nI (nY (I 10))) h20) q3232 q3234 qs96 q144 q3235 nX2_told ⟨(Nat.le_of_ble_eq_true rfl), (Nat.le_of_ble_eq_true rfl)⟩ dX2_rows_8 rfl (Nat.le_of_ble_eq_true rfl) (recv X hM.1 CL_X2) hM  (fun _ z => Or.inl z) ⟨(Nat.le_of_ble_eq_true rfl), (Nat.le_of_ble_eq_true rfl)⟩ (fun v_ H hq hz hk => ?_)
    obtain ⟨rfl, hM⟩ := hq
    clear hz hk
    exact vv_iret X hQ dX2_rows_11 (Nat.le_refl _) (Nat.le_refl _) (MEnd.of hM (ag_u (by decide) (ag_r)) (ag_r) 0 _ (nI (nY (I 10))) (rfl) rfl (fun _ => rfl) rfl)
theorem nX2_sources : notMH yX2_sources 0 := by decide +kernel
set_option maxHeartbeats 800000 in
theorem aX2_sources (l : Launch) (D : DD) (g : Nat → Nat) (x : Nat → Int32) (I : Nat → Nat → Int32) (J : Nat → Nat → Int64) (P : Nat → Int32) (hIP : I 10 = P) (S : Nat → Int32) (hIS : I 12 = S) (C : Bool) (hg : MG g)  (hP : VP P) (hc : cam C (x 20) P S (I 17))  : Ct l yX2_sources cX2_sources 1 (some .int) { frames := 2, cells := 0, slots := 0, locals := 33 } D [.ref (g 0)] (fun H => MR D g x I J H) (MA g) (fun v H H1 => MEnd D g x I iV ((0, if C = true then nI (nS P) else nI 0)) v H1) := by
  refine Ct.of (by decide +kernel) (Nat.le_of_ble_eq_true rfl) (fun K Qf hkl X hM hQ => ?_)
  subst hkl
  subst hIP
  subst hIS
  have l4 := hP.l4
  have l5 := hP.l5
  have l2 := hP.l2
  have l9 := hP.l9
  have l10 := hP.l10
  have l101 := hP.l101
  have hn4 : nC (I 10) ≤ 144 := Nat.mul_le_mul l9 l10
  refine vv_sub (lv' := [(0, .ref (g 0))]) [0] rfl ?_
  rcases hc with ⟨rfl, h20⟩ | ⟨rfl, h20, hC, hS, hT⟩
  · refine vv_aload_n X dX2_sources_0 rfl 0 rfl ?_
    refine vv_aload_n X dX2_sources_1 rfl 0 rfl ?_
    refine mg10 X rfl hM dX2_sources_2 ?_
    refine vv_iconst (v := nI 5) X dX2_sources_5 (by decide) ?_
    refine vv_iald X hM.a10 (5) (by omega) (by decide) rfl dX2_sources_6 ?_
    refine vv_eqi hP.e5 ?_
    refine vv_callV X (mX2_told0 (kL K) D g x I J hg (nI (nS (I 10))) h20) q3232 q3234 qs96 q144 q3235 nX2_told ⟨(Nat.le_of_ble_eq_true rfl), (Nat.le_of_ble_eq_true rfl)⟩ dX2_sources_7 rfl (Nat.le_of_ble_eq_true rfl) (recv X hM.1 CL_X2) hM  (fun _ z => Or.inl z) ⟨(Nat.le_of_ble_eq_true rfl), (Nat.le_of_ble_eq_true rfl)⟩ (fun v_ H hq hz hk => ?_)
    obtain ⟨rfl, hM⟩ := hq
    clear hz hk
    exact vv_iret X hQ dX2_sources_10 (Nat.le_refl _) (Nat.le_refl _) (MEnd.of hM (ag_u (by decide) (ag_r)) (ag_r) 0 _ (nI 0) (rfl) rfl (fun _ => rfl) rfl)
  · refine vv_aload_n X dX2_sources_0 rfl 0 rfl ?_
    refine vv_aload_n X dX2_sources_1 rfl 0 rfl ?_
    refine mg10 X rfl hM dX2_sources_2 ?_
    refine vv_iconst (v := nI 5) X dX2_sources_5 (by decide) ?_
    refine vv_iald X hM.a10 (5) (by omega) (by decide) rfl dX2_sources_6 ?_
    refine vv_eqi hP.e5 ?_
    refine vv_callV X (mX2_told1 (kL K) D g x I J hg (nI (nS (I 10))) h20) q3232 q3234 qs96 q144 q3235 nX2_told ⟨(Nat.le_of_ble_eq_true rfl), (Nat.le_of_ble_eq_true rfl)⟩ dX2_sources_7 rfl (Nat.le_of_ble_eq_true rfl) (recv X hM.1 CL_X2) hM  (fun _ z => Or.inl z) ⟨(Nat.le_of_ble_eq_true rfl), (Nat.le_of_ble_eq_true rfl)⟩ (fun v_ H hq hz hk => ?_)
    obtain ⟨rfl, hM⟩ := hq
    clear hz hk
    exact vv_iret X hQ dX2_sources_10 (Nat.le_refl _) (Nat.le_refl _) (MEnd.of hM (ag_u (by decide) (ag_r)) (ag_r) 0 _ (nI (nS (I 10))) (rfl) rfl (fun _ => rfl) rfl)
theorem nX2_samples : notMH yX2_samples 0 := by decide +kernel
set_option maxHeartbeats 800000 in
theorem aX2_samples (l : Launch) (D : DD) (g : Nat → Nat) (x : Nat → Int32) (I : Nat → Nat → Int32) (J : Nat → Nat → Int64) (P : Nat → Int32) (hIP : I 10 = P) (S : Nat → Int32) (hIS : I 12 = S) (C : Bool) (hg : MG g)  (hP : VP P) (hc : cam C (x 20) P S (I 17))  : Ct l yX2_samples cX2_samples 1 (some .int) { frames := 2, cells := 0, slots := 0, locals := 33 } D [.ref (g 0)] (fun H => MR D g x I J H) (MA g) (fun v H H1 => MEnd D g x I iV ((0, if C = true then nI (nT P) else nI 0)) v H1) := by
  refine Ct.of (by decide +kernel) (Nat.le_of_ble_eq_true rfl) (fun K Qf hkl X hM hQ => ?_)
  subst hkl
  subst hIP
  subst hIS
  have l4 := hP.l4
  have l5 := hP.l5
  have l2 := hP.l2
  have l9 := hP.l9
  have l10 := hP.l10
  have l101 := hP.l101
  have hn4 : nC (I 10) ≤ 144 := Nat.mul_le_mul l9 l10
  refine vv_sub (lv' := [(0, .ref (g 0))]) [0] rfl ?_
  rcases hc with ⟨rfl, h20⟩ | ⟨rfl, h20, hC, hS, hT⟩
  · refine vv_aload_n X dX2_samples_0 rfl 0 rfl ?_
    refine vv_aload_n X dX2_samples_1 rfl 0 rfl ?_
    refine mg10 X rfl hM dX2_samples_2 ?_
    refine vv_iconst (v := nI 2) X dX2_samples_5 (by decide) ?_
    refine vv_iald X hM.a10 (2) (by omega) (by decide) rfl dX2_samples_6 ?_
    refine vv_eqi hP.e2 ?_
    refine vv_callV X (mX2_told0 (kL K) D g x I J hg (nI (nT (I 10))) h20) q3232 q3234 qs96 q144 q3235 nX2_told ⟨(Nat.le_of_ble_eq_true rfl), (Nat.le_of_ble_eq_true rfl)⟩ dX2_samples_7 rfl (Nat.le_of_ble_eq_true rfl) (recv X hM.1 CL_X2) hM  (fun _ z => Or.inl z) ⟨(Nat.le_of_ble_eq_true rfl), (Nat.le_of_ble_eq_true rfl)⟩ (fun v_ H hq hz hk => ?_)
    obtain ⟨rfl, hM⟩ := hq
    clear hz hk
    exact vv_iret X hQ dX2_samples_10 (Nat.le_refl _) (Nat.le_refl _) (MEnd.of hM (ag_u (by decide) (ag_r)) (ag_r) 0 _ (nI 0) (rfl) rfl (fun _ => rfl) rfl)
  · refine vv_aload_n X dX2_samples_0 rfl 0 rfl ?_
    refine vv_aload_n X dX2_samples_1 rfl 0 rfl ?_
    refine mg10 X rfl hM dX2_samples_2 ?_
    refine vv_iconst (v := nI 2) X dX2_samples_5 (by decide) ?_
    refine vv_iald X hM.a10 (2) (by omega) (by decide) rfl dX2_samples_6 ?_
    refine vv_eqi hP.e2 ?_
    refine vv_callV X (mX2_told1 (kL K) D g x I J hg (nI (nT (I 10))) h20) q3232 q3234 qs96 q144 q3235 nX2_told ⟨(Nat.le_of_ble_eq_true rfl), (Nat.le_of_ble_eq_true rfl)⟩ dX2_samples_7 rfl (Nat.le_of_ble_eq_true rfl) (recv X hM.1 CL_X2) hM  (fun _ z => Or.inl z) ⟨(Nat.le_of_ble_eq_true rfl), (Nat.le_of_ble_eq_true rfl)⟩ (fun v_ H hq hz hk => ?_)
    obtain ⟨rfl, hM⟩ := hq
    clear hz hk
    exact vv_iret X hQ dX2_samples_10 (Nat.le_refl _) (Nat.le_refl _) (MEnd.of hM (ag_u (by decide) (ag_r)) (ag_r) 0 _ (nI (nT (I 10))) (rfl) rfl (fun _ => rfl) rfl)
theorem nX2_isMuted : notMH yX2_isMuted 1 := by decide +kernel
set_option maxHeartbeats 800000 in
theorem aX2_isMuted (l : Launch) (D : DD) (g : Nat → Nat) (x : Nat → Int32) (I : Nat → Nat → Int32) (J : Nat → Nat → Int64) (P : Nat → Int32) (hIP : I 10 = P) (S : Nat → Int32) (hIS : I 12 = S) (C : Bool) (hg : MG g) (a : Int32) (hP : VP P) (hc : cam C (x 20) P S (I 17))  : Ct l yX2_isMuted cX2_isMuted 2 (some .boolean) { frames := 3, cells := 0, slots := 0, locals := 55 } D [.ref (g 0), .int (a)] (fun H => MR D g x I J H) (MA g) (fun v H H1 => MEnd D g x I iV (an_isMuted C P S a) v H1) := by
  refine Ct.of (by decide +kernel) (Nat.le_of_ble_eq_true rfl) (fun K Qf hkl X hM hQ => ?_)
  subst hkl
  subst hIP
  subst hIS
  have l4 := hP.l4
  have l5 := hP.l5
  have l2 := hP.l2
  have l9 := hP.l9
  have l10 := hP.l10
  have l101 := hP.l101
  have hn4 : nC (I 10) ≤ 144 := Nat.mul_le_mul l9 l10
  refine vv_sub (lv' := [(0, .ref (g 0)), (1, .int (a))]) [0, 1] rfl ?_
  rcases hc with ⟨rfl, h20⟩ | ⟨rfl, h20, hC, hS, hT⟩
  · refine vv_aload_n X dX2_isMuted_0 rfl 0 rfl ?_
    refine vv_aload_n X dX2_isMuted_1 rfl 0 rfl ?_
    refine vv_iload_n X dX2_isMuted_2 rfl 1 rfl ?_
    refine vv_callVp X (mX2_isMic (kL K) D g x I J (I 10) rfl a hP) q3240 q3242 qs97 q144 q3243 nX2_isMic ⟨(Nat.le_of_ble_eq_true rfl), (Nat.le_of_ble_eq_true rfl)⟩ dX2_isMuted_3 rfl (Nat.le_of_ble_eq_true rfl) (recv X hM.1 CL_X2) hM ⟨(Nat.le_of_ble_eq_true rfl), (Nat.le_of_ble_eq_true rfl)⟩ ?_
    refine vv_callV X (mX2_mayAsk0 (kL K) D g x I J hg (ix (nM (I 10)) a) h20) q3244 q3246 qs98 q144 q3247 nX2_mayAsk ⟨(Nat.le_of_ble_eq_true rfl), (Nat.le_of_ble_eq_true rfl)⟩ dX2_isMuted_6 rfl (Nat.le_of_ble_eq_true rfl) (recv X hM.1 CL_X2) hM  (fun _ z => Or.inl z) ⟨(Nat.le_of_ble_eq_true rfl), (Nat.le_of_ble_eq_true rfl)⟩ (fun v_ H hq hz hk => ?_)
    obtain ⟨rfl, hM⟩ := hq
    clear hz hk
    refine vv_eqi (b2_n (p := False) (fun z => z)) ?_
    refine vn_if_eq (tgt := 28) X (by omega) dX2_isMuted_9 (by decide) (fun c_9 => ?_) (fun c_9 => ?_)
    · refine vv_iconst (v := nI 0) X dX2_isMuted_28 (by decide) ?_
      exact vv_zret X (rfl) hQ dX2_isMuted_29 (Nat.le_refl _) (Nat.le_refl _) (MEnd.of hM (ag_u (by decide) (ag_r)) (ag_r) 1 _ (nI 0) (ask_0) rfl (fun h => absurd h (by decide)) rfl)
    · exact absurd c_9 (by decide)
  · refine vv_aload_n X dX2_isMuted_0 rfl 0 rfl ?_
    refine vv_aload_n X dX2_isMuted_1 rfl 0 rfl ?_
    refine vv_iload_n X dX2_isMuted_2 rfl 1 rfl ?_
    refine vv_callVp X (mX2_isMic (kL K) D g x I J (I 10) rfl a hP) q3240 q3242 qs97 q144 q3243 nX2_isMic ⟨(Nat.le_of_ble_eq_true rfl), (Nat.le_of_ble_eq_true rfl)⟩ dX2_isMuted_3 rfl (Nat.le_of_ble_eq_true rfl) (recv X hM.1 CL_X2) hM ⟨(Nat.le_of_ble_eq_true rfl), (Nat.le_of_ble_eq_true rfl)⟩ ?_
    refine vv_callV X (mX2_mayAsk1 (kL K) D g x I J hg (ix (nM (I 10)) a) h20) q3244 q3246 qs98 q144 q3247 nX2_mayAsk ⟨(Nat.le_of_ble_eq_true rfl), (Nat.le_of_ble_eq_true rfl)⟩ dX2_isMuted_6 rfl (Nat.le_of_ble_eq_true rfl) (recv X hM.1 CL_X2) hM  (fun _ z => Or.inl z) ⟨(Nat.le_of_ble_eq_true rfl), (Nat.le_of_ble_eq_true rfl)⟩ (fun v_ H hq hz hk => ?_)
    obtain ⟨rfl, hM⟩ := hq
    clear hz hk
    by_cases hp : ix (nM (I 10)) a
    · refine vv_eqi (b2_y hp) ?_
      rw [if_pos hp] at hM
      obtain ⟨j, hj, rfl⟩ := ix_of (by omega) hp
      have ej : cl (nI j) = j := cl_I (by omega)
      refine vn_if_eq (tgt := 28) X (by omega) dX2_isMuted_9 (by decide) (fun c_9 => ?_) (fun c_9 => ?_)
      · exact absurd c_9 (by decide)
      · refine vv_aload_n X dX2_isMuted_12 rfl 0 rfl ?_
        refine vv_aload_n X dX2_isMuted_13 rfl 0 rfl ?_
        refine mg12 X rfl hM dX2_isMuted_14 ?_
        refine vv_iload_n X dX2_isMuted_17 rfl 1 rfl ?_
        refine vv_callVp X (mX2_hears (kL K) D g (va_up x 0 (nI 0)) I J 12 (I 12) rfl j (fun h => h.a12) (by omega)) q3252 q3254 qs99 q144 q3255 nX2_hears ⟨(Nat.le_of_ble_eq_true rfl), (Nat.le_of_ble_eq_true rfl)⟩ dX2_isMuted_18 rfl (Nat.le_of_ble_eq_true rfl) (recv X hM.1 CL_X2) hM ⟨(Nat.le_of_ble_eq_true rfl), (Nat.le_of_ble_eq_true rfl)⟩ ?_
        refine vb_ne (tgt := 28) X dX2_isMuted_21 (by decide) (fun c_21 => ?_) (fun c_21 => ?_)
        · refine vv_iconst (v := nI 0) X dX2_isMuted_28 (by decide) ?_
          exact vv_zret X (rfl) hQ dX2_isMuted_29 (Nat.le_refl _) (Nat.le_refl _) (MEnd.of hM (ag_u (by decide) (ag_r)) (ag_r) 0 _ (nI 0) (ask_t hp) rfl (fun _ => by simp only [ej]; exact b2_0 (fun z => z c_21)) rfl)
        · refine vv_iconst (v := nI 1) X dX2_isMuted_24 (by decide) ?_
          refine vv_goto (tgt := 29) X dX2_isMuted_25 (by decide) ?_
          exact vv_zret X (rfl) hQ dX2_isMuted_29 (Nat.le_refl _) (Nat.le_refl _) (MEnd.of hM (ag_u (by decide) (ag_r)) (ag_r) 0 _ (nI 1) (ask_t hp) rfl (fun _ => by simp only [ej]; exact b2_1 c_21) rfl)
    · refine vv_eqi (b2_n hp) ?_
      rw [if_neg hp] at hM
      refine vn_if_eq (tgt := 28) X (by omega) dX2_isMuted_9 (by decide) (fun c_9 => ?_) (fun c_9 => ?_)
      · refine vv_iconst (v := nI 0) X dX2_isMuted_28 (by decide) ?_
        exact vv_zret X (rfl) hQ dX2_isMuted_29 (Nat.le_refl _) (Nat.le_refl _) (MEnd.of hM (ag_u (by decide) (ag_r)) (ag_r) 2 _ (nI 0) (ask_f hp) rfl (fun h => absurd h (by decide)) rfl)
      · exact absurd c_9 (by decide)
theorem nX2_cellAt : notMH yX2_cellAt 2 := by decide +kernel
set_option maxHeartbeats 800000 in
theorem aX2_cellAt (l : Launch) (D : DD) (g : Nat → Nat) (x : Nat → Int32) (I : Nat → Nat → Int32) (J : Nat → Nat → Int64) (P : Nat → Int32) (hIP : I 10 = P) (S : Nat → Int32) (hIS : I 12 = S) (C : Bool) (hg : MG g) (a b : Int32) (hP : VP P) (hc : cam C (x 20) P S (I 17))  : Ct l yX2_cellAt cX2_cellAt 3 (some .int) { frames := 3, cells := 0, slots := 0, locals := 55 } D [.ref (g 0), .int (a), .int (b)] (fun H => MR D g x I J H) (MA g) (fun v H H1 => MEnd D g x I iV (an_cellAt C P a b) v H1) := by
  refine Ct.of (by decide +kernel) (Nat.le_of_ble_eq_true rfl) (fun K Qf hkl X hM hQ => ?_)
  subst hkl
  subst hIP
  subst hIS
  have l4 := hP.l4
  have l5 := hP.l5
  have l2 := hP.l2
  have l9 := hP.l9
  have l10 := hP.l10
  have l101 := hP.l101
  have hn4 : nC (I 10) ≤ 144 := Nat.mul_le_mul l9 l10
  refine vv_sub (lv' := [(0, .ref (g 0)), (1, .int (a)), (2, .int (b))]) [0, 1, 2] rfl ?_
  rcases hc with ⟨rfl, h20⟩ | ⟨rfl, h20, hC, hS, hT⟩
  · refine vv_aload_n X dX2_cellAt_0 rfl 0 rfl ?_
    refine vv_aload_n X dX2_cellAt_1 rfl 0 rfl ?_
    refine vv_iload_n X dX2_cellAt_2 rfl 1 rfl ?_
    refine vv_callVp X (mX2_isCell (kL K) D g x I J (I 10) rfl a hP) q3268 q3270 qs100 q144 q3271 nX2_isCell ⟨(Nat.le_of_ble_eq_true rfl), (Nat.le_of_ble_eq_true rfl)⟩ dX2_cellAt_3 rfl (Nat.le_of_ble_eq_true rfl) (recv X hM.1 CL_X2) hM ⟨(Nat.le_of_ble_eq_true rfl), (Nat.le_of_ble_eq_true rfl)⟩ ?_
    refine vv_callV X (mX2_mayAsk0 (kL K) D g x I J hg (ix (nC (I 10)) a) h20) q3244 q3246 qs98 q144 q3247 nX2_mayAsk ⟨(Nat.le_of_ble_eq_true rfl), (Nat.le_of_ble_eq_true rfl)⟩ dX2_cellAt_6 rfl (Nat.le_of_ble_eq_true rfl) (recv X hM.1 CL_X2) hM  (fun _ z => Or.inl z) ⟨(Nat.le_of_ble_eq_true rfl), (Nat.le_of_ble_eq_true rfl)⟩ (fun v_ H hq hz hk => ?_)
    obtain ⟨rfl, hM⟩ := hq
    clear hz hk
    refine vv_eqi (b2_n (p := False) (fun z => z)) ?_
    refine vn_if_ne (tgt := 14) X (by omega) dX2_cellAt_9 (by decide) (fun c_9 => ?_) (fun c_9 => ?_)
    · exact absurd c_9 (by decide)
    · refine vv_iconst (v := nI 0) X dX2_cellAt_12 (by decide) ?_
      exact vv_iret X hQ dX2_cellAt_13 (Nat.le_refl _) (Nat.le_refl _) (MEnd.of hM (ag_u (by decide) (ag_r)) (ag_r) 1 _ (nI 0) (ask_0) rfl (fun h => absurd h (by decide)) rfl)
  · refine vv_aload_n X dX2_cellAt_0 rfl 0 rfl ?_
    refine vv_aload_n X dX2_cellAt_1 rfl 0 rfl ?_
    refine vv_iload_n X dX2_cellAt_2 rfl 1 rfl ?_
    refine vv_callVp X (mX2_isCell (kL K) D g x I J (I 10) rfl a hP) q3268 q3270 qs100 q144 q3271 nX2_isCell ⟨(Nat.le_of_ble_eq_true rfl), (Nat.le_of_ble_eq_true rfl)⟩ dX2_cellAt_3 rfl (Nat.le_of_ble_eq_true rfl) (recv X hM.1 CL_X2) hM ⟨(Nat.le_of_ble_eq_true rfl), (Nat.le_of_ble_eq_true rfl)⟩ ?_
    refine vv_callV X (mX2_mayAsk1 (kL K) D g x I J hg (ix (nC (I 10)) a) h20) q3244 q3246 qs98 q144 q3247 nX2_mayAsk ⟨(Nat.le_of_ble_eq_true rfl), (Nat.le_of_ble_eq_true rfl)⟩ dX2_cellAt_6 rfl (Nat.le_of_ble_eq_true rfl) (recv X hM.1 CL_X2) hM  (fun _ z => Or.inl z) ⟨(Nat.le_of_ble_eq_true rfl), (Nat.le_of_ble_eq_true rfl)⟩ (fun v_ H hq hz hk => ?_)
    obtain ⟨rfl, hM⟩ := hq
    clear hz hk
    by_cases hp : ix (nC (I 10)) a
    · refine vv_eqi (b2_y hp) ?_
      rw [if_pos hp] at hM
      obtain ⟨j, hj, rfl⟩ := ix_of (by omega) hp
      have ej : cl (nI j) = j := cl_I (by omega)
      refine vn_if_ne (tgt := 14) X (by omega) dX2_cellAt_9 (by decide) (fun c_9 => ?_) (fun c_9 => ?_)
      · refine vv_iload_n X dX2_cellAt_14 rfl 2 rfl ?_
        refine vv_iconst (v := nI 0) X dX2_cellAt_15 (by decide) ?_
        refine vv_iconst (v := nI 1) X dX2_cellAt_16 (by decide) ?_
        refine vv_callSp X (mX2_in (kL K) D b (nI 0) (nI 1)) q3031 q3032 q144 q3033 nX2_in ⟨(Nat.le_of_ble_eq_true rfl), (Nat.le_of_ble_eq_true rfl)⟩ dX2_cellAt_17 rfl (Nat.le_of_ble_eq_true rfl) trivial ⟨(Nat.le_of_ble_eq_true rfl), (Nat.le_of_ble_eq_true rfl)⟩ ?_
        refine vb_eq (tgt := 32) X dX2_cellAt_20 (by decide) (fun c_20 => ?_) (fun c_20 => ?_)
        · refine vv_aload_n X dX2_cellAt_32 rfl 0 rfl ?_
          refine vv_iconst (v := nI 3) X dX2_cellAt_33 (by decide) ?_
          refine vv_callV X (mX2_throwsAt (kL K) D g (va_up x 0 (nI 0)) I J hg (nI 3)) q3034 q3036 qs59 q144 q3037 nX2_throwsAt ⟨(Nat.le_of_ble_eq_true rfl), (Nat.le_of_ble_eq_true rfl)⟩ dX2_cellAt_34 rfl (Nat.le_of_ble_eq_true rfl) (recv X hM.1 CL_X2) hM  (fun _ z => Or.inl z) ⟨(Nat.le_of_ble_eq_true rfl), (Nat.le_of_ble_eq_true rfl)⟩ (fun v_ H hq hz hk => ?_)
          obtain ⟨rfl, hM⟩ := hq
          clear hz hk
          rw [up_up] at hM
          exact vv_iret X hQ dX2_cellAt_37 (Nat.le_refl _) (Nat.le_refl _) (MEnd.of hM (ag_u (by decide) (ag_r)) (ag_r) 3 _ (nI 0) ((ask_t hp).trans (arg_f c_20)) rfl (fun h => absurd h (by decide)) rfl)
        · refine vv_aload_n X dX2_cellAt_23 rfl 0 rfl ?_
          refine vv_iload_n X dX2_cellAt_24 rfl 1 rfl ?_
          refine vv_iload_n X dX2_cellAt_25 rfl 2 rfl ?_
          refine vv_callVp X (mX2_centre (kL K) D g (va_up x 0 (nI 0)) I J (I 10) rfl j b (if b = 0 then cx (I 10) j else cy (I 10) j) hC (by omega) rfl) q3176 q3178 qs85 q144 q3179 nX2_centre ⟨(Nat.le_of_ble_eq_true rfl), (Nat.le_of_ble_eq_true rfl)⟩ dX2_cellAt_26 rfl (Nat.le_of_ble_eq_true rfl) (recv X hM.1 CL_X2) hM ⟨(Nat.le_of_ble_eq_true rfl), (Nat.le_of_ble_eq_true rfl)⟩ ?_
          refine vv_goto (tgt := 37) X dX2_cellAt_29 (by decide) ?_
          exact vv_iret X hQ dX2_cellAt_37 (Nat.le_refl _) (Nat.le_refl _) (MEnd.of hM (ag_u (by decide) (ag_r)) (ag_r) 0 _ (if b = 0 then cx (I 10) j else cy (I 10) j) ((ask_t hp).trans (arg_t c_20)) rfl (fun _ => by simp only [ej]) rfl)
      · exact absurd c_9 (by decide)
    · refine vv_eqi (b2_n hp) ?_
      rw [if_neg hp] at hM
      refine vn_if_ne (tgt := 14) X (by omega) dX2_cellAt_9 (by decide) (fun c_9 => ?_) (fun c_9 => ?_)
      · exact absurd c_9 (by decide)
      · refine vv_iconst (v := nI 0) X dX2_cellAt_12 (by decide) ?_
        exact vv_iret X hQ dX2_cellAt_13 (Nat.le_refl _) (Nat.le_refl _) (MEnd.of hM (ag_u (by decide) (ag_r)) (ag_r) 2 _ (nI 0) (ask_f hp) rfl (fun h => absurd h (by decide)) rfl)
theorem nX2_sourceAt : notMH yX2_sourceAt 3 := by decide +kernel
set_option maxHeartbeats 800000 in
theorem aX2_sourceAt (l : Launch) (D : DD) (g : Nat → Nat) (x : Nat → Int32) (I : Nat → Nat → Int32) (J : Nat → Nat → Int64) (P : Nat → Int32) (hIP : I 10 = P) (S : Nat → Int32) (hIS : I 12 = S) (C : Bool) (hg : MG g) (a b t : Int32) (hP : VP P) (hc : cam C (x 20) P S (I 17))  : Ct l yX2_sourceAt cX2_sourceAt 4 (some .int) { frames := 3, cells := 0, slots := 0, locals := 55 } D [.ref (g 0), .int (a), .int (b), .int (t)] (fun H => MR D g x I J H) (MA g) (fun v H H1 => MEnd D g x I iV (an_sourceAt C P S a b t) v H1) := by
  refine Ct.of (by decide +kernel) (Nat.le_of_ble_eq_true rfl) (fun K Qf hkl X hM hQ => ?_)
  subst hkl
  subst hIP
  subst hIS
  have l4 := hP.l4
  have l5 := hP.l5
  have l2 := hP.l2
  have l9 := hP.l9
  have l10 := hP.l10
  have l101 := hP.l101
  have hn4 : nC (I 10) ≤ 144 := Nat.mul_le_mul l9 l10
  refine vv_sub (lv' := [(0, .ref (g 0)), (1, .int (a)), (2, .int (b)), (3, .int (t))]) [0, 1, 2, 3] rfl ?_
  rcases hc with ⟨rfl, h20⟩ | ⟨rfl, h20, hC, hS, hT⟩
  · refine vv_aload_n X dX2_sourceAt_0 rfl 0 rfl ?_
    refine vv_aload_n X dX2_sourceAt_1 rfl 0 rfl ?_
    refine vv_iload_n X dX2_sourceAt_2 rfl 1 rfl ?_
    refine vv_callVp X (mX2_isSource (kL K) D g x I J (I 10) rfl a hP) q3280 q3282 qs101 q144 q3283 nX2_isSource ⟨(Nat.le_of_ble_eq_true rfl), (Nat.le_of_ble_eq_true rfl)⟩ dX2_sourceAt_3 rfl (Nat.le_of_ble_eq_true rfl) (recv X hM.1 CL_X2) hM ⟨(Nat.le_of_ble_eq_true rfl), (Nat.le_of_ble_eq_true rfl)⟩ ?_
    refine vv_callV X (mX2_mayAsk0 (kL K) D g x I J hg (ix (nS (I 10)) a) h20) q3244 q3246 qs98 q144 q3247 nX2_mayAsk ⟨(Nat.le_of_ble_eq_true rfl), (Nat.le_of_ble_eq_true rfl)⟩ dX2_sourceAt_6 rfl (Nat.le_of_ble_eq_true rfl) (recv X hM.1 CL_X2) hM  (fun _ z => Or.inl z) ⟨(Nat.le_of_ble_eq_true rfl), (Nat.le_of_ble_eq_true rfl)⟩ (fun v_ H hq hz hk => ?_)
    obtain ⟨rfl, hM⟩ := hq
    clear hz hk
    refine vv_eqi (b2_n (p := False) (fun z => z)) ?_
    refine vn_if_ne (tgt := 14) X (by omega) dX2_sourceAt_9 (by decide) (fun c_9 => ?_) (fun c_9 => ?_)
    · exact absurd c_9 (by decide)
    · refine vv_iconst (v := nI 0) X dX2_sourceAt_12 (by decide) ?_
      exact vv_iret X hQ dX2_sourceAt_13 (Nat.le_refl _) (Nat.le_refl _) (MEnd.of hM (ag_u (by decide) (ag_r)) (ag_r) 1 _ (nI 0) (ask_0) rfl (fun h => absurd h (by decide)) rfl)
  · refine vv_aload_n X dX2_sourceAt_0 rfl 0 rfl ?_
    refine vv_aload_n X dX2_sourceAt_1 rfl 0 rfl ?_
    refine vv_iload_n X dX2_sourceAt_2 rfl 1 rfl ?_
    refine vv_callVp X (mX2_isSource (kL K) D g x I J (I 10) rfl a hP) q3280 q3282 qs101 q144 q3283 nX2_isSource ⟨(Nat.le_of_ble_eq_true rfl), (Nat.le_of_ble_eq_true rfl)⟩ dX2_sourceAt_3 rfl (Nat.le_of_ble_eq_true rfl) (recv X hM.1 CL_X2) hM ⟨(Nat.le_of_ble_eq_true rfl), (Nat.le_of_ble_eq_true rfl)⟩ ?_
    refine vv_callV X (mX2_mayAsk1 (kL K) D g x I J hg (ix (nS (I 10)) a) h20) q3244 q3246 qs98 q144 q3247 nX2_mayAsk ⟨(Nat.le_of_ble_eq_true rfl), (Nat.le_of_ble_eq_true rfl)⟩ dX2_sourceAt_6 rfl (Nat.le_of_ble_eq_true rfl) (recv X hM.1 CL_X2) hM  (fun _ z => Or.inl z) ⟨(Nat.le_of_ble_eq_true rfl), (Nat.le_of_ble_eq_true rfl)⟩ (fun v_ H hq hz hk => ?_)
    obtain ⟨rfl, hM⟩ := hq
    clear hz hk
    by_cases hp : ix (nS (I 10)) a
    · refine vv_eqi (b2_y hp) ?_
      rw [if_pos hp] at hM
      obtain ⟨j, hj, rfl⟩ := ix_of (by omega) hp
      have ej : cl (nI j) = j := cl_I (by omega)
      refine vn_if_ne (tgt := 14) X (by omega) dX2_sourceAt_9 (by decide) (fun c_9 => ?_) (fun c_9 => ?_)
      · refine vv_iload_n X dX2_sourceAt_14 rfl 2 rfl ?_
        refine vv_iconst (v := nI 0) X dX2_sourceAt_15 (by decide) ?_
        refine vv_iconst (v := nI 1) X dX2_sourceAt_16 (by decide) ?_
        refine vv_callSp X (mX2_in (kL K) D b (nI 0) (nI 1)) q3031 q3032 q144 q3033 nX2_in ⟨(Nat.le_of_ble_eq_true rfl), (Nat.le_of_ble_eq_true rfl)⟩ dX2_sourceAt_17 rfl (Nat.le_of_ble_eq_true rfl) trivial ⟨(Nat.le_of_ble_eq_true rfl), (Nat.le_of_ble_eq_true rfl)⟩ ?_
        refine vb_eq (tgt := 45) X dX2_sourceAt_20 (by decide) (fun c_20 => ?_) (fun c_20 => ?_)
        · refine vv_aload_n X dX2_sourceAt_45 rfl 0 rfl ?_
          refine vv_iconst (v := nI 3) X dX2_sourceAt_46 (by decide) ?_
          refine vv_callV X (mX2_throwsAt (kL K) D g (va_up x 0 (nI 0)) I J hg (nI 3)) q3034 q3036 qs59 q144 q3037 nX2_throwsAt ⟨(Nat.le_of_ble_eq_true rfl), (Nat.le_of_ble_eq_true rfl)⟩ dX2_sourceAt_47 rfl (Nat.le_of_ble_eq_true rfl) (recv X hM.1 CL_X2) hM  (fun _ z => Or.inl z) ⟨(Nat.le_of_ble_eq_true rfl), (Nat.le_of_ble_eq_true rfl)⟩ (fun v_ H hq hz hk => ?_)
          obtain ⟨rfl, hM⟩ := hq
          clear hz hk
          rw [up_up] at hM
          exact vv_iret X hQ dX2_sourceAt_50 (Nat.le_refl _) (Nat.le_refl _) (MEnd.of hM (ag_u (by decide) (ag_r)) (ag_r) 3 _ (nI 0) ((ask_t hp).trans (arg_f (fun z => c_20 z.1))) rfl (fun h => absurd h (by decide)) rfl)
        · refine vv_aload_n X dX2_sourceAt_23 rfl 0 rfl ?_
          refine vv_iload_n X dX2_sourceAt_24 rfl 3 rfl ?_
          refine vv_callVp X (mX2_isTime (kL K) D g (va_up x 0 (nI 0)) I J (I 10) rfl t hP) q3284 q3286 qs102 q144 q3287 nX2_isTime ⟨(Nat.le_of_ble_eq_true rfl), (Nat.le_of_ble_eq_true rfl)⟩ dX2_sourceAt_25 rfl (Nat.le_of_ble_eq_true rfl) (recv X hM.1 CL_X2) hM ⟨(Nat.le_of_ble_eq_true rfl), (Nat.le_of_ble_eq_true rfl)⟩ ?_
          refine vb_eq (tgt := 45) X dX2_sourceAt_28 (by decide) (fun c_28 => ?_) (fun c_28 => ?_)
          · refine vv_aload_n X dX2_sourceAt_45 rfl 0 rfl ?_
            refine vv_iconst (v := nI 3) X dX2_sourceAt_46 (by decide) ?_
            refine vv_callV X (mX2_throwsAt (kL K) D g (va_up x 0 (nI 0)) I J hg (nI 3)) q3034 q3036 qs59 q144 q3037 nX2_throwsAt ⟨(Nat.le_of_ble_eq_true rfl), (Nat.le_of_ble_eq_true rfl)⟩ dX2_sourceAt_47 rfl (Nat.le_of_ble_eq_true rfl) (recv X hM.1 CL_X2) hM  (fun _ z => Or.inl z) ⟨(Nat.le_of_ble_eq_true rfl), (Nat.le_of_ble_eq_true rfl)⟩ (fun v_ H hq hz hk => ?_)
            obtain ⟨rfl, hM⟩ := hq
            clear hz hk
            rw [up_up] at hM
            exact vv_iret X hQ dX2_sourceAt_50 (Nat.le_refl _) (Nat.le_refl _) (MEnd.of hM (ag_u (by decide) (ag_r)) (ag_r) 3 _ (nI 0) ((ask_t hp).trans (arg_f (fun z => c_28 z.2))) rfl (fun h => absurd h (by decide)) rfl)
          · obtain ⟨u, hu, rfl⟩ := ix_of (by omega) c_28
            have eu : cl (nI u) = u := cl_I (by omega)
            refine vv_aload_n X dX2_sourceAt_31 rfl 0 rfl ?_
            refine vv_aload_n X dX2_sourceAt_32 rfl 0 rfl ?_
            refine mg12 X rfl hM dX2_sourceAt_33 ?_
            refine vv_iload_n X dX2_sourceAt_36 rfl 1 rfl ?_
            refine vv_iload_n X dX2_sourceAt_37 rfl 2 rfl ?_
            refine vv_iload_n X dX2_sourceAt_38 rfl 3 rfl ?_
            refine vv_callVp X (mX2_sourcePlace (kL K) D g (va_up x 0 (nI 0)) I J 12 (I 12) rfl j u b (if b = 0 then sxA (I 12) j u else syA (I 12) j u) (fun h => h.a12) (by omega) rfl) q3214 q3216 qs93 q144 q3217 nX2_sourcePlace ⟨(Nat.le_of_ble_eq_true rfl), (Nat.le_of_ble_eq_true rfl)⟩ dX2_sourceAt_39 rfl (Nat.le_of_ble_eq_true rfl) (recv X hM.1 CL_X2) hM ⟨(Nat.le_of_ble_eq_true rfl), (Nat.le_of_ble_eq_true rfl)⟩ ?_
            refine vv_goto (tgt := 50) X dX2_sourceAt_42 (by decide) ?_
            exact vv_iret X hQ dX2_sourceAt_50 (Nat.le_refl _) (Nat.le_refl _) (MEnd.of hM (ag_u (by decide) (ag_r)) (ag_r) 0 _ (if b = 0 then sxA (I 12) j u else syA (I 12) j u) ((ask_t hp).trans (arg_t (⟨c_20, c_28⟩))) rfl (fun _ => by simp only [ej, eu]) rfl)
      · exact absurd c_9 (by decide)
    · refine vv_eqi (b2_n hp) ?_
      rw [if_neg hp] at hM
      refine vn_if_ne (tgt := 14) X (by omega) dX2_sourceAt_9 (by decide) (fun c_9 => ?_) (fun c_9 => ?_)
      · exact absurd c_9 (by decide)
      · refine vv_iconst (v := nI 0) X dX2_sourceAt_12 (by decide) ?_
        exact vv_iret X hQ dX2_sourceAt_13 (Nat.le_refl _) (Nat.le_refl _) (MEnd.of hM (ag_u (by decide) (ag_r)) (ag_r) 2 _ (nI 0) (ask_f hp) rfl (fun h => absurd h (by decide)) rfl)
theorem nX2_isOn : notMH yX2_isOn 1 := by decide +kernel
set_option maxHeartbeats 800000 in
theorem aX2_isOn (l : Launch) (D : DD) (g : Nat → Nat) (x : Nat → Int32) (I : Nat → Nat → Int32) (J : Nat → Nat → Int64) (P : Nat → Int32) (hIP : I 10 = P) (S : Nat → Int32) (hIS : I 12 = S) (C : Bool) (hg : MG g) (a : Int32) (hP : VP P) (hc : cam C (x 20) P S (I 17))  : Ct l yX2_isOn cX2_isOn 2 (some .boolean) { frames := 3, cells := 0, slots := 0, locals := 55 } D [.ref (g 0), .int (a)] (fun H => MR D g x I J H) (MA g) (fun v H H1 => MEnd D g x I iV (an_isOn C P S a) v H1) := by
  refine Ct.of (by decide +kernel) (Nat.le_of_ble_eq_true rfl) (fun K Qf hkl X hM hQ => ?_)
  subst hkl
  subst hIP
  subst hIS
  have l4 := hP.l4
  have l5 := hP.l5
  have l2 := hP.l2
  have l9 := hP.l9
  have l10 := hP.l10
  have l101 := hP.l101
  have hn4 : nC (I 10) ≤ 144 := Nat.mul_le_mul l9 l10
  refine vv_sub (lv' := [(0, .ref (g 0)), (1, .int (a))]) [0, 1] rfl ?_
  rcases hc with ⟨rfl, h20⟩ | ⟨rfl, h20, hC, hS, hT⟩
  · refine vv_aload_n X dX2_isOn_0 rfl 0 rfl ?_
    refine vv_aload_n X dX2_isOn_1 rfl 0 rfl ?_
    refine vv_iload_n X dX2_isOn_2 rfl 1 rfl ?_
    refine vv_callVp X (mX2_isSource (kL K) D g x I J (I 10) rfl a hP) q3280 q3282 qs101 q144 q3283 nX2_isSource ⟨(Nat.le_of_ble_eq_true rfl), (Nat.le_of_ble_eq_true rfl)⟩ dX2_isOn_3 rfl (Nat.le_of_ble_eq_true rfl) (recv X hM.1 CL_X2) hM ⟨(Nat.le_of_ble_eq_true rfl), (Nat.le_of_ble_eq_true rfl)⟩ ?_
    refine vv_callV X (mX2_mayAsk0 (kL K) D g x I J hg (ix (nS (I 10)) a) h20) q3244 q3246 qs98 q144 q3247 nX2_mayAsk ⟨(Nat.le_of_ble_eq_true rfl), (Nat.le_of_ble_eq_true rfl)⟩ dX2_isOn_6 rfl (Nat.le_of_ble_eq_true rfl) (recv X hM.1 CL_X2) hM  (fun _ z => Or.inl z) ⟨(Nat.le_of_ble_eq_true rfl), (Nat.le_of_ble_eq_true rfl)⟩ (fun v_ H hq hz hk => ?_)
    obtain ⟨rfl, hM⟩ := hq
    clear hz hk
    refine vv_eqi (b2_n (p := False) (fun z => z)) ?_
    refine vn_if_eq (tgt := 29) X (by omega) dX2_isOn_9 (by decide) (fun c_9 => ?_) (fun c_9 => ?_)
    · refine vv_iconst (v := nI 0) X dX2_isOn_29 (by decide) ?_
      exact vv_zret X (rfl) hQ dX2_isOn_30 (Nat.le_refl _) (Nat.le_refl _) (MEnd.of hM (ag_u (by decide) (ag_r)) (ag_r) 1 _ (nI 0) (ask_0) rfl (fun h => absurd h (by decide)) rfl)
    · exact absurd c_9 (by decide)
  · refine vv_aload_n X dX2_isOn_0 rfl 0 rfl ?_
    refine vv_aload_n X dX2_isOn_1 rfl 0 rfl ?_
    refine vv_iload_n X dX2_isOn_2 rfl 1 rfl ?_
    refine vv_callVp X (mX2_isSource (kL K) D g x I J (I 10) rfl a hP) q3280 q3282 qs101 q144 q3283 nX2_isSource ⟨(Nat.le_of_ble_eq_true rfl), (Nat.le_of_ble_eq_true rfl)⟩ dX2_isOn_3 rfl (Nat.le_of_ble_eq_true rfl) (recv X hM.1 CL_X2) hM ⟨(Nat.le_of_ble_eq_true rfl), (Nat.le_of_ble_eq_true rfl)⟩ ?_
    refine vv_callV X (mX2_mayAsk1 (kL K) D g x I J hg (ix (nS (I 10)) a) h20) q3244 q3246 qs98 q144 q3247 nX2_mayAsk ⟨(Nat.le_of_ble_eq_true rfl), (Nat.le_of_ble_eq_true rfl)⟩ dX2_isOn_6 rfl (Nat.le_of_ble_eq_true rfl) (recv X hM.1 CL_X2) hM  (fun _ z => Or.inl z) ⟨(Nat.le_of_ble_eq_true rfl), (Nat.le_of_ble_eq_true rfl)⟩ (fun v_ H hq hz hk => ?_)
    obtain ⟨rfl, hM⟩ := hq
    clear hz hk
    by_cases hp : ix (nS (I 10)) a
    · refine vv_eqi (b2_y hp) ?_
      rw [if_pos hp] at hM
      obtain ⟨j, hj, rfl⟩ := ix_of (by omega) hp
      have ej : cl (nI j) = j := cl_I (by omega)
      refine vn_if_eq (tgt := 29) X (by omega) dX2_isOn_9 (by decide) (fun c_9 => ?_) (fun c_9 => ?_)
      · exact absurd c_9 (by decide)
      · refine vv_aload_n X dX2_isOn_12 rfl 0 rfl ?_
        refine mg12 X rfl hM dX2_isOn_13 ?_
        refine vv_bipush (v := nI 25) X dX2_isOn_16 (by decide) ?_
        refine vv_iload_n X dX2_isOn_18 rfl 1 rfl ?_
        refine vn_add X dX2_isOn_19 ?_
        refine vv_iald X hM.a12 (25 + j) (by omega) (by decide) rfl dX2_isOn_20 ?_
        refine vv_iconst (v := nI 1) X dX2_isOn_21 (by decide) ?_
        refine vv_icmp_ne (tgt := 29) X dX2_isOn_22 (by decide) (fun c_22 => ?_) (fun c_22 => ?_)
        · refine vv_iconst (v := nI 0) X dX2_isOn_29 (by decide) ?_
          exact vv_zret X (rfl) hQ dX2_isOn_30 (Nat.le_refl _) (Nat.le_refl _) (MEnd.of hM (ag_u (by decide) (ag_r)) (ag_r) 0 _ (nI 0) (ask_t hp) rfl (fun _ => by simp only [ej]; exact b2_0 c_22) rfl)
        · refine vv_iconst (v := nI 1) X dX2_isOn_25 (by decide) ?_
          refine vv_goto (tgt := 30) X dX2_isOn_26 (by decide) ?_
          exact vv_zret X (rfl) hQ dX2_isOn_30 (Nat.le_refl _) (Nat.le_refl _) (MEnd.of hM (ag_u (by decide) (ag_r)) (ag_r) 0 _ (nI 1) (ask_t hp) rfl (fun _ => by simp only [ej]; exact b2_1 c_22) rfl)
    · refine vv_eqi (b2_n hp) ?_
      rw [if_neg hp] at hM
      refine vn_if_eq (tgt := 29) X (by omega) dX2_isOn_9 (by decide) (fun c_9 => ?_) (fun c_9 => ?_)
      · refine vv_iconst (v := nI 0) X dX2_isOn_29 (by decide) ?_
        exact vv_zret X (rfl) hQ dX2_isOn_30 (Nat.le_refl _) (Nat.le_refl _) (MEnd.of hM (ag_u (by decide) (ag_r)) (ag_r) 2 _ (nI 0) (ask_f hp) rfl (fun h => absurd h (by decide)) rfl)
      · exact absurd c_9 (by decide)
theorem nX2_waveAt : notMH yX2_waveAt 2 := by decide +kernel
set_option maxHeartbeats 800000 in
theorem aX2_waveAt (l : Launch) (D : DD) (g : Nat → Nat) (x : Nat → Int32) (I : Nat → Nat → Int32) (J : Nat → Nat → Int64) (P : Nat → Int32) (hIP : I 10 = P) (S : Nat → Int32) (hIS : I 12 = S) (C : Bool) (hg : MG g) (a t : Int32) (hP : VP P) (hc : cam C (x 20) P S (I 17))  : Ct l yX2_waveAt cX2_waveAt 3 (some .int) { frames := 3, cells := 0, slots := 0, locals := 55 } D [.ref (g 0), .int (a), .int (t)] (fun H => MR D g x I J H) (MA g) (fun v H H1 => MEnd D g x I iV (an_waveAt C P a t) v H1) := by
  refine Ct.of (by decide +kernel) (Nat.le_of_ble_eq_true rfl) (fun K Qf hkl X hM hQ => ?_)
  subst hkl
  subst hIP
  subst hIS
  have l4 := hP.l4
  have l5 := hP.l5
  have l2 := hP.l2
  have l9 := hP.l9
  have l10 := hP.l10
  have l101 := hP.l101
  have hn4 : nC (I 10) ≤ 144 := Nat.mul_le_mul l9 l10
  refine vv_sub (lv' := [(0, .ref (g 0)), (1, .int (a)), (2, .int (t))]) [0, 1, 2] rfl ?_
  rcases hc with ⟨rfl, h20⟩ | ⟨rfl, h20, hC, hS, hT⟩
  · refine vv_aload_n X dX2_waveAt_0 rfl 0 rfl ?_
    refine vv_aload_n X dX2_waveAt_1 rfl 0 rfl ?_
    refine vv_iload_n X dX2_waveAt_2 rfl 1 rfl ?_
    refine vv_callVp X (mX2_isSource (kL K) D g x I J (I 10) rfl a hP) q3280 q3282 qs101 q144 q3283 nX2_isSource ⟨(Nat.le_of_ble_eq_true rfl), (Nat.le_of_ble_eq_true rfl)⟩ dX2_waveAt_3 rfl (Nat.le_of_ble_eq_true rfl) (recv X hM.1 CL_X2) hM ⟨(Nat.le_of_ble_eq_true rfl), (Nat.le_of_ble_eq_true rfl)⟩ ?_
    refine vv_callV X (mX2_mayAsk0 (kL K) D g x I J hg (ix (nS (I 10)) a) h20) q3244 q3246 qs98 q144 q3247 nX2_mayAsk ⟨(Nat.le_of_ble_eq_true rfl), (Nat.le_of_ble_eq_true rfl)⟩ dX2_waveAt_6 rfl (Nat.le_of_ble_eq_true rfl) (recv X hM.1 CL_X2) hM  (fun _ z => Or.inl z) ⟨(Nat.le_of_ble_eq_true rfl), (Nat.le_of_ble_eq_true rfl)⟩ (fun v_ H hq hz hk => ?_)
    obtain ⟨rfl, hM⟩ := hq
    clear hz hk
    refine vv_eqi (b2_n (p := False) (fun z => z)) ?_
    refine vn_if_ne (tgt := 14) X (by omega) dX2_waveAt_9 (by decide) (fun c_9 => ?_) (fun c_9 => ?_)
    · exact absurd c_9 (by decide)
    · refine vv_iconst (v := nI 0) X dX2_waveAt_12 (by decide) ?_
      exact vv_iret X hQ dX2_waveAt_13 (Nat.le_refl _) (Nat.le_refl _) (MEnd.of hM (ag_u (by decide) (ag_r)) (ag_r) 1 _ (nI 0) (ask_0) rfl (fun h => absurd h (by decide)) rfl)
  · refine vv_aload_n X dX2_waveAt_0 rfl 0 rfl ?_
    refine vv_aload_n X dX2_waveAt_1 rfl 0 rfl ?_
    refine vv_iload_n X dX2_waveAt_2 rfl 1 rfl ?_
    refine vv_callVp X (mX2_isSource (kL K) D g x I J (I 10) rfl a hP) q3280 q3282 qs101 q144 q3283 nX2_isSource ⟨(Nat.le_of_ble_eq_true rfl), (Nat.le_of_ble_eq_true rfl)⟩ dX2_waveAt_3 rfl (Nat.le_of_ble_eq_true rfl) (recv X hM.1 CL_X2) hM ⟨(Nat.le_of_ble_eq_true rfl), (Nat.le_of_ble_eq_true rfl)⟩ ?_
    refine vv_callV X (mX2_mayAsk1 (kL K) D g x I J hg (ix (nS (I 10)) a) h20) q3244 q3246 qs98 q144 q3247 nX2_mayAsk ⟨(Nat.le_of_ble_eq_true rfl), (Nat.le_of_ble_eq_true rfl)⟩ dX2_waveAt_6 rfl (Nat.le_of_ble_eq_true rfl) (recv X hM.1 CL_X2) hM  (fun _ z => Or.inl z) ⟨(Nat.le_of_ble_eq_true rfl), (Nat.le_of_ble_eq_true rfl)⟩ (fun v_ H hq hz hk => ?_)
    obtain ⟨rfl, hM⟩ := hq
    clear hz hk
    by_cases hp : ix (nS (I 10)) a
    · refine vv_eqi (b2_y hp) ?_
      rw [if_pos hp] at hM
      obtain ⟨j, hj, rfl⟩ := ix_of (by omega) hp
      have ej : cl (nI j) = j := cl_I (by omega)
      refine vn_if_ne (tgt := 14) X (by omega) dX2_waveAt_9 (by decide) (fun c_9 => ?_) (fun c_9 => ?_)
      · refine vv_aload_n X dX2_waveAt_14 rfl 0 rfl ?_
        refine vv_iload_n X dX2_waveAt_15 rfl 2 rfl ?_
        refine vv_callVp X (mX2_isTime (kL K) D g (va_up x 0 (nI 0)) I J (I 10) rfl t hP) q3284 q3286 qs102 q144 q3287 nX2_isTime ⟨(Nat.le_of_ble_eq_true rfl), (Nat.le_of_ble_eq_true rfl)⟩ dX2_waveAt_16 rfl (Nat.le_of_ble_eq_true rfl) (recv X hM.1 CL_X2) hM ⟨(Nat.le_of_ble_eq_true rfl), (Nat.le_of_ble_eq_true rfl)⟩ ?_
        refine vb_eq (tgt := 31) X dX2_waveAt_19 (by decide) (fun c_19 => ?_) (fun c_19 => ?_)
        · refine vv_aload_n X dX2_waveAt_31 rfl 0 rfl ?_
          refine vv_iconst (v := nI 3) X dX2_waveAt_32 (by decide) ?_
          refine vv_callV X (mX2_throwsAt (kL K) D g (va_up x 0 (nI 0)) I J hg (nI 3)) q3034 q3036 qs59 q144 q3037 nX2_throwsAt ⟨(Nat.le_of_ble_eq_true rfl), (Nat.le_of_ble_eq_true rfl)⟩ dX2_waveAt_33 rfl (Nat.le_of_ble_eq_true rfl) (recv X hM.1 CL_X2) hM  (fun _ z => Or.inl z) ⟨(Nat.le_of_ble_eq_true rfl), (Nat.le_of_ble_eq_true rfl)⟩ (fun v_ H hq hz hk => ?_)
          obtain ⟨rfl, hM⟩ := hq
          clear hz hk
          rw [up_up] at hM
          exact vv_iret X hQ dX2_waveAt_36 (Nat.le_refl _) (Nat.le_refl _) (MEnd.of hM (ag_u (by decide) (ag_r)) (ag_r) 3 _ (nI 0) ((ask_t hp).trans (arg_f c_19)) rfl (fun h => absurd h (by decide)) rfl)
        · obtain ⟨u, hu, rfl⟩ := ix_of (by omega) c_19
          have eu : cl (nI u) = u := cl_I (by omega)
          refine vv_aload_n X dX2_waveAt_22 rfl 0 rfl ?_
          refine vv_iload_n X dX2_waveAt_23 rfl 1 rfl ?_
          refine vv_iload_n X dX2_waveAt_24 rfl 2 rfl ?_
          refine vv_callVp X (mX2_wave (kL K) D g (va_up x 0 (nI 0)) I J (I 10) rfl j u hC (by omega) (by omega)) q3208 q3210 qs92 q144 q3211 nX2_wave ⟨(Nat.le_of_ble_eq_true rfl), (Nat.le_of_ble_eq_true rfl)⟩ dX2_waveAt_25 rfl (Nat.le_of_ble_eq_true rfl) (recv X hM.1 CL_X2) hM ⟨(Nat.le_of_ble_eq_true rfl), (Nat.le_of_ble_eq_true rfl)⟩ ?_
          refine vv_goto (tgt := 36) X dX2_waveAt_28 (by decide) ?_
          exact vv_iret X hQ dX2_waveAt_36 (Nat.le_refl _) (Nat.le_refl _) (MEnd.of hM (ag_u (by decide) (ag_r)) (ag_r) 0 _ (wav (I 10) j u) ((ask_t hp).trans (arg_t c_19)) rfl (fun _ => by simp only [ej, eu]) rfl)
      · exact absurd c_9 (by decide)
    · refine vv_eqi (b2_n hp) ?_
      rw [if_neg hp] at hM
      refine vn_if_ne (tgt := 14) X (by omega) dX2_waveAt_9 (by decide) (fun c_9 => ?_) (fun c_9 => ?_)
      · exact absurd c_9 (by decide)
      · refine vv_iconst (v := nI 0) X dX2_waveAt_12 (by decide) ?_
        exact vv_iret X hQ dX2_waveAt_13 (Nat.le_refl _) (Nat.le_refl _) (MEnd.of hM (ag_u (by decide) (ag_r)) (ag_r) 2 _ (nI 0) (ask_f hp) rfl (fun h => absurd h (by decide)) rfl)
theorem nX2_delay : notMH yX2_delay 2 := by decide +kernel
set_option maxHeartbeats 800000 in
theorem aX2_delay (l : Launch) (D : DD) (g : Nat → Nat) (x : Nat → Int32) (I : Nat → Nat → Int32) (J : Nat → Nat → Int64) (P : Nat → Int32) (hIP : I 10 = P) (S : Nat → Int32) (hIS : I 12 = S) (C : Bool) (hg : MG g) (a b : Int32) (hP : VP P) (hc : cam C (x 20) P S (I 17))  : Ct l yX2_delay cX2_delay 3 (some .int) { frames := 3, cells := 0, slots := 0, locals := 55 } D [.ref (g 0), .int (a), .int (b)] (fun H => MR D g x I J H) (MA g) (fun v H H1 => MEnd D g x I iV (an_delay C P a b) v H1) := by
  refine Ct.of (by decide +kernel) (Nat.le_of_ble_eq_true rfl) (fun K Qf hkl X hM hQ => ?_)
  subst hkl
  subst hIP
  subst hIS
  have l4 := hP.l4
  have l5 := hP.l5
  have l2 := hP.l2
  have l9 := hP.l9
  have l10 := hP.l10
  have l101 := hP.l101
  have hn4 : nC (I 10) ≤ 144 := Nat.mul_le_mul l9 l10
  refine vv_sub (lv' := [(0, .ref (g 0)), (1, .int (a)), (2, .int (b))]) [0, 1, 2] rfl ?_
  rcases hc with ⟨rfl, h20⟩ | ⟨rfl, h20, hC, hS, hT⟩
  · refine vv_aload_n X dX2_delay_0 rfl 0 rfl ?_
    refine vv_aload_n X dX2_delay_1 rfl 0 rfl ?_
    refine vv_iload_n X dX2_delay_2 rfl 1 rfl ?_
    refine vv_callVp X (mX2_isMic (kL K) D g x I J (I 10) rfl a hP) q3240 q3242 qs97 q144 q3243 nX2_isMic ⟨(Nat.le_of_ble_eq_true rfl), (Nat.le_of_ble_eq_true rfl)⟩ dX2_delay_3 rfl (Nat.le_of_ble_eq_true rfl) (recv X hM.1 CL_X2) hM ⟨(Nat.le_of_ble_eq_true rfl), (Nat.le_of_ble_eq_true rfl)⟩ ?_
    refine vb_eq (tgt := 21) X dX2_delay_6 (by decide) (fun c_6 => ?_) (fun c_6 => ?_)
    · refine vv_iconst (v := nI 0) X dX2_delay_21 (by decide) ?_
      refine vv_callV X (mX2_mayAsk0 (kL K) D g x I J hg False h20) q3244 q3246 qs98 q144 q3247 nX2_mayAsk ⟨(Nat.le_of_ble_eq_true rfl), (Nat.le_of_ble_eq_true rfl)⟩ dX2_delay_22 rfl (Nat.le_of_ble_eq_true rfl) (recv X hM.1 CL_X2) hM  (fun _ z => Or.inl z) ⟨(Nat.le_of_ble_eq_true rfl), (Nat.le_of_ble_eq_true rfl)⟩ (fun v_ H hq hz hk => ?_)
      obtain ⟨rfl, hM⟩ := hq
      clear hz hk
      refine vv_eqi (b2_n (p := False) (fun z => z)) ?_
      refine vn_if_eq (tgt := 42) X (by omega) dX2_delay_25 (by decide) (fun c_25 => ?_) (fun c_25 => ?_)
      · refine vv_iconst (v := nI 0) X dX2_delay_42 (by decide) ?_
        exact vv_iret X hQ dX2_delay_43 (Nat.le_refl _) (Nat.le_refl _) (MEnd.of hM (ag_u (by decide) (ag_r)) (ag_r) 1 _ (nI 0) (ask_0) rfl (fun h => absurd h (by decide)) rfl)
      · exact absurd c_25 (by decide)
    · refine vv_aload_n X dX2_delay_9 rfl 0 rfl ?_
      refine vv_iload_n X dX2_delay_10 rfl 2 rfl ?_
      refine vv_callVp X (mX2_isCell (kL K) D g x I J (I 10) rfl b hP) q3268 q3270 qs100 q144 q3271 nX2_isCell ⟨(Nat.le_of_ble_eq_true rfl), (Nat.le_of_ble_eq_true rfl)⟩ dX2_delay_11 rfl (Nat.le_of_ble_eq_true rfl) (recv X hM.1 CL_X2) hM ⟨(Nat.le_of_ble_eq_true rfl), (Nat.le_of_ble_eq_true rfl)⟩ ?_
      refine vb_eq (tgt := 21) X dX2_delay_14 (by decide) (fun c_14 => ?_) (fun c_14 => ?_)
      · refine vv_iconst (v := nI 0) X dX2_delay_21 (by decide) ?_
        refine vv_callV X (mX2_mayAsk0 (kL K) D g x I J hg False h20) q3244 q3246 qs98 q144 q3247 nX2_mayAsk ⟨(Nat.le_of_ble_eq_true rfl), (Nat.le_of_ble_eq_true rfl)⟩ dX2_delay_22 rfl (Nat.le_of_ble_eq_true rfl) (recv X hM.1 CL_X2) hM  (fun _ z => Or.inl z) ⟨(Nat.le_of_ble_eq_true rfl), (Nat.le_of_ble_eq_true rfl)⟩ (fun v_ H hq hz hk => ?_)
        obtain ⟨rfl, hM⟩ := hq
        clear hz hk
        refine vv_eqi (b2_n (p := False) (fun z => z)) ?_
        refine vn_if_eq (tgt := 42) X (by omega) dX2_delay_25 (by decide) (fun c_25 => ?_) (fun c_25 => ?_)
        · refine vv_iconst (v := nI 0) X dX2_delay_42 (by decide) ?_
          exact vv_iret X hQ dX2_delay_43 (Nat.le_refl _) (Nat.le_refl _) (MEnd.of hM (ag_u (by decide) (ag_r)) (ag_r) 1 _ (nI 0) (ask_0) rfl (fun h => absurd h (by decide)) rfl)
        · exact absurd c_25 (by decide)
      · refine vv_iconst (v := nI 1) X dX2_delay_17 (by decide) ?_
        refine vv_goto (tgt := 22) X dX2_delay_18 (by decide) ?_
        refine vv_callV X (mX2_mayAsk0 (kL K) D g x I J hg True h20) q3244 q3246 qs98 q144 q3247 nX2_mayAsk ⟨(Nat.le_of_ble_eq_true rfl), (Nat.le_of_ble_eq_true rfl)⟩ dX2_delay_22 rfl (Nat.le_of_ble_eq_true rfl) (recv X hM.1 CL_X2) hM  (fun _ z => Or.inl z) ⟨(Nat.le_of_ble_eq_true rfl), (Nat.le_of_ble_eq_true rfl)⟩ (fun v_ H hq hz hk => ?_)
        obtain ⟨rfl, hM⟩ := hq
        clear hz hk
        refine vv_eqi (b2_n (p := False) (fun z => z)) ?_
        refine vn_if_eq (tgt := 42) X (by omega) dX2_delay_25 (by decide) (fun c_25 => ?_) (fun c_25 => ?_)
        · refine vv_iconst (v := nI 0) X dX2_delay_42 (by decide) ?_
          exact vv_iret X hQ dX2_delay_43 (Nat.le_refl _) (Nat.le_refl _) (MEnd.of hM (ag_u (by decide) (ag_r)) (ag_r) 1 _ (nI 0) (ask_0) rfl (fun h => absurd h (by decide)) rfl)
        · exact absurd c_25 (by decide)
  · refine vv_aload_n X dX2_delay_0 rfl 0 rfl ?_
    refine vv_aload_n X dX2_delay_1 rfl 0 rfl ?_
    refine vv_iload_n X dX2_delay_2 rfl 1 rfl ?_
    refine vv_callVp X (mX2_isMic (kL K) D g x I J (I 10) rfl a hP) q3240 q3242 qs97 q144 q3243 nX2_isMic ⟨(Nat.le_of_ble_eq_true rfl), (Nat.le_of_ble_eq_true rfl)⟩ dX2_delay_3 rfl (Nat.le_of_ble_eq_true rfl) (recv X hM.1 CL_X2) hM ⟨(Nat.le_of_ble_eq_true rfl), (Nat.le_of_ble_eq_true rfl)⟩ ?_
    refine vb_eq (tgt := 21) X dX2_delay_6 (by decide) (fun c_6 => ?_) (fun c_6 => ?_)
    · refine vv_iconst (v := nI 0) X dX2_delay_21 (by decide) ?_
      refine vv_callV X (mX2_mayAsk1 (kL K) D g x I J hg False h20) q3244 q3246 qs98 q144 q3247 nX2_mayAsk ⟨(Nat.le_of_ble_eq_true rfl), (Nat.le_of_ble_eq_true rfl)⟩ dX2_delay_22 rfl (Nat.le_of_ble_eq_true rfl) (recv X hM.1 CL_X2) hM  (fun _ z => Or.inl z) ⟨(Nat.le_of_ble_eq_true rfl), (Nat.le_of_ble_eq_true rfl)⟩ (fun v_ H hq hz hk => ?_)
      obtain ⟨rfl, hM⟩ := hq
      clear hz hk
      refine vv_eqi (b2_n (p := False) (fun z => z)) ?_
      rw [if_neg (fun z => z)] at hM
      refine vn_if_eq (tgt := 42) X (by omega) dX2_delay_25 (by decide) (fun c_25 => ?_) (fun c_25 => ?_)
      · refine vv_iconst (v := nI 0) X dX2_delay_42 (by decide) ?_
        exact vv_iret X hQ dX2_delay_43 (Nat.le_refl _) (Nat.le_refl _) (MEnd.of hM (ag_u (by decide) (ag_r)) (ag_r) 2 _ (nI 0) (ask_f (fun z => c_6 z.1)) rfl (fun h => absurd h (by decide)) rfl)
      · exact absurd c_25 (by decide)
    · refine vv_aload_n X dX2_delay_9 rfl 0 rfl ?_
      refine vv_iload_n X dX2_delay_10 rfl 2 rfl ?_
      refine vv_callVp X (mX2_isCell (kL K) D g x I J (I 10) rfl b hP) q3268 q3270 qs100 q144 q3271 nX2_isCell ⟨(Nat.le_of_ble_eq_true rfl), (Nat.le_of_ble_eq_true rfl)⟩ dX2_delay_11 rfl (Nat.le_of_ble_eq_true rfl) (recv X hM.1 CL_X2) hM ⟨(Nat.le_of_ble_eq_true rfl), (Nat.le_of_ble_eq_true rfl)⟩ ?_
      refine vb_eq (tgt := 21) X dX2_delay_14 (by decide) (fun c_14 => ?_) (fun c_14 => ?_)
      · refine vv_iconst (v := nI 0) X dX2_delay_21 (by decide) ?_
        refine vv_callV X (mX2_mayAsk1 (kL K) D g x I J hg False h20) q3244 q3246 qs98 q144 q3247 nX2_mayAsk ⟨(Nat.le_of_ble_eq_true rfl), (Nat.le_of_ble_eq_true rfl)⟩ dX2_delay_22 rfl (Nat.le_of_ble_eq_true rfl) (recv X hM.1 CL_X2) hM  (fun _ z => Or.inl z) ⟨(Nat.le_of_ble_eq_true rfl), (Nat.le_of_ble_eq_true rfl)⟩ (fun v_ H hq hz hk => ?_)
        obtain ⟨rfl, hM⟩ := hq
        clear hz hk
        refine vv_eqi (b2_n (p := False) (fun z => z)) ?_
        rw [if_neg (fun z => z)] at hM
        refine vn_if_eq (tgt := 42) X (by omega) dX2_delay_25 (by decide) (fun c_25 => ?_) (fun c_25 => ?_)
        · refine vv_iconst (v := nI 0) X dX2_delay_42 (by decide) ?_
          exact vv_iret X hQ dX2_delay_43 (Nat.le_refl _) (Nat.le_refl _) (MEnd.of hM (ag_u (by decide) (ag_r)) (ag_r) 2 _ (nI 0) (ask_f (fun z => c_14 z.2)) rfl (fun h => absurd h (by decide)) rfl)
        · exact absurd c_25 (by decide)
      · refine vv_iconst (v := nI 1) X dX2_delay_17 (by decide) ?_
        refine vv_goto (tgt := 22) X dX2_delay_18 (by decide) ?_
        refine vv_callV X (mX2_mayAsk1 (kL K) D g x I J hg True h20) q3244 q3246 qs98 q144 q3247 nX2_mayAsk ⟨(Nat.le_of_ble_eq_true rfl), (Nat.le_of_ble_eq_true rfl)⟩ dX2_delay_22 rfl (Nat.le_of_ble_eq_true rfl) (recv X hM.1 CL_X2) hM  (fun _ z => Or.inl z) ⟨(Nat.le_of_ble_eq_true rfl), (Nat.le_of_ble_eq_true rfl)⟩ (fun v_ H hq hz hk => ?_)
        obtain ⟨rfl, hM⟩ := hq
        clear hz hk
        refine vv_eqi (b2_y (p := True) trivial) ?_
        rw [if_pos trivial] at hM
        obtain ⟨j, hj, rfl⟩ := ix_of (by omega) c_6
        have ej : cl (nI j) = j := cl_I (by omega)
        obtain ⟨k, hk, rfl⟩ := ix_of (by omega) c_14
        have ek : cl (nI k) = k := cl_I (by omega)
        refine vn_if_eq (tgt := 42) X (by omega) dX2_delay_25 (by decide) (fun c_25 => ?_) (fun c_25 => ?_)
        · exact absurd c_25 (by decide)
        · refine vv_aload_n X dX2_delay_28 rfl 0 rfl ?_
          refine mg17 X rfl hM dX2_delay_29 ?_
          refine vv_bipush (v := nI 12) X dX2_delay_32 (by decide) ?_
          refine vv_iload_n X dX2_delay_34 rfl 2 rfl ?_
          refine vn_mul X dX2_delay_35 ?_
          refine vv_iload_n X dX2_delay_36 rfl 1 rfl ?_
          refine vn_add X dX2_delay_37 ?_
          refine vv_iald X hM.a17 ((12 * k) + j) (by omega) (by decide) rfl dX2_delay_38 ?_
          refine vv_eqi (hT k hk j hj) ?_
          refine vv_goto (tgt := 43) X dX2_delay_39 (by decide) ?_
          exact vv_iret X hQ dX2_delay_43 (Nat.le_refl _) (Nat.le_refl _) (MEnd.of hM (ag_u (by decide) (ag_r)) (ag_r) 0 _ (nI (dc (I 10) k j)) (ask_t (⟨c_6, c_14⟩)) rfl (fun _ => by simp only [ej, ek]) rfl)
theorem nX2_delayTo : notMH yX2_delayTo 3 := by decide +kernel
set_option maxHeartbeats 800000 in
theorem aX2_delayTo (l : Launch) (D : DD) (g : Nat → Nat) (x : Nat → Int32) (I : Nat → Nat → Int32) (J : Nat → Nat → Int64) (P : Nat → Int32) (hIP : I 10 = P) (S : Nat → Int32) (hIS : I 12 = S) (C : Bool) (hg : MG g) (a p q : Int32) (hP : VP P) (hc : cam C (x 20) P S (I 17))  : Ct l yX2_delayTo cX2_delayTo 4 (some .int) { frames := 3, cells := 0, slots := 0, locals := 62 } D [.ref (g 0), .int (a), .int (p), .int (q)] (fun H => MR D g x I J H) (MA g) (fun v H H1 => MEnd D g x I iV (an_delayTo C P a p q) v H1) := by
  refine Ct.of (by decide +kernel) (Nat.le_of_ble_eq_true rfl) (fun K Qf hkl X hM hQ => ?_)
  subst hkl
  subst hIP
  subst hIS
  have l4 := hP.l4
  have l5 := hP.l5
  have l2 := hP.l2
  have l9 := hP.l9
  have l10 := hP.l10
  have l101 := hP.l101
  have hn4 : nC (I 10) ≤ 144 := Nat.mul_le_mul l9 l10
  refine vv_sub (lv' := [(0, .ref (g 0)), (1, .int (a)), (2, .int (p)), (3, .int (q))]) [0, 1, 2, 3] rfl ?_
  rcases hc with ⟨rfl, h20⟩ | ⟨rfl, h20, hC, hS, hT⟩
  · refine vv_aload_n X dX2_delayTo_0 rfl 0 rfl ?_
    refine vv_aload_n X dX2_delayTo_1 rfl 0 rfl ?_
    refine vv_iload_n X dX2_delayTo_2 rfl 1 rfl ?_
    refine vv_callVp X (mX2_isMic (kL K) D g x I J (I 10) rfl a hP) q3240 q3242 qs97 q144 q3243 nX2_isMic ⟨(Nat.le_of_ble_eq_true rfl), (Nat.le_of_ble_eq_true rfl)⟩ dX2_delayTo_3 rfl (Nat.le_of_ble_eq_true rfl) (recv X hM.1 CL_X2) hM ⟨(Nat.le_of_ble_eq_true rfl), (Nat.le_of_ble_eq_true rfl)⟩ ?_
    refine vv_callV X (mX2_mayAsk0 (kL K) D g x I J hg (ix (nM (I 10)) a) h20) q3244 q3246 qs98 q144 q3247 nX2_mayAsk ⟨(Nat.le_of_ble_eq_true rfl), (Nat.le_of_ble_eq_true rfl)⟩ dX2_delayTo_6 rfl (Nat.le_of_ble_eq_true rfl) (recv X hM.1 CL_X2) hM  (fun _ z => Or.inl z) ⟨(Nat.le_of_ble_eq_true rfl), (Nat.le_of_ble_eq_true rfl)⟩ (fun v_ H hq hz hk => ?_)
    obtain ⟨rfl, hM⟩ := hq
    clear hz hk
    refine vv_eqi (b2_n (p := False) (fun z => z)) ?_
    refine vn_if_ne (tgt := 14) X (by omega) dX2_delayTo_9 (by decide) (fun c_9 => ?_) (fun c_9 => ?_)
    · exact absurd c_9 (by decide)
    · refine vv_iconst (v := nI 0) X dX2_delayTo_12 (by decide) ?_
      exact vv_iret X hQ dX2_delayTo_13 (Nat.le_refl _) (Nat.le_refl _) (MEnd.of hM (ag_u (by decide) (ag_r)) (ag_r) 1 _ (nI 0) (ask_0) rfl (fun h => absurd h (by decide)) rfl)
  · refine vv_aload_n X dX2_delayTo_0 rfl 0 rfl ?_
    refine vv_aload_n X dX2_delayTo_1 rfl 0 rfl ?_
    refine vv_iload_n X dX2_delayTo_2 rfl 1 rfl ?_
    refine vv_callVp X (mX2_isMic (kL K) D g x I J (I 10) rfl a hP) q3240 q3242 qs97 q144 q3243 nX2_isMic ⟨(Nat.le_of_ble_eq_true rfl), (Nat.le_of_ble_eq_true rfl)⟩ dX2_delayTo_3 rfl (Nat.le_of_ble_eq_true rfl) (recv X hM.1 CL_X2) hM ⟨(Nat.le_of_ble_eq_true rfl), (Nat.le_of_ble_eq_true rfl)⟩ ?_
    refine vv_callV X (mX2_mayAsk1 (kL K) D g x I J hg (ix (nM (I 10)) a) h20) q3244 q3246 qs98 q144 q3247 nX2_mayAsk ⟨(Nat.le_of_ble_eq_true rfl), (Nat.le_of_ble_eq_true rfl)⟩ dX2_delayTo_6 rfl (Nat.le_of_ble_eq_true rfl) (recv X hM.1 CL_X2) hM  (fun _ z => Or.inl z) ⟨(Nat.le_of_ble_eq_true rfl), (Nat.le_of_ble_eq_true rfl)⟩ (fun v_ H hq hz hk => ?_)
    obtain ⟨rfl, hM⟩ := hq
    clear hz hk
    by_cases hp : ix (nM (I 10)) a
    · refine vv_eqi (b2_y hp) ?_
      rw [if_pos hp] at hM
      obtain ⟨j, hj, rfl⟩ := ix_of (by omega) hp
      have ej : cl (nI j) = j := cl_I (by omega)
      refine vn_if_ne (tgt := 14) X (by omega) dX2_delayTo_9 (by decide) (fun c_9 => ?_) (fun c_9 => ?_)
      · refine vv_iload_n X dX2_delayTo_14 rfl 2 rfl ?_
        refine vv_iload_n X dX2_delayTo_15 rfl 3 rfl ?_
        refine vv_callSp X (mX2_isPoint (kL K) D p q) q3308 q3309 q144 q3310 nX2_isPoint ⟨(Nat.le_of_ble_eq_true rfl), (Nat.le_of_ble_eq_true rfl)⟩ dX2_delayTo_16 rfl (Nat.le_of_ble_eq_true rfl) trivial ⟨(Nat.le_of_ble_eq_true rfl), (Nat.le_of_ble_eq_true rfl)⟩ ?_
        refine vb_eq (tgt := 32) X dX2_delayTo_19 (by decide) (fun c_19 => ?_) (fun c_19 => ?_)
        · refine vv_aload_n X dX2_delayTo_32 rfl 0 rfl ?_
          refine vv_iconst (v := nI 3) X dX2_delayTo_33 (by decide) ?_
          refine vv_callV X (mX2_throwsAt (kL K) D g (va_up x 0 (nI 0)) I J hg (nI 3)) q3034 q3036 qs59 q144 q3037 nX2_throwsAt ⟨(Nat.le_of_ble_eq_true rfl), (Nat.le_of_ble_eq_true rfl)⟩ dX2_delayTo_34 rfl (Nat.le_of_ble_eq_true rfl) (recv X hM.1 CL_X2) hM  (fun _ z => Or.inl z) ⟨(Nat.le_of_ble_eq_true rfl), (Nat.le_of_ble_eq_true rfl)⟩ (fun v_ H hq hz hk => ?_)
          obtain ⟨rfl, hM⟩ := hq
          clear hz hk
          rw [up_up] at hM
          exact vv_iret X hQ dX2_delayTo_37 (Nat.le_refl _) (Nat.le_refl _) (MEnd.of hM (ag_u (by decide) (ag_r)) (ag_r) 3 _ (nI 0) ((ask_t hp).trans (arg_f c_19)) rfl (fun h => absurd h (by decide)) rfl)
        · refine vv_aload_n X dX2_delayTo_22 rfl 0 rfl ?_
          refine vv_iload_n X dX2_delayTo_23 rfl 1 rfl ?_
          refine vv_iload_n X dX2_delayTo_24 rfl 2 rfl ?_
          refine vv_iload_n X dX2_delayTo_25 rfl 3 rfl ?_
          refine vv_callVp X (mX2_delayFrom (kL K) D g (va_up x 0 (nI 0)) I J (I 10) rfl j p q hC (by omega) (rg_of (by decide) (by decide) c_19.1) (rg_of (by decide) (by decide) c_19.2)) q3180 q3182 qs86 q144 q3183 nX2_delayFrom ⟨(Nat.le_of_ble_eq_true rfl), (Nat.le_of_ble_eq_true rfl)⟩ dX2_delayTo_26 rfl (Nat.le_of_ble_eq_true rfl) (recv X hM.1 CL_X2) hM ⟨(Nat.le_of_ble_eq_true rfl), (Nat.le_of_ble_eq_true rfl)⟩ ?_
          refine vv_goto (tgt := 37) X dX2_delayTo_29 (by decide) ?_
          exact vv_iret X hQ dX2_delayTo_37 (Nat.le_refl _) (Nat.le_refl _) (MEnd.of hM (ag_u (by decide) (ag_r)) (ag_r) 0 _ (nI (dN (I 10) j p q)) ((ask_t hp).trans (arg_t c_19)) rfl (fun _ => by simp only [ej]) rfl)
      · exact absurd c_9 (by decide)
    · refine vv_eqi (b2_n hp) ?_
      rw [if_neg hp] at hM
      refine vn_if_ne (tgt := 14) X (by omega) dX2_delayTo_9 (by decide) (fun c_9 => ?_) (fun c_9 => ?_)
      · exact absurd c_9 (by decide)
      · refine vv_iconst (v := nI 0) X dX2_delayTo_12 (by decide) ?_
        exact vv_iret X hQ dX2_delayTo_13 (Nat.le_refl _) (Nat.le_refl _) (MEnd.of hM (ag_u (by decide) (ag_r)) (ag_r) 2 _ (nI 0) (ask_f hp) rfl (fun h => absurd h (by decide)) rfl)
theorem nX2_window : notMH yX2_window 1 := by decide +kernel
set_option maxHeartbeats 800000 in
theorem aX2_window (l : Launch) (D : DD) (g : Nat → Nat) (x : Nat → Int32) (I : Nat → Nat → Int32) (J : Nat → Nat → Int64) (P : Nat → Int32) (hIP : I 10 = P) (S : Nat → Int32) (hIS : I 12 = S) (C : Bool) (hg : MG g) (a : Int32) (hP : VP P) (hc : cam C (x 20) P S (I 17))  : Ct l yX2_window cX2_window 2 (some .int) { frames := 3, cells := 0, slots := 0, locals := 57 } D [.ref (g 0), .int (a)] (fun H => MR D g x I J H) (MA g) (fun v H H1 => MEnd D g x I iV (an_window C P S a) v H1) := by
  refine Ct.of (by decide +kernel) (Nat.le_of_ble_eq_true rfl) (fun K Qf hkl X hM hQ => ?_)
  subst hkl
  subst hIP
  subst hIS
  have l4 := hP.l4
  have l5 := hP.l5
  have l2 := hP.l2
  have l9 := hP.l9
  have l10 := hP.l10
  have l101 := hP.l101
  have hn4 : nC (I 10) ≤ 144 := Nat.mul_le_mul l9 l10
  refine vv_sub (lv' := [(0, .ref (g 0)), (1, .int (a))]) [0, 1] rfl ?_
  rcases hc with ⟨rfl, h20⟩ | ⟨rfl, h20, hC, hS, hT⟩
  · refine vv_aload_n X dX2_window_0 rfl 0 rfl ?_
    refine vv_aload_n X dX2_window_1 rfl 0 rfl ?_
    refine vv_iload_n X dX2_window_2 rfl 1 rfl ?_
    refine vv_callVp X (mX2_isCell (kL K) D g x I J (I 10) rfl a hP) q3268 q3270 qs100 q144 q3271 nX2_isCell ⟨(Nat.le_of_ble_eq_true rfl), (Nat.le_of_ble_eq_true rfl)⟩ dX2_window_3 rfl (Nat.le_of_ble_eq_true rfl) (recv X hM.1 CL_X2) hM ⟨(Nat.le_of_ble_eq_true rfl), (Nat.le_of_ble_eq_true rfl)⟩ ?_
    refine vv_callV X (mX2_mayAsk0 (kL K) D g x I J hg (ix (nC (I 10)) a) h20) q3244 q3246 qs98 q144 q3247 nX2_mayAsk ⟨(Nat.le_of_ble_eq_true rfl), (Nat.le_of_ble_eq_true rfl)⟩ dX2_window_6 rfl (Nat.le_of_ble_eq_true rfl) (recv X hM.1 CL_X2) hM  (fun _ z => Or.inl z) ⟨(Nat.le_of_ble_eq_true rfl), (Nat.le_of_ble_eq_true rfl)⟩ (fun v_ H hq hz hk => ?_)
    obtain ⟨rfl, hM⟩ := hq
    clear hz hk
    refine vv_eqi (b2_n (p := False) (fun z => z)) ?_
    refine vn_if_ne (tgt := 14) X (by omega) dX2_window_9 (by decide) (fun c_9 => ?_) (fun c_9 => ?_)
    · exact absurd c_9 (by decide)
    · refine vv_iconst (v := nI 0) X dX2_window_12 (by decide) ?_
      exact vv_iret X hQ dX2_window_13 (Nat.le_refl _) (Nat.le_refl _) (MEnd.of hM (ag_u (by decide) (ag_r)) (ag_r) 1 _ (nI 0) (ask_0) rfl (fun h => absurd h (by decide)) rfl)
  · refine vv_aload_n X dX2_window_0 rfl 0 rfl ?_
    refine vv_aload_n X dX2_window_1 rfl 0 rfl ?_
    refine vv_iload_n X dX2_window_2 rfl 1 rfl ?_
    refine vv_callVp X (mX2_isCell (kL K) D g x I J (I 10) rfl a hP) q3268 q3270 qs100 q144 q3271 nX2_isCell ⟨(Nat.le_of_ble_eq_true rfl), (Nat.le_of_ble_eq_true rfl)⟩ dX2_window_3 rfl (Nat.le_of_ble_eq_true rfl) (recv X hM.1 CL_X2) hM ⟨(Nat.le_of_ble_eq_true rfl), (Nat.le_of_ble_eq_true rfl)⟩ ?_
    refine vv_callV X (mX2_mayAsk1 (kL K) D g x I J hg (ix (nC (I 10)) a) h20) q3244 q3246 qs98 q144 q3247 nX2_mayAsk ⟨(Nat.le_of_ble_eq_true rfl), (Nat.le_of_ble_eq_true rfl)⟩ dX2_window_6 rfl (Nat.le_of_ble_eq_true rfl) (recv X hM.1 CL_X2) hM  (fun _ z => Or.inl z) ⟨(Nat.le_of_ble_eq_true rfl), (Nat.le_of_ble_eq_true rfl)⟩ (fun v_ H hq hz hk => ?_)
    obtain ⟨rfl, hM⟩ := hq
    clear hz hk
    by_cases hp : ix (nC (I 10)) a
    · refine vv_eqi (b2_y hp) ?_
      rw [if_pos hp] at hM
      obtain ⟨j, hj, rfl⟩ := ix_of (by omega) hp
      have ej : cl (nI j) = j := cl_I (by omega)
      refine vn_if_ne (tgt := 14) X (by omega) dX2_window_9 (by decide) (fun c_9 => ?_) (fun c_9 => ?_)
      · refine vv_aload_n X dX2_window_14 rfl 0 rfl ?_
        refine vv_iload_n X dX2_window_15 rfl 1 rfl ?_
        refine vv_callV X (mX2_laysCell (kL K) D g (va_up x 0 (nI 0)) I J (I 10) rfl hg j hP hT (by omega)) q3324 q3326 qs104 q144 q3327 nX2_laysCell ⟨(Nat.le_of_ble_eq_true rfl), (Nat.le_of_ble_eq_true rfl)⟩ dX2_window_16 rfl (Nat.le_of_ble_eq_true rfl) (recv X hM.1 CL_X2) hM  (fun _ z => Or.inl z) ⟨(Nat.le_of_ble_eq_true rfl), (Nat.le_of_ble_eq_true rfl)⟩ (fun v_ H hq hz hk => ?_)
        obtain ⟨rfl, d_1, hM, hd_2⟩ := hq
        clear hz hk
        refine vv_aload_n X dX2_window_19 rfl 0 rfl ?_
        refine vv_aload_n X dX2_window_20 rfl 0 rfl ?_
        refine mg12 X rfl hM dX2_window_21 ?_
        refine vv_callVp X (mX2_windowOf (kL K) D g (va_up x 0 (nI 0)) (va_up I 24 d_1) J 12 (I 10) rfl (I 12) rfl (dc (I 10) j) (fun h => h.a12) hP hd_2) q3328 q3330 qs105 q144 q3331 nX2_windowOf ⟨(Nat.le_of_ble_eq_true rfl), (Nat.le_of_ble_eq_true rfl)⟩ dX2_window_24 rfl (Nat.le_of_ble_eq_true rfl) (recv X hM.1 CL_X2) hM ⟨(Nat.le_of_ble_eq_true rfl), (Nat.le_of_ble_eq_true rfl)⟩ ?_
        exact vv_iret X hQ dX2_window_27 (Nat.le_refl _) (Nat.le_refl _) (MEnd.of hM (ag_u (by decide) (ag_r)) (ag_u (by decide) (ag_r)) 0 _ (nI (win (I 10) (I 12) (dc (I 10) j))) (ask_t hp) rfl (fun _ => by simp only [ej]) rfl)
      · exact absurd c_9 (by decide)
    · refine vv_eqi (b2_n hp) ?_
      rw [if_neg hp] at hM
      refine vn_if_ne (tgt := 14) X (by omega) dX2_window_9 (by decide) (fun c_9 => ?_) (fun c_9 => ?_)
      · exact absurd c_9 (by decide)
      · refine vv_iconst (v := nI 0) X dX2_window_12 (by decide) ?_
        exact vv_iret X hQ dX2_window_13 (Nat.le_refl _) (Nat.le_refl _) (MEnd.of hM (ag_u (by decide) (ag_r)) (ag_r) 2 _ (nI 0) (ask_f hp) rfl (fun h => absurd h (by decide)) rfl)
theorem nX2_sample : notMH yX2_sample 2 := by decide +kernel
set_option maxHeartbeats 800000 in
theorem aX2_sample (l : Launch) (D : DD) (g : Nat → Nat) (x : Nat → Int32) (I : Nat → Nat → Int32) (J : Nat → Nat → Int64) (P : Nat → Int32) (hIP : I 10 = P) (S : Nat → Int32) (hIS : I 12 = S) (C : Bool) (hg : MG g) (a t : Int32) (hP : VP P) (hc : cam C (x 20) P S (I 17))  : Ct l yX2_sample cX2_sample 3 (some .int) { frames := 3, cells := 0, slots := 0, locals := 55 } D [.ref (g 0), .int (a), .int (t)] (fun H => MR D g x I J H) (MA g) (fun v H H1 => MEnd D g x I iV (an_sample C P S a t) v H1) := by
  refine Ct.of (by decide +kernel) (Nat.le_of_ble_eq_true rfl) (fun K Qf hkl X hM hQ => ?_)
  subst hkl
  subst hIP
  subst hIS
  have l4 := hP.l4
  have l5 := hP.l5
  have l2 := hP.l2
  have l9 := hP.l9
  have l10 := hP.l10
  have l101 := hP.l101
  have hn4 : nC (I 10) ≤ 144 := Nat.mul_le_mul l9 l10
  refine vv_sub (lv' := [(0, .ref (g 0)), (1, .int (a)), (2, .int (t))]) [0, 1, 2] rfl ?_
  rcases hc with ⟨rfl, h20⟩ | ⟨rfl, h20, hC, hS, hT⟩
  · refine vv_aload_n X dX2_sample_0 rfl 0 rfl ?_
    refine vv_aload_n X dX2_sample_1 rfl 0 rfl ?_
    refine vv_iload_n X dX2_sample_2 rfl 1 rfl ?_
    refine vv_callVp X (mX2_isMic (kL K) D g x I J (I 10) rfl a hP) q3240 q3242 qs97 q144 q3243 nX2_isMic ⟨(Nat.le_of_ble_eq_true rfl), (Nat.le_of_ble_eq_true rfl)⟩ dX2_sample_3 rfl (Nat.le_of_ble_eq_true rfl) (recv X hM.1 CL_X2) hM ⟨(Nat.le_of_ble_eq_true rfl), (Nat.le_of_ble_eq_true rfl)⟩ ?_
    refine vv_callV X (mX2_mayAsk0 (kL K) D g x I J hg (ix (nM (I 10)) a) h20) q3244 q3246 qs98 q144 q3247 nX2_mayAsk ⟨(Nat.le_of_ble_eq_true rfl), (Nat.le_of_ble_eq_true rfl)⟩ dX2_sample_6 rfl (Nat.le_of_ble_eq_true rfl) (recv X hM.1 CL_X2) hM  (fun _ z => Or.inl z) ⟨(Nat.le_of_ble_eq_true rfl), (Nat.le_of_ble_eq_true rfl)⟩ (fun v_ H hq hz hk => ?_)
    obtain ⟨rfl, hM⟩ := hq
    clear hz hk
    refine vv_eqi (b2_n (p := False) (fun z => z)) ?_
    refine vn_if_ne (tgt := 14) X (by omega) dX2_sample_9 (by decide) (fun c_9 => ?_) (fun c_9 => ?_)
    · exact absurd c_9 (by decide)
    · refine vv_iconst (v := nI 0) X dX2_sample_12 (by decide) ?_
      exact vv_iret X hQ dX2_sample_13 (Nat.le_refl _) (Nat.le_refl _) (MEnd.of hM (ag_u (by decide) (ag_r)) (ag_r) 1 _ (nI 0) (ask_0) rfl (fun h => absurd h (by decide)) rfl)
  · refine vv_aload_n X dX2_sample_0 rfl 0 rfl ?_
    refine vv_aload_n X dX2_sample_1 rfl 0 rfl ?_
    refine vv_iload_n X dX2_sample_2 rfl 1 rfl ?_
    refine vv_callVp X (mX2_isMic (kL K) D g x I J (I 10) rfl a hP) q3240 q3242 qs97 q144 q3243 nX2_isMic ⟨(Nat.le_of_ble_eq_true rfl), (Nat.le_of_ble_eq_true rfl)⟩ dX2_sample_3 rfl (Nat.le_of_ble_eq_true rfl) (recv X hM.1 CL_X2) hM ⟨(Nat.le_of_ble_eq_true rfl), (Nat.le_of_ble_eq_true rfl)⟩ ?_
    refine vv_callV X (mX2_mayAsk1 (kL K) D g x I J hg (ix (nM (I 10)) a) h20) q3244 q3246 qs98 q144 q3247 nX2_mayAsk ⟨(Nat.le_of_ble_eq_true rfl), (Nat.le_of_ble_eq_true rfl)⟩ dX2_sample_6 rfl (Nat.le_of_ble_eq_true rfl) (recv X hM.1 CL_X2) hM  (fun _ z => Or.inl z) ⟨(Nat.le_of_ble_eq_true rfl), (Nat.le_of_ble_eq_true rfl)⟩ (fun v_ H hq hz hk => ?_)
    obtain ⟨rfl, hM⟩ := hq
    clear hz hk
    by_cases hp : ix (nM (I 10)) a
    · refine vv_eqi (b2_y hp) ?_
      rw [if_pos hp] at hM
      obtain ⟨j, hj, rfl⟩ := ix_of (by omega) hp
      have ej : cl (nI j) = j := cl_I (by omega)
      refine vn_if_ne (tgt := 14) X (by omega) dX2_sample_9 (by decide) (fun c_9 => ?_) (fun c_9 => ?_)
      · refine vv_aload_n X dX2_sample_14 rfl 0 rfl ?_
        refine vv_iload_n X dX2_sample_15 rfl 2 rfl ?_
        refine vv_callVp X (mX2_isTime (kL K) D g (va_up x 0 (nI 0)) I J (I 10) rfl t hP) q3284 q3286 qs102 q144 q3287 nX2_isTime ⟨(Nat.le_of_ble_eq_true rfl), (Nat.le_of_ble_eq_true rfl)⟩ dX2_sample_16 rfl (Nat.le_of_ble_eq_true rfl) (recv X hM.1 CL_X2) hM ⟨(Nat.le_of_ble_eq_true rfl), (Nat.le_of_ble_eq_true rfl)⟩ ?_
        refine vb_eq (tgt := 40) X dX2_sample_19 (by decide) (fun c_19 => ?_) (fun c_19 => ?_)
        · refine vv_aload_n X dX2_sample_40 rfl 0 rfl ?_
          refine vv_iconst (v := nI 3) X dX2_sample_41 (by decide) ?_
          refine vv_callV X (mX2_throwsAt (kL K) D g (va_up x 0 (nI 0)) I J hg (nI 3)) q3034 q3036 qs59 q144 q3037 nX2_throwsAt ⟨(Nat.le_of_ble_eq_true rfl), (Nat.le_of_ble_eq_true rfl)⟩ dX2_sample_42 rfl (Nat.le_of_ble_eq_true rfl) (recv X hM.1 CL_X2) hM  (fun _ z => Or.inl z) ⟨(Nat.le_of_ble_eq_true rfl), (Nat.le_of_ble_eq_true rfl)⟩ (fun v_ H hq hz hk => ?_)
          obtain ⟨rfl, hM⟩ := hq
          clear hz hk
          rw [up_up] at hM
          exact vv_iret X hQ dX2_sample_45 (Nat.le_refl _) (Nat.le_refl _) (MEnd.of hM (ag_u (by decide) (ag_r)) (ag_r) 3 _ (nI 0) ((ask_t hp).trans (arg_f c_19)) rfl (fun h => absurd h (by decide)) rfl)
        · obtain ⟨u, hu, rfl⟩ := ix_of (by omega) c_19
          have eu : cl (nI u) = u := cl_I (by omega)
          refine vv_aload_n X dX2_sample_22 rfl 0 rfl ?_
          refine mg12 X rfl hM dX2_sample_23 ?_
          refine vv_bipush (v := nI 55) X dX2_sample_26 (by decide) ?_
          refine vv_sipush (v := nI 200) X dX2_sample_28 (by decide) ?_
          refine vv_iload_n X dX2_sample_31 rfl 1 rfl ?_
          refine vn_mul X dX2_sample_32 ?_
          refine vn_add X dX2_sample_33 ?_
          refine vv_iload_n X dX2_sample_34 rfl 2 rfl ?_
          refine vn_add X dX2_sample_35 ?_
          refine vv_iald X hM.a12 ((55 + (200 * j)) + u) (by omega) (by decide) rfl dX2_sample_36 ?_
          refine vv_goto (tgt := 45) X dX2_sample_37 (by decide) ?_
          exact vv_iret X hQ dX2_sample_45 (Nat.le_refl _) (Nat.le_refl _) (MEnd.of hM (ag_u (by decide) (ag_r)) (ag_r) 0 _ (I 12 ((55 + (200 * j)) + u)) ((ask_t hp).trans (arg_t c_19)) rfl (fun _ => by simp only [ej, eu]) rfl)
      · exact absurd c_9 (by decide)
    · refine vv_eqi (b2_n hp) ?_
      rw [if_neg hp] at hM
      refine vn_if_ne (tgt := 14) X (by omega) dX2_sample_9 (by decide) (fun c_9 => ?_) (fun c_9 => ?_)
      · exact absurd c_9 (by decide)
      · refine vv_iconst (v := nI 0) X dX2_sample_12 (by decide) ?_
        exact vv_iret X hQ dX2_sample_13 (Nat.le_refl _) (Nat.le_refl _) (MEnd.of hM (ag_u (by decide) (ag_r)) (ag_r) 2 _ (nI 0) (ask_f hp) rfl (fun h => absurd h (by decide)) rfl)
theorem nX2_beam : notMH yX2_beam 2 := by decide +kernel
set_option maxHeartbeats 800000 in
theorem aX2_beam (l : Launch) (D : DD) (g : Nat → Nat) (x : Nat → Int32) (I : Nat → Nat → Int32) (J : Nat → Nat → Int64) (P : Nat → Int32) (hIP : I 10 = P) (S : Nat → Int32) (hIS : I 12 = S) (C : Bool) (hg : MG g) (a t : Int32) (hP : VP P) (hc : cam C (x 20) P S (I 17))  : Ct l yX2_beam cX2_beam 3 (some .int) { frames := 3, cells := 0, slots := 0, locals := 58 } D [.ref (g 0), .int (a), .int (t)] (fun H => MR D g x I J H) (MA g) (fun v H H1 => MEnd D g x I iV (an_beam C P S a t) v H1) := by
  refine Ct.of (by decide +kernel) (Nat.le_of_ble_eq_true rfl) (fun K Qf hkl X hM hQ => ?_)
  subst hkl
  subst hIP
  subst hIS
  have l4 := hP.l4
  have l5 := hP.l5
  have l2 := hP.l2
  have l9 := hP.l9
  have l10 := hP.l10
  have l101 := hP.l101
  have hn4 : nC (I 10) ≤ 144 := Nat.mul_le_mul l9 l10
  have hwl : ∀ dl, win (I 10) (I 12) dl ≤ 200 := fun dl => Nat.le_trans (Nat.sub_le _ _) l2
  refine vv_sub (lv' := [(0, .ref (g 0)), (1, .int (a)), (2, .int (t))]) [0, 1, 2] rfl ?_
  rcases hc with ⟨rfl, h20⟩ | ⟨rfl, h20, hC, hS, hT⟩
  · refine vv_aload_n X dX2_beam_0 rfl 0 rfl ?_
    refine vv_aload_n X dX2_beam_1 rfl 0 rfl ?_
    refine vv_iload_n X dX2_beam_2 rfl 1 rfl ?_
    refine vv_callVp X (mX2_isCell (kL K) D g x I J (I 10) rfl a hP) q3268 q3270 qs100 q144 q3271 nX2_isCell ⟨(Nat.le_of_ble_eq_true rfl), (Nat.le_of_ble_eq_true rfl)⟩ dX2_beam_3 rfl (Nat.le_of_ble_eq_true rfl) (recv X hM.1 CL_X2) hM ⟨(Nat.le_of_ble_eq_true rfl), (Nat.le_of_ble_eq_true rfl)⟩ ?_
    refine vv_callV X (mX2_mayAsk0 (kL K) D g x I J hg (ix (nC (I 10)) a) h20) q3244 q3246 qs98 q144 q3247 nX2_mayAsk ⟨(Nat.le_of_ble_eq_true rfl), (Nat.le_of_ble_eq_true rfl)⟩ dX2_beam_6 rfl (Nat.le_of_ble_eq_true rfl) (recv X hM.1 CL_X2) hM  (fun _ z => Or.inl z) ⟨(Nat.le_of_ble_eq_true rfl), (Nat.le_of_ble_eq_true rfl)⟩ (fun v_ H hq hz hk => ?_)
    obtain ⟨rfl, hM⟩ := hq
    clear hz hk
    refine vv_eqi (b2_n (p := False) (fun z => z)) ?_
    refine vn_if_ne (tgt := 14) X (by omega) dX2_beam_9 (by decide) (fun c_9 => ?_) (fun c_9 => ?_)
    · exact absurd c_9 (by decide)
    · refine vv_iconst (v := nI 0) X dX2_beam_12 (by decide) ?_
      exact vv_iret X hQ dX2_beam_13 (Nat.le_refl _) (Nat.le_refl _) (MEnd.of hM (ag_u (by decide) (ag_r)) (ag_r) 1 _ (nI 0) (ask_0) rfl (fun h => absurd h (by decide)) rfl)
  · refine vv_aload_n X dX2_beam_0 rfl 0 rfl ?_
    refine vv_aload_n X dX2_beam_1 rfl 0 rfl ?_
    refine vv_iload_n X dX2_beam_2 rfl 1 rfl ?_
    refine vv_callVp X (mX2_isCell (kL K) D g x I J (I 10) rfl a hP) q3268 q3270 qs100 q144 q3271 nX2_isCell ⟨(Nat.le_of_ble_eq_true rfl), (Nat.le_of_ble_eq_true rfl)⟩ dX2_beam_3 rfl (Nat.le_of_ble_eq_true rfl) (recv X hM.1 CL_X2) hM ⟨(Nat.le_of_ble_eq_true rfl), (Nat.le_of_ble_eq_true rfl)⟩ ?_
    refine vv_callV X (mX2_mayAsk1 (kL K) D g x I J hg (ix (nC (I 10)) a) h20) q3244 q3246 qs98 q144 q3247 nX2_mayAsk ⟨(Nat.le_of_ble_eq_true rfl), (Nat.le_of_ble_eq_true rfl)⟩ dX2_beam_6 rfl (Nat.le_of_ble_eq_true rfl) (recv X hM.1 CL_X2) hM  (fun _ z => Or.inl z) ⟨(Nat.le_of_ble_eq_true rfl), (Nat.le_of_ble_eq_true rfl)⟩ (fun v_ H hq hz hk => ?_)
    obtain ⟨rfl, hM⟩ := hq
    clear hz hk
    by_cases hp : ix (nC (I 10)) a
    · refine vv_eqi (b2_y hp) ?_
      rw [if_pos hp] at hM
      obtain ⟨j, hj, rfl⟩ := ix_of (by omega) hp
      have ej : cl (nI j) = j := cl_I (by omega)
      refine vn_if_ne (tgt := 14) X (by omega) dX2_beam_9 (by decide) (fun c_9 => ?_) (fun c_9 => ?_)
      · refine vv_aload_n X dX2_beam_14 rfl 0 rfl ?_
        refine vv_iload_n X dX2_beam_15 rfl 1 rfl ?_
        refine vv_callV X (mX2_laysCell (kL K) D g (va_up x 0 (nI 0)) I J (I 10) rfl hg j hP hT (by omega)) q3324 q3326 qs104 q144 q3327 nX2_laysCell ⟨(Nat.le_of_ble_eq_true rfl), (Nat.le_of_ble_eq_true rfl)⟩ dX2_beam_16 rfl (Nat.le_of_ble_eq_true rfl) (recv X hM.1 CL_X2) hM  (fun _ z => Or.inl z) ⟨(Nat.le_of_ble_eq_true rfl), (Nat.le_of_ble_eq_true rfl)⟩ (fun v_ H hq hz hk => ?_)
        obtain ⟨rfl, d_1, hM, hd_2⟩ := hq
        clear hz hk
        refine vv_iload_n X dX2_beam_19 rfl 2 rfl ?_
        refine vv_iconst (v := nI 0) X dX2_beam_20 (by decide) ?_
        refine vv_aload_n X dX2_beam_21 rfl 0 rfl ?_
        refine vv_aload_n X dX2_beam_22 rfl 0 rfl ?_
        refine mg12 X rfl hM dX2_beam_23 ?_
        refine vv_callVp X (mX2_windowOf (kL K) D g (va_up x 0 (nI 0)) (va_up I 24 d_1) J 12 (I 10) rfl (I 12) rfl (dc (I 10) j) (fun h => h.a12) hP hd_2) q3328 q3330 qs105 q144 q3331 nX2_windowOf ⟨(Nat.le_of_ble_eq_true rfl), (Nat.le_of_ble_eq_true rfl)⟩ dX2_beam_26 rfl (Nat.le_of_ble_eq_true rfl) (recv X hM.1 CL_X2) hM ⟨(Nat.le_of_ble_eq_true rfl), (Nat.le_of_ble_eq_true rfl)⟩ ?_
        refine vv_iconst (v := nI 1) X dX2_beam_29 (by decide) ?_
        refine vv_isub X dX2_beam_30 ?_
        refine vv_callSp X (mX2_in (kL K) D t (nI 0) ((nI (win (I 10) (I 12) (dc (I 10) j))) - (nI 1))) q3031 q3032 q144 q3033 nX2_in ⟨(Nat.le_of_ble_eq_true rfl), (Nat.le_of_ble_eq_true rfl)⟩ dX2_beam_31 rfl (Nat.le_of_ble_eq_true rfl) trivial ⟨(Nat.le_of_ble_eq_true rfl), (Nat.le_of_ble_eq_true rfl)⟩ ?_
        refine vb_eq (tgt := 49) X dX2_beam_34 (by decide) (fun c_34 => ?_) (fun c_34 => ?_)
        · refine vv_aload_n X dX2_beam_49 rfl 0 rfl ?_
          refine vv_iconst (v := nI 3) X dX2_beam_50 (by decide) ?_
          refine vv_callV X (mX2_throwsAt (kL K) D g (va_up x 0 (nI 0)) (va_up I 24 d_1) J hg (nI 3)) q3034 q3036 qs59 q144 q3037 nX2_throwsAt ⟨(Nat.le_of_ble_eq_true rfl), (Nat.le_of_ble_eq_true rfl)⟩ dX2_beam_51 rfl (Nat.le_of_ble_eq_true rfl) (recv X hM.1 CL_X2) hM  (fun _ z => Or.inl z) ⟨(Nat.le_of_ble_eq_true rfl), (Nat.le_of_ble_eq_true rfl)⟩ (fun v_ H hq hz hk => ?_)
          obtain ⟨rfl, hM⟩ := hq
          clear hz hk
          rw [up_up] at hM
          exact vv_iret X hQ dX2_beam_54 (Nat.le_refl _) (Nat.le_refl _) (MEnd.of hM (ag_u (by decide) (ag_r)) (ag_u (by decide) (ag_r)) 3 _ (nI 0) ((ask_t hp).trans (arg_f (by rw [ej]; exact c_34))) rfl (fun h => absurd h (by decide)) rfl)
        · have hwj := hwl (dc (I 10) j)
          obtain ⟨u, hu, rfl⟩ := ix_of (by omega) c_34
          have eu : cl (nI u) = u := cl_I (by omega)
          refine vv_aload_n X dX2_beam_37 rfl 0 rfl ?_
          refine vv_aload_n X dX2_beam_38 rfl 0 rfl ?_
          refine mg12 X rfl hM dX2_beam_39 ?_
          refine vv_iload_n X dX2_beam_42 rfl 2 rfl ?_
          refine vv_callVp X (mX2_beamAt (kL K) D g (va_up x 0 (nI 0)) (va_up I 24 d_1) J 12 (I 10) rfl (I 12) rfl u (dc (I 10) j) (fun h => h.a12) hP hS hd_2 (by omega)) q3340 q3342 qs106 q144 q3343 nX2_beamAt ⟨(Nat.le_of_ble_eq_true rfl), (Nat.le_of_ble_eq_true rfl)⟩ dX2_beam_43 rfl (Nat.le_of_ble_eq_true rfl) (recv X hM.1 CL_X2) hM ⟨(Nat.le_of_ble_eq_true rfl), (Nat.le_of_ble_eq_true rfl)⟩ ?_
          refine vv_goto (tgt := 54) X dX2_beam_46 (by decide) ?_
          exact vv_iret X hQ dX2_beam_54 (Nat.le_refl _) (Nat.le_refl _) (MEnd.of hM (ag_u (by decide) (ag_r)) (ag_u (by decide) (ag_r)) 0 _ (bm (I 10) (I 12) (dc (I 10) j) u) ((ask_t hp).trans (arg_t (by rw [ej]; exact c_34))) rfl (fun _ => by simp only [ej, eu]) rfl)
      · exact absurd c_9 (by decide)
    · refine vv_eqi (b2_n hp) ?_
      rw [if_neg hp] at hM
      refine vn_if_ne (tgt := 14) X (by omega) dX2_beam_9 (by decide) (fun c_9 => ?_) (fun c_9 => ?_)
      · exact absurd c_9 (by decide)
      · refine vv_iconst (v := nI 0) X dX2_beam_12 (by decide) ?_
        exact vv_iret X hQ dX2_beam_13 (Nat.le_refl _) (Nat.le_refl _) (MEnd.of hM (ag_u (by decide) (ag_r)) (ag_r) 2 _ (nI 0) (ask_f hp) rfl (fun h => absurd h (by decide)) rfl)
theorem nX2_power : notMH yX2_power 1 := by decide +kernel
set_option maxHeartbeats 800000 in
theorem aX2_power (l : Launch) (D : DD) (g : Nat → Nat) (x : Nat → Int32) (I : Nat → Nat → Int32) (J : Nat → Nat → Int64) (P : Nat → Int32) (hIP : I 10 = P) (S : Nat → Int32) (hIS : I 12 = S) (C : Bool) (hg : MG g) (a : Int32) (hP : VP P) (hc : cam C (x 20) P S (I 17))  : Ct l yX2_power cX2_power 2 (some .long) { frames := 6, cells := 0, slots := 0, locals := 130 } D [.ref (g 0), .int (a)] (fun H => MR D g x I J H) (MA g) (fun v H H1 => MEnd D g x I lV (an_power C P S a) v H1) := by
  refine Ct.of (by decide +kernel) (Nat.le_of_ble_eq_true rfl) (fun K Qf hkl X hM hQ => ?_)
  subst hkl
  subst hIP
  subst hIS
  have l4 := hP.l4
  have l5 := hP.l5
  have l2 := hP.l2
  have l9 := hP.l9
  have l10 := hP.l10
  have l101 := hP.l101
  have hn4 : nC (I 10) ≤ 144 := Nat.mul_le_mul l9 l10
  refine vv_sub (lv' := [(0, .ref (g 0)), (1, .int (a))]) [0, 1] rfl ?_
  rcases hc with ⟨rfl, h20⟩ | ⟨rfl, h20, hC, hS, hT⟩
  · refine vv_aload_n X dX2_power_0 rfl 0 rfl ?_
    refine vv_aload_n X dX2_power_1 rfl 0 rfl ?_
    refine vv_iload_n X dX2_power_2 rfl 1 rfl ?_
    refine vv_callVp X (mX2_isCell (kL K) D g x I J (I 10) rfl a hP) q3268 q3270 qs100 q144 q3271 nX2_isCell ⟨(Nat.le_of_ble_eq_true rfl), (Nat.le_of_ble_eq_true rfl)⟩ dX2_power_3 rfl (Nat.le_of_ble_eq_true rfl) (recv X hM.1 CL_X2) hM ⟨(Nat.le_of_ble_eq_true rfl), (Nat.le_of_ble_eq_true rfl)⟩ ?_
    refine vv_callV X (mX2_mayAsk0 (kL K) D g x I J hg (ix (nC (I 10)) a) h20) q3244 q3246 qs98 q144 q3247 nX2_mayAsk ⟨(Nat.le_of_ble_eq_true rfl), (Nat.le_of_ble_eq_true rfl)⟩ dX2_power_6 rfl (Nat.le_of_ble_eq_true rfl) (recv X hM.1 CL_X2) hM  (fun _ z => Or.inl z) ⟨(Nat.le_of_ble_eq_true rfl), (Nat.le_of_ble_eq_true rfl)⟩ (fun v_ H hq hz hk => ?_)
    obtain ⟨rfl, hM⟩ := hq
    clear hz hk
    refine vv_eqi (b2_n (p := False) (fun z => z)) ?_
    refine vn_if_eq (tgt := 24) X (by omega) dX2_power_9 (by decide) (fun c_9 => ?_) (fun c_9 => ?_)
    · refine vv_lconst (v := 0) X dX2_power_24 (by decide) ?_
      exact vv_lret X hQ dX2_power_25 (Nat.le_refl _) (Nat.le_refl _) (MEnd.of hM (ag_u (by decide) (ag_r)) (ag_r) 1 _ (0) (ask_0) rfl (fun h => absurd h (by decide)) rfl)
    · exact absurd c_9 (by decide)
  · refine vv_aload_n X dX2_power_0 rfl 0 rfl ?_
    refine vv_aload_n X dX2_power_1 rfl 0 rfl ?_
    refine vv_iload_n X dX2_power_2 rfl 1 rfl ?_
    refine vv_callVp X (mX2_isCell (kL K) D g x I J (I 10) rfl a hP) q3268 q3270 qs100 q144 q3271 nX2_isCell ⟨(Nat.le_of_ble_eq_true rfl), (Nat.le_of_ble_eq_true rfl)⟩ dX2_power_3 rfl (Nat.le_of_ble_eq_true rfl) (recv X hM.1 CL_X2) hM ⟨(Nat.le_of_ble_eq_true rfl), (Nat.le_of_ble_eq_true rfl)⟩ ?_
    refine vv_callV X (mX2_mayAsk1 (kL K) D g x I J hg (ix (nC (I 10)) a) h20) q3244 q3246 qs98 q144 q3247 nX2_mayAsk ⟨(Nat.le_of_ble_eq_true rfl), (Nat.le_of_ble_eq_true rfl)⟩ dX2_power_6 rfl (Nat.le_of_ble_eq_true rfl) (recv X hM.1 CL_X2) hM  (fun _ z => Or.inl z) ⟨(Nat.le_of_ble_eq_true rfl), (Nat.le_of_ble_eq_true rfl)⟩ (fun v_ H hq hz hk => ?_)
    obtain ⟨rfl, hM⟩ := hq
    clear hz hk
    by_cases hp : ix (nC (I 10)) a
    · refine vv_eqi (b2_y hp) ?_
      rw [if_pos hp] at hM
      obtain ⟨j, hj, rfl⟩ := ix_of (by omega) hp
      have ej : cl (nI j) = j := cl_I (by omega)
      refine vn_if_eq (tgt := 24) X (by omega) dX2_power_9 (by decide) (fun c_9 => ?_) (fun c_9 => ?_)
      · exact absurd c_9 (by decide)
      · refine vv_aload_n X dX2_power_12 rfl 0 rfl ?_
        refine vv_aload_n X dX2_power_13 rfl 0 rfl ?_
        refine mg12 X rfl hM dX2_power_14 ?_
        refine vv_iload_n X dX2_power_17 rfl 1 rfl ?_
        refine vv_callV X (mX2_powerOf12 (kL K) D g (va_up x 0 (nI 0)) I J (I 10) rfl (I 12) rfl hg j hP hS hT (by omega)) q3348 q3350 qs107 q144 q3351 nX2_powerOf ⟨(Nat.le_of_ble_eq_true rfl), (Nat.le_of_ble_eq_true rfl)⟩ dX2_power_18 rfl (Nat.le_of_ble_eq_true rfl) (recv X hM.1 CL_X2) hM  (fun _ z => Or.inl z) ⟨(Nat.le_of_ble_eq_true rfl), (Nat.le_of_ble_eq_true rfl)⟩ (fun v_ H hq hz hk => ?_)
        obtain ⟨rfl, d_1, hM⟩ := hq
        clear hz hk
        refine vv_goto (tgt := 25) X dX2_power_21 (by decide) ?_
        exact vv_lret X hQ dX2_power_25 (Nat.le_refl _) (Nat.le_refl _) (MEnd.of hM (ag_u (by decide) (ag_r)) (ag_u (by decide) (ag_r)) 0 _ (pwc (I 10) (I 12) j) (ask_t hp) rfl (fun _ => by simp only [ej]) rfl)
    · refine vv_eqi (b2_n hp) ?_
      rw [if_neg hp] at hM
      refine vn_if_eq (tgt := 24) X (by omega) dX2_power_9 (by decide) (fun c_9 => ?_) (fun c_9 => ?_)
      · refine vv_lconst (v := 0) X dX2_power_24 (by decide) ?_
        exact vv_lret X hQ dX2_power_25 (Nat.le_refl _) (Nat.le_refl _) (MEnd.of hM (ag_u (by decide) (ag_r)) (ag_r) 2 _ (0) (ask_f hp) rfl (fun h => absurd h (by decide)) rfl)
      · exact absurd c_9 (by decide)
theorem nX2_powerAt : notMH yX2_powerAt 2 := by decide +kernel
set_option maxHeartbeats 800000 in
theorem aX2_powerAt (l : Launch) (D : DD) (g : Nat → Nat) (x : Nat → Int32) (I : Nat → Nat → Int32) (J : Nat → Nat → Int64) (P : Nat → Int32) (hIP : I 10 = P) (S : Nat → Int32) (hIS : I 12 = S) (C : Bool) (hg : MG g) (p q : Int32) (hP : VP P) (hc : cam C (x 20) P S (I 17))  : Ct l yX2_powerAt cX2_powerAt 3 (some .long) { frames := 5, cells := 0, slots := 0, locals := 108 } D [.ref (g 0), .int (p), .int (q)] (fun H => MR D g x I J H) (MA g) (fun v H H1 => MEnd D g x I lV (an_powerAt C P S p q) v H1) := by
  refine Ct.of (by decide +kernel) (Nat.le_of_ble_eq_true rfl) (fun K Qf hkl X hM hQ => ?_)
  subst hkl
  subst hIP
  subst hIS
  have l4 := hP.l4
  have l5 := hP.l5
  have l2 := hP.l2
  have l9 := hP.l9
  have l10 := hP.l10
  have l101 := hP.l101
  have hn4 : nC (I 10) ≤ 144 := Nat.mul_le_mul l9 l10
  refine vv_sub (lv' := [(0, .ref (g 0)), (1, .int (p)), (2, .int (q))]) [0, 1, 2] rfl ?_
  rcases hc with ⟨rfl, h20⟩ | ⟨rfl, h20, hC, hS, hT⟩
  · refine vv_aload_n X dX2_powerAt_0 rfl 0 rfl ?_
    refine vv_iload_n X dX2_powerAt_1 rfl 1 rfl ?_
    refine vv_iload_n X dX2_powerAt_2 rfl 2 rfl ?_
    refine vv_callSp X (mX2_isPoint (kL K) D p q) q3308 q3309 q144 q3310 nX2_isPoint ⟨(Nat.le_of_ble_eq_true rfl), (Nat.le_of_ble_eq_true rfl)⟩ dX2_powerAt_3 rfl (Nat.le_of_ble_eq_true rfl) trivial ⟨(Nat.le_of_ble_eq_true rfl), (Nat.le_of_ble_eq_true rfl)⟩ ?_
    refine vv_callV X (mX2_mayAsk0 (kL K) D g x I J hg ((-9999 ≤ p ∧ p ≤ nI 9999) ∧ (-9999 ≤ q ∧ q ≤ nI 9999)) h20) q3244 q3246 qs98 q144 q3247 nX2_mayAsk ⟨(Nat.le_of_ble_eq_true rfl), (Nat.le_of_ble_eq_true rfl)⟩ dX2_powerAt_6 rfl (Nat.le_of_ble_eq_true rfl) (recv X hM.1 CL_X2) hM  (fun _ z => Or.inl z) ⟨(Nat.le_of_ble_eq_true rfl), (Nat.le_of_ble_eq_true rfl)⟩ (fun v_ H hq hz hk => ?_)
    obtain ⟨rfl, hM⟩ := hq
    clear hz hk
    refine vv_eqi (b2_n (p := False) (fun z => z)) ?_
    refine vn_if_ne (tgt := 14) X (by omega) dX2_powerAt_9 (by decide) (fun c_9 => ?_) (fun c_9 => ?_)
    · exact absurd c_9 (by decide)
    · refine vv_lconst (v := 0) X dX2_powerAt_12 (by decide) ?_
      exact vv_lret X hQ dX2_powerAt_13 (Nat.le_refl _) (Nat.le_refl _) (MEnd.of hM (ag_u (by decide) (ag_r)) (ag_r) 1 _ (0) (ask_0) rfl (fun h => absurd h (by decide)) rfl)
  · refine vv_aload_n X dX2_powerAt_0 rfl 0 rfl ?_
    refine vv_iload_n X dX2_powerAt_1 rfl 1 rfl ?_
    refine vv_iload_n X dX2_powerAt_2 rfl 2 rfl ?_
    refine vv_callSp X (mX2_isPoint (kL K) D p q) q3308 q3309 q144 q3310 nX2_isPoint ⟨(Nat.le_of_ble_eq_true rfl), (Nat.le_of_ble_eq_true rfl)⟩ dX2_powerAt_3 rfl (Nat.le_of_ble_eq_true rfl) trivial ⟨(Nat.le_of_ble_eq_true rfl), (Nat.le_of_ble_eq_true rfl)⟩ ?_
    refine vv_callV X (mX2_mayAsk1 (kL K) D g x I J hg ((-9999 ≤ p ∧ p ≤ nI 9999) ∧ (-9999 ≤ q ∧ q ≤ nI 9999)) h20) q3244 q3246 qs98 q144 q3247 nX2_mayAsk ⟨(Nat.le_of_ble_eq_true rfl), (Nat.le_of_ble_eq_true rfl)⟩ dX2_powerAt_6 rfl (Nat.le_of_ble_eq_true rfl) (recv X hM.1 CL_X2) hM  (fun _ z => Or.inl z) ⟨(Nat.le_of_ble_eq_true rfl), (Nat.le_of_ble_eq_true rfl)⟩ (fun v_ H hq hz hk => ?_)
    obtain ⟨rfl, hM⟩ := hq
    clear hz hk
    by_cases hp : (-9999 ≤ p ∧ p ≤ nI 9999) ∧ (-9999 ≤ q ∧ q ≤ nI 9999)
    · refine vv_eqi (b2_y hp) ?_
      rw [if_pos hp] at hM
      refine vn_if_ne (tgt := 14) X (by omega) dX2_powerAt_9 (by decide) (fun c_9 => ?_) (fun c_9 => ?_)
      · refine vv_aload_n X dX2_powerAt_14 rfl 0 rfl ?_
        refine vv_iload_n X dX2_powerAt_15 rfl 1 rfl ?_
        refine vv_iload_n X dX2_powerAt_16 rfl 2 rfl ?_
        refine vv_callV X (mX2_laysPoint (kL K) D g (va_up x 0 (nI 0)) I J (I 10) rfl hg p q hC (rg_of (by decide) (by decide) hp.1) (rg_of (by decide) (by decide) hp.2)) q3364 q3366 qs110 q144 q3367 nX2_laysPoint ⟨(Nat.le_of_ble_eq_true rfl), (Nat.le_of_ble_eq_true rfl)⟩ dX2_powerAt_17 rfl (Nat.le_of_ble_eq_true rfl) (recv X hM.1 CL_X2) hM  (fun _ z => Or.inl z) ⟨(Nat.le_of_ble_eq_true rfl), (Nat.le_of_ble_eq_true rfl)⟩ (fun v_ H hq hz hk => ?_)
        obtain ⟨rfl, d_1, hM, hd_2⟩ := hq
        clear hz hk
        refine vv_aload_n X dX2_powerAt_20 rfl 0 rfl ?_
        refine vv_aload_n X dX2_powerAt_21 rfl 0 rfl ?_
        refine mg12 X rfl hM dX2_powerAt_22 ?_
        refine vv_callVp X (mX2_powerHere (kL K) D g (va_up x 0 (nI 0)) (va_up I 24 d_1) J 12 (I 10) rfl (I 12) rfl (fun m => dN (I 10) m p q) (fun h => h.a12) hP hS hd_2) q3352 q3354 qs108 q144 q3355 nX2_powerHere ⟨(Nat.le_of_ble_eq_true rfl), (Nat.le_of_ble_eq_true rfl)⟩ dX2_powerAt_25 rfl (Nat.le_of_ble_eq_true rfl) (recv X hM.1 CL_X2) hM ⟨(Nat.le_of_ble_eq_true rfl), (Nat.le_of_ble_eq_true rfl)⟩ ?_
        exact vv_lret X hQ dX2_powerAt_28 (Nat.le_refl _) (Nat.le_refl _) (MEnd.of hM (ag_u (by decide) (ag_r)) (ag_u (by decide) (ag_r)) 0 _ (pwr (I 10) (I 12) (fun m => dN (I 10) m p q)) (ask_t hp) rfl (fun _ => rfl) rfl)
      · exact absurd c_9 (by decide)
    · refine vv_eqi (b2_n hp) ?_
      rw [if_neg hp] at hM
      refine vn_if_ne (tgt := 14) X (by omega) dX2_powerAt_9 (by decide) (fun c_9 => ?_) (fun c_9 => ?_)
      · exact absurd c_9 (by decide)
      · refine vv_lconst (v := 0) X dX2_powerAt_12 (by decide) ?_
        exact vv_lret X hQ dX2_powerAt_13 (Nat.le_refl _) (Nat.le_refl _) (MEnd.of hM (ag_u (by decide) (ag_r)) (ag_r) 2 _ (0) (ask_f hp) rfl (fun h => absurd h (by decide)) rfl)
theorem nX2_best : notMH yX2_best 0 := by decide +kernel
set_option maxHeartbeats 800000 in
theorem aX2_best (l : Launch) (D : DD) (g : Nat → Nat) (x : Nat → Int32) (I : Nat → Nat → Int32) (J : Nat → Nat → Int64) (P : Nat → Int32) (hIP : I 10 = P) (S : Nat → Int32) (hIS : I 12 = S) (C : Bool) (hg : MG g)  (hP : VP P) (hc : cam C (x 20) P S (I 17))  : Ct l yX2_best cX2_best 1 (some .int) { frames := 8, cells := 0, slots := 0, locals := 175 } D [.ref (g 0)] (fun H => MR D g x I J H) (MA g) (fun v H H1 => MEnd D g x I iV (an_best C P S) v H1) := by
  refine Ct.of (by decide +kernel) (Nat.le_of_ble_eq_true rfl) (fun K Qf hkl X hM hQ => ?_)
  subst hkl
  subst hIP
  subst hIS
  have l4 := hP.l4
  have l5 := hP.l5
  have l2 := hP.l2
  have l9 := hP.l9
  have l10 := hP.l10
  have l101 := hP.l101
  have hn4 : nC (I 10) ≤ 144 := Nat.mul_le_mul l9 l10
  refine vv_sub (lv' := [(0, .ref (g 0))]) [0] rfl ?_
  rcases hc with ⟨rfl, h20⟩ | ⟨rfl, h20, hC, hS, hT⟩
  · refine vv_aload_n X dX2_best_0 rfl 0 rfl ?_
    refine vv_iconst (v := nI 1) X dX2_best_1 (by decide) ?_
    refine vv_callV X (mX2_mayAsk0 (kL K) D g x I J hg True h20) q3244 q3246 qs98 q144 q3247 nX2_mayAsk ⟨(Nat.le_of_ble_eq_true rfl), (Nat.le_of_ble_eq_true rfl)⟩ dX2_best_2 rfl (Nat.le_of_ble_eq_true rfl) (recv X hM.1 CL_X2) hM  (fun _ z => Or.inl z) ⟨(Nat.le_of_ble_eq_true rfl), (Nat.le_of_ble_eq_true rfl)⟩ (fun v_ H hq hz hk => ?_)
    obtain ⟨rfl, hM⟩ := hq
    clear hz hk
    refine vv_eqi (b2_n (p := False) (fun z => z)) ?_
    refine vn_if_eq (tgt := 19) X (by omega) dX2_best_5 (by decide) (fun c_5 => ?_) (fun c_5 => ?_)
    · refine vv_iconst (v := nI 0) X dX2_best_19 (by decide) ?_
      exact vv_iret X hQ dX2_best_20 (Nat.le_refl _) (Nat.le_refl _) (MEnd.of hM (ag_u (by decide) (ag_r)) (ag_r) 1 _ (nI 0) (ask_0) rfl (fun h => absurd h (by decide)) rfl)
    · exact absurd c_5 (by decide)
  · refine vv_aload_n X dX2_best_0 rfl 0 rfl ?_
    refine vv_iconst (v := nI 1) X dX2_best_1 (by decide) ?_
    refine vv_callV X (mX2_mayAsk1 (kL K) D g x I J hg True h20) q3244 q3246 qs98 q144 q3247 nX2_mayAsk ⟨(Nat.le_of_ble_eq_true rfl), (Nat.le_of_ble_eq_true rfl)⟩ dX2_best_2 rfl (Nat.le_of_ble_eq_true rfl) (recv X hM.1 CL_X2) hM  (fun _ z => Or.inl z) ⟨(Nat.le_of_ble_eq_true rfl), (Nat.le_of_ble_eq_true rfl)⟩ (fun v_ H hq hz hk => ?_)
    obtain ⟨rfl, hM⟩ := hq
    clear hz hk
    refine vv_eqi (b2_y (p := True) trivial) ?_
    rw [if_pos trivial] at hM
    refine vn_if_eq (tgt := 19) X (by omega) dX2_best_5 (by decide) (fun c_5 => ?_) (fun c_5 => ?_)
    · exact absurd c_5 (by decide)
    · refine vv_aload_n X dX2_best_8 rfl 0 rfl ?_
      refine vv_aload_n X dX2_best_9 rfl 0 rfl ?_
      refine mg12 X rfl hM dX2_best_10 ?_
      refine vv_callV X (mX2_bestIn12 (kL K) D g (va_up x 0 (nI 0)) I J (I 10) rfl (I 12) rfl hg hC hS hT) q3372 q3374 qs111 q144 q3375 nX2_bestIn ⟨(Nat.le_of_ble_eq_true rfl), (Nat.le_of_ble_eq_true rfl)⟩ dX2_best_13 rfl (Nat.le_of_ble_eq_true rfl) (recv X hM.1 CL_X2) hM  (fun _ z => Or.inl z) ⟨(Nat.le_of_ble_eq_true rfl), (Nat.le_of_ble_eq_true rfl)⟩ (fun v_ H hq hz hk => ?_)
      obtain ⟨rfl, d_1, p_2, hM, hp_3⟩ := hq
      clear hz hk
      refine vv_goto (tgt := 20) X dX2_best_16 (by decide) ?_
      exact vv_iret X hQ dX2_best_20 (Nat.le_refl _) (Nat.le_refl _) (MEnd.of hM (ag_u (by decide) (ag_r)) (ag_u (by decide) (ag_r)) 0 _ (nI (bsN (pwc (I 10) (I 12)) (nC (I 10)))) (ask_t trivial) rfl (fun _ => rfl) rfl)
theorem nX2_bestPower : notMH yX2_bestPower 0 := by decide +kernel
set_option maxHeartbeats 800000 in
theorem aX2_bestPower (l : Launch) (D : DD) (g : Nat → Nat) (x : Nat → Int32) (I : Nat → Nat → Int32) (J : Nat → Nat → Int64) (P : Nat → Int32) (hIP : I 10 = P) (S : Nat → Int32) (hIS : I 12 = S) (C : Bool) (hg : MG g)  (hP : VP P) (hc : cam C (x 20) P S (I 17))  : Ct l yX2_bestPower cX2_bestPower 1 (some .long) { frames := 8, cells := 0, slots := 0, locals := 175 } D [.ref (g 0)] (fun H => MR D g x I J H) (MA g) (fun v H H1 => MEnd D g x I lV (an_bestPower C P S) v H1) := by
  refine Ct.of (by decide +kernel) (Nat.le_of_ble_eq_true rfl) (fun K Qf hkl X hM hQ => ?_)
  subst hkl
  subst hIP
  subst hIS
  have l4 := hP.l4
  have l5 := hP.l5
  have l2 := hP.l2
  have l9 := hP.l9
  have l10 := hP.l10
  have l101 := hP.l101
  have hn4 : nC (I 10) ≤ 144 := Nat.mul_le_mul l9 l10
  have hn0 : C = true → 0 < nC (I 10) := fun hh => by
    rcases hc with ⟨h, _⟩ | ⟨_, _, h, _, _⟩
    · exact absurd (hh.symm.trans h) (by decide)
    · exact Nat.mul_pos h.x1 h.y1
  refine vv_sub (lv' := [(0, .ref (g 0))]) [0] rfl ?_
  rcases hc with ⟨rfl, h20⟩ | ⟨rfl, h20, hC, hS, hT⟩
  · refine vv_aload_n X dX2_bestPower_0 rfl 0 rfl ?_
    refine vv_iconst (v := nI 1) X dX2_bestPower_1 (by decide) ?_
    refine vv_callV X (mX2_mayAsk0 (kL K) D g x I J hg True h20) q3244 q3246 qs98 q144 q3247 nX2_mayAsk ⟨(Nat.le_of_ble_eq_true rfl), (Nat.le_of_ble_eq_true rfl)⟩ dX2_bestPower_2 rfl (Nat.le_of_ble_eq_true rfl) (recv X hM.1 CL_X2) hM  (fun _ z => Or.inl z) ⟨(Nat.le_of_ble_eq_true rfl), (Nat.le_of_ble_eq_true rfl)⟩ (fun v_ H hq hz hk => ?_)
    obtain ⟨rfl, hM⟩ := hq
    clear hz hk
    refine vv_eqi (b2_n (p := False) (fun z => z)) ?_
    refine vn_if_eq (tgt := 24) X (by omega) dX2_bestPower_5 (by decide) (fun c_5 => ?_) (fun c_5 => ?_)
    · refine vv_lconst (v := 0) X dX2_bestPower_24 (by decide) ?_
      exact vv_lret X hQ dX2_bestPower_25 (Nat.le_refl _) (Nat.le_refl _) (MEnd.of hM (ag_u (by decide) (ag_r)) (ag_r) 1 _ (0) (ask_0) rfl (fun h => absurd h (by decide)) rfl)
    · exact absurd c_5 (by decide)
  · refine vv_aload_n X dX2_bestPower_0 rfl 0 rfl ?_
    refine vv_iconst (v := nI 1) X dX2_bestPower_1 (by decide) ?_
    refine vv_callV X (mX2_mayAsk1 (kL K) D g x I J hg True h20) q3244 q3246 qs98 q144 q3247 nX2_mayAsk ⟨(Nat.le_of_ble_eq_true rfl), (Nat.le_of_ble_eq_true rfl)⟩ dX2_bestPower_2 rfl (Nat.le_of_ble_eq_true rfl) (recv X hM.1 CL_X2) hM  (fun _ z => Or.inl z) ⟨(Nat.le_of_ble_eq_true rfl), (Nat.le_of_ble_eq_true rfl)⟩ (fun v_ H hq hz hk => ?_)
    obtain ⟨rfl, hM⟩ := hq
    clear hz hk
    refine vv_eqi (b2_y (p := True) trivial) ?_
    rw [if_pos trivial] at hM
    refine vn_if_eq (tgt := 24) X (by omega) dX2_bestPower_5 (by decide) (fun c_5 => ?_) (fun c_5 => ?_)
    · exact absurd c_5 (by decide)
    · refine vv_aload_n X dX2_bestPower_8 rfl 0 rfl ?_
      refine mg25 X rfl hM dX2_bestPower_9 ?_
      refine vv_aload_n X dX2_bestPower_12 rfl 0 rfl ?_
      refine vv_aload_n X dX2_bestPower_13 rfl 0 rfl ?_
      refine mg12 X rfl hM dX2_bestPower_14 ?_
      refine vv_callV X (mX2_bestIn12 (kL K) D g (va_up x 0 (nI 0)) I J (I 10) rfl (I 12) rfl hg hC hS hT) q3372 q3374 qs111 q144 q3375 nX2_bestIn ⟨(Nat.le_of_ble_eq_true rfl), (Nat.le_of_ble_eq_true rfl)⟩ dX2_bestPower_17 rfl (Nat.le_of_ble_eq_true rfl) (recv X hM.1 CL_X2) hM  (fun _ z => Or.inl z) ⟨(Nat.le_of_ble_eq_true rfl), (Nat.le_of_ble_eq_true rfl)⟩ (fun v_ H hq hz hk => ?_)
      obtain ⟨rfl, d_1, p_2, hM, hp_3⟩ := hq
      clear hz hk
      refine vv_lald X hM.a25 (bsN (pwc (I 10) (I 12)) (nC (I 10))) (by have := bsN_lt (sc := pwc (I 10) (I 12)) (hn0 rfl); omega) (by decide) rfl dX2_bestPower_20 ?_
      refine vv_eql (hp_3 _ (by exact bsN_lt (hn0 rfl))) ?_
      refine vv_goto (tgt := 25) X dX2_bestPower_21 (by decide) ?_
      exact vv_lret X hQ dX2_bestPower_25 (Nat.le_refl _) (Nat.le_refl _) (MEnd.of hM (ag_u (by decide) (ag_r)) (ag_u (by decide) (ag_r)) 0 _ (pwc (I 10) (I 12) (bsN (pwc (I 10) (I 12)) (nC (I 10)))) (ask_t trivial) rfl (fun _ => rfl) rfl)
theorem nX2_meanPower : notMH yX2_meanPower 0 := by decide +kernel
set_option maxHeartbeats 800000 in
theorem aX2_meanPower (l : Launch) (D : DD) (g : Nat → Nat) (x : Nat → Int32) (I : Nat → Nat → Int32) (J : Nat → Nat → Int64) (P : Nat → Int32) (hIP : I 10 = P) (S : Nat → Int32) (hIS : I 12 = S) (C : Bool) (hg : MG g)  (hP : VP P) (hc : cam C (x 20) P S (I 17))  : Ct l yX2_meanPower cX2_meanPower 4 (some .long) { frames := 7, cells := 0, slots := 0, locals := 152 } D [.ref (g 0)] (fun H => MR D g x I J H) (MA g) (fun v H H1 => MEnd D g x I lV (an_meanPower C P S) v H1) := by
  refine Ct.of (by decide +kernel) (Nat.le_of_ble_eq_true rfl) (fun K Qf hkl X hM hQ => ?_)
  subst hkl
  subst hIP
  subst hIS
  have l4 := hP.l4
  have l5 := hP.l5
  have l2 := hP.l2
  have l9 := hP.l9
  have l10 := hP.l10
  have l101 := hP.l101
  have hn4 : nC (I 10) ≤ 144 := Nat.mul_le_mul l9 l10
  have hn0 : C = true → 0 < nC (I 10) := fun hh => by
    rcases hc with ⟨h, _⟩ | ⟨_, _, h, _, _⟩
    · exact absurd (hh.symm.trans h) (by decide)
    · exact Nat.mul_pos h.x1 h.y1
  refine vv_sub (lv' := [(0, .ref (g 0))]) [0] rfl ?_
  rcases hc with ⟨rfl, h20⟩ | ⟨rfl, h20, hC, hS, hT⟩
  · refine vv_aload_n X dX2_meanPower_0 rfl 0 rfl ?_
    refine vv_iconst (v := nI 1) X dX2_meanPower_1 (by decide) ?_
    refine vv_callV X (mX2_mayAsk0 (kL K) D g x I J hg True h20) q3244 q3246 qs98 q144 q3247 nX2_mayAsk ⟨(Nat.le_of_ble_eq_true rfl), (Nat.le_of_ble_eq_true rfl)⟩ dX2_meanPower_2 rfl (Nat.le_of_ble_eq_true rfl) (recv X hM.1 CL_X2) hM  (fun _ z => Or.inl z) ⟨(Nat.le_of_ble_eq_true rfl), (Nat.le_of_ble_eq_true rfl)⟩ (fun v_ H hq hz hk => ?_)
    obtain ⟨rfl, hM⟩ := hq
    clear hz hk
    refine vv_eqi (b2_n (p := False) (fun z => z)) ?_
    refine vn_if_ne (tgt := 10) X (by omega) dX2_meanPower_5 (by decide) (fun c_5 => ?_) (fun c_5 => ?_)
    · exact absurd c_5 (by decide)
    · refine vv_lconst (v := 0) X dX2_meanPower_8 (by decide) ?_
      exact vv_lret X hQ dX2_meanPower_9 (Nat.le_refl _) (Nat.le_refl _) (MEnd.of hM (ag_u (by decide) (ag_r)) (ag_r) 1 _ (0) (ask_0) rfl (fun h => absurd h (by decide)) rfl)
  · refine vv_aload_n X dX2_meanPower_0 rfl 0 rfl ?_
    refine vv_iconst (v := nI 1) X dX2_meanPower_1 (by decide) ?_
    refine vv_callV X (mX2_mayAsk1 (kL K) D g x I J hg True h20) q3244 q3246 qs98 q144 q3247 nX2_mayAsk ⟨(Nat.le_of_ble_eq_true rfl), (Nat.le_of_ble_eq_true rfl)⟩ dX2_meanPower_2 rfl (Nat.le_of_ble_eq_true rfl) (recv X hM.1 CL_X2) hM  (fun _ z => Or.inl z) ⟨(Nat.le_of_ble_eq_true rfl), (Nat.le_of_ble_eq_true rfl)⟩ (fun v_ H hq hz hk => ?_)
    obtain ⟨rfl, hM⟩ := hq
    clear hz hk
    refine vv_eqi (b2_y (p := True) trivial) ?_
    rw [if_pos trivial] at hM
    refine vn_if_ne (tgt := 10) X (by omega) dX2_meanPower_5 (by decide) (fun c_5 => ?_) (fun c_5 => ?_)
    · refine vv_aload_n X dX2_meanPower_10 rfl 0 rfl ?_
      refine vv_aload_n X dX2_meanPower_11 rfl 0 rfl ?_
      refine mg12 X rfl hM dX2_meanPower_12 ?_
      refine vv_callV X (mX2_laysPowers12 (kL K) D g (va_up x 0 (nI 0)) I J (I 10) rfl (I 12) rfl hg hP hS hT) q3376 q3378 qs112 q144 q3379 nX2_laysPowers ⟨(Nat.le_of_ble_eq_true rfl), (Nat.le_of_ble_eq_true rfl)⟩ dX2_meanPower_15 rfl (Nat.le_of_ble_eq_true rfl) (recv X hM.1 CL_X2) hM  (fun _ z => Or.inl z) ⟨(Nat.le_of_ble_eq_true rfl), (Nat.le_of_ble_eq_true rfl)⟩ (fun v_ H hq hz hk => ?_)
      obtain ⟨rfl, d_1, p_2, hM, hp_3⟩ := hq
      clear hz hk
      refine vv_lconst (v := 0) X dX2_meanPower_18 (by decide) ?_
      refine vv_lstore_n (lv' := [(1, .long (0)), (0, .ref (g 0))]) X dX2_meanPower_19 rfl (by decide) rfl ?_
      refine vv_iconst (v := nI 0) X dX2_meanPower_20 (by decide) ?_
      refine vv_istore_n (lv' := [(3, .int (nI 0)), (1, .long (0)), (0, .ref (g 0))]) X dX2_meanPower_21 rfl (by decide) rfl ?_
      have hx_4 : ∀ (s : Int64) (hs : s = msm (I 10) (I 12) (nC (I 10))), V K 4 (MA g) H 0 0 Qf 45 [(0, .ref (g 0)), (1, .long (s)), (3, .int (nI (nC (I 10))))] [] := by
        intro s hs
        refine vv_lload_n X dX2_meanPower_45 rfl 1 rfl ?_
        refine vv_aload_n X dX2_meanPower_46 rfl 0 rfl ?_
        refine vv_callVp X (mX2_cellCount (kL K) D g (va_up x 0 (nI 0)) (va_up I 24 d_1) (va_up J 25 p_2) (I 10) rfl hP) q3172 q3174 qs84 q144 q3175 nX2_cellCount ⟨(Nat.le_of_ble_eq_true rfl), (Nat.le_of_ble_eq_true rfl)⟩ dX2_meanPower_47 rfl (Nat.le_of_ble_eq_true rfl) (recv X hM.1 CL_X2) hM ⟨(Nat.le_of_ble_eq_true rfl), (Nat.le_of_ble_eq_true rfl)⟩ ?_
        refine vv_i2l (v := lN (nC (I 10))) X dX2_meanPower_50 (nI_l (by omega)) ?_
        refine vv_ldiv X dX2_meanPower_51 (lN_ne0 (hn0 rfl) (by omega)) ?_
        exact vv_lret X hQ dX2_meanPower_52 (Nat.le_refl _) (Nat.le_refl _) (MEnd.of hM (ag_u (by decide) (ag_r)) (ag_u (by decide) (ag_r)) 0 _ (s / (lN (nC (I 10)))) (ask_t trivial) rfl (fun _ => by rw [hs]) rfl)
      have hl_5 : ∀ (n_i i : Nat) (s : Int64), i + n_i = nC (I 10) → (s = msm (I 10) (I 12) i) → V K 4 (MA g) H 0 0 Qf 22 [(0, .ref (g 0)), (1, .long (s)), (3, .int (nI i))] [] := by
        intro n_i
        induction n_i with
        | zero =>
          intro i s hi hs
          obtain rfl : i = nC (I 10) := by omega
          refine vv_iload_n X dX2_meanPower_22 rfl 2 rfl ?_
          refine vv_aload_n X dX2_meanPower_23 rfl 0 rfl ?_
          refine vv_callVp X (mX2_cellCount (kL K) D g (va_up x 0 (nI 0)) (va_up I 24 d_1) (va_up J 25 p_2) (I 10) rfl hP) q3172 q3174 qs84 q144 q3175 nX2_cellCount ⟨(Nat.le_of_ble_eq_true rfl), (Nat.le_of_ble_eq_true rfl)⟩ dX2_meanPower_24 rfl (Nat.le_of_ble_eq_true rfl) (recv X hM.1 CL_X2) hM ⟨(Nat.le_of_ble_eq_true rfl), (Nat.le_of_ble_eq_true rfl)⟩ ?_
          refine vn_ge (tgt := 45) X (by omega) (by omega) dX2_meanPower_27 (by decide) (fun c_27 => ?_) (fun c_27 => ?_)
          · exact hx_4 s hs
          · exact absurd c_27 (by omega)
        | succ n_i ihi =>
          intro i s hi hs
          refine vv_iload_n X dX2_meanPower_22 rfl 2 rfl ?_
          refine vv_aload_n X dX2_meanPower_23 rfl 0 rfl ?_
          refine vv_callVp X (mX2_cellCount (kL K) D g (va_up x 0 (nI 0)) (va_up I 24 d_1) (va_up J 25 p_2) (I 10) rfl hP) q3172 q3174 qs84 q144 q3175 nX2_cellCount ⟨(Nat.le_of_ble_eq_true rfl), (Nat.le_of_ble_eq_true rfl)⟩ dX2_meanPower_24 rfl (Nat.le_of_ble_eq_true rfl) (recv X hM.1 CL_X2) hM ⟨(Nat.le_of_ble_eq_true rfl), (Nat.le_of_ble_eq_true rfl)⟩ ?_
          refine vn_ge (tgt := 45) X (by omega) (by omega) dX2_meanPower_27 (by decide) (fun c_27 => ?_) (fun c_27 => ?_)
          · exact absurd hi (by omega)
          · refine vv_lload_n X dX2_meanPower_30 rfl 1 rfl ?_
            refine vv_aload_n X dX2_meanPower_31 rfl 0 rfl ?_
            refine mg25 X rfl hM dX2_meanPower_32 ?_
            refine vv_iload_n X dX2_meanPower_35 rfl 2 rfl ?_
            refine vv_lald X hM.a25 (i) (by omega) (by decide) rfl dX2_meanPower_36 ?_
            refine vv_eql (hp_3 _ (by omega)) ?_
            refine vv_ladd X dX2_meanPower_37 ?_
            refine vv_lstore_n (lv' := [(1, .long (s + (pwc (I 10) (I 12) i))), (0, .ref (g 0)), (3, .int (nI i))]) X dX2_meanPower_38 rfl (by decide) rfl ?_
            refine vv_iinc (v := nI (i + 1)) (lv' := [(3, .int (nI (i + 1))), (1, .long (s + (pwc (I 10) (I 12) i))), (0, .ref (g 0))]) X dX2_meanPower_39 (k := 2) rfl (nI_add _ 1) (by decide) rfl ?_
            refine vv_goto (tgt := 22) X dX2_meanPower_42 (by decide) ?_
            refine vv_sub [2, 1, 0] rfl ?_
            exact ihi (i + 1) (s + (pwc (I 10) (I 12) i)) (by omega) (by rw [hs]; rfl)
      refine vv_sub [2, 1, 0] rfl ?_
      exact hl_5 (nC (I 10)) 0 0 (by omega) (rfl)
    · exact absurd c_5 (by decide)
theorem nX2_peaks : notMH yX2_peaks 0 := by decide +kernel
set_option maxHeartbeats 800000 in
theorem aX2_peaks (l : Launch) (D : DD) (g : Nat → Nat) (x : Nat → Int32) (I : Nat → Nat → Int32) (J : Nat → Nat → Int64) (P : Nat → Int32) (hIP : I 10 = P) (S : Nat → Int32) (hIS : I 12 = S) (C : Bool) (hg : MG g)  (hP : VP P) (hc : cam C (x 20) P S (I 17))  : Ct l yX2_peaks cX2_peaks 3 (some .int) { frames := 7, cells := 0, slots := 0, locals := 152 } D [.ref (g 0)] (fun H => MR D g x I J H) (MA g) (fun v H H1 => MEnd D g x I iV (an_peaks C P S) v H1) := by
  refine Ct.of (by decide +kernel) (Nat.le_of_ble_eq_true rfl) (fun K Qf hkl X hM hQ => ?_)
  subst hkl
  subst hIP
  subst hIS
  have l4 := hP.l4
  have l5 := hP.l5
  have l2 := hP.l2
  have l9 := hP.l9
  have l10 := hP.l10
  have l101 := hP.l101
  have hn4 : nC (I 10) ≤ 144 := Nat.mul_le_mul l9 l10
  refine vv_sub (lv' := [(0, .ref (g 0))]) [0] rfl ?_
  rcases hc with ⟨rfl, h20⟩ | ⟨rfl, h20, hC, hS, hT⟩
  · refine vv_aload_n X dX2_peaks_0 rfl 0 rfl ?_
    refine vv_iconst (v := nI 1) X dX2_peaks_1 (by decide) ?_
    refine vv_callV X (mX2_mayAsk0 (kL K) D g x I J hg True h20) q3244 q3246 qs98 q144 q3247 nX2_mayAsk ⟨(Nat.le_of_ble_eq_true rfl), (Nat.le_of_ble_eq_true rfl)⟩ dX2_peaks_2 rfl (Nat.le_of_ble_eq_true rfl) (recv X hM.1 CL_X2) hM  (fun _ z => Or.inl z) ⟨(Nat.le_of_ble_eq_true rfl), (Nat.le_of_ble_eq_true rfl)⟩ (fun v_ H hq hz hk => ?_)
    obtain ⟨rfl, hM⟩ := hq
    clear hz hk
    refine vv_eqi (b2_n (p := False) (fun z => z)) ?_
    refine vn_if_ne (tgt := 10) X (by omega) dX2_peaks_5 (by decide) (fun c_5 => ?_) (fun c_5 => ?_)
    · exact absurd c_5 (by decide)
    · refine vv_iconst (v := nI 0) X dX2_peaks_8 (by decide) ?_
      exact vv_iret X hQ dX2_peaks_9 (Nat.le_refl _) (Nat.le_refl _) (MEnd.of hM (ag_u (by decide) (ag_r)) (ag_r) 1 _ (nI 0) (ask_0) rfl (fun h => absurd h (by decide)) rfl)
  · refine vv_aload_n X dX2_peaks_0 rfl 0 rfl ?_
    refine vv_iconst (v := nI 1) X dX2_peaks_1 (by decide) ?_
    refine vv_callV X (mX2_mayAsk1 (kL K) D g x I J hg True h20) q3244 q3246 qs98 q144 q3247 nX2_mayAsk ⟨(Nat.le_of_ble_eq_true rfl), (Nat.le_of_ble_eq_true rfl)⟩ dX2_peaks_2 rfl (Nat.le_of_ble_eq_true rfl) (recv X hM.1 CL_X2) hM  (fun _ z => Or.inl z) ⟨(Nat.le_of_ble_eq_true rfl), (Nat.le_of_ble_eq_true rfl)⟩ (fun v_ H hq hz hk => ?_)
    obtain ⟨rfl, hM⟩ := hq
    clear hz hk
    refine vv_eqi (b2_y (p := True) trivial) ?_
    rw [if_pos trivial] at hM
    refine vn_if_ne (tgt := 10) X (by omega) dX2_peaks_5 (by decide) (fun c_5 => ?_) (fun c_5 => ?_)
    · refine vv_aload_n X dX2_peaks_10 rfl 0 rfl ?_
      refine vv_aload_n X dX2_peaks_11 rfl 0 rfl ?_
      refine mg12 X rfl hM dX2_peaks_12 ?_
      refine vv_callV X (mX2_laysPowers12 (kL K) D g (va_up x 0 (nI 0)) I J (I 10) rfl (I 12) rfl hg hP hS hT) q3376 q3378 qs112 q144 q3379 nX2_laysPowers ⟨(Nat.le_of_ble_eq_true rfl), (Nat.le_of_ble_eq_true rfl)⟩ dX2_peaks_15 rfl (Nat.le_of_ble_eq_true rfl) (recv X hM.1 CL_X2) hM  (fun _ z => Or.inl z) ⟨(Nat.le_of_ble_eq_true rfl), (Nat.le_of_ble_eq_true rfl)⟩ (fun v_ H hq hz hk => ?_)
      obtain ⟨rfl, d_1, p_2, hM, hp_3⟩ := hq
      clear hz hk
      refine vv_iconst (v := nI 0) X dX2_peaks_18 (by decide) ?_
      refine vv_istore_n (lv' := [(1, .int (nI 0)), (0, .ref (g 0))]) X dX2_peaks_19 rfl (by decide) rfl ?_
      refine vv_iconst (v := nI 0) X dX2_peaks_20 (by decide) ?_
      refine vv_istore_n (lv' := [(2, .int (nI 0)), (1, .int (nI 0)), (0, .ref (g 0))]) X dX2_peaks_21 rfl (by decide) rfl ?_
      have hx_4 : ∀ (a : Nat) (ha : a = pks (I 10) (pwc (I 10) (I 12)) (nC (I 10))) (hal : a ≤ nC (I 10)), V K 3 (MA g) H 0 0 Qf 52 [(0, .ref (g 0)), (1, .int (nI a)), (2, .int (nI (nC (I 10))))] [] := by
        intro a ha hal
        refine vv_iload_n X dX2_peaks_52 rfl 1 rfl ?_
        exact vv_iret X hQ dX2_peaks_53 (Nat.le_refl _) (Nat.le_refl _) (MEnd.of hM (ag_u (by decide) (ag_r)) (ag_u (by decide) (ag_r)) 0 _ (nI a) (ask_t trivial) rfl (fun _ => by rw [ha]) rfl)
      have hl_5 : ∀ (n_i i : Nat) (a : Nat), i + n_i = nC (I 10) → (a = pks (I 10) (pwc (I 10) (I 12)) i) → (a ≤ i) → V K 3 (MA g) H 0 0 Qf 22 [(0, .ref (g 0)), (1, .int (nI a)), (2, .int (nI i))] [] := by
        intro n_i
        induction n_i with
        | zero =>
          intro i a hi ha hal
          obtain rfl : i = nC (I 10) := by omega
          refine vv_iload_n X dX2_peaks_22 rfl 2 rfl ?_
          refine vv_aload_n X dX2_peaks_23 rfl 0 rfl ?_
          refine vv_callVp X (mX2_cellCount (kL K) D g (va_up x 0 (nI 0)) (va_up I 24 d_1) (va_up J 25 p_2) (I 10) rfl hP) q3172 q3174 qs84 q144 q3175 nX2_cellCount ⟨(Nat.le_of_ble_eq_true rfl), (Nat.le_of_ble_eq_true rfl)⟩ dX2_peaks_24 rfl (Nat.le_of_ble_eq_true rfl) (recv X hM.1 CL_X2) hM ⟨(Nat.le_of_ble_eq_true rfl), (Nat.le_of_ble_eq_true rfl)⟩ ?_
          refine vn_ge (tgt := 52) X (by omega) (by omega) dX2_peaks_27 (by decide) (fun c_27 => ?_) (fun c_27 => ?_)
          · exact hx_4 a ha hal
          · exact absurd c_27 (by omega)
        | succ n_i ihi =>
          intro i a hi ha hal
          refine vv_iload_n X dX2_peaks_22 rfl 2 rfl ?_
          refine vv_aload_n X dX2_peaks_23 rfl 0 rfl ?_
          refine vv_callVp X (mX2_cellCount (kL K) D g (va_up x 0 (nI 0)) (va_up I 24 d_1) (va_up J 25 p_2) (I 10) rfl hP) q3172 q3174 qs84 q144 q3175 nX2_cellCount ⟨(Nat.le_of_ble_eq_true rfl), (Nat.le_of_ble_eq_true rfl)⟩ dX2_peaks_24 rfl (Nat.le_of_ble_eq_true rfl) (recv X hM.1 CL_X2) hM ⟨(Nat.le_of_ble_eq_true rfl), (Nat.le_of_ble_eq_true rfl)⟩ ?_
          refine vn_ge (tgt := 52) X (by omega) (by omega) dX2_peaks_27 (by decide) (fun c_27 => ?_) (fun c_27 => ?_)
          · exact absurd hi (by omega)
          · refine vv_iload_n X dX2_peaks_30 rfl 1 rfl ?_
            refine vv_aload_n X dX2_peaks_31 rfl 0 rfl ?_
            refine vv_iload_n X dX2_peaks_32 rfl 2 rfl ?_
            refine vv_callVp X (mX2_isTop (kL K) D g (va_up x 0 (nI 0)) (va_up I 24 d_1) (va_up J 25 p_2) (I 10) rfl i hC (by omega)) q3392 q3394 qs113 q144 q3395 nX2_isTop ⟨(Nat.le_of_ble_eq_true rfl), (Nat.le_of_ble_eq_true rfl)⟩ dX2_peaks_33 rfl (Nat.le_of_ble_eq_true rfl) (recv X hM.1 CL_X2) hM ⟨(Nat.le_of_ble_eq_true rfl), (Nat.le_of_ble_eq_true rfl)⟩ ?_
            refine vv_eqi (b2_c (top_c hp_3 (by omega))) ?_
            refine vb_eq (tgt := 43) X dX2_peaks_36 (by decide) (fun c_36 => ?_) (fun c_36 => ?_)
            · refine vv_iconst (v := nI 0) X dX2_peaks_43 (by decide) ?_
              refine vn_add X dX2_peaks_44 ?_
              refine vv_istore_n (lv' := [(1, .int (nI (a + 0))), (0, .ref (g 0)), (2, .int (nI i))]) X dX2_peaks_45 rfl (by decide) rfl ?_
              refine vv_iinc (v := nI (i + 1)) (lv' := [(2, .int (nI (i + 1))), (1, .int (nI (a + 0))), (0, .ref (g 0))]) X dX2_peaks_46 (k := 2) rfl (nI_add _ 1) (by decide) rfl ?_
              refine vv_goto (tgt := 22) X dX2_peaks_49 (by decide) ?_
              refine vv_sub [2, 1, 0] rfl ?_
              exact ihi (i + 1) (a + 0) (by omega) (by rw [ha]; show _ = _ + (if top (I 10) (pwc (I 10) (I 12)) i then 1 else 0); rw [if_neg c_36]; rfl) (by omega)
            · refine vv_iconst (v := nI 1) X dX2_peaks_39 (by decide) ?_
              refine vv_goto (tgt := 44) X dX2_peaks_40 (by decide) ?_
              refine vn_add X dX2_peaks_44 ?_
              refine vv_istore_n (lv' := [(1, .int (nI (a + 1))), (0, .ref (g 0)), (2, .int (nI i))]) X dX2_peaks_45 rfl (by decide) rfl ?_
              refine vv_iinc (v := nI (i + 1)) (lv' := [(2, .int (nI (i + 1))), (1, .int (nI (a + 1))), (0, .ref (g 0))]) X dX2_peaks_46 (k := 2) rfl (nI_add _ 1) (by decide) rfl ?_
              refine vv_goto (tgt := 22) X dX2_peaks_49 (by decide) ?_
              refine vv_sub [2, 1, 0] rfl ?_
              exact ihi (i + 1) (a + 1) (by omega) (by rw [ha]; show _ = _ + (if top (I 10) (pwc (I 10) (I 12)) i then 1 else 0); rw [if_pos c_36]; rfl) (by omega)
      refine vv_sub [2, 1, 0] rfl ?_
      exact hl_5 (nC (I 10)) 0 0 (by omega) (rfl) (Nat.le_refl _)
    · exact absurd c_5 (by decide)
theorem nX2_isPeak : notMH yX2_isPeak 1 := by decide +kernel
set_option maxHeartbeats 800000 in
theorem aX2_isPeak (l : Launch) (D : DD) (g : Nat → Nat) (x : Nat → Int32) (I : Nat → Nat → Int32) (J : Nat → Nat → Int64) (P : Nat → Int32) (hIP : I 10 = P) (S : Nat → Int32) (hIS : I 12 = S) (C : Bool) (hg : MG g) (a : Int32) (hP : VP P) (hc : cam C (x 20) P S (I 17))  : Ct l yX2_isPeak cX2_isPeak 2 (some .boolean) { frames := 7, cells := 0, slots := 0, locals := 152 } D [.ref (g 0), .int (a)] (fun H => MR D g x I J H) (MA g) (fun v H H1 => MEnd D g x I iV (an_isPeak C P S a) v H1) := by
  refine Ct.of (by decide +kernel) (Nat.le_of_ble_eq_true rfl) (fun K Qf hkl X hM hQ => ?_)
  subst hkl
  subst hIP
  subst hIS
  have l4 := hP.l4
  have l5 := hP.l5
  have l2 := hP.l2
  have l9 := hP.l9
  have l10 := hP.l10
  have l101 := hP.l101
  have hn4 : nC (I 10) ≤ 144 := Nat.mul_le_mul l9 l10
  refine vv_sub (lv' := [(0, .ref (g 0)), (1, .int (a))]) [0, 1] rfl ?_
  rcases hc with ⟨rfl, h20⟩ | ⟨rfl, h20, hC, hS, hT⟩
  · refine vv_aload_n X dX2_isPeak_0 rfl 0 rfl ?_
    refine vv_aload_n X dX2_isPeak_1 rfl 0 rfl ?_
    refine vv_iload_n X dX2_isPeak_2 rfl 1 rfl ?_
    refine vv_callVp X (mX2_isCell (kL K) D g x I J (I 10) rfl a hP) q3268 q3270 qs100 q144 q3271 nX2_isCell ⟨(Nat.le_of_ble_eq_true rfl), (Nat.le_of_ble_eq_true rfl)⟩ dX2_isPeak_3 rfl (Nat.le_of_ble_eq_true rfl) (recv X hM.1 CL_X2) hM ⟨(Nat.le_of_ble_eq_true rfl), (Nat.le_of_ble_eq_true rfl)⟩ ?_
    refine vv_callV X (mX2_mayAsk0 (kL K) D g x I J hg (ix (nC (I 10)) a) h20) q3244 q3246 qs98 q144 q3247 nX2_mayAsk ⟨(Nat.le_of_ble_eq_true rfl), (Nat.le_of_ble_eq_true rfl)⟩ dX2_isPeak_6 rfl (Nat.le_of_ble_eq_true rfl) (recv X hM.1 CL_X2) hM  (fun _ z => Or.inl z) ⟨(Nat.le_of_ble_eq_true rfl), (Nat.le_of_ble_eq_true rfl)⟩ (fun v_ H hq hz hk => ?_)
    obtain ⟨rfl, hM⟩ := hq
    clear hz hk
    refine vv_eqi (b2_n (p := False) (fun z => z)) ?_
    refine vn_if_ne (tgt := 14) X (by omega) dX2_isPeak_9 (by decide) (fun c_9 => ?_) (fun c_9 => ?_)
    · exact absurd c_9 (by decide)
    · refine vv_iconst (v := nI 0) X dX2_isPeak_12 (by decide) ?_
      exact vv_zret X (rfl) hQ dX2_isPeak_13 (Nat.le_refl _) (Nat.le_refl _) (MEnd.of hM (ag_u (by decide) (ag_r)) (ag_r) 1 _ (nI 0) (ask_0) rfl (fun h => absurd h (by decide)) rfl)
  · refine vv_aload_n X dX2_isPeak_0 rfl 0 rfl ?_
    refine vv_aload_n X dX2_isPeak_1 rfl 0 rfl ?_
    refine vv_iload_n X dX2_isPeak_2 rfl 1 rfl ?_
    refine vv_callVp X (mX2_isCell (kL K) D g x I J (I 10) rfl a hP) q3268 q3270 qs100 q144 q3271 nX2_isCell ⟨(Nat.le_of_ble_eq_true rfl), (Nat.le_of_ble_eq_true rfl)⟩ dX2_isPeak_3 rfl (Nat.le_of_ble_eq_true rfl) (recv X hM.1 CL_X2) hM ⟨(Nat.le_of_ble_eq_true rfl), (Nat.le_of_ble_eq_true rfl)⟩ ?_
    refine vv_callV X (mX2_mayAsk1 (kL K) D g x I J hg (ix (nC (I 10)) a) h20) q3244 q3246 qs98 q144 q3247 nX2_mayAsk ⟨(Nat.le_of_ble_eq_true rfl), (Nat.le_of_ble_eq_true rfl)⟩ dX2_isPeak_6 rfl (Nat.le_of_ble_eq_true rfl) (recv X hM.1 CL_X2) hM  (fun _ z => Or.inl z) ⟨(Nat.le_of_ble_eq_true rfl), (Nat.le_of_ble_eq_true rfl)⟩ (fun v_ H hq hz hk => ?_)
    obtain ⟨rfl, hM⟩ := hq
    clear hz hk
    by_cases hp : ix (nC (I 10)) a
    · refine vv_eqi (b2_y hp) ?_
      rw [if_pos hp] at hM
      obtain ⟨j, hj, rfl⟩ := ix_of (by omega) hp
      have ej : cl (nI j) = j := cl_I (by omega)
      refine vn_if_ne (tgt := 14) X (by omega) dX2_isPeak_9 (by decide) (fun c_9 => ?_) (fun c_9 => ?_)
      · refine vv_aload_n X dX2_isPeak_14 rfl 0 rfl ?_
        refine vv_aload_n X dX2_isPeak_15 rfl 0 rfl ?_
        refine mg12 X rfl hM dX2_isPeak_16 ?_
        refine vv_callV X (mX2_laysPowers12 (kL K) D g (va_up x 0 (nI 0)) I J (I 10) rfl (I 12) rfl hg hP hS hT) q3376 q3378 qs112 q144 q3379 nX2_laysPowers ⟨(Nat.le_of_ble_eq_true rfl), (Nat.le_of_ble_eq_true rfl)⟩ dX2_isPeak_19 rfl (Nat.le_of_ble_eq_true rfl) (recv X hM.1 CL_X2) hM  (fun _ z => Or.inl z) ⟨(Nat.le_of_ble_eq_true rfl), (Nat.le_of_ble_eq_true rfl)⟩ (fun v_ H hq hz hk => ?_)
        obtain ⟨rfl, d_1, p_2, hM, hp_3⟩ := hq
        clear hz hk
        refine vv_aload_n X dX2_isPeak_22 rfl 0 rfl ?_
        refine vv_iload_n X dX2_isPeak_23 rfl 1 rfl ?_
        refine vv_callVp X (mX2_isTop (kL K) D g (va_up x 0 (nI 0)) (va_up I 24 d_1) (va_up J 25 p_2) (I 10) rfl j hC (by omega)) q3392 q3394 qs113 q144 q3395 nX2_isTop ⟨(Nat.le_of_ble_eq_true rfl), (Nat.le_of_ble_eq_true rfl)⟩ dX2_isPeak_24 rfl (Nat.le_of_ble_eq_true rfl) (recv X hM.1 CL_X2) hM ⟨(Nat.le_of_ble_eq_true rfl), (Nat.le_of_ble_eq_true rfl)⟩ ?_
        refine vv_eqi (b2_c (top_c hp_3 (by omega))) ?_
        exact vv_zret X (b2_nar _) hQ dX2_isPeak_27 (Nat.le_refl _) (Nat.le_refl _) (MEnd.of hM (ag_u (by decide) (ag_r)) (ag_u (by decide) (ag_r)) 0 _ (b2 (top (I 10) (pwc (I 10) (I 12)) j)) (ask_t hp) rfl (fun _ => by simp only [ej]) rfl)
      · exact absurd c_9 (by decide)
    · refine vv_eqi (b2_n hp) ?_
      rw [if_neg hp] at hM
      refine vn_if_ne (tgt := 14) X (by omega) dX2_isPeak_9 (by decide) (fun c_9 => ?_) (fun c_9 => ?_)
      · exact absurd c_9 (by decide)
      · refine vv_iconst (v := nI 0) X dX2_isPeak_12 (by decide) ?_
        exact vv_zret X (rfl) hQ dX2_isPeak_13 (Nat.le_refl _) (Nat.le_refl _) (MEnd.of hM (ag_u (by decide) (ag_r)) (ag_r) 2 _ (nI 0) (ask_f hp) rfl (fun h => absurd h (by decide)) rfl)
theorem fst1_at {q : Nat → Prop} [DecidablePred q] {i n : Nat} (hi : i < n) (h : fo (fst1 q) i none = none) (hq : q i) : fo (fst1 q) n none = some i := by
  have key : ∀ k, fo (fst1 q) (i + 1 + k) none = some i := by
    intro k
    induction k with
    | zero => show fst1 q i (fo (fst1 q) i none) = _; rw [h]; exact if_pos hq
    | succ k ih => show fst1 q (i + 1 + k) (fo (fst1 q) (i + 1 + k) none) = _; rw [ih]; rfl
  have := key (n - (i + 1))
  rw [show i + 1 + (n - (i + 1)) = n by omega] at this
  exact this
theorem nX2_peakAt : notMH yX2_peakAt 1 := by decide +kernel
set_option maxHeartbeats 800000 in
theorem aX2_peakAt (l : Launch) (D : DD) (g : Nat → Nat) (x : Nat → Int32) (I : Nat → Nat → Int32) (J : Nat → Nat → Int64) (P : Nat → Int32) (hIP : I 10 = P) (S : Nat → Int32) (hIS : I 12 = S) (C : Bool) (hg : MG g) (r : Int32) (hP : VP P) (hc : cam C (x 20) P S (I 17))  : Ct l yX2_peakAt cX2_peakAt 5 (some .int) { frames := 7, cells := 0, slots := 0, locals := 152 } D [.ref (g 0), .int (r)] (fun H => MR D g x I J H) (MA g) (fun v H H1 => MEnd D g x I iV (an_peakAt C P S r) v H1) := by
  refine Ct.of (by decide +kernel) (Nat.le_of_ble_eq_true rfl) (fun K Qf hkl X hM hQ => ?_)
  subst hkl
  subst hIP
  subst hIS
  have l4 := hP.l4
  have l5 := hP.l5
  have l2 := hP.l2
  have l9 := hP.l9
  have l10 := hP.l10
  have l101 := hP.l101
  have hn4 : nC (I 10) ≤ 144 := Nat.mul_le_mul l9 l10
  refine vv_sub (lv' := [(0, .ref (g 0)), (1, .int (r))]) [0, 1] rfl ?_
  rcases hc with ⟨rfl, h20⟩ | ⟨rfl, h20, hC, hS, hT⟩
  · refine vv_aload_n X dX2_peakAt_0 rfl 0 rfl ?_
    refine vv_iconst (v := nI 1) X dX2_peakAt_1 (by decide) ?_
    refine vv_callV X (mX2_mayAsk0 (kL K) D g x I J hg True h20) q3244 q3246 qs98 q144 q3247 nX2_mayAsk ⟨(Nat.le_of_ble_eq_true rfl), (Nat.le_of_ble_eq_true rfl)⟩ dX2_peakAt_2 rfl (Nat.le_of_ble_eq_true rfl) (recv X hM.1 CL_X2) hM  (fun _ z => Or.inl z) ⟨(Nat.le_of_ble_eq_true rfl), (Nat.le_of_ble_eq_true rfl)⟩ (fun v_ H hq hz hk => ?_)
    obtain ⟨rfl, hM⟩ := hq
    clear hz hk
    refine vv_eqi (b2_n (p := False) (fun z => z)) ?_
    refine vn_if_ne (tgt := 10) X (by omega) dX2_peakAt_5 (by decide) (fun c_5 => ?_) (fun c_5 => ?_)
    · exact absurd c_5 (by decide)
    · refine vv_iconst (v := nI 0) X dX2_peakAt_8 (by decide) ?_
      exact vv_iret X hQ dX2_peakAt_9 (Nat.le_refl _) (Nat.le_refl _) (MEnd.of hM (ag_u (by decide) (ag_r)) (ag_r) 1 _ (nI 0) (ask_0) rfl (fun h => absurd h (by decide)) rfl)
  · refine vv_aload_n X dX2_peakAt_0 rfl 0 rfl ?_
    refine vv_iconst (v := nI 1) X dX2_peakAt_1 (by decide) ?_
    refine vv_callV X (mX2_mayAsk1 (kL K) D g x I J hg True h20) q3244 q3246 qs98 q144 q3247 nX2_mayAsk ⟨(Nat.le_of_ble_eq_true rfl), (Nat.le_of_ble_eq_true rfl)⟩ dX2_peakAt_2 rfl (Nat.le_of_ble_eq_true rfl) (recv X hM.1 CL_X2) hM  (fun _ z => Or.inl z) ⟨(Nat.le_of_ble_eq_true rfl), (Nat.le_of_ble_eq_true rfl)⟩ (fun v_ H hq hz hk => ?_)
    obtain ⟨rfl, hM⟩ := hq
    clear hz hk
    refine vv_eqi (b2_y (p := True) trivial) ?_
    rw [if_pos trivial] at hM
    refine vn_if_ne (tgt := 10) X (by omega) dX2_peakAt_5 (by decide) (fun c_5 => ?_) (fun c_5 => ?_)
    · refine vv_aload_n X dX2_peakAt_10 rfl 0 rfl ?_
      refine vv_aload_n X dX2_peakAt_11 rfl 0 rfl ?_
      refine mg12 X rfl hM dX2_peakAt_12 ?_
      refine vv_callV X (mX2_laysPowers12 (kL K) D g (va_up x 0 (nI 0)) I J (I 10) rfl (I 12) rfl hg hP hS hT) q3376 q3378 qs112 q144 q3379 nX2_laysPowers ⟨(Nat.le_of_ble_eq_true rfl), (Nat.le_of_ble_eq_true rfl)⟩ dX2_peakAt_15 rfl (Nat.le_of_ble_eq_true rfl) (recv X hM.1 CL_X2) hM  (fun _ z => Or.inl z) ⟨(Nat.le_of_ble_eq_true rfl), (Nat.le_of_ble_eq_true rfl)⟩ (fun v_ H hq hz hk => ?_)
      obtain ⟨rfl, d_1, p_2, hM, hp_3⟩ := hq
      clear hz hk
      refine vv_iconst (v := nI 0) X dX2_peakAt_18 (by decide) ?_
      refine vv_istore_n (lv' := [(2, .int (nI 0)), (0, .ref (g 0)), (1, .int (r))]) X dX2_peakAt_19 rfl (by decide) rfl ?_
      have hx_4 : ∀ (hf : fo (fst1 (fun c => top (I 10) (pwc (I 10) (I 12)) c ∧ nI (pkr (I 10) (pwc (I 10) (I 12)) c (nC (I 10))) = r)) (nC (I 10)) none = none), V K 5 (MA g) H 0 0 Qf 105 [(0, .ref (g 0)), (1, .int (r)), (2, .int (nI (nC (I 10))))] [] := by
        intro hf
        refine vv_aload_n X dX2_peakAt_105 rfl 0 rfl ?_
        refine vv_iconst (v := nI 2) X dX2_peakAt_106 (by decide) ?_
        refine vv_callV X (mX2_throwsAt (kL K) D g (va_up x 0 (nI 0)) (va_up I 24 d_1) (va_up J 25 p_2) hg (nI 2)) q3034 q3036 qs59 q144 q3037 nX2_throwsAt ⟨(Nat.le_of_ble_eq_true rfl), (Nat.le_of_ble_eq_true rfl)⟩ dX2_peakAt_107 rfl (Nat.le_of_ble_eq_true rfl) (recv X hM.1 CL_X2) hM  (fun _ z => Or.inl z) ⟨(Nat.le_of_ble_eq_true rfl), (Nat.le_of_ble_eq_true rfl)⟩ (fun v_ H hq hz hk => ?_)
        obtain ⟨rfl, hM⟩ := hq
        clear hz hk
        rw [up_up] at hM
        exact vv_iret X hQ dX2_peakAt_110 (Nat.le_refl _) (Nat.le_refl _) (MEnd.of hM (ag_u (by decide) (ag_r)) (ag_u (by decide) (ag_r)) 2 _ (nI 0) ((ask_t trivial).trans (by rw [show pkA (I 10) (pwc (I 10) (I 12)) r (nC (I 10)) = none from hf])) rfl (fun h => absurd h (by decide)) rfl)
      have hl_5 : ∀ (n_i i : Nat), i + n_i = nC (I 10) → (fo (fst1 (fun c => top (I 10) (pwc (I 10) (I 12)) c ∧ nI (pkr (I 10) (pwc (I 10) (I 12)) c (nC (I 10))) = r)) i none = none) → V K 5 (MA g) H 0 0 Qf 20 [(0, .ref (g 0)), (1, .int (r)), (2, .int (nI i))] [] := by
        intro n_i
        induction n_i with
        | zero =>
          intro i hi hf
          obtain rfl : i = nC (I 10) := by omega
          refine vv_iload_n X dX2_peakAt_20 rfl 2 rfl ?_
          refine vv_aload_n X dX2_peakAt_21 rfl 0 rfl ?_
          refine vv_callVp X (mX2_cellCount (kL K) D g (va_up x 0 (nI 0)) (va_up I 24 d_1) (va_up J 25 p_2) (I 10) rfl hP) q3172 q3174 qs84 q144 q3175 nX2_cellCount ⟨(Nat.le_of_ble_eq_true rfl), (Nat.le_of_ble_eq_true rfl)⟩ dX2_peakAt_22 rfl (Nat.le_of_ble_eq_true rfl) (recv X hM.1 CL_X2) hM ⟨(Nat.le_of_ble_eq_true rfl), (Nat.le_of_ble_eq_true rfl)⟩ ?_
          refine vn_ge (tgt := 105) X (by omega) (by omega) dX2_peakAt_25 (by decide) (fun c_25 => ?_) (fun c_25 => ?_)
          · exact hx_4 hf
          · exact absurd c_25 (by omega)
        | succ n_i ihi =>
          intro i hi hf
          refine vv_iload_n X dX2_peakAt_20 rfl 2 rfl ?_
          refine vv_aload_n X dX2_peakAt_21 rfl 0 rfl ?_
          refine vv_callVp X (mX2_cellCount (kL K) D g (va_up x 0 (nI 0)) (va_up I 24 d_1) (va_up J 25 p_2) (I 10) rfl hP) q3172 q3174 qs84 q144 q3175 nX2_cellCount ⟨(Nat.le_of_ble_eq_true rfl), (Nat.le_of_ble_eq_true rfl)⟩ dX2_peakAt_22 rfl (Nat.le_of_ble_eq_true rfl) (recv X hM.1 CL_X2) hM ⟨(Nat.le_of_ble_eq_true rfl), (Nat.le_of_ble_eq_true rfl)⟩ ?_
          refine vn_ge (tgt := 105) X (by omega) (by omega) dX2_peakAt_25 (by decide) (fun c_25 => ?_) (fun c_25 => ?_)
          · exact absurd hi (by omega)
          · refine vv_aload_n X dX2_peakAt_28 rfl 0 rfl ?_
            refine vv_iload_n X dX2_peakAt_29 rfl 2 rfl ?_
            refine vv_callVp X (mX2_isTop (kL K) D g (va_up x 0 (nI 0)) (va_up I 24 d_1) (va_up J 25 p_2) (I 10) rfl i hC (by omega)) q3392 q3394 qs113 q144 q3395 nX2_isTop ⟨(Nat.le_of_ble_eq_true rfl), (Nat.le_of_ble_eq_true rfl)⟩ dX2_peakAt_30 rfl (Nat.le_of_ble_eq_true rfl) (recv X hM.1 CL_X2) hM ⟨(Nat.le_of_ble_eq_true rfl), (Nat.le_of_ble_eq_true rfl)⟩ ?_
            refine vv_eqi (b2_c (top_c hp_3 (by omega))) ?_
            refine vb_ne (tgt := 39) X dX2_peakAt_33 (by decide) (fun c_33 => ?_) (fun c_33 => ?_)
            · refine vv_iconst (v := nI 0) X dX2_peakAt_39 (by decide) ?_
              refine vv_istore_n (lv' := [(3, .int (nI 0)), (0, .ref (g 0)), (1, .int (r)), (2, .int (nI i))]) X dX2_peakAt_40 rfl (by decide) rfl ?_
              refine vv_iconst (v := nI 0) X dX2_peakAt_41 (by decide) ?_
              refine vv_istore (lv' := [(4, .int (nI 0)), (3, .int (nI 0)), (0, .ref (g 0)), (1, .int (r)), (2, .int (nI i))]) X dX2_peakAt_42 (by decide) rfl ?_
              have hx_6 : ∀ (b : Nat) (hb : b = (pkr (I 10) (pwc (I 10) (I 12)) i (nC (I 10)))) (hbl : b ≤ nC (I 10)), V K 5 (MA g) H 0 0 Qf 92 [(0, .ref (g 0)), (1, .int (r)), (2, .int (nI i)), (3, .int (nI b)), (4, .int (nI (nC (I 10))))] [] := by
                intro b hb hbl
                refine vv_iload_n X dX2_peakAt_92 rfl 3 rfl ?_
                refine vv_iload_n X dX2_peakAt_93 rfl 1 rfl ?_
                refine vv_icmp_ne (tgt := 99) X dX2_peakAt_94 (by decide) (fun c_94 => ?_) (fun c_94 => ?_)
                · refine vv_iinc (v := nI (i + 1)) (lv' := [(2, .int (nI (i + 1))), (0, .ref (g 0)), (1, .int (r)), (3, .int (nI b)), (4, .int (nI (nC (I 10))))]) X dX2_peakAt_99 (k := 2) rfl (nI_add _ 1) (by decide) rfl ?_
                  refine vv_goto (tgt := 20) X dX2_peakAt_102 (by decide) ?_
                  refine vv_sub [1, 2, 0] rfl ?_
                  exact ihi (i + 1) (by omega) (by show fst1 _ i (fo (fst1 (fun c => top (I 10) (pwc (I 10) (I 12)) c ∧ nI (pkr (I 10) (pwc (I 10) (I 12)) c (nC (I 10))) = r)) i none) = none; rw [hf]; exact if_neg (fun z => c_94 ((by rw [hb]; exact z.2))))
                · refine vv_iload_n X dX2_peakAt_97 rfl 2 rfl ?_
                  exact vv_iret X hQ dX2_peakAt_98 (Nat.le_refl _) (Nat.le_refl _) (MEnd.of hM (ag_u (by decide) (ag_r)) (ag_u (by decide) (ag_r)) 0 _ (nI i) ((ask_t trivial).trans (by rw [show pkA (I 10) (pwc (I 10) (I 12)) r (nC (I 10)) = some i from fst1_at (by omega) hf ⟨c_33, by rw [← hb]; exact c_94⟩])) rfl (fun _ => rfl) rfl)
              have hl_7 : ∀ (n_o o : Nat) (b : Nat), o + n_o = nC (I 10) → (b = (pkr (I 10) (pwc (I 10) (I 12)) i o)) → (b ≤ o) → V K 5 (MA g) H 0 0 Qf 44 [(0, .ref (g 0)), (1, .int (r)), (2, .int (nI i)), (3, .int (nI b)), (4, .int (nI o))] [] := by
                intro n_o
                induction n_o with
                | zero =>
                  intro o b ho hb hbl
                  obtain rfl : o = nC (I 10) := by omega
                  refine vv_iload X dX2_peakAt_44 4 rfl ?_
                  refine vv_aload_n X dX2_peakAt_46 rfl 0 rfl ?_
                  refine vv_callVp X (mX2_cellCount (kL K) D g (va_up x 0 (nI 0)) (va_up I 24 d_1) (va_up J 25 p_2) (I 10) rfl hP) q3172 q3174 qs84 q144 q3175 nX2_cellCount ⟨(Nat.le_of_ble_eq_true rfl), (Nat.le_of_ble_eq_true rfl)⟩ dX2_peakAt_47 rfl (Nat.le_of_ble_eq_true rfl) (recv X hM.1 CL_X2) hM ⟨(Nat.le_of_ble_eq_true rfl), (Nat.le_of_ble_eq_true rfl)⟩ ?_
                  refine vn_ge (tgt := 92) X (by omega) (by omega) dX2_peakAt_50 (by decide) (fun c_50 => ?_) (fun c_50 => ?_)
                  · exact hx_6 b hb hbl
                  · exact absurd c_50 (by omega)
                | succ n_o iho =>
                  intro o b ho hb hbl
                  refine vv_iload X dX2_peakAt_44 4 rfl ?_
                  refine vv_aload_n X dX2_peakAt_46 rfl 0 rfl ?_
                  refine vv_callVp X (mX2_cellCount (kL K) D g (va_up x 0 (nI 0)) (va_up I 24 d_1) (va_up J 25 p_2) (I 10) rfl hP) q3172 q3174 qs84 q144 q3175 nX2_cellCount ⟨(Nat.le_of_ble_eq_true rfl), (Nat.le_of_ble_eq_true rfl)⟩ dX2_peakAt_47 rfl (Nat.le_of_ble_eq_true rfl) (recv X hM.1 CL_X2) hM ⟨(Nat.le_of_ble_eq_true rfl), (Nat.le_of_ble_eq_true rfl)⟩ ?_
                  refine vn_ge (tgt := 92) X (by omega) (by omega) dX2_peakAt_50 (by decide) (fun c_50 => ?_) (fun c_50 => ?_)
                  · exact absurd ho (by omega)
                  · refine vv_iload_n X dX2_peakAt_53 rfl 3 rfl ?_
                    refine vv_iload X dX2_peakAt_54 4 rfl ?_
                    refine vv_iload_n X dX2_peakAt_56 rfl 2 rfl ?_
                    refine vn_eq (tgt := 83) X (by omega) (by omega) dX2_peakAt_57 (by decide) (fun c_57 => ?_) (fun c_57 => ?_)
                    · refine vv_iconst (v := nI 0) X dX2_peakAt_83 (by decide) ?_
                      refine vn_add X dX2_peakAt_84 ?_
                      refine vv_istore_n (lv' := [(3, .int (nI (b + 0))), (0, .ref (g 0)), (1, .int (r)), (2, .int (nI i)), (4, .int (nI o))]) X dX2_peakAt_85 rfl (by decide) rfl ?_
                      refine vv_iinc (v := nI (o + 1)) (lv' := [(4, .int (nI (o + 1))), (3, .int (nI (b + 0))), (0, .ref (g 0)), (1, .int (r)), (2, .int (nI i))]) X dX2_peakAt_86 (k := 4) rfl (nI_add _ 1) (by decide) rfl ?_
                      refine vv_goto (tgt := 44) X dX2_peakAt_89 (by decide) ?_
                      refine vv_sub [2, 3, 4, 1, 0] rfl ?_
                      exact iho (o + 1) (b + 0) (by omega) (by rw [hb]; show _ = _ + (if o ≠ i ∧ top (I 10) (pwc (I 10) (I 12)) o ∧ gtr (pwc (I 10) (I 12)) o i then 1 else 0); rw [if_neg (fun z => z.1 c_57)]; rfl) (by omega)
                    · refine vv_aload_n X dX2_peakAt_60 rfl 0 rfl ?_
                      refine vv_iload X dX2_peakAt_61 4 rfl ?_
                      refine vv_callVp X (mX2_isTop (kL K) D g (va_up x 0 (nI 0)) (va_up I 24 d_1) (va_up J 25 p_2) (I 10) rfl o hC (by omega)) q3392 q3394 qs113 q144 q3395 nX2_isTop ⟨(Nat.le_of_ble_eq_true rfl), (Nat.le_of_ble_eq_true rfl)⟩ dX2_peakAt_63 rfl (Nat.le_of_ble_eq_true rfl) (recv X hM.1 CL_X2) hM ⟨(Nat.le_of_ble_eq_true rfl), (Nat.le_of_ble_eq_true rfl)⟩ ?_
                      refine vv_eqi (b2_c (top_c hp_3 (by omega))) ?_
                      refine vb_eq (tgt := 83) X dX2_peakAt_66 (by decide) (fun c_66 => ?_) (fun c_66 => ?_)
                      · refine vv_iconst (v := nI 0) X dX2_peakAt_83 (by decide) ?_
                        refine vn_add X dX2_peakAt_84 ?_
                        refine vv_istore_n (lv' := [(3, .int (nI (b + 0))), (0, .ref (g 0)), (1, .int (r)), (2, .int (nI i)), (4, .int (nI o))]) X dX2_peakAt_85 rfl (by decide) rfl ?_
                        refine vv_iinc (v := nI (o + 1)) (lv' := [(4, .int (nI (o + 1))), (3, .int (nI (b + 0))), (0, .ref (g 0)), (1, .int (r)), (2, .int (nI i))]) X dX2_peakAt_86 (k := 4) rfl (nI_add _ 1) (by decide) rfl ?_
                        refine vv_goto (tgt := 44) X dX2_peakAt_89 (by decide) ?_
                        refine vv_sub [2, 3, 4, 1, 0] rfl ?_
                        exact iho (o + 1) (b + 0) (by omega) (by rw [hb]; show _ = _ + (if o ≠ i ∧ top (I 10) (pwc (I 10) (I 12)) o ∧ gtr (pwc (I 10) (I 12)) o i then 1 else 0); rw [if_neg (fun z => c_66 z.2.1)]; rfl) (by omega)
                      · refine vv_aload_n X dX2_peakAt_69 rfl 0 rfl ?_
                        refine vv_iload X dX2_peakAt_70 4 rfl ?_
                        refine vv_iload_n X dX2_peakAt_72 rfl 2 rfl ?_
                        refine vv_callVp X (mX2_isGreater (kL K) D g (va_up x 0 (nI 0)) (va_up I 24 d_1) (va_up J 25 p_2) o i (by omega) (by omega)) q3400 q3402 qs114 q144 q3403 nX2_isGreater ⟨(Nat.le_of_ble_eq_true rfl), (Nat.le_of_ble_eq_true rfl)⟩ dX2_peakAt_73 rfl (Nat.le_of_ble_eq_true rfl) (recv X hM.1 CL_X2) hM ⟨(Nat.le_of_ble_eq_true rfl), (Nat.le_of_ble_eq_true rfl)⟩ ?_
                        refine vv_eqi (b2_c (gtr_c (hp_3 _ (by omega)) (hp_3 _ (by omega)))) ?_
                        refine vb_eq (tgt := 83) X dX2_peakAt_76 (by decide) (fun c_76 => ?_) (fun c_76 => ?_)
                        · refine vv_iconst (v := nI 0) X dX2_peakAt_83 (by decide) ?_
                          refine vn_add X dX2_peakAt_84 ?_
                          refine vv_istore_n (lv' := [(3, .int (nI (b + 0))), (0, .ref (g 0)), (1, .int (r)), (2, .int (nI i)), (4, .int (nI o))]) X dX2_peakAt_85 rfl (by decide) rfl ?_
                          refine vv_iinc (v := nI (o + 1)) (lv' := [(4, .int (nI (o + 1))), (3, .int (nI (b + 0))), (0, .ref (g 0)), (1, .int (r)), (2, .int (nI i))]) X dX2_peakAt_86 (k := 4) rfl (nI_add _ 1) (by decide) rfl ?_
                          refine vv_goto (tgt := 44) X dX2_peakAt_89 (by decide) ?_
                          refine vv_sub [2, 3, 4, 1, 0] rfl ?_
                          exact iho (o + 1) (b + 0) (by omega) (by rw [hb]; show _ = _ + (if o ≠ i ∧ top (I 10) (pwc (I 10) (I 12)) o ∧ gtr (pwc (I 10) (I 12)) o i then 1 else 0); rw [if_neg (fun z => c_76 z.2.2)]; rfl) (by omega)
                        · refine vv_iconst (v := nI 1) X dX2_peakAt_79 (by decide) ?_
                          refine vv_goto (tgt := 84) X dX2_peakAt_80 (by decide) ?_
                          refine vn_add X dX2_peakAt_84 ?_
                          refine vv_istore_n (lv' := [(3, .int (nI (b + 1))), (0, .ref (g 0)), (1, .int (r)), (2, .int (nI i)), (4, .int (nI o))]) X dX2_peakAt_85 rfl (by decide) rfl ?_
                          refine vv_iinc (v := nI (o + 1)) (lv' := [(4, .int (nI (o + 1))), (3, .int (nI (b + 1))), (0, .ref (g 0)), (1, .int (r)), (2, .int (nI i))]) X dX2_peakAt_86 (k := 4) rfl (nI_add _ 1) (by decide) rfl ?_
                          refine vv_goto (tgt := 44) X dX2_peakAt_89 (by decide) ?_
                          refine vv_sub [2, 3, 4, 1, 0] rfl ?_
                          exact iho (o + 1) (b + 1) (by omega) (by rw [hb]; show _ = _ + (if o ≠ i ∧ top (I 10) (pwc (I 10) (I 12)) o ∧ gtr (pwc (I 10) (I 12)) o i then 1 else 0); rw [if_pos ⟨c_57, c_66, c_76⟩]; rfl) (by omega)
              refine vv_sub [2, 3, 4, 1, 0] rfl ?_
              exact hl_7 (nC (I 10)) 0 0 (by omega) (rfl) (Nat.le_refl _)
            · refine vv_goto (tgt := 99) X dX2_peakAt_36 (by decide) ?_
              refine vv_iinc (v := nI (i + 1)) (lv' := [(2, .int (nI (i + 1))), (0, .ref (g 0)), (1, .int (r))]) X dX2_peakAt_99 (k := 2) rfl (nI_add _ 1) (by decide) rfl ?_
              refine vv_goto (tgt := 20) X dX2_peakAt_102 (by decide) ?_
              refine vv_sub [1, 2, 0] rfl ?_
              exact ihi (i + 1) (by omega) (by show fst1 _ i (fo (fst1 (fun c => top (I 10) (pwc (I 10) (I 12)) c ∧ nI (pkr (I 10) (pwc (I 10) (I 12)) c (nC (I 10))) = r)) i none) = none; rw [hf]; exact if_neg (fun z => c_33 z.1))
      refine vv_sub [1, 2, 0] rfl ?_
      exact hl_5 (nC (I 10)) 0 (by omega) (rfl)
    · exact absurd c_5 (by decide)
theorem nX2_alias : notMH yX2_alias 3 := by decide +kernel
set_option maxHeartbeats 800000 in
theorem aX2_alias (l : Launch) (D : DD) (g : Nat → Nat) (x : Nat → Int32) (I : Nat → Nat → Int32) (J : Nat → Nat → Int64) (P : Nat → Int32) (hIP : I 10 = P) (S : Nat → Int32) (hIS : I 12 = S) (C : Bool) (hg : MG g) (a b p : Int32) (hP : VP P) (hc : cam C (x 20) P S (I 17))  : Ct l yX2_alias cX2_alias 4 (some .int) { frames := 3, cells := 0, slots := 0, locals := 62 } D [.ref (g 0), .int (a), .int (b), .int (p)] (fun H => MR D g x I J H) (MA g) (fun v H H1 => MEnd D g x I iV (an_alias C P S a b p) v H1) := by
  refine Ct.of (by decide +kernel) (Nat.le_of_ble_eq_true rfl) (fun K Qf hkl X hM hQ => ?_)
  subst hkl
  subst hIP
  subst hIS
  have l4 := hP.l4
  have l5 := hP.l5
  have l2 := hP.l2
  have l9 := hP.l9
  have l10 := hP.l10
  have l101 := hP.l101
  have hn4 : nC (I 10) ≤ 144 := Nat.mul_le_mul l9 l10
  refine vv_sub (lv' := [(0, .ref (g 0)), (1, .int (a)), (2, .int (b)), (3, .int (p))]) [0, 1, 2, 3] rfl ?_
  rcases hc with ⟨rfl, h20⟩ | ⟨rfl, h20, hC, hS, hT⟩
  · refine vv_aload_n X dX2_alias_0 rfl 0 rfl ?_
    refine vv_aload_n X dX2_alias_1 rfl 0 rfl ?_
    refine vv_iload_n X dX2_alias_2 rfl 1 rfl ?_
    refine vv_callVp X (mX2_isCell (kL K) D g x I J (I 10) rfl a hP) q3268 q3270 qs100 q144 q3271 nX2_isCell ⟨(Nat.le_of_ble_eq_true rfl), (Nat.le_of_ble_eq_true rfl)⟩ dX2_alias_3 rfl (Nat.le_of_ble_eq_true rfl) (recv X hM.1 CL_X2) hM ⟨(Nat.le_of_ble_eq_true rfl), (Nat.le_of_ble_eq_true rfl)⟩ ?_
    refine vb_eq (tgt := 21) X dX2_alias_6 (by decide) (fun c_6 => ?_) (fun c_6 => ?_)
    · refine vv_iconst (v := nI 0) X dX2_alias_21 (by decide) ?_
      refine vv_callV X (mX2_mayAsk0 (kL K) D g x I J hg False h20) q3244 q3246 qs98 q144 q3247 nX2_mayAsk ⟨(Nat.le_of_ble_eq_true rfl), (Nat.le_of_ble_eq_true rfl)⟩ dX2_alias_22 rfl (Nat.le_of_ble_eq_true rfl) (recv X hM.1 CL_X2) hM  (fun _ z => Or.inl z) ⟨(Nat.le_of_ble_eq_true rfl), (Nat.le_of_ble_eq_true rfl)⟩ (fun v_ H hq hz hk => ?_)
      obtain ⟨rfl, hM⟩ := hq
      clear hz hk
      refine vv_eqi (b2_n (p := False) (fun z => z)) ?_
      refine vn_if_ne (tgt := 30) X (by omega) dX2_alias_25 (by decide) (fun c_25 => ?_) (fun c_25 => ?_)
      · exact absurd c_25 (by decide)
      · refine vv_iconst (v := nI 0) X dX2_alias_28 (by decide) ?_
        exact vv_iret X hQ dX2_alias_29 (Nat.le_refl _) (Nat.le_refl _) (MEnd.of hM (ag_u (by decide) (ag_r)) (ag_r) 1 _ (nI 0) (ask_0) rfl (fun h => absurd h (by decide)) rfl)
    · refine vv_aload_n X dX2_alias_9 rfl 0 rfl ?_
      refine vv_iload_n X dX2_alias_10 rfl 2 rfl ?_
      refine vv_callVp X (mX2_isCell (kL K) D g x I J (I 10) rfl b hP) q3268 q3270 qs100 q144 q3271 nX2_isCell ⟨(Nat.le_of_ble_eq_true rfl), (Nat.le_of_ble_eq_true rfl)⟩ dX2_alias_11 rfl (Nat.le_of_ble_eq_true rfl) (recv X hM.1 CL_X2) hM ⟨(Nat.le_of_ble_eq_true rfl), (Nat.le_of_ble_eq_true rfl)⟩ ?_
      refine vb_eq (tgt := 21) X dX2_alias_14 (by decide) (fun c_14 => ?_) (fun c_14 => ?_)
      · refine vv_iconst (v := nI 0) X dX2_alias_21 (by decide) ?_
        refine vv_callV X (mX2_mayAsk0 (kL K) D g x I J hg False h20) q3244 q3246 qs98 q144 q3247 nX2_mayAsk ⟨(Nat.le_of_ble_eq_true rfl), (Nat.le_of_ble_eq_true rfl)⟩ dX2_alias_22 rfl (Nat.le_of_ble_eq_true rfl) (recv X hM.1 CL_X2) hM  (fun _ z => Or.inl z) ⟨(Nat.le_of_ble_eq_true rfl), (Nat.le_of_ble_eq_true rfl)⟩ (fun v_ H hq hz hk => ?_)
        obtain ⟨rfl, hM⟩ := hq
        clear hz hk
        refine vv_eqi (b2_n (p := False) (fun z => z)) ?_
        refine vn_if_ne (tgt := 30) X (by omega) dX2_alias_25 (by decide) (fun c_25 => ?_) (fun c_25 => ?_)
        · exact absurd c_25 (by decide)
        · refine vv_iconst (v := nI 0) X dX2_alias_28 (by decide) ?_
          exact vv_iret X hQ dX2_alias_29 (Nat.le_refl _) (Nat.le_refl _) (MEnd.of hM (ag_u (by decide) (ag_r)) (ag_r) 1 _ (nI 0) (ask_0) rfl (fun h => absurd h (by decide)) rfl)
      · refine vv_iconst (v := nI 1) X dX2_alias_17 (by decide) ?_
        refine vv_goto (tgt := 22) X dX2_alias_18 (by decide) ?_
        refine vv_callV X (mX2_mayAsk0 (kL K) D g x I J hg True h20) q3244 q3246 qs98 q144 q3247 nX2_mayAsk ⟨(Nat.le_of_ble_eq_true rfl), (Nat.le_of_ble_eq_true rfl)⟩ dX2_alias_22 rfl (Nat.le_of_ble_eq_true rfl) (recv X hM.1 CL_X2) hM  (fun _ z => Or.inl z) ⟨(Nat.le_of_ble_eq_true rfl), (Nat.le_of_ble_eq_true rfl)⟩ (fun v_ H hq hz hk => ?_)
        obtain ⟨rfl, hM⟩ := hq
        clear hz hk
        refine vv_eqi (b2_n (p := False) (fun z => z)) ?_
        refine vn_if_ne (tgt := 30) X (by omega) dX2_alias_25 (by decide) (fun c_25 => ?_) (fun c_25 => ?_)
        · exact absurd c_25 (by decide)
        · refine vv_iconst (v := nI 0) X dX2_alias_28 (by decide) ?_
          exact vv_iret X hQ dX2_alias_29 (Nat.le_refl _) (Nat.le_refl _) (MEnd.of hM (ag_u (by decide) (ag_r)) (ag_r) 1 _ (nI 0) (ask_0) rfl (fun h => absurd h (by decide)) rfl)
  · refine vv_aload_n X dX2_alias_0 rfl 0 rfl ?_
    refine vv_aload_n X dX2_alias_1 rfl 0 rfl ?_
    refine vv_iload_n X dX2_alias_2 rfl 1 rfl ?_
    refine vv_callVp X (mX2_isCell (kL K) D g x I J (I 10) rfl a hP) q3268 q3270 qs100 q144 q3271 nX2_isCell ⟨(Nat.le_of_ble_eq_true rfl), (Nat.le_of_ble_eq_true rfl)⟩ dX2_alias_3 rfl (Nat.le_of_ble_eq_true rfl) (recv X hM.1 CL_X2) hM ⟨(Nat.le_of_ble_eq_true rfl), (Nat.le_of_ble_eq_true rfl)⟩ ?_
    refine vb_eq (tgt := 21) X dX2_alias_6 (by decide) (fun c_6 => ?_) (fun c_6 => ?_)
    · refine vv_iconst (v := nI 0) X dX2_alias_21 (by decide) ?_
      refine vv_callV X (mX2_mayAsk1 (kL K) D g x I J hg False h20) q3244 q3246 qs98 q144 q3247 nX2_mayAsk ⟨(Nat.le_of_ble_eq_true rfl), (Nat.le_of_ble_eq_true rfl)⟩ dX2_alias_22 rfl (Nat.le_of_ble_eq_true rfl) (recv X hM.1 CL_X2) hM  (fun _ z => Or.inl z) ⟨(Nat.le_of_ble_eq_true rfl), (Nat.le_of_ble_eq_true rfl)⟩ (fun v_ H hq hz hk => ?_)
      obtain ⟨rfl, hM⟩ := hq
      clear hz hk
      refine vv_eqi (b2_n (p := False) (fun z => z)) ?_
      rw [if_neg (fun z => z)] at hM
      refine vn_if_ne (tgt := 30) X (by omega) dX2_alias_25 (by decide) (fun c_25 => ?_) (fun c_25 => ?_)
      · exact absurd c_25 (by decide)
      · refine vv_iconst (v := nI 0) X dX2_alias_28 (by decide) ?_
        exact vv_iret X hQ dX2_alias_29 (Nat.le_refl _) (Nat.le_refl _) (MEnd.of hM (ag_u (by decide) (ag_r)) (ag_r) 2 _ (nI 0) (ask_f (fun z => c_6 z.1)) rfl (fun h => absurd h (by decide)) rfl)
    · refine vv_aload_n X dX2_alias_9 rfl 0 rfl ?_
      refine vv_iload_n X dX2_alias_10 rfl 2 rfl ?_
      refine vv_callVp X (mX2_isCell (kL K) D g x I J (I 10) rfl b hP) q3268 q3270 qs100 q144 q3271 nX2_isCell ⟨(Nat.le_of_ble_eq_true rfl), (Nat.le_of_ble_eq_true rfl)⟩ dX2_alias_11 rfl (Nat.le_of_ble_eq_true rfl) (recv X hM.1 CL_X2) hM ⟨(Nat.le_of_ble_eq_true rfl), (Nat.le_of_ble_eq_true rfl)⟩ ?_
      refine vb_eq (tgt := 21) X dX2_alias_14 (by decide) (fun c_14 => ?_) (fun c_14 => ?_)
      · refine vv_iconst (v := nI 0) X dX2_alias_21 (by decide) ?_
        refine vv_callV X (mX2_mayAsk1 (kL K) D g x I J hg False h20) q3244 q3246 qs98 q144 q3247 nX2_mayAsk ⟨(Nat.le_of_ble_eq_true rfl), (Nat.le_of_ble_eq_true rfl)⟩ dX2_alias_22 rfl (Nat.le_of_ble_eq_true rfl) (recv X hM.1 CL_X2) hM  (fun _ z => Or.inl z) ⟨(Nat.le_of_ble_eq_true rfl), (Nat.le_of_ble_eq_true rfl)⟩ (fun v_ H hq hz hk => ?_)
        obtain ⟨rfl, hM⟩ := hq
        clear hz hk
        refine vv_eqi (b2_n (p := False) (fun z => z)) ?_
        rw [if_neg (fun z => z)] at hM
        refine vn_if_ne (tgt := 30) X (by omega) dX2_alias_25 (by decide) (fun c_25 => ?_) (fun c_25 => ?_)
        · exact absurd c_25 (by decide)
        · refine vv_iconst (v := nI 0) X dX2_alias_28 (by decide) ?_
          exact vv_iret X hQ dX2_alias_29 (Nat.le_refl _) (Nat.le_refl _) (MEnd.of hM (ag_u (by decide) (ag_r)) (ag_r) 2 _ (nI 0) (ask_f (fun z => c_14 z.2)) rfl (fun h => absurd h (by decide)) rfl)
      · refine vv_iconst (v := nI 1) X dX2_alias_17 (by decide) ?_
        refine vv_goto (tgt := 22) X dX2_alias_18 (by decide) ?_
        refine vv_callV X (mX2_mayAsk1 (kL K) D g x I J hg True h20) q3244 q3246 qs98 q144 q3247 nX2_mayAsk ⟨(Nat.le_of_ble_eq_true rfl), (Nat.le_of_ble_eq_true rfl)⟩ dX2_alias_22 rfl (Nat.le_of_ble_eq_true rfl) (recv X hM.1 CL_X2) hM  (fun _ z => Or.inl z) ⟨(Nat.le_of_ble_eq_true rfl), (Nat.le_of_ble_eq_true rfl)⟩ (fun v_ H hq hz hk => ?_)
        obtain ⟨rfl, hM⟩ := hq
        clear hz hk
        refine vv_eqi (b2_y (p := True) trivial) ?_
        rw [if_pos trivial] at hM
        obtain ⟨j, hj, rfl⟩ := ix_of (by omega) c_6
        have ej : cl (nI j) = j := cl_I (by omega)
        obtain ⟨k, hk, rfl⟩ := ix_of (by omega) c_14
        have ek : cl (nI k) = k := cl_I (by omega)
        refine vn_if_ne (tgt := 30) X (by omega) dX2_alias_25 (by decide) (fun c_25 => ?_) (fun c_25 => ?_)
        · refine vv_iload_n X dX2_alias_30 rfl 3 rfl ?_
          refine vv_callSp X (mX2_isPeriod (kL K) D p) q3419 q3420 q144 q3421 nX2_isPeriod ⟨(Nat.le_of_ble_eq_true rfl), (Nat.le_of_ble_eq_true rfl)⟩ dX2_alias_31 rfl (Nat.le_of_ble_eq_true rfl) trivial ⟨(Nat.le_of_ble_eq_true rfl), (Nat.le_of_ble_eq_true rfl)⟩ ?_
          refine vb_eq (tgt := 47) X dX2_alias_34 (by decide) (fun c_34 => ?_) (fun c_34 => ?_)
          · refine vv_aload_n X dX2_alias_47 rfl 0 rfl ?_
            refine vv_iconst (v := nI 3) X dX2_alias_48 (by decide) ?_
            refine vv_callV X (mX2_throwsAt (kL K) D g (va_up x 0 (nI 0)) I J hg (nI 3)) q3034 q3036 qs59 q144 q3037 nX2_throwsAt ⟨(Nat.le_of_ble_eq_true rfl), (Nat.le_of_ble_eq_true rfl)⟩ dX2_alias_49 rfl (Nat.le_of_ble_eq_true rfl) (recv X hM.1 CL_X2) hM  (fun _ z => Or.inl z) ⟨(Nat.le_of_ble_eq_true rfl), (Nat.le_of_ble_eq_true rfl)⟩ (fun v_ H hq hz hk => ?_)
            obtain ⟨rfl, hM⟩ := hq
            clear hz hk
            rw [up_up] at hM
            exact vv_iret X hQ dX2_alias_52 (Nat.le_refl _) (Nat.le_refl _) (MEnd.of hM (ag_u (by decide) (ag_r)) (ag_r) 3 _ (nI 0) ((ask_t (⟨c_6, c_14⟩)).trans (arg_f c_34)) rfl (fun h => absurd h (by decide)) rfl)
          · obtain ⟨u, hu, hu2, rfl⟩ := inR2 (by omega) (by omega) c_34
            have eu : cl (nI u) = u := cl_I (by omega)
            refine vv_aload_n X dX2_alias_37 rfl 0 rfl ?_
            refine vv_iload_n X dX2_alias_38 rfl 1 rfl ?_
            refine vv_iload_n X dX2_alias_39 rfl 2 rfl ?_
            refine vv_iload_n X dX2_alias_40 rfl 3 rfl ?_
            refine vv_callVp X (mX2_confusion (kL K) D g (va_up x 0 (nI 0)) I J (I 10) rfl (I 12) rfl j k u hP hT (by omega) (by omega) (by omega)) q3422 q3424 qs115 q144 q3425 nX2_confusion ⟨(Nat.le_of_ble_eq_true rfl), (Nat.le_of_ble_eq_true rfl)⟩ dX2_alias_41 rfl (Nat.le_of_ble_eq_true rfl) (recv X hM.1 CL_X2) hM ⟨(Nat.le_of_ble_eq_true rfl), (Nat.le_of_ble_eq_true rfl)⟩ ?_
            refine vv_goto (tgt := 52) X dX2_alias_44 (by decide) ?_
            exact vv_iret X hQ dX2_alias_52 (Nat.le_refl _) (Nat.le_refl _) (MEnd.of hM (ag_u (by decide) (ag_r)) (ag_r) 0 _ (nI (cnf (I 10) (I 12) j k u (nM (I 10)))) ((ask_t (⟨c_6, c_14⟩)).trans (arg_t c_34)) rfl (fun _ => by simp only [ej, ek, eu]) rfl)
        · exact absurd c_25 (by decide)
theorem nX2_isAlias : notMH yX2_isAlias 3 := by decide +kernel
set_option maxHeartbeats 800000 in
theorem aX2_isAlias (l : Launch) (D : DD) (g : Nat → Nat) (x : Nat → Int32) (I : Nat → Nat → Int32) (J : Nat → Nat → Int64) (P : Nat → Int32) (hIP : I 10 = P) (S : Nat → Int32) (hIS : I 12 = S) (C : Bool) (hg : MG g) (a p h : Int32) (hP : VP P) (hc : cam C (x 20) P S (I 17))  : Ct l yX2_isAlias cX2_isAlias 4 (some .boolean) { frames := 8, cells := 0, slots := 0, locals := 175 } D [.ref (g 0), .int (a), .int (p), .int (h)] (fun H => MR D g x I J H) (MA g) (fun v H H1 => MEnd D g x I iV (an_isAlias C P S a p h) v H1) := by
  refine Ct.of (by decide +kernel) (Nat.le_of_ble_eq_true rfl) (fun K Qf hkl X hM hQ => ?_)
  subst hkl
  subst hIP
  subst hIS
  have l4 := hP.l4
  have l5 := hP.l5
  have l2 := hP.l2
  have l9 := hP.l9
  have l10 := hP.l10
  have l101 := hP.l101
  have hn4 : nC (I 10) ≤ 144 := Nat.mul_le_mul l9 l10
  have hn0 : C = true → 0 < nC (I 10) := fun hh => by
    rcases hc with ⟨h, _⟩ | ⟨_, _, h, _, _⟩
    · exact absurd (hh.symm.trans h) (by decide)
    · exact Nat.mul_pos h.x1 h.y1
  have hbn := fun h => bsN_lt (sc := pwc (I 10) (I 12)) (hn0 h)
  refine vv_sub (lv' := [(0, .ref (g 0)), (1, .int (a)), (2, .int (p)), (3, .int (h))]) [0, 1, 2, 3] rfl ?_
  rcases hc with ⟨rfl, h20⟩ | ⟨rfl, h20, hC, hS, hT⟩
  · refine vv_aload_n X dX2_isAlias_0 rfl 0 rfl ?_
    refine vv_aload_n X dX2_isAlias_1 rfl 0 rfl ?_
    refine vv_iload_n X dX2_isAlias_2 rfl 1 rfl ?_
    refine vv_callVp X (mX2_isCell (kL K) D g x I J (I 10) rfl a hP) q3268 q3270 qs100 q144 q3271 nX2_isCell ⟨(Nat.le_of_ble_eq_true rfl), (Nat.le_of_ble_eq_true rfl)⟩ dX2_isAlias_3 rfl (Nat.le_of_ble_eq_true rfl) (recv X hM.1 CL_X2) hM ⟨(Nat.le_of_ble_eq_true rfl), (Nat.le_of_ble_eq_true rfl)⟩ ?_
    refine vv_callV X (mX2_mayAsk0 (kL K) D g x I J hg (ix (nC (I 10)) a) h20) q3244 q3246 qs98 q144 q3247 nX2_mayAsk ⟨(Nat.le_of_ble_eq_true rfl), (Nat.le_of_ble_eq_true rfl)⟩ dX2_isAlias_6 rfl (Nat.le_of_ble_eq_true rfl) (recv X hM.1 CL_X2) hM  (fun _ z => Or.inl z) ⟨(Nat.le_of_ble_eq_true rfl), (Nat.le_of_ble_eq_true rfl)⟩ (fun v_ H hq hz hk => ?_)
    obtain ⟨rfl, hM⟩ := hq
    clear hz hk
    refine vv_eqi (b2_n (p := False) (fun z => z)) ?_
    refine vn_if_ne (tgt := 14) X (by omega) dX2_isAlias_9 (by decide) (fun c_9 => ?_) (fun c_9 => ?_)
    · exact absurd c_9 (by decide)
    · refine vv_iconst (v := nI 0) X dX2_isAlias_12 (by decide) ?_
      exact vv_zret X (rfl) hQ dX2_isAlias_13 (Nat.le_refl _) (Nat.le_refl _) (MEnd.of hM (ag_u (by decide) (ag_r)) (ag_r) 1 _ (nI 0) (ask_0) rfl (fun h => absurd h (by decide)) rfl)
  · refine vv_aload_n X dX2_isAlias_0 rfl 0 rfl ?_
    refine vv_aload_n X dX2_isAlias_1 rfl 0 rfl ?_
    refine vv_iload_n X dX2_isAlias_2 rfl 1 rfl ?_
    refine vv_callVp X (mX2_isCell (kL K) D g x I J (I 10) rfl a hP) q3268 q3270 qs100 q144 q3271 nX2_isCell ⟨(Nat.le_of_ble_eq_true rfl), (Nat.le_of_ble_eq_true rfl)⟩ dX2_isAlias_3 rfl (Nat.le_of_ble_eq_true rfl) (recv X hM.1 CL_X2) hM ⟨(Nat.le_of_ble_eq_true rfl), (Nat.le_of_ble_eq_true rfl)⟩ ?_
    refine vv_callV X (mX2_mayAsk1 (kL K) D g x I J hg (ix (nC (I 10)) a) h20) q3244 q3246 qs98 q144 q3247 nX2_mayAsk ⟨(Nat.le_of_ble_eq_true rfl), (Nat.le_of_ble_eq_true rfl)⟩ dX2_isAlias_6 rfl (Nat.le_of_ble_eq_true rfl) (recv X hM.1 CL_X2) hM  (fun _ z => Or.inl z) ⟨(Nat.le_of_ble_eq_true rfl), (Nat.le_of_ble_eq_true rfl)⟩ (fun v_ H hq hz hk => ?_)
    obtain ⟨rfl, hM⟩ := hq
    clear hz hk
    by_cases hp : ix (nC (I 10)) a
    · refine vv_eqi (b2_y hp) ?_
      rw [if_pos hp] at hM
      obtain ⟨j, hj, rfl⟩ := ix_of (by omega) hp
      have ej : cl (nI j) = j := cl_I (by omega)
      refine vn_if_ne (tgt := 14) X (by omega) dX2_isAlias_9 (by decide) (fun c_9 => ?_) (fun c_9 => ?_)
      · refine vv_aload_n X dX2_isAlias_14 rfl 0 rfl ?_
        refine vv_iload_n X dX2_isAlias_15 rfl 2 rfl ?_
        refine vv_callSp X (mX2_isPeriod (kL K) D p) q3419 q3420 q144 q3421 nX2_isPeriod ⟨(Nat.le_of_ble_eq_true rfl), (Nat.le_of_ble_eq_true rfl)⟩ dX2_isAlias_16 rfl (Nat.le_of_ble_eq_true rfl) trivial ⟨(Nat.le_of_ble_eq_true rfl), (Nat.le_of_ble_eq_true rfl)⟩ ?_
        refine vb_eq (tgt := 33) X dX2_isAlias_19 (by decide) (fun c_19 => ?_) (fun c_19 => ?_)
        · refine vv_iconst (v := nI 3) X dX2_isAlias_33 (by decide) ?_
          refine mp0 X rfl hM hg (Or.inl (MA.in (by decide))) dX2_isAlias_34 (fun H hM => ?_)
          rw [up_up] at hM
          refine vv_aload_n X dX2_isAlias_37 rfl 0 rfl ?_
          refine mg0 X rfl hM dX2_isAlias_38 ?_
          refine vn_if_ne (tgt := 66) X (by omega) dX2_isAlias_41 (by decide) (fun c_41 => ?_) (fun c_41 => ?_)
          · refine vv_iconst (v := nI 0) X dX2_isAlias_66 (by decide) ?_
            exact vv_zret X (rfl) hQ dX2_isAlias_67 (Nat.le_refl _) (Nat.le_refl _) (MEnd.of hM (ag_u (by decide) (ag_r)) (ag_r) 3 _ (nI 0) ((ask_t hp).trans (arg_f (fun z => c_19 z.1))) rfl (fun h => absurd h (by decide)) rfl)
          · exact absurd c_41 (by decide)
        · refine vv_iload_n X dX2_isAlias_22 rfl 3 rfl ?_
          refine vv_callSp X (mX2_isShare (kL K) D h) q3434 q3435 q144 q3436 nX2_isShare ⟨(Nat.le_of_ble_eq_true rfl), (Nat.le_of_ble_eq_true rfl)⟩ dX2_isAlias_23 rfl (Nat.le_of_ble_eq_true rfl) trivial ⟨(Nat.le_of_ble_eq_true rfl), (Nat.le_of_ble_eq_true rfl)⟩ ?_
          refine vb_eq (tgt := 33) X dX2_isAlias_26 (by decide) (fun c_26 => ?_) (fun c_26 => ?_)
          · refine vv_iconst (v := nI 3) X dX2_isAlias_33 (by decide) ?_
            refine mp0 X rfl hM hg (Or.inl (MA.in (by decide))) dX2_isAlias_34 (fun H hM => ?_)
            rw [up_up] at hM
            refine vv_aload_n X dX2_isAlias_37 rfl 0 rfl ?_
            refine mg0 X rfl hM dX2_isAlias_38 ?_
            refine vn_if_ne (tgt := 66) X (by omega) dX2_isAlias_41 (by decide) (fun c_41 => ?_) (fun c_41 => ?_)
            · refine vv_iconst (v := nI 0) X dX2_isAlias_66 (by decide) ?_
              exact vv_zret X (rfl) hQ dX2_isAlias_67 (Nat.le_refl _) (Nat.le_refl _) (MEnd.of hM (ag_u (by decide) (ag_r)) (ag_r) 3 _ (nI 0) ((ask_t hp).trans (arg_f (fun z => c_26 z.2))) rfl (fun h => absurd h (by decide)) rfl)
            · exact absurd c_41 (by decide)
          · obtain ⟨u, hu, hu2, rfl⟩ := inR2 (by omega) (by omega) c_19
            have eu : cl (nI u) = u := cl_I (by omega)
            obtain ⟨w, hw, hw2, rfl⟩ := inR2 (by omega) (by omega) c_26
            have ew : cl (nI w) = w := cl_I (by omega)
            refine vv_iconst (v := nI 0) X dX2_isAlias_29 (by decide) ?_
            refine vv_goto (tgt := 34) X dX2_isAlias_30 (by decide) ?_
            refine mp0 X rfl hM hg (Or.inl (MA.in (by decide))) dX2_isAlias_34 (fun H hM => ?_)
            rw [up_up] at hM
            refine vv_aload_n X dX2_isAlias_37 rfl 0 rfl ?_
            refine mg0 X rfl hM dX2_isAlias_38 ?_
            refine vn_if_ne (tgt := 66) X (by omega) dX2_isAlias_41 (by decide) (fun c_41 => ?_) (fun c_41 => ?_)
            · exact absurd c_41 (by decide)
            · refine vv_aload_n X dX2_isAlias_44 rfl 0 rfl ?_
              refine vv_iload_n X dX2_isAlias_45 rfl 1 rfl ?_
              refine vv_aload_n X dX2_isAlias_46 rfl 0 rfl ?_
              refine vv_aload_n X dX2_isAlias_47 rfl 0 rfl ?_
              refine mg12 X rfl hM dX2_isAlias_48 ?_
              refine vv_callV X (mX2_bestIn12 (kL K) D g (va_up x 0 (nI 0)) I J (I 10) rfl (I 12) rfl hg hC hS hT) q3372 q3374 qs111 q144 q3375 nX2_bestIn ⟨(Nat.le_of_ble_eq_true rfl), (Nat.le_of_ble_eq_true rfl)⟩ dX2_isAlias_51 rfl (Nat.le_of_ble_eq_true rfl) (recv X hM.1 CL_X2) hM  (fun _ z => Or.inl z) ⟨(Nat.le_of_ble_eq_true rfl), (Nat.le_of_ble_eq_true rfl)⟩ (fun v_ H hq hz hk => ?_)
              obtain ⟨rfl, d_1, p_2, hM, hp_3⟩ := hq
              clear hz hk
              have hbm := hbn rfl
              refine vv_iload_n X dX2_isAlias_54 rfl 2 rfl ?_
              refine vv_iload_n X dX2_isAlias_55 rfl 3 rfl ?_
              refine vv_callVp X (mX2_isMark (kL K) D g (va_up x 0 (nI 0)) (va_up I 24 d_1) (va_up J 25 p_2) (I 10) rfl (I 12) rfl j (bsN (pwc (I 10) (I 12)) (nC (I 10))) u w hC hT (by omega) (by omega) (by omega) (by omega)) q3437 q3439 qs117 q144 q3440 nX2_isMark ⟨(Nat.le_of_ble_eq_true rfl), (Nat.le_of_ble_eq_true rfl)⟩ dX2_isAlias_56 rfl (Nat.le_of_ble_eq_true rfl) (recv X hM.1 CL_X2) hM ⟨(Nat.le_of_ble_eq_true rfl), (Nat.le_of_ble_eq_true rfl)⟩ ?_
              refine vv_eqi (b2_c (mrk_c hp_3 (by omega))) ?_
              refine vb_eq (tgt := 66) X dX2_isAlias_59 (by decide) (fun c_59 => ?_) (fun c_59 => ?_)
              · refine vv_iconst (v := nI 0) X dX2_isAlias_66 (by decide) ?_
                exact vv_zret X (rfl) hQ dX2_isAlias_67 (Nat.le_refl _) (Nat.le_refl _) (MEnd.of hM (ag_u (by decide) (ag_r)) (ag_u (by decide) (ag_r)) 0 _ (nI 0) ((ask_t hp).trans (arg_t (⟨c_19, c_26⟩))) rfl (fun _ => by simp only [ej, eu, ew]; exact b2_0 c_59) rfl)
              · refine vv_iconst (v := nI 1) X dX2_isAlias_62 (by decide) ?_
                refine vv_goto (tgt := 67) X dX2_isAlias_63 (by decide) ?_
                exact vv_zret X (rfl) hQ dX2_isAlias_67 (Nat.le_refl _) (Nat.le_refl _) (MEnd.of hM (ag_u (by decide) (ag_r)) (ag_u (by decide) (ag_r)) 0 _ (nI 1) ((ask_t hp).trans (arg_t (⟨c_19, c_26⟩))) rfl (fun _ => by simp only [ej, eu, ew]; exact b2_1 c_59) rfl)
      · exact absurd c_9 (by decide)
    · refine vv_eqi (b2_n hp) ?_
      rw [if_neg hp] at hM
      refine vn_if_ne (tgt := 14) X (by omega) dX2_isAlias_9 (by decide) (fun c_9 => ?_) (fun c_9 => ?_)
      · exact absurd c_9 (by decide)
      · refine vv_iconst (v := nI 0) X dX2_isAlias_12 (by decide) ?_
        exact vv_zret X (rfl) hQ dX2_isAlias_13 (Nat.le_refl _) (Nat.le_refl _) (MEnd.of hM (ag_u (by decide) (ag_r)) (ag_r) 2 _ (nI 0) (ask_f hp) rfl (fun h => absurd h (by decide)) rfl)
theorem nX2_aliases : notMH yX2_aliases 2 := by decide +kernel
set_option maxHeartbeats 800000 in
theorem aX2_aliases (l : Launch) (D : DD) (g : Nat → Nat) (x : Nat → Int32) (I : Nat → Nat → Int32) (J : Nat → Nat → Int64) (P : Nat → Int32) (hIP : I 10 = P) (S : Nat → Int32) (hIS : I 12 = S) (C : Bool) (hg : MG g) (p h : Int32) (hP : VP P) (hc : cam C (x 20) P S (I 17))  : Ct l yX2_aliases cX2_aliases 6 (some .int) { frames := 8, cells := 0, slots := 0, locals := 175 } D [.ref (g 0), .int (p), .int (h)] (fun H => MR D g x I J H) (MA g) (fun v H H1 => MEnd D g x I iV (an_aliases C P S p h) v H1) := by
  refine Ct.of (by decide +kernel) (Nat.le_of_ble_eq_true rfl) (fun K Qf hkl X hM hQ => ?_)
  subst hkl
  subst hIP
  subst hIS
  have l4 := hP.l4
  have l5 := hP.l5
  have l2 := hP.l2
  have l9 := hP.l9
  have l10 := hP.l10
  have l101 := hP.l101
  have hn4 : nC (I 10) ≤ 144 := Nat.mul_le_mul l9 l10
  have hn0 : C = true → 0 < nC (I 10) := fun hh => by
    rcases hc with ⟨h, _⟩ | ⟨_, _, h, _, _⟩
    · exact absurd (hh.symm.trans h) (by decide)
    · exact Nat.mul_pos h.x1 h.y1
  refine vv_sub (lv' := [(0, .ref (g 0)), (1, .int (p)), (2, .int (h))]) [0, 1, 2] rfl ?_
  rcases hc with ⟨rfl, h20⟩ | ⟨rfl, h20, hC, hS, hT⟩
  · refine vv_aload_n X dX2_aliases_0 rfl 0 rfl ?_
    refine vv_iload_n X dX2_aliases_1 rfl 1 rfl ?_
    refine vv_callSp X (mX2_isPeriod (kL K) D p) q3419 q3420 q144 q3421 nX2_isPeriod ⟨(Nat.le_of_ble_eq_true rfl), (Nat.le_of_ble_eq_true rfl)⟩ dX2_aliases_2 rfl (Nat.le_of_ble_eq_true rfl) trivial ⟨(Nat.le_of_ble_eq_true rfl), (Nat.le_of_ble_eq_true rfl)⟩ ?_
    refine vb_eq (tgt := 19) X dX2_aliases_5 (by decide) (fun c_5 => ?_) (fun c_5 => ?_)
    · refine vv_iconst (v := nI 0) X dX2_aliases_19 (by decide) ?_
      refine vv_callV X (mX2_mayAsk0 (kL K) D g x I J hg False h20) q3244 q3246 qs98 q144 q3247 nX2_mayAsk ⟨(Nat.le_of_ble_eq_true rfl), (Nat.le_of_ble_eq_true rfl)⟩ dX2_aliases_20 rfl (Nat.le_of_ble_eq_true rfl) (recv X hM.1 CL_X2) hM  (fun _ z => Or.inl z) ⟨(Nat.le_of_ble_eq_true rfl), (Nat.le_of_ble_eq_true rfl)⟩ (fun v_ H hq hz hk => ?_)
      obtain ⟨rfl, hM⟩ := hq
      clear hz hk
      refine vv_eqi (b2_n (p := False) (fun z => z)) ?_
      refine vn_if_ne (tgt := 28) X (by omega) dX2_aliases_23 (by decide) (fun c_23 => ?_) (fun c_23 => ?_)
      · exact absurd c_23 (by decide)
      · refine vv_iconst (v := nI 0) X dX2_aliases_26 (by decide) ?_
        exact vv_iret X hQ dX2_aliases_27 (Nat.le_refl _) (Nat.le_refl _) (MEnd.of hM (ag_u (by decide) (ag_r)) (ag_r) 1 _ (nI 0) (ask_0) rfl (fun h => absurd h (by decide)) rfl)
    · refine vv_iload_n X dX2_aliases_8 rfl 2 rfl ?_
      refine vv_callSp X (mX2_isShare (kL K) D h) q3434 q3435 q144 q3436 nX2_isShare ⟨(Nat.le_of_ble_eq_true rfl), (Nat.le_of_ble_eq_true rfl)⟩ dX2_aliases_9 rfl (Nat.le_of_ble_eq_true rfl) trivial ⟨(Nat.le_of_ble_eq_true rfl), (Nat.le_of_ble_eq_true rfl)⟩ ?_
      refine vb_eq (tgt := 19) X dX2_aliases_12 (by decide) (fun c_12 => ?_) (fun c_12 => ?_)
      · refine vv_iconst (v := nI 0) X dX2_aliases_19 (by decide) ?_
        refine vv_callV X (mX2_mayAsk0 (kL K) D g x I J hg False h20) q3244 q3246 qs98 q144 q3247 nX2_mayAsk ⟨(Nat.le_of_ble_eq_true rfl), (Nat.le_of_ble_eq_true rfl)⟩ dX2_aliases_20 rfl (Nat.le_of_ble_eq_true rfl) (recv X hM.1 CL_X2) hM  (fun _ z => Or.inl z) ⟨(Nat.le_of_ble_eq_true rfl), (Nat.le_of_ble_eq_true rfl)⟩ (fun v_ H hq hz hk => ?_)
        obtain ⟨rfl, hM⟩ := hq
        clear hz hk
        refine vv_eqi (b2_n (p := False) (fun z => z)) ?_
        refine vn_if_ne (tgt := 28) X (by omega) dX2_aliases_23 (by decide) (fun c_23 => ?_) (fun c_23 => ?_)
        · exact absurd c_23 (by decide)
        · refine vv_iconst (v := nI 0) X dX2_aliases_26 (by decide) ?_
          exact vv_iret X hQ dX2_aliases_27 (Nat.le_refl _) (Nat.le_refl _) (MEnd.of hM (ag_u (by decide) (ag_r)) (ag_r) 1 _ (nI 0) (ask_0) rfl (fun h => absurd h (by decide)) rfl)
      · refine vv_iconst (v := nI 1) X dX2_aliases_15 (by decide) ?_
        refine vv_goto (tgt := 20) X dX2_aliases_16 (by decide) ?_
        refine vv_callV X (mX2_mayAsk0 (kL K) D g x I J hg True h20) q3244 q3246 qs98 q144 q3247 nX2_mayAsk ⟨(Nat.le_of_ble_eq_true rfl), (Nat.le_of_ble_eq_true rfl)⟩ dX2_aliases_20 rfl (Nat.le_of_ble_eq_true rfl) (recv X hM.1 CL_X2) hM  (fun _ z => Or.inl z) ⟨(Nat.le_of_ble_eq_true rfl), (Nat.le_of_ble_eq_true rfl)⟩ (fun v_ H hq hz hk => ?_)
        obtain ⟨rfl, hM⟩ := hq
        clear hz hk
        refine vv_eqi (b2_n (p := False) (fun z => z)) ?_
        refine vn_if_ne (tgt := 28) X (by omega) dX2_aliases_23 (by decide) (fun c_23 => ?_) (fun c_23 => ?_)
        · exact absurd c_23 (by decide)
        · refine vv_iconst (v := nI 0) X dX2_aliases_26 (by decide) ?_
          exact vv_iret X hQ dX2_aliases_27 (Nat.le_refl _) (Nat.le_refl _) (MEnd.of hM (ag_u (by decide) (ag_r)) (ag_r) 1 _ (nI 0) (ask_0) rfl (fun h => absurd h (by decide)) rfl)
  · refine vv_aload_n X dX2_aliases_0 rfl 0 rfl ?_
    refine vv_iload_n X dX2_aliases_1 rfl 1 rfl ?_
    refine vv_callSp X (mX2_isPeriod (kL K) D p) q3419 q3420 q144 q3421 nX2_isPeriod ⟨(Nat.le_of_ble_eq_true rfl), (Nat.le_of_ble_eq_true rfl)⟩ dX2_aliases_2 rfl (Nat.le_of_ble_eq_true rfl) trivial ⟨(Nat.le_of_ble_eq_true rfl), (Nat.le_of_ble_eq_true rfl)⟩ ?_
    refine vb_eq (tgt := 19) X dX2_aliases_5 (by decide) (fun c_5 => ?_) (fun c_5 => ?_)
    · refine vv_iconst (v := nI 0) X dX2_aliases_19 (by decide) ?_
      refine vv_callV X (mX2_mayAsk1 (kL K) D g x I J hg False h20) q3244 q3246 qs98 q144 q3247 nX2_mayAsk ⟨(Nat.le_of_ble_eq_true rfl), (Nat.le_of_ble_eq_true rfl)⟩ dX2_aliases_20 rfl (Nat.le_of_ble_eq_true rfl) (recv X hM.1 CL_X2) hM  (fun _ z => Or.inl z) ⟨(Nat.le_of_ble_eq_true rfl), (Nat.le_of_ble_eq_true rfl)⟩ (fun v_ H hq hz hk => ?_)
      obtain ⟨rfl, hM⟩ := hq
      clear hz hk
      refine vv_eqi (b2_n (p := False) (fun z => z)) ?_
      rw [if_neg (fun z => z)] at hM
      refine vn_if_ne (tgt := 28) X (by omega) dX2_aliases_23 (by decide) (fun c_23 => ?_) (fun c_23 => ?_)
      · exact absurd c_23 (by decide)
      · refine vv_iconst (v := nI 0) X dX2_aliases_26 (by decide) ?_
        exact vv_iret X hQ dX2_aliases_27 (Nat.le_refl _) (Nat.le_refl _) (MEnd.of hM (ag_u (by decide) (ag_r)) (ag_r) 2 _ (nI 0) (ask_f (fun z => c_5 z.1)) rfl (fun h => absurd h (by decide)) rfl)
    · refine vv_iload_n X dX2_aliases_8 rfl 2 rfl ?_
      refine vv_callSp X (mX2_isShare (kL K) D h) q3434 q3435 q144 q3436 nX2_isShare ⟨(Nat.le_of_ble_eq_true rfl), (Nat.le_of_ble_eq_true rfl)⟩ dX2_aliases_9 rfl (Nat.le_of_ble_eq_true rfl) trivial ⟨(Nat.le_of_ble_eq_true rfl), (Nat.le_of_ble_eq_true rfl)⟩ ?_
      refine vb_eq (tgt := 19) X dX2_aliases_12 (by decide) (fun c_12 => ?_) (fun c_12 => ?_)
      · refine vv_iconst (v := nI 0) X dX2_aliases_19 (by decide) ?_
        refine vv_callV X (mX2_mayAsk1 (kL K) D g x I J hg False h20) q3244 q3246 qs98 q144 q3247 nX2_mayAsk ⟨(Nat.le_of_ble_eq_true rfl), (Nat.le_of_ble_eq_true rfl)⟩ dX2_aliases_20 rfl (Nat.le_of_ble_eq_true rfl) (recv X hM.1 CL_X2) hM  (fun _ z => Or.inl z) ⟨(Nat.le_of_ble_eq_true rfl), (Nat.le_of_ble_eq_true rfl)⟩ (fun v_ H hq hz hk => ?_)
        obtain ⟨rfl, hM⟩ := hq
        clear hz hk
        refine vv_eqi (b2_n (p := False) (fun z => z)) ?_
        rw [if_neg (fun z => z)] at hM
        refine vn_if_ne (tgt := 28) X (by omega) dX2_aliases_23 (by decide) (fun c_23 => ?_) (fun c_23 => ?_)
        · exact absurd c_23 (by decide)
        · refine vv_iconst (v := nI 0) X dX2_aliases_26 (by decide) ?_
          exact vv_iret X hQ dX2_aliases_27 (Nat.le_refl _) (Nat.le_refl _) (MEnd.of hM (ag_u (by decide) (ag_r)) (ag_r) 2 _ (nI 0) (ask_f (fun z => c_12 z.2)) rfl (fun h => absurd h (by decide)) rfl)
      · refine vv_iconst (v := nI 1) X dX2_aliases_15 (by decide) ?_
        refine vv_goto (tgt := 20) X dX2_aliases_16 (by decide) ?_
        refine vv_callV X (mX2_mayAsk1 (kL K) D g x I J hg True h20) q3244 q3246 qs98 q144 q3247 nX2_mayAsk ⟨(Nat.le_of_ble_eq_true rfl), (Nat.le_of_ble_eq_true rfl)⟩ dX2_aliases_20 rfl (Nat.le_of_ble_eq_true rfl) (recv X hM.1 CL_X2) hM  (fun _ z => Or.inl z) ⟨(Nat.le_of_ble_eq_true rfl), (Nat.le_of_ble_eq_true rfl)⟩ (fun v_ H hq hz hk => ?_)
        obtain ⟨rfl, hM⟩ := hq
        clear hz hk
        refine vv_eqi (b2_y (p := True) trivial) ?_
        rw [if_pos trivial] at hM
        obtain ⟨u, hu, hu2, rfl⟩ := inR2 (by omega) (by omega) c_5
        have eu : cl (nI u) = u := cl_I (by omega)
        obtain ⟨w, hw, hw2, rfl⟩ := inR2 (by omega) (by omega) c_12
        have ew : cl (nI w) = w := cl_I (by omega)
        refine vn_if_ne (tgt := 28) X (by omega) dX2_aliases_23 (by decide) (fun c_23 => ?_) (fun c_23 => ?_)
        · refine vv_aload_n X dX2_aliases_28 rfl 0 rfl ?_
          refine vv_aload_n X dX2_aliases_29 rfl 0 rfl ?_
          refine mg12 X rfl hM dX2_aliases_30 ?_
          refine vv_callV X (mX2_bestIn12 (kL K) D g (va_up x 0 (nI 0)) I J (I 10) rfl (I 12) rfl hg hC hS hT) q3372 q3374 qs111 q144 q3375 nX2_bestIn ⟨(Nat.le_of_ble_eq_true rfl), (Nat.le_of_ble_eq_true rfl)⟩ dX2_aliases_33 rfl (Nat.le_of_ble_eq_true rfl) (recv X hM.1 CL_X2) hM  (fun _ z => Or.inl z) ⟨(Nat.le_of_ble_eq_true rfl), (Nat.le_of_ble_eq_true rfl)⟩ (fun v_ H hq hz hk => ?_)
          obtain ⟨rfl, d_1, p_2, hM, hp_3⟩ := hq
          clear hz hk
          refine vv_istore_n (lv' := [(3, .int (nI (bsN (pwc (I 10) (I 12)) (nC (I 10))))), (0, .ref (g 0)), (1, .int (nI u)), (2, .int (nI w))]) X dX2_aliases_36 rfl (by decide) rfl ?_
          have hbn := bsN_lt (sc := pwc (I 10) (I 12)) (hn0 rfl)
          refine vv_iconst (v := nI 0) X dX2_aliases_37 (by decide) ?_
          refine vv_istore (lv' := [(4, .int (nI 0)), (3, .int (nI (bsN (pwc (I 10) (I 12)) (nC (I 10))))), (0, .ref (g 0)), (1, .int (nI u)), (2, .int (nI w))]) X dX2_aliases_38 (by decide) rfl ?_
          refine vv_iconst (v := nI 0) X dX2_aliases_40 (by decide) ?_
          refine vv_istore (lv' := [(5, .int (nI 0)), (4, .int (nI 0)), (3, .int (nI (bsN (pwc (I 10) (I 12)) (nC (I 10))))), (0, .ref (g 0)), (1, .int (nI u)), (2, .int (nI w))]) X dX2_aliases_41 (by decide) rfl ?_
          have hx_4 : ∀ (a : Nat) (ha : a = als (I 10) (I 12) u w (nC (I 10))) (hal : a ≤ nC (I 10)), V K 6 (MA g) H 0 0 Qf 80 [(0, .ref (g 0)), (1, .int (nI u)), (2, .int (nI w)), (3, .int (nI (bC (I 10) (I 12)))), (4, .int (nI a)), (5, .int (nI (nC (I 10))))] [] := by
            intro a ha hal
            refine vv_iload X dX2_aliases_80 4 rfl ?_
            exact vv_iret X hQ dX2_aliases_82 (Nat.le_refl _) (Nat.le_refl _) (MEnd.of hM (ag_u (by decide) (ag_r)) (ag_u (by decide) (ag_r)) 0 _ (nI a) (ask_t (⟨c_5, c_12⟩)) rfl (fun _ => by simp only [eu, ew]; rw [ha]) rfl)
          have hl_5 : ∀ (n_i i : Nat) (a : Nat), i + n_i = nC (I 10) → (a = als (I 10) (I 12) u w i) → (a ≤ i) → V K 6 (MA g) H 0 0 Qf 43 [(0, .ref (g 0)), (1, .int (nI u)), (2, .int (nI w)), (3, .int (nI (bC (I 10) (I 12)))), (4, .int (nI a)), (5, .int (nI i))] [] := by
            intro n_i
            induction n_i with
            | zero =>
              intro i a hi ha hal
              obtain rfl : i = nC (I 10) := by omega
              refine vv_iload X dX2_aliases_43 5 rfl ?_
              refine vv_aload_n X dX2_aliases_45 rfl 0 rfl ?_
              refine vv_callVp X (mX2_cellCount (kL K) D g (va_up x 0 (nI 0)) (va_up I 24 d_1) (va_up J 25 p_2) (I 10) rfl hP) q3172 q3174 qs84 q144 q3175 nX2_cellCount ⟨(Nat.le_of_ble_eq_true rfl), (Nat.le_of_ble_eq_true rfl)⟩ dX2_aliases_46 rfl (Nat.le_of_ble_eq_true rfl) (recv X hM.1 CL_X2) hM ⟨(Nat.le_of_ble_eq_true rfl), (Nat.le_of_ble_eq_true rfl)⟩ ?_
              refine vn_ge (tgt := 80) X (by omega) (by omega) dX2_aliases_49 (by decide) (fun c_49 => ?_) (fun c_49 => ?_)
              · exact hx_4 a ha hal
              · exact absurd c_49 (by omega)
            | succ n_i ihi =>
              intro i a hi ha hal
              refine vv_iload X dX2_aliases_43 5 rfl ?_
              refine vv_aload_n X dX2_aliases_45 rfl 0 rfl ?_
              refine vv_callVp X (mX2_cellCount (kL K) D g (va_up x 0 (nI 0)) (va_up I 24 d_1) (va_up J 25 p_2) (I 10) rfl hP) q3172 q3174 qs84 q144 q3175 nX2_cellCount ⟨(Nat.le_of_ble_eq_true rfl), (Nat.le_of_ble_eq_true rfl)⟩ dX2_aliases_46 rfl (Nat.le_of_ble_eq_true rfl) (recv X hM.1 CL_X2) hM ⟨(Nat.le_of_ble_eq_true rfl), (Nat.le_of_ble_eq_true rfl)⟩ ?_
              refine vn_ge (tgt := 80) X (by omega) (by omega) dX2_aliases_49 (by decide) (fun c_49 => ?_) (fun c_49 => ?_)
              · exact absurd hi (by omega)
              · refine vv_iload X dX2_aliases_52 4 rfl ?_
                refine vv_aload_n X dX2_aliases_54 rfl 0 rfl ?_
                refine vv_iload X dX2_aliases_55 5 rfl ?_
                refine vv_iload_n X dX2_aliases_57 rfl 3 rfl ?_
                refine vv_iload_n X dX2_aliases_58 rfl 1 rfl ?_
                refine vv_iload_n X dX2_aliases_59 rfl 2 rfl ?_
                refine vv_callVp X (mX2_isMark (kL K) D g (va_up x 0 (nI 0)) (va_up I 24 d_1) (va_up J 25 p_2) (I 10) rfl (I 12) rfl i (bC (I 10) (I 12)) u w hC hT (by omega) (by omega) (by omega) (by omega)) q3437 q3439 qs117 q144 q3440 nX2_isMark ⟨(Nat.le_of_ble_eq_true rfl), (Nat.le_of_ble_eq_true rfl)⟩ dX2_aliases_60 rfl (Nat.le_of_ble_eq_true rfl) (recv X hM.1 CL_X2) hM ⟨(Nat.le_of_ble_eq_true rfl), (Nat.le_of_ble_eq_true rfl)⟩ ?_
                refine vv_eqi (b2_c (mrk_c hp_3 (by omega))) ?_
                refine vb_eq (tgt := 70) X dX2_aliases_63 (by decide) (fun c_63 => ?_) (fun c_63 => ?_)
                · refine vv_iconst (v := nI 0) X dX2_aliases_70 (by decide) ?_
                  refine vn_add X dX2_aliases_71 ?_
                  refine vv_istore (lv' := [(4, .int (nI (a + 0))), (0, .ref (g 0)), (1, .int (nI u)), (2, .int (nI w)), (3, .int (nI (bC (I 10) (I 12)))), (5, .int (nI i))]) X dX2_aliases_72 (by decide) rfl ?_
                  refine vv_iinc (v := nI (i + 1)) (lv' := [(5, .int (nI (i + 1))), (4, .int (nI (a + 0))), (0, .ref (g 0)), (1, .int (nI u)), (2, .int (nI w)), (3, .int (nI (bC (I 10) (I 12))))]) X dX2_aliases_74 (k := 5) rfl (nI_add _ 1) (by decide) rfl ?_
                  refine vv_goto (tgt := 43) X dX2_aliases_77 (by decide) ?_
                  refine vv_sub [2, 3, 4, 5, 1, 0] rfl ?_
                  exact ihi (i + 1) (a + 0) (by omega) (by rw [ha]; show _ = _ + (if mrk (I 10) (I 12) (pwc (I 10) (I 12)) i (bC (I 10) (I 12)) u w then 1 else 0); rw [if_neg c_63]; rfl) (by omega)
                · refine vv_iconst (v := nI 1) X dX2_aliases_66 (by decide) ?_
                  refine vv_goto (tgt := 71) X dX2_aliases_67 (by decide) ?_
                  refine vn_add X dX2_aliases_71 ?_
                  refine vv_istore (lv' := [(4, .int (nI (a + 1))), (0, .ref (g 0)), (1, .int (nI u)), (2, .int (nI w)), (3, .int (nI (bC (I 10) (I 12)))), (5, .int (nI i))]) X dX2_aliases_72 (by decide) rfl ?_
                  refine vv_iinc (v := nI (i + 1)) (lv' := [(5, .int (nI (i + 1))), (4, .int (nI (a + 1))), (0, .ref (g 0)), (1, .int (nI u)), (2, .int (nI w)), (3, .int (nI (bC (I 10) (I 12))))]) X dX2_aliases_74 (k := 5) rfl (nI_add _ 1) (by decide) rfl ?_
                  refine vv_goto (tgt := 43) X dX2_aliases_77 (by decide) ?_
                  refine vv_sub [2, 3, 4, 5, 1, 0] rfl ?_
                  exact ihi (i + 1) (a + 1) (by omega) (by rw [ha]; show _ = _ + (if mrk (I 10) (I 12) (pwc (I 10) (I 12)) i (bC (I 10) (I 12)) u w then 1 else 0); rw [if_pos c_63]; rfl) (by omega)
          refine vv_sub [3, 4, 5, 2, 1, 0] rfl ?_
          exact hl_5 (nC (I 10)) 0 0 (by omega) (rfl) (Nat.le_refl _)
        · exact absurd c_23 (by decide)
theorem nX2_blockPower : notMH yX2_blockPower 3 := by decide +kernel
set_option maxHeartbeats 800000 in
theorem aX2_blockPower (l : Launch) (D : DD) (g : Nat → Nat) (x : Nat → Int32) (I : Nat → Nat → Int32) (J : Nat → Nat → Int64) (P : Nat → Int32) (hIP : I 10 = P) (S : Nat → Int32) (hIS : I 12 = S) (C : Bool) (hg : MG g) (a p q : Int32) (hP : VP P) (hc : cam C (x 20) P S (I 17))  : Ct l yX2_blockPower cX2_blockPower 4 (some .long) { frames := 5, cells := 0, slots := 0, locals := 109 } D [.ref (g 0), .int (a), .int (p), .int (q)] (fun H => MR D g x I J H) (MA g) (fun v H H1 => MEnd D g x I lV (an_blockPower C P S a p q) v H1) := by
  refine Ct.of (by decide +kernel) (Nat.le_of_ble_eq_true rfl) (fun K Qf hkl X hM hQ => ?_)
  subst hkl
  subst hIP
  subst hIS
  have l4 := hP.l4
  have l5 := hP.l5
  have l2 := hP.l2
  have l9 := hP.l9
  have l10 := hP.l10
  have l101 := hP.l101
  have hn4 : nC (I 10) ≤ 144 := Nat.mul_le_mul l9 l10
  refine vv_sub (lv' := [(0, .ref (g 0)), (1, .int (a)), (2, .int (p)), (3, .int (q))]) [0, 1, 2, 3] rfl ?_
  rcases hc with ⟨rfl, h20⟩ | ⟨rfl, h20, hC, hS, hT⟩
  · refine vv_aload_n X dX2_blockPower_0 rfl 0 rfl ?_
    refine vv_aload_n X dX2_blockPower_1 rfl 0 rfl ?_
    refine vv_iload_n X dX2_blockPower_2 rfl 1 rfl ?_
    refine vv_callVp X (mX2_isCell (kL K) D g x I J (I 10) rfl a hP) q3268 q3270 qs100 q144 q3271 nX2_isCell ⟨(Nat.le_of_ble_eq_true rfl), (Nat.le_of_ble_eq_true rfl)⟩ dX2_blockPower_3 rfl (Nat.le_of_ble_eq_true rfl) (recv X hM.1 CL_X2) hM ⟨(Nat.le_of_ble_eq_true rfl), (Nat.le_of_ble_eq_true rfl)⟩ ?_
    refine vv_callV X (mX2_mayAsk0 (kL K) D g x I J hg (ix (nC (I 10)) a) h20) q3244 q3246 qs98 q144 q3247 nX2_mayAsk ⟨(Nat.le_of_ble_eq_true rfl), (Nat.le_of_ble_eq_true rfl)⟩ dX2_blockPower_6 rfl (Nat.le_of_ble_eq_true rfl) (recv X hM.1 CL_X2) hM  (fun _ z => Or.inl z) ⟨(Nat.le_of_ble_eq_true rfl), (Nat.le_of_ble_eq_true rfl)⟩ (fun v_ H hq hz hk => ?_)
    obtain ⟨rfl, hM⟩ := hq
    clear hz hk
    refine vv_eqi (b2_n (p := False) (fun z => z)) ?_
    refine vn_if_ne (tgt := 14) X (by omega) dX2_blockPower_9 (by decide) (fun c_9 => ?_) (fun c_9 => ?_)
    · exact absurd c_9 (by decide)
    · refine vv_lconst (v := 0) X dX2_blockPower_12 (by decide) ?_
      exact vv_lret X hQ dX2_blockPower_13 (Nat.le_refl _) (Nat.le_refl _) (MEnd.of hM (ag_u (by decide) (ag_r)) (ag_r) 1 _ (0) (ask_0) rfl (fun h => absurd h (by decide)) rfl)
  · refine vv_aload_n X dX2_blockPower_0 rfl 0 rfl ?_
    refine vv_aload_n X dX2_blockPower_1 rfl 0 rfl ?_
    refine vv_iload_n X dX2_blockPower_2 rfl 1 rfl ?_
    refine vv_callVp X (mX2_isCell (kL K) D g x I J (I 10) rfl a hP) q3268 q3270 qs100 q144 q3271 nX2_isCell ⟨(Nat.le_of_ble_eq_true rfl), (Nat.le_of_ble_eq_true rfl)⟩ dX2_blockPower_3 rfl (Nat.le_of_ble_eq_true rfl) (recv X hM.1 CL_X2) hM ⟨(Nat.le_of_ble_eq_true rfl), (Nat.le_of_ble_eq_true rfl)⟩ ?_
    refine vv_callV X (mX2_mayAsk1 (kL K) D g x I J hg (ix (nC (I 10)) a) h20) q3244 q3246 qs98 q144 q3247 nX2_mayAsk ⟨(Nat.le_of_ble_eq_true rfl), (Nat.le_of_ble_eq_true rfl)⟩ dX2_blockPower_6 rfl (Nat.le_of_ble_eq_true rfl) (recv X hM.1 CL_X2) hM  (fun _ z => Or.inl z) ⟨(Nat.le_of_ble_eq_true rfl), (Nat.le_of_ble_eq_true rfl)⟩ (fun v_ H hq hz hk => ?_)
    obtain ⟨rfl, hM⟩ := hq
    clear hz hk
    by_cases hp : ix (nC (I 10)) a
    · refine vv_eqi (b2_y hp) ?_
      rw [if_pos hp] at hM
      obtain ⟨j, hj, rfl⟩ := ix_of (by omega) hp
      have ej : cl (nI j) = j := cl_I (by omega)
      refine vn_if_ne (tgt := 14) X (by omega) dX2_blockPower_9 (by decide) (fun c_9 => ?_) (fun c_9 => ?_)
      · refine vv_aload_n X dX2_blockPower_14 rfl 0 rfl ?_
        refine vv_iload_n X dX2_blockPower_15 rfl 2 rfl ?_
        refine vv_iload_n X dX2_blockPower_16 rfl 3 rfl ?_
        refine vv_callVp X (mX2_isBlock (kL K) D g (va_up x 0 (nI 0)) I J (I 10) rfl p q hP) q3449 q3451 qs118 q144 q3452 nX2_isBlock ⟨(Nat.le_of_ble_eq_true rfl), (Nat.le_of_ble_eq_true rfl)⟩ dX2_blockPower_17 rfl (Nat.le_of_ble_eq_true rfl) (recv X hM.1 CL_X2) hM ⟨(Nat.le_of_ble_eq_true rfl), (Nat.le_of_ble_eq_true rfl)⟩ ?_
        refine vb_eq (tgt := 33) X dX2_blockPower_20 (by decide) (fun c_20 => ?_) (fun c_20 => ?_)
        · refine vv_aload_n X dX2_blockPower_33 rfl 0 rfl ?_
          refine vv_iconst (v := nI 3) X dX2_blockPower_34 (by decide) ?_
          refine vv_callV X (mX2_throwsAt (kL K) D g (va_up x 0 (nI 0)) I J hg (nI 3)) q3034 q3036 qs59 q144 q3037 nX2_throwsAt ⟨(Nat.le_of_ble_eq_true rfl), (Nat.le_of_ble_eq_true rfl)⟩ dX2_blockPower_35 rfl (Nat.le_of_ble_eq_true rfl) (recv X hM.1 CL_X2) hM  (fun _ z => Or.inl z) ⟨(Nat.le_of_ble_eq_true rfl), (Nat.le_of_ble_eq_true rfl)⟩ (fun v_ H hq hz hk => ?_)
          obtain ⟨rfl, hM⟩ := hq
          clear hz hk
          rw [up_up] at hM
          refine vv_i2l (v := 0) X dX2_blockPower_38 rfl ?_
          exact vv_lret X hQ dX2_blockPower_39 (Nat.le_refl _) (Nat.le_refl _) (MEnd.of hM (ag_u (by decide) (ag_r)) (ag_r) 3 _ (0) ((ask_t hp).trans (arg_f c_20)) rfl (fun h => absurd h (by decide)) rfl)
        · obtain ⟨u, hu, rfl⟩ := ix_of (by omega) c_20.1
          have eu : cl (nI u) = u := cl_I (by omega)
          obtain ⟨w, hw, hw2, rfl⟩ := inR2 (by omega) (by omega) c_20.2
          have ew : cl (nI w) = w := cl_I (by omega)
          refine vv_aload_n X dX2_blockPower_23 rfl 0 rfl ?_
          refine vv_iload_n X dX2_blockPower_24 rfl 1 rfl ?_
          refine vv_iload_n X dX2_blockPower_25 rfl 2 rfl ?_
          refine vv_iload_n X dX2_blockPower_26 rfl 3 rfl ?_
          refine vv_callV X (mX2_blockOf (kL K) D g (va_up x 0 (nI 0)) I J (I 10) rfl (I 12) rfl hg j u w hP hS hT (by omega) (by omega) (by omega)) q3453 q3455 qs119 q144 q3456 nX2_blockOf ⟨(Nat.le_of_ble_eq_true rfl), (Nat.le_of_ble_eq_true rfl)⟩ dX2_blockPower_27 rfl (Nat.le_of_ble_eq_true rfl) (recv X hM.1 CL_X2) hM  (fun _ z => Or.inl z) ⟨(Nat.le_of_ble_eq_true rfl), (Nat.le_of_ble_eq_true rfl)⟩ (fun v_ H hq hz hk => ?_)
          obtain ⟨rfl, d_1, hM⟩ := hq
          clear hz hk
          refine vv_goto (tgt := 39) X dX2_blockPower_30 (by decide) ?_
          exact vv_lret X hQ dX2_blockPower_39 (Nat.le_refl _) (Nat.le_refl _) (MEnd.of hM (ag_u (by decide) (ag_r)) (ag_u (by decide) (ag_r)) 0 _ (blk (I 10) (I 12) j u w) ((ask_t hp).trans (arg_t c_20)) rfl (fun _ => by simp only [ej, eu, ew]) rfl)
      · exact absurd c_9 (by decide)
    · refine vv_eqi (b2_n hp) ?_
      rw [if_neg hp] at hM
      refine vn_if_ne (tgt := 14) X (by omega) dX2_blockPower_9 (by decide) (fun c_9 => ?_) (fun c_9 => ?_)
      · exact absurd c_9 (by decide)
      · refine vv_lconst (v := 0) X dX2_blockPower_12 (by decide) ?_
        exact vv_lret X hQ dX2_blockPower_13 (Nat.le_refl _) (Nat.le_refl _) (MEnd.of hM (ag_u (by decide) (ag_r)) (ag_r) 2 _ (0) (ask_f hp) rfl (fun h => absurd h (by decide)) rfl)
theorem nX2_blockBest : notMH yX2_blockBest 2 := by decide +kernel
set_option maxHeartbeats 800000 in
theorem aX2_blockBest (l : Launch) (D : DD) (g : Nat → Nat) (x : Nat → Int32) (I : Nat → Nat → Int32) (J : Nat → Nat → Int64) (P : Nat → Int32) (hIP : I 10 = P) (S : Nat → Int32) (hIS : I 12 = S) (C : Bool) (hg : MG g) (p q : Int32) (hP : VP P) (hc : cam C (x 20) P S (I 17))  : Ct l yX2_blockBest cX2_blockBest 3 (some .int) { frames := 6, cells := 0, slots := 0, locals := 137 } D [.ref (g 0), .int (p), .int (q)] (fun H => MR D g x I J H) (MA g) (fun v H H1 => MEnd D g x I iV (an_blockBest C P S p q) v H1) := by
  refine Ct.of (by decide +kernel) (Nat.le_of_ble_eq_true rfl) (fun K Qf hkl X hM hQ => ?_)
  subst hkl
  subst hIP
  subst hIS
  have l4 := hP.l4
  have l5 := hP.l5
  have l2 := hP.l2
  have l9 := hP.l9
  have l10 := hP.l10
  have l101 := hP.l101
  have hn4 : nC (I 10) ≤ 144 := Nat.mul_le_mul l9 l10
  refine vv_sub (lv' := [(0, .ref (g 0)), (1, .int (p)), (2, .int (q))]) [0, 1, 2] rfl ?_
  rcases hc with ⟨rfl, h20⟩ | ⟨rfl, h20, hC, hS, hT⟩
  · refine vv_aload_n X dX2_blockBest_0 rfl 0 rfl ?_
    refine vv_aload_n X dX2_blockBest_1 rfl 0 rfl ?_
    refine vv_iload_n X dX2_blockBest_2 rfl 1 rfl ?_
    refine vv_iload_n X dX2_blockBest_3 rfl 2 rfl ?_
    refine vv_callVp X (mX2_isBlock (kL K) D g x I J (I 10) rfl p q hP) q3449 q3451 qs118 q144 q3452 nX2_isBlock ⟨(Nat.le_of_ble_eq_true rfl), (Nat.le_of_ble_eq_true rfl)⟩ dX2_blockBest_4 rfl (Nat.le_of_ble_eq_true rfl) (recv X hM.1 CL_X2) hM ⟨(Nat.le_of_ble_eq_true rfl), (Nat.le_of_ble_eq_true rfl)⟩ ?_
    refine vv_callV X (mX2_mayAsk0 (kL K) D g x I J hg (ix (nT (I 10)) p ∧ (nI 1 ≤ q ∧ q ≤ nI (nT (I 10)))) h20) q3244 q3246 qs98 q144 q3247 nX2_mayAsk ⟨(Nat.le_of_ble_eq_true rfl), (Nat.le_of_ble_eq_true rfl)⟩ dX2_blockBest_7 rfl (Nat.le_of_ble_eq_true rfl) (recv X hM.1 CL_X2) hM  (fun _ z => Or.inl z) ⟨(Nat.le_of_ble_eq_true rfl), (Nat.le_of_ble_eq_true rfl)⟩ (fun v_ H hq hz hk => ?_)
    obtain ⟨rfl, hM⟩ := hq
    clear hz hk
    refine vv_eqi (b2_n (p := False) (fun z => z)) ?_
    refine vn_if_eq (tgt := 22) X (by omega) dX2_blockBest_10 (by decide) (fun c_10 => ?_) (fun c_10 => ?_)
    · refine vv_iconst (v := nI 0) X dX2_blockBest_22 (by decide) ?_
      exact vv_iret X hQ dX2_blockBest_23 (Nat.le_refl _) (Nat.le_refl _) (MEnd.of hM (ag_u (by decide) (ag_r)) (ag_r) 1 _ (nI 0) (ask_0) rfl (fun h => absurd h (by decide)) rfl)
    · exact absurd c_10 (by decide)
  · refine vv_aload_n X dX2_blockBest_0 rfl 0 rfl ?_
    refine vv_aload_n X dX2_blockBest_1 rfl 0 rfl ?_
    refine vv_iload_n X dX2_blockBest_2 rfl 1 rfl ?_
    refine vv_iload_n X dX2_blockBest_3 rfl 2 rfl ?_
    refine vv_callVp X (mX2_isBlock (kL K) D g x I J (I 10) rfl p q hP) q3449 q3451 qs118 q144 q3452 nX2_isBlock ⟨(Nat.le_of_ble_eq_true rfl), (Nat.le_of_ble_eq_true rfl)⟩ dX2_blockBest_4 rfl (Nat.le_of_ble_eq_true rfl) (recv X hM.1 CL_X2) hM ⟨(Nat.le_of_ble_eq_true rfl), (Nat.le_of_ble_eq_true rfl)⟩ ?_
    refine vv_callV X (mX2_mayAsk1 (kL K) D g x I J hg (ix (nT (I 10)) p ∧ (nI 1 ≤ q ∧ q ≤ nI (nT (I 10)))) h20) q3244 q3246 qs98 q144 q3247 nX2_mayAsk ⟨(Nat.le_of_ble_eq_true rfl), (Nat.le_of_ble_eq_true rfl)⟩ dX2_blockBest_7 rfl (Nat.le_of_ble_eq_true rfl) (recv X hM.1 CL_X2) hM  (fun _ z => Or.inl z) ⟨(Nat.le_of_ble_eq_true rfl), (Nat.le_of_ble_eq_true rfl)⟩ (fun v_ H hq hz hk => ?_)
    obtain ⟨rfl, hM⟩ := hq
    clear hz hk
    by_cases hp : ix (nT (I 10)) p ∧ (nI 1 ≤ q ∧ q ≤ nI (nT (I 10)))
    · refine vv_eqi (b2_y hp) ?_
      rw [if_pos hp] at hM
      obtain ⟨u, hu, rfl⟩ := ix_of (by omega) hp.1
      have eu : cl (nI u) = u := cl_I (by omega)
      obtain ⟨w, hw, hw2, rfl⟩ := inR2 (by omega) (by omega) hp.2
      have ew : cl (nI w) = w := cl_I (by omega)
      refine vn_if_eq (tgt := 22) X (by omega) dX2_blockBest_10 (by decide) (fun c_10 => ?_) (fun c_10 => ?_)
      · exact absurd c_10 (by decide)
      · refine vv_aload_n X dX2_blockBest_13 rfl 0 rfl ?_
        refine vv_iload_n X dX2_blockBest_14 rfl 1 rfl ?_
        refine vv_iload_n X dX2_blockBest_15 rfl 2 rfl ?_
        refine vv_callV X (mX2_bestOfBlock (kL K) D g (va_up x 0 (nI 0)) I J (I 10) rfl (I 12) rfl hg u w hC hS hT (by omega) (by omega)) q3461 q3463 qs120 q144 q3464 nX2_bestOfBlock ⟨(Nat.le_of_ble_eq_true rfl), (Nat.le_of_ble_eq_true rfl)⟩ dX2_blockBest_16 rfl (Nat.le_of_ble_eq_true rfl) (recv X hM.1 CL_X2) hM  (fun _ z => Or.inl z) ⟨(Nat.le_of_ble_eq_true rfl), (Nat.le_of_ble_eq_true rfl)⟩ (fun v_ H hq hz hk => ?_)
        obtain ⟨rfl, d_1, hM⟩ := hq
        clear hz hk
        refine vv_goto (tgt := 23) X dX2_blockBest_19 (by decide) ?_
        exact vv_iret X hQ dX2_blockBest_23 (Nat.le_refl _) (Nat.le_refl _) (MEnd.of hM (ag_u (by decide) (ag_r)) (ag_u (by decide) (ag_r)) 0 _ (nI (bsN (fun c => blk (I 10) (I 12) c u w) (nC (I 10)))) (ask_t hp) rfl (fun _ => by simp only [eu, ew]) rfl)
    · refine vv_eqi (b2_n hp) ?_
      rw [if_neg hp] at hM
      refine vn_if_eq (tgt := 22) X (by omega) dX2_blockBest_10 (by decide) (fun c_10 => ?_) (fun c_10 => ?_)
      · refine vv_iconst (v := nI 0) X dX2_blockBest_22 (by decide) ?_
        exact vv_iret X hQ dX2_blockBest_23 (Nat.le_refl _) (Nat.le_refl _) (MEnd.of hM (ag_u (by decide) (ag_r)) (ag_r) 2 _ (nI 0) (ask_f hp) rfl (fun h => absurd h (by decide)) rfl)
      · exact absurd c_10 (by decide)
theorem fo_bs1 (sc : Nat → Int64) (n : Nat) : fo (bs1 sc) n 0 ≤ n := by
  induction n with
  | zero => exact Nat.le_refl _
  | succ k ih =>
    show (if sc (fo (bs1 sc) k 0) < sc (k + 1) then k + 1 else fo (bs1 sc) k 0) ≤ k + 1
    split <;> omega
theorem nX2_path : notMH yX2_path 1 := by decide +kernel
set_option maxHeartbeats 800000 in
theorem aX2_path (l : Launch) (D : DD) (g : Nat → Nat) (x : Nat → Int32) (I : Nat → Nat → Int32) (J : Nat → Nat → Int64) (P : Nat → Int32) (hIP : I 10 = P) (S : Nat → Int32) (hIS : I 12 = S) (C : Bool) (hg : MG g) (n : Int32) (hP : VP P) (hc : cam C (x 20) P S (I 17))  : Ct l yX2_path cX2_path 6 (some .int) { frames := 6, cells := 0, slots := 0, locals := 137 } D [.ref (g 0), .int (n)] (fun H => MR D g x I J H) (MA g) (fun v H H1 => MEnd D g x I iV (an_path C P S n) v H1) := by
  refine Ct.of (by decide +kernel) (Nat.le_of_ble_eq_true rfl) (fun K Qf hkl X hM hQ => ?_)
  subst hkl
  subst hIP
  subst hIS
  have l4 := hP.l4
  have l5 := hP.l5
  have l2 := hP.l2
  have l9 := hP.l9
  have l10 := hP.l10
  have l101 := hP.l101
  have hn4 : nC (I 10) ≤ 144 := Nat.mul_le_mul l9 l10
  have hb4 : ∀ a n, bbk (I 10) (I 12) a n ≤ 144 := fun a n => Nat.le_trans (fo_bs1 _ _) (by omega)
  refine vv_sub (lv' := [(0, .ref (g 0)), (1, .int (n))]) [0, 1] rfl ?_
  rcases hc with ⟨rfl, h20⟩ | ⟨rfl, h20, hC, hS, hT⟩
  · refine vv_aload_n X dX2_path_0 rfl 0 rfl ?_
    refine vv_iload_n X dX2_path_1 rfl 1 rfl ?_
    refine vv_iconst (v := nI 4) X dX2_path_2 (by decide) ?_
    refine vv_aload_n X dX2_path_3 rfl 0 rfl ?_
    refine mg10 X rfl hM dX2_path_4 ?_
    refine vv_iconst (v := nI 2) X dX2_path_7 (by decide) ?_
    refine vv_iald X hM.a10 (2) (by omega) (by decide) rfl dX2_path_8 ?_
    refine vv_eqi hP.e2 ?_
    refine vv_callSp X (mX2_in (kL K) D n (nI 4) (nI (nT (I 10)))) q3031 q3032 q144 q3033 nX2_in ⟨(Nat.le_of_ble_eq_true rfl), (Nat.le_of_ble_eq_true rfl)⟩ dX2_path_9 rfl (Nat.le_of_ble_eq_true rfl) trivial ⟨(Nat.le_of_ble_eq_true rfl), (Nat.le_of_ble_eq_true rfl)⟩ ?_
    refine vv_callV X (mX2_mayAsk0 (kL K) D g x I J hg (nI 4 ≤ n ∧ n ≤ nI (nT (I 10))) h20) q3244 q3246 qs98 q144 q3247 nX2_mayAsk ⟨(Nat.le_of_ble_eq_true rfl), (Nat.le_of_ble_eq_true rfl)⟩ dX2_path_12 rfl (Nat.le_of_ble_eq_true rfl) (recv X hM.1 CL_X2) hM  (fun _ z => Or.inl z) ⟨(Nat.le_of_ble_eq_true rfl), (Nat.le_of_ble_eq_true rfl)⟩ (fun v_ H hq hz hk => ?_)
    obtain ⟨rfl, hM⟩ := hq
    clear hz hk
    refine vv_eqi (b2_n (p := False) (fun z => z)) ?_
    refine vn_if_ne (tgt := 20) X (by omega) dX2_path_15 (by decide) (fun c_15 => ?_) (fun c_15 => ?_)
    · exact absurd c_15 (by decide)
    · refine vv_iconst (v := nI 0) X dX2_path_18 (by decide) ?_
      exact vv_iret X hQ dX2_path_19 (Nat.le_refl _) (Nat.le_refl _) (MEnd.of hM (ag_u (by decide) (ag_r)) (ag_r) 1 _ (nI 0) (ask_0) rfl (fun h => absurd h (by decide)) rfl)
  · refine vv_aload_n X dX2_path_0 rfl 0 rfl ?_
    refine vv_iload_n X dX2_path_1 rfl 1 rfl ?_
    refine vv_iconst (v := nI 4) X dX2_path_2 (by decide) ?_
    refine vv_aload_n X dX2_path_3 rfl 0 rfl ?_
    refine mg10 X rfl hM dX2_path_4 ?_
    refine vv_iconst (v := nI 2) X dX2_path_7 (by decide) ?_
    refine vv_iald X hM.a10 (2) (by omega) (by decide) rfl dX2_path_8 ?_
    refine vv_eqi hP.e2 ?_
    refine vv_callSp X (mX2_in (kL K) D n (nI 4) (nI (nT (I 10)))) q3031 q3032 q144 q3033 nX2_in ⟨(Nat.le_of_ble_eq_true rfl), (Nat.le_of_ble_eq_true rfl)⟩ dX2_path_9 rfl (Nat.le_of_ble_eq_true rfl) trivial ⟨(Nat.le_of_ble_eq_true rfl), (Nat.le_of_ble_eq_true rfl)⟩ ?_
    refine vv_callV X (mX2_mayAsk1 (kL K) D g x I J hg (nI 4 ≤ n ∧ n ≤ nI (nT (I 10))) h20) q3244 q3246 qs98 q144 q3247 nX2_mayAsk ⟨(Nat.le_of_ble_eq_true rfl), (Nat.le_of_ble_eq_true rfl)⟩ dX2_path_12 rfl (Nat.le_of_ble_eq_true rfl) (recv X hM.1 CL_X2) hM  (fun _ z => Or.inl z) ⟨(Nat.le_of_ble_eq_true rfl), (Nat.le_of_ble_eq_true rfl)⟩ (fun v_ H hq hz hk => ?_)
    obtain ⟨rfl, hM⟩ := hq
    clear hz hk
    by_cases hp : nI 4 ≤ n ∧ n ≤ nI (nT (I 10))
    · refine vv_eqi (b2_y hp) ?_
      rw [if_pos hp] at hM
      obtain ⟨u, hu, hu2, rfl⟩ := inR2 (by omega) (by omega) hp
      have eu : cl (nI u) = u := cl_I (by omega)
      refine vn_if_ne (tgt := 20) X (by omega) dX2_path_15 (by decide) (fun c_15 => ?_) (fun c_15 => ?_)
      · refine vv_iconst (v := nI 0) X dX2_path_20 (by decide) ?_
        refine vv_istore_n (lv' := [(2, .int (nI 0)), (0, .ref (g 0)), (1, .int (nI u))]) X dX2_path_21 rfl (by decide) rfl ?_
        refine vv_aload_n X dX2_path_22 rfl 1 rfl ?_
        refine vv_iconst (v := nI 0) X dX2_path_23 (by decide) ?_
        refine vv_iload_n X dX2_path_24 rfl 2 rfl ?_
        refine vv_callV X (mX2_bestOfBlock (kL K) D g (va_up x 0 (nI 0)) I J (I 10) rfl (I 12) rfl hg 0 u hC hS hT (by omega) (by omega)) q3461 q3463 qs120 q144 q3464 nX2_bestOfBlock ⟨(Nat.le_of_ble_eq_true rfl), (Nat.le_of_ble_eq_true rfl)⟩ dX2_path_25 rfl (Nat.le_of_ble_eq_true rfl) (recv X hM.1 CL_X2) hM  (fun _ z => Or.inl z) ⟨(Nat.le_of_ble_eq_true rfl), (Nat.le_of_ble_eq_true rfl)⟩ (fun v_ H hq hz hk => ?_)
        obtain ⟨rfl, d_1, hM⟩ := hq
        clear hz hk
        refine vv_istore_n (lv' := [(3, .int (nI (bsN (fun c => blk (I 10) (I 12) c 0 u) (nC (I 10))))), (2, .int (nI 0)), (0, .ref (g 0)), (1, .int (nI u))]) X dX2_path_28 rfl (by decide) rfl ?_
        refine vv_iload_n X dX2_path_29 rfl 3 rfl ?_
        refine vv_istore (lv' := [(4, .int (nI u)), (3, .int (nI (bsN (fun c => blk (I 10) (I 12) c 0 u) (nC (I 10))))), (2, .int (nI 0)), (0, .ref (g 0)), (1, .int (nI u))]) X dX2_path_30 (by decide) rfl ?_
        obtain ⟨B, hB⟩ : ∃ B, nT (I 10) / u = B := ⟨_, rfl⟩
        have hB1 : 1 ≤ B := by rw [← hB]; exact Nat.div_pos (by omega) (by omega)
        have hBu : u * B ≤ nT (I 10) := by rw [← hB]; exact Nat.mul_div_le _ _
        have hBn : nT (I 10) < u * (B + 1) := by rw [← hB]; exact Nat.lt_mul_div_succ _ (by omega)
        have hm : ∀ i, i < B → u * (i + 1) ≤ nT (I 10) := fun i hi => Nat.le_trans (Nat.mul_le_mul_left u hi) hBu
        have hx_2 : ∀ (H : Heap) (d : Nat → Int32) (a : Nat) (b : Nat) (f : Nat) (hM : MR D g (va_up x 0 (nI 0)) (va_up I 24 d) J H) (ha : a = pth (I 10) (I 12) u (B - 1)) (hal : a ≤ B - 1) (hb : b = bbk (I 10) (I 12) (u * (B - 1)) u) (hf : f = u * (B - 1 + 1)), V K 6 (MA g) H 0 0 Qf 80 [(0, .ref (g 0)), (1, .int (nI u)), (2, .int (nI a)), (3, .int (nI b)), (4, .int (nI f))] [] := by
          intro H d a b f hM ha hal hb hf
          refine vv_iload_n X dX2_path_80 rfl 2 rfl ?_
          exact vv_iret X hQ dX2_path_81 (Nat.le_refl _) (Nat.le_refl _) (MEnd.of hM (ag_u (by decide) (ag_r)) (ag_u (by decide) (ag_r)) 0 _ (nI a) (ask_t hp) rfl (fun _ => by simp only [eu]; rw [hB, ha]) rfl)
        have hl_3 : ∀ (n_i i : Nat) (H : Heap) (d : Nat → Int32) (a : Nat) (b : Nat) (f : Nat), i + n_i = B - 1 → (MR D g (va_up x 0 (nI 0)) (va_up I 24 d) J H) → (a = pth (I 10) (I 12) u i) → (a ≤ i) → (b = bbk (I 10) (I 12) (u * i) u) → (f = u * (i + 1)) → V K 6 (MA g) H 0 0 Qf 32 [(0, .ref (g 0)), (1, .int (nI u)), (2, .int (nI a)), (3, .int (nI b)), (4, .int (nI f))] [] := by
          intro n_i
          induction n_i with
          | zero =>
            intro i H d a b f hi hM ha hal hb hf
            obtain rfl : i = B - 1 := by omega
            have e1 : u * (B - 1 + 1 + 1) = u * (B - 1 + 1) + u := Nat.mul_succ u (B - 1 + 1)
            have e2 := hm (B - 1) (by omega)
            have e4 : u * (B + 1) = u * (B - 1 + 1 + 1) := by congr 1; omega
            refine vv_iload X dX2_path_32 4 rfl ?_
            refine vv_iload_n X dX2_path_34 rfl 1 rfl ?_
            refine vn_add X dX2_path_35 ?_
            refine vv_aload_n X dX2_path_36 rfl 0 rfl ?_
            refine mg10 X rfl hM dX2_path_37 ?_
            refine vv_iconst (v := nI 2) X dX2_path_40 (by decide) ?_
            refine vv_iald X hM.a10 (2) (by omega) (by decide) rfl dX2_path_41 ?_
            refine vv_eqi hP.e2 ?_
            refine vn_gt (tgt := 80) X (by omega) (by omega) dX2_path_42 (by decide) (fun c_42 => ?_) (fun c_42 => ?_)
            · exact hx_2 H d a b f hM ha hal hb hf
            · exact absurd c_42 (by omega)
          | succ n_i ihi =>
            intro i H d a b f hi hM ha hal hb hf
            have e1 : u * (i + 1 + 1) = u * (i + 1) + u := Nat.mul_succ u (i + 1)
            have hb5 := hb4 (u * i) u
            have hb6 : bsN (fun c => blk (I 10) (I 12) c f u) (nC (I 10)) ≤ 144 := hb4 f u
            have e3 := hm (i + 1) (by omega)
            have e2 := hm i (by omega)
            have hf2 : f = u * (i + 1) := hf
            refine vv_iload X dX2_path_32 4 rfl ?_
            refine vv_iload_n X dX2_path_34 rfl 1 rfl ?_
            refine vn_add X dX2_path_35 ?_
            refine vv_aload_n X dX2_path_36 rfl 0 rfl ?_
            refine mg10 X rfl hM dX2_path_37 ?_
            refine vv_iconst (v := nI 2) X dX2_path_40 (by decide) ?_
            refine vv_iald X hM.a10 (2) (by omega) (by decide) rfl dX2_path_41 ?_
            refine vv_eqi hP.e2 ?_
            refine vn_gt (tgt := 80) X (by omega) (by omega) dX2_path_42 (by decide) (fun c_42 => ?_) (fun c_42 => ?_)
            · exact absurd c_42 (by omega)
            · refine vv_aload_n X dX2_path_45 rfl 0 rfl ?_
              refine vv_iload X dX2_path_46 4 rfl ?_
              refine vv_iload_n X dX2_path_48 rfl 1 rfl ?_
              refine vv_callV X (mX2_bestOfBlock (kL K) D g (va_up x 0 (nI 0)) (va_up I 24 d) J (I 10) rfl (I 12) rfl hg f u hC hS hT (by omega) (by omega)) q3461 q3463 qs120 q144 q3464 nX2_bestOfBlock ⟨(Nat.le_of_ble_eq_true rfl), (Nat.le_of_ble_eq_true rfl)⟩ dX2_path_49 rfl (Nat.le_of_ble_eq_true rfl) (recv X hM.1 CL_X2) hM  (fun _ z => Or.inl z) ⟨(Nat.le_of_ble_eq_true rfl), (Nat.le_of_ble_eq_true rfl)⟩ (fun v_ H hq hz hk => ?_)
              obtain ⟨rfl, d_4, hM⟩ := hq
              clear hz hk
              rw [up_up] at hM
              refine vv_istore (lv' := [(5, .int (nI (bsN (fun c => blk (I 10) (I 12) c f u) (nC (I 10))))), (0, .ref (g 0)), (1, .int (nI u)), (2, .int (nI a)), (3, .int (nI b)), (4, .int (nI f))]) X dX2_path_52 (by decide) rfl ?_
              refine vv_iload_n X dX2_path_54 rfl 3 rfl ?_
              refine vv_iload X dX2_path_55 0 rfl ?_
              refine vv_iload_n X dX2_path_57 rfl 4 rfl ?_
              refine vn_eq (tgt := 65) X (by omega) (by omega) dX2_path_58 (by decide) (fun c_58 => ?_) (fun c_58 => ?_)
              · refine vv_iconst (v := nI 0) X dX2_path_65 (by decide) ?_
                refine vn_add X dX2_path_66 ?_
                refine vv_istore_n (lv' := [(2, .int (nI (a + 0))), (5, .int (nI (bsN (fun c => blk (I 10) (I 12) c f u) (nC (I 10))))), (0, .ref (g 0)), (1, .int (nI u)), (3, .int (nI b)), (4, .int (nI f))]) X dX2_path_67 rfl (by decide) rfl ?_
                refine vv_iload X dX2_path_68 1 rfl ?_
                refine vv_istore_n (lv' := [(3, .int (nI (bsN (fun c => blk (I 10) (I 12) c f u) (nC (I 10))))), (2, .int (nI (a + 0))), (5, .int (nI (bsN (fun c => blk (I 10) (I 12) c f u) (nC (I 10))))), (0, .ref (g 0)), (1, .int (nI u)), (4, .int (nI f))]) X dX2_path_70 rfl (by decide) rfl ?_
                refine vv_iload X dX2_path_71 5 rfl ?_
                refine vv_iload_n X dX2_path_73 rfl 4 rfl ?_
                refine vn_add X dX2_path_74 ?_
                refine vv_istore (lv' := [(4, .int (nI (f + u))), (3, .int (nI (bsN (fun c => blk (I 10) (I 12) c f u) (nC (I 10))))), (2, .int (nI (a + 0))), (5, .int (nI (bsN (fun c => blk (I 10) (I 12) c f u) (nC (I 10))))), (0, .ref (g 0)), (1, .int (nI u))]) X dX2_path_75 (by decide) rfl ?_
                refine vv_goto (tgt := 32) X dX2_path_77 (by decide) ?_
                refine vv_sub [4, 5, 2, 1, 0] rfl ?_
                exact ihi (i + 1) H d_4 (a + 0) (bsN (fun c => blk (I 10) (I 12) c f u) (nC (I 10))) (f + u) (by omega) (hM) (by rw [ha]; show _ = _ + (if bbk (I 10) (I 12) (u * (i + 1)) u ≠ bbk (I 10) (I 12) (u * i) u then 1 else 0); rw [← hb, ← hf, if_neg (fun z => z c_58)]; rfl) (by omega) (by rw [hf]) (by rw [hf, Nat.mul_succ u (i + 1)])
              · refine vv_iconst (v := nI 1) X dX2_path_61 (by decide) ?_
                refine vv_goto (tgt := 66) X dX2_path_62 (by decide) ?_
                refine vn_add X dX2_path_66 ?_
                refine vv_istore_n (lv' := [(2, .int (nI (a + 1))), (5, .int (nI (bsN (fun c => blk (I 10) (I 12) c f u) (nC (I 10))))), (0, .ref (g 0)), (1, .int (nI u)), (3, .int (nI b)), (4, .int (nI f))]) X dX2_path_67 rfl (by decide) rfl ?_
                refine vv_iload X dX2_path_68 1 rfl ?_
                refine vv_istore_n (lv' := [(3, .int (nI (bsN (fun c => blk (I 10) (I 12) c f u) (nC (I 10))))), (2, .int (nI (a + 1))), (5, .int (nI (bsN (fun c => blk (I 10) (I 12) c f u) (nC (I 10))))), (0, .ref (g 0)), (1, .int (nI u)), (4, .int (nI f))]) X dX2_path_70 rfl (by decide) rfl ?_
                refine vv_iload X dX2_path_71 5 rfl ?_
                refine vv_iload_n X dX2_path_73 rfl 4 rfl ?_
                refine vn_add X dX2_path_74 ?_
                refine vv_istore (lv' := [(4, .int (nI (f + u))), (3, .int (nI (bsN (fun c => blk (I 10) (I 12) c f u) (nC (I 10))))), (2, .int (nI (a + 1))), (5, .int (nI (bsN (fun c => blk (I 10) (I 12) c f u) (nC (I 10))))), (0, .ref (g 0)), (1, .int (nI u))]) X dX2_path_75 (by decide) rfl ?_
                refine vv_goto (tgt := 32) X dX2_path_77 (by decide) ?_
                refine vv_sub [4, 5, 2, 1, 0] rfl ?_
                exact ihi (i + 1) H d_4 (a + 1) (bsN (fun c => blk (I 10) (I 12) c f u) (nC (I 10))) (f + u) (by omega) (hM) (by rw [ha]; show _ = _ + (if bbk (I 10) (I 12) (u * (i + 1)) u ≠ bbk (I 10) (I 12) (u * i) u then 1 else 0); rw [← hb, ← hf, if_pos c_58]; rfl) (by omega) (by rw [hf]) (by rw [hf, Nat.mul_succ u (i + 1)])
        refine vv_sub [3, 4, 2, 1, 0] rfl ?_
        exact hl_3 (B - 1) 0 H d_1 0 (bbk (I 10) (I 12) 0 u) u (by omega) (hM) (rfl) (Nat.le_refl _) (by rw [Nat.mul_zero]) (by rw [Nat.zero_add, Nat.mul_one])
      · exact absurd c_15 (by decide)
    · refine vv_eqi (b2_n hp) ?_
      rw [if_neg hp] at hM
      refine vn_if_ne (tgt := 20) X (by omega) dX2_path_15 (by decide) (fun c_15 => ?_) (fun c_15 => ?_)
      · exact absurd c_15 (by decide)
      · refine vv_iconst (v := nI 0) X dX2_path_18 (by decide) ?_
        exact vv_iret X hQ dX2_path_19 (Nat.le_refl _) (Nat.le_refl _) (MEnd.of hM (ag_u (by decide) (ag_r)) (ag_r) 2 _ (nI 0) (ask_f hp) rfl (fun h => absurd h (by decide)) rfl)
theorem nX2_zonePower : notMH yX2_zonePower 1 := by decide +kernel
set_option maxHeartbeats 800000 in
theorem aX2_zonePower (l : Launch) (D : DD) (g : Nat → Nat) (x : Nat → Int32) (I : Nat → Nat → Int32) (J : Nat → Nat → Int64) (P : Nat → Int32) (hIP : I 10 = P) (S : Nat → Int32) (hIS : I 12 = S) (C : Bool) (hg : MG g) (z : Int32) (hP : VP P) (hc : cam C (x 20) P S (I 17))  : Ct l yX2_zonePower cX2_zonePower 5 (some .long) { frames := 6, cells := 0, slots := 0, locals := 130 } D [.ref (g 0), .int (z)] (fun H => MR D g x I J H) (MA g) (fun v H H1 => MEnd D g x I lV (an_zonePower C P S z) v H1) := by
  refine Ct.of (by decide +kernel) (Nat.le_of_ble_eq_true rfl) (fun K Qf hkl X hM hQ => ?_)
  subst hkl
  subst hIP
  subst hIS
  have l4 := hP.l4
  have l5 := hP.l5
  have l2 := hP.l2
  have l9 := hP.l9
  have l10 := hP.l10
  have l101 := hP.l101
  have hn4 : nC (I 10) ≤ 144 := Nat.mul_le_mul l9 l10
  refine vv_sub (lv' := [(0, .ref (g 0)), (1, .int (z))]) [0, 1] rfl ?_
  rcases hc with ⟨rfl, h20⟩ | ⟨rfl, h20, hC, hS, hT⟩
  · refine vv_aload_n X dX2_zonePower_0 rfl 0 rfl ?_
    refine vv_aload_n X dX2_zonePower_1 rfl 0 rfl ?_
    refine vv_iload_n X dX2_zonePower_2 rfl 1 rfl ?_
    refine vv_callVp X (mX2_isZone (kL K) D g x I J (I 10) rfl z hP) q3501 q3503 qs126 q144 q3504 nX2_isZone ⟨(Nat.le_of_ble_eq_true rfl), (Nat.le_of_ble_eq_true rfl)⟩ dX2_zonePower_3 rfl (Nat.le_of_ble_eq_true rfl) (recv X hM.1 CL_X2) hM ⟨(Nat.le_of_ble_eq_true rfl), (Nat.le_of_ble_eq_true rfl)⟩ ?_
    refine vv_callV X (mX2_mayAsk0 (kL K) D g x I J hg (ix (nZ (I 10)) z) h20) q3244 q3246 qs98 q144 q3247 nX2_mayAsk ⟨(Nat.le_of_ble_eq_true rfl), (Nat.le_of_ble_eq_true rfl)⟩ dX2_zonePower_6 rfl (Nat.le_of_ble_eq_true rfl) (recv X hM.1 CL_X2) hM  (fun _ z => Or.inl z) ⟨(Nat.le_of_ble_eq_true rfl), (Nat.le_of_ble_eq_true rfl)⟩ (fun v_ H hq hz hk => ?_)
    obtain ⟨rfl, hM⟩ := hq
    clear hz hk
    refine vv_eqi (b2_n (p := False) (fun z => z)) ?_
    refine vn_if_ne (tgt := 14) X (by omega) dX2_zonePower_9 (by decide) (fun c_9 => ?_) (fun c_9 => ?_)
    · exact absurd c_9 (by decide)
    · refine vv_lconst (v := 0) X dX2_zonePower_12 (by decide) ?_
      exact vv_lret X hQ dX2_zonePower_13 (Nat.le_refl _) (Nat.le_refl _) (MEnd.of hM (ag_u (by decide) (ag_r)) (ag_r) 1 _ (0) (ask_0) rfl (fun h => absurd h (by decide)) rfl)
  · refine vv_aload_n X dX2_zonePower_0 rfl 0 rfl ?_
    refine vv_aload_n X dX2_zonePower_1 rfl 0 rfl ?_
    refine vv_iload_n X dX2_zonePower_2 rfl 1 rfl ?_
    refine vv_callVp X (mX2_isZone (kL K) D g x I J (I 10) rfl z hP) q3501 q3503 qs126 q144 q3504 nX2_isZone ⟨(Nat.le_of_ble_eq_true rfl), (Nat.le_of_ble_eq_true rfl)⟩ dX2_zonePower_3 rfl (Nat.le_of_ble_eq_true rfl) (recv X hM.1 CL_X2) hM ⟨(Nat.le_of_ble_eq_true rfl), (Nat.le_of_ble_eq_true rfl)⟩ ?_
    refine vv_callV X (mX2_mayAsk1 (kL K) D g x I J hg (ix (nZ (I 10)) z) h20) q3244 q3246 qs98 q144 q3247 nX2_mayAsk ⟨(Nat.le_of_ble_eq_true rfl), (Nat.le_of_ble_eq_true rfl)⟩ dX2_zonePower_6 rfl (Nat.le_of_ble_eq_true rfl) (recv X hM.1 CL_X2) hM  (fun _ z => Or.inl z) ⟨(Nat.le_of_ble_eq_true rfl), (Nat.le_of_ble_eq_true rfl)⟩ (fun v_ H hq hz hk => ?_)
    obtain ⟨rfl, hM⟩ := hq
    clear hz hk
    by_cases hp : ix (nZ (I 10)) z
    · refine vv_eqi (b2_y hp) ?_
      rw [if_pos hp] at hM
      obtain ⟨u, hu, rfl⟩ := ix_of (by omega) hp
      have eu : cl (nI u) = u := cl_I (by omega)
      refine vn_if_ne (tgt := 14) X (by omega) dX2_zonePower_9 (by decide) (fun c_9 => ?_) (fun c_9 => ?_)
      · refine vv_lconst (v := 0) X dX2_zonePower_14 (by decide) ?_
        refine vv_lstore_n (lv' := [(2, .long (0)), (0, .ref (g 0)), (1, .int (nI u))]) X dX2_zonePower_15 rfl (by decide) rfl ?_
        refine vv_iconst (v := nI 0) X dX2_zonePower_16 (by decide) ?_
        refine vv_istore (lv' := [(4, .int (nI 0)), (2, .long (0)), (0, .ref (g 0)), (1, .int (nI u))]) X dX2_zonePower_17 (by decide) rfl ?_
        have hx_1 : ∀ (H : Heap) (d : Nat → Int32) (s : Int64) (hM : MR D g (va_up x 0 (nI 0)) (va_up I 24 d) J H) (hs : s = zsm (I 10) (I 12) u (nC (I 10))), V K 5 (MA g) H 0 0 Qf 61 [(0, .ref (g 0)), (1, .int (nI u)), (2, .long (s)), (4, .int (nI (nC (I 10))))] [] := by
          intro H d s hM hs
          refine vv_lload_n X dX2_zonePower_61 rfl 2 rfl ?_
          exact vv_lret X hQ dX2_zonePower_62 (Nat.le_refl _) (Nat.le_refl _) (MEnd.of hM (ag_u (by decide) (ag_r)) (ag_u (by decide) (ag_r)) 0 _ (s) (ask_t hp) rfl (fun _ => by simp only [eu]; rw [hs]) rfl)
        have hl_2 : ∀ (n_i i : Nat) (H : Heap) (d : Nat → Int32) (s : Int64), i + n_i = nC (I 10) → (MR D g (va_up x 0 (nI 0)) (va_up I 24 d) J H) → (s = zsm (I 10) (I 12) u i) → V K 5 (MA g) H 0 0 Qf 19 [(0, .ref (g 0)), (1, .int (nI u)), (2, .long (s)), (4, .int (nI i))] [] := by
          intro n_i
          induction n_i with
          | zero =>
            intro i H d s hi hM hs
            obtain rfl : i = nC (I 10) := by omega
            refine vv_iload X dX2_zonePower_19 3 rfl ?_
            refine vv_aload_n X dX2_zonePower_21 rfl 0 rfl ?_
            refine vv_callVp X (mX2_cellCount (kL K) D g (va_up x 0 (nI 0)) (va_up I 24 d) J (I 10) rfl hP) q3172 q3174 qs84 q144 q3175 nX2_cellCount ⟨(Nat.le_of_ble_eq_true rfl), (Nat.le_of_ble_eq_true rfl)⟩ dX2_zonePower_22 rfl (Nat.le_of_ble_eq_true rfl) (recv X hM.1 CL_X2) hM ⟨(Nat.le_of_ble_eq_true rfl), (Nat.le_of_ble_eq_true rfl)⟩ ?_
            refine vn_ge (tgt := 61) X (by omega) (by omega) dX2_zonePower_25 (by decide) (fun c_25 => ?_) (fun c_25 => ?_)
            · exact hx_1 H d s hM hs
            · exact absurd c_25 (by omega)
          | succ n_i ihi =>
            intro i H d s hi hM hs
            refine vv_iload X dX2_zonePower_19 3 rfl ?_
            refine vv_aload_n X dX2_zonePower_21 rfl 0 rfl ?_
            refine vv_callVp X (mX2_cellCount (kL K) D g (va_up x 0 (nI 0)) (va_up I 24 d) J (I 10) rfl hP) q3172 q3174 qs84 q144 q3175 nX2_cellCount ⟨(Nat.le_of_ble_eq_true rfl), (Nat.le_of_ble_eq_true rfl)⟩ dX2_zonePower_22 rfl (Nat.le_of_ble_eq_true rfl) (recv X hM.1 CL_X2) hM ⟨(Nat.le_of_ble_eq_true rfl), (Nat.le_of_ble_eq_true rfl)⟩ ?_
            refine vn_ge (tgt := 61) X (by omega) (by omega) dX2_zonePower_25 (by decide) (fun c_25 => ?_) (fun c_25 => ?_)
            · exact absurd hi (by omega)
            · refine vv_lload_n X dX2_zonePower_28 rfl 2 rfl ?_
              refine vv_aload_n X dX2_zonePower_29 rfl 0 rfl ?_
              refine vv_iload_n X dX2_zonePower_30 rfl 1 rfl ?_
              refine vv_iload X dX2_zonePower_31 3 rfl ?_
              refine vv_callVp X (mX2_isInZone (kL K) D g (va_up x 0 (nI 0)) (va_up I 24 d) J (I 10) rfl u i hC (by omega) (by omega)) q3505 q3507 qs127 q144 q3508 nX2_isInZone ⟨(Nat.le_of_ble_eq_true rfl), (Nat.le_of_ble_eq_true rfl)⟩ dX2_zonePower_33 rfl (Nat.le_of_ble_eq_true rfl) (recv X hM.1 CL_X2) hM ⟨(Nat.le_of_ble_eq_true rfl), (Nat.le_of_ble_eq_true rfl)⟩ ?_
              refine vb_eq (tgt := 52) X dX2_zonePower_36 (by decide) (fun c_36 => ?_) (fun c_36 => ?_)
              · refine vv_lconst (v := 0) X dX2_zonePower_52 (by decide) ?_
                refine vv_ladd X dX2_zonePower_53 ?_
                refine vv_lstore_n (lv' := [(2, .long (s + 0)), (0, .ref (g 0)), (1, .int (nI u)), (4, .int (nI i))]) X dX2_zonePower_54 rfl (by decide) rfl ?_
                refine vv_iinc (v := nI (i + 1)) (lv' := [(4, .int (nI (i + 1))), (2, .long (s + 0)), (0, .ref (g 0)), (1, .int (nI u))]) X dX2_zonePower_55 (k := 3) rfl (nI_add _ 1) (by decide) rfl ?_
                refine vv_goto (tgt := 19) X dX2_zonePower_58 (by decide) ?_
                refine vv_sub [2, 3, 1, 0] rfl ?_
                exact ihi (i + 1) H d (s + 0) (by omega) (hM) (by rw [hs]; show _ = _ + (if inZ (I 10) u i then pwc (I 10) (I 12) i else 0); rw [if_neg c_36]; rfl)
              · refine vv_aload_n X dX2_zonePower_39 rfl 0 rfl ?_
                refine vv_aload_n X dX2_zonePower_40 rfl 0 rfl ?_
                refine mg12 X rfl hM dX2_zonePower_41 ?_
                refine vv_iload X dX2_zonePower_44 3 rfl ?_
                refine vv_callV X (mX2_powerOf12 (kL K) D g (va_up x 0 (nI 0)) (va_up I 24 d) J (I 10) rfl (I 12) rfl hg i hP hS hT (by omega)) q3348 q3350 qs107 q144 q3351 nX2_powerOf ⟨(Nat.le_of_ble_eq_true rfl), (Nat.le_of_ble_eq_true rfl)⟩ dX2_zonePower_46 rfl (Nat.le_of_ble_eq_true rfl) (recv X hM.1 CL_X2) hM  (fun _ z => Or.inl z) ⟨(Nat.le_of_ble_eq_true rfl), (Nat.le_of_ble_eq_true rfl)⟩ (fun v_ H hq hz hk => ?_)
                obtain ⟨rfl, d_3, hM⟩ := hq
                clear hz hk
                rw [up_up] at hM
                refine vv_goto (tgt := 53) X dX2_zonePower_49 (by decide) ?_
                refine vv_ladd X dX2_zonePower_53 ?_
                refine vv_lstore_n (lv' := [(2, .long (s + (pwc (I 10) (I 12) i))), (0, .ref (g 0)), (1, .int (nI u)), (4, .int (nI i))]) X dX2_zonePower_54 rfl (by decide) rfl ?_
                refine vv_iinc (v := nI (i + 1)) (lv' := [(4, .int (nI (i + 1))), (2, .long (s + (pwc (I 10) (I 12) i))), (0, .ref (g 0)), (1, .int (nI u))]) X dX2_zonePower_55 (k := 3) rfl (nI_add _ 1) (by decide) rfl ?_
                refine vv_goto (tgt := 19) X dX2_zonePower_58 (by decide) ?_
                refine vv_sub [2, 3, 1, 0] rfl ?_
                exact ihi (i + 1) H d_3 (s + (pwc (I 10) (I 12) i)) (by omega) (hM) (by rw [hs]; show _ = _ + (if inZ (I 10) u i then pwc (I 10) (I 12) i else 0); rw [if_pos c_36]; rfl)
        refine vv_sub [2, 3, 1, 0] rfl ?_
        exact hl_2 (nC (I 10)) 0 H (I 24) 0 (by omega) (by rw [up_same]; exact hM) (rfl)
      · exact absurd c_9 (by decide)
    · refine vv_eqi (b2_n hp) ?_
      rw [if_neg hp] at hM
      refine vn_if_ne (tgt := 14) X (by omega) dX2_zonePower_9 (by decide) (fun c_9 => ?_) (fun c_9 => ?_)
      · exact absurd c_9 (by decide)
      · refine vv_lconst (v := 0) X dX2_zonePower_12 (by decide) ?_
        exact vv_lret X hQ dX2_zonePower_13 (Nat.le_refl _) (Nat.le_refl _) (MEnd.of hM (ag_u (by decide) (ag_r)) (ag_r) 2 _ (0) (ask_f hp) rfl (fun h => absurd h (by decide)) rfl)
theorem nX2_zoneBest : notMH yX2_zoneBest 1 := by decide +kernel
set_option maxHeartbeats 800000 in
theorem aX2_zoneBest (l : Launch) (D : DD) (g : Nat → Nat) (x : Nat → Int32) (I : Nat → Nat → Int32) (J : Nat → Nat → Int64) (P : Nat → Int32) (hIP : I 10 = P) (S : Nat → Int32) (hIS : I 12 = S) (C : Bool) (hg : MG g) (z : Int32) (hP : VP P) (hc : cam C (x 20) P S (I 17))  : Ct l yX2_zoneBest cX2_zoneBest 4 (some .int) { frames := 7, cells := 0, slots := 0, locals := 152 } D [.ref (g 0), .int (z)] (fun H => MR D g x I J H) (MA g) (fun v H H1 => MEnd D g x I iV (an_zoneBest C P S z) v H1) := by
  refine Ct.of (by decide +kernel) (Nat.le_of_ble_eq_true rfl) (fun K Qf hkl X hM hQ => ?_)
  subst hkl
  subst hIP
  subst hIS
  have l4 := hP.l4
  have l5 := hP.l5
  have l2 := hP.l2
  have l9 := hP.l9
  have l10 := hP.l10
  have l101 := hP.l101
  have hn4 : nC (I 10) ≤ 144 := Nat.mul_le_mul l9 l10
  refine vv_sub (lv' := [(0, .ref (g 0)), (1, .int (z))]) [0, 1] rfl ?_
  rcases hc with ⟨rfl, h20⟩ | ⟨rfl, h20, hC, hS, hT⟩
  · refine vv_aload_n X dX2_zoneBest_0 rfl 0 rfl ?_
    refine vv_aload_n X dX2_zoneBest_1 rfl 0 rfl ?_
    refine vv_iload_n X dX2_zoneBest_2 rfl 1 rfl ?_
    refine vv_callVp X (mX2_isZone (kL K) D g x I J (I 10) rfl z hP) q3501 q3503 qs126 q144 q3504 nX2_isZone ⟨(Nat.le_of_ble_eq_true rfl), (Nat.le_of_ble_eq_true rfl)⟩ dX2_zoneBest_3 rfl (Nat.le_of_ble_eq_true rfl) (recv X hM.1 CL_X2) hM ⟨(Nat.le_of_ble_eq_true rfl), (Nat.le_of_ble_eq_true rfl)⟩ ?_
    refine vv_callV X (mX2_mayAsk0 (kL K) D g x I J hg (ix (nZ (I 10)) z) h20) q3244 q3246 qs98 q144 q3247 nX2_mayAsk ⟨(Nat.le_of_ble_eq_true rfl), (Nat.le_of_ble_eq_true rfl)⟩ dX2_zoneBest_6 rfl (Nat.le_of_ble_eq_true rfl) (recv X hM.1 CL_X2) hM  (fun _ z => Or.inl z) ⟨(Nat.le_of_ble_eq_true rfl), (Nat.le_of_ble_eq_true rfl)⟩ (fun v_ H hq hz hk => ?_)
    obtain ⟨rfl, hM⟩ := hq
    clear hz hk
    refine vv_eqi (b2_n (p := False) (fun z => z)) ?_
    refine vn_if_ne (tgt := 14) X (by omega) dX2_zoneBest_9 (by decide) (fun c_9 => ?_) (fun c_9 => ?_)
    · exact absurd c_9 (by decide)
    · refine vv_iconst (v := nI 0) X dX2_zoneBest_12 (by decide) ?_
      exact vv_iret X hQ dX2_zoneBest_13 (Nat.le_refl _) (Nat.le_refl _) (MEnd.of hM (ag_u (by decide) (ag_r)) (ag_r) 1 _ (nI 0) (ask_0) rfl (fun h => absurd h (by decide)) rfl)
  · refine vv_aload_n X dX2_zoneBest_0 rfl 0 rfl ?_
    refine vv_aload_n X dX2_zoneBest_1 rfl 0 rfl ?_
    refine vv_iload_n X dX2_zoneBest_2 rfl 1 rfl ?_
    refine vv_callVp X (mX2_isZone (kL K) D g x I J (I 10) rfl z hP) q3501 q3503 qs126 q144 q3504 nX2_isZone ⟨(Nat.le_of_ble_eq_true rfl), (Nat.le_of_ble_eq_true rfl)⟩ dX2_zoneBest_3 rfl (Nat.le_of_ble_eq_true rfl) (recv X hM.1 CL_X2) hM ⟨(Nat.le_of_ble_eq_true rfl), (Nat.le_of_ble_eq_true rfl)⟩ ?_
    refine vv_callV X (mX2_mayAsk1 (kL K) D g x I J hg (ix (nZ (I 10)) z) h20) q3244 q3246 qs98 q144 q3247 nX2_mayAsk ⟨(Nat.le_of_ble_eq_true rfl), (Nat.le_of_ble_eq_true rfl)⟩ dX2_zoneBest_6 rfl (Nat.le_of_ble_eq_true rfl) (recv X hM.1 CL_X2) hM  (fun _ z => Or.inl z) ⟨(Nat.le_of_ble_eq_true rfl), (Nat.le_of_ble_eq_true rfl)⟩ (fun v_ H hq hz hk => ?_)
    obtain ⟨rfl, hM⟩ := hq
    clear hz hk
    by_cases hp : ix (nZ (I 10)) z
    · refine vv_eqi (b2_y hp) ?_
      rw [if_pos hp] at hM
      obtain ⟨u, hu, rfl⟩ := ix_of (by omega) hp
      have eu : cl (nI u) = u := cl_I (by omega)
      refine vn_if_ne (tgt := 14) X (by omega) dX2_zoneBest_9 (by decide) (fun c_9 => ?_) (fun c_9 => ?_)
      · refine vv_aload_n X dX2_zoneBest_14 rfl 0 rfl ?_
        refine vv_aload_n X dX2_zoneBest_15 rfl 0 rfl ?_
        refine mg12 X rfl hM dX2_zoneBest_16 ?_
        refine vv_callV X (mX2_laysPowers12 (kL K) D g (va_up x 0 (nI 0)) I J (I 10) rfl (I 12) rfl hg hP hS hT) q3376 q3378 qs112 q144 q3379 nX2_laysPowers ⟨(Nat.le_of_ble_eq_true rfl), (Nat.le_of_ble_eq_true rfl)⟩ dX2_zoneBest_19 rfl (Nat.le_of_ble_eq_true rfl) (recv X hM.1 CL_X2) hM  (fun _ z => Or.inl z) ⟨(Nat.le_of_ble_eq_true rfl), (Nat.le_of_ble_eq_true rfl)⟩ (fun v_ H hq hz hk => ?_)
        obtain ⟨rfl, d_1, p_2, hM, hp_3⟩ := hq
        clear hz hk
        refine vv_iconst (v := -1) X dX2_zoneBest_22 (by decide) ?_
        refine vv_istore_n (lv' := [(2, .int ((-1))), (0, .ref (g 0)), (1, .int (nI u))]) X dX2_zoneBest_23 rfl (by decide) rfl ?_
        refine vv_iconst (v := nI 0) X dX2_zoneBest_24 (by decide) ?_
        refine vv_istore_n (lv' := [(3, .int (nI 0)), (2, .int ((-1))), (0, .ref (g 0)), (1, .int (nI u))]) X dX2_zoneBest_25 rfl (by decide) rfl ?_
        have hx_4 : ∀ (b : Option Nat) (hb : b = (bsf (fun c => decide (inZ (I 10) u c)) (pwc (I 10) (I 12)) (nC (I 10)))), V K 4 (MA g) H 0 0 Qf 72 [(0, .ref (g 0)), (1, .int (nI u)), (2, .int (obI b)), (3, .int (nI (nC (I 10))))] [] := by
          intro b hb
          refine vv_iload_n X dX2_zoneBest_72 rfl 2 rfl ?_
          exact vv_iret X hQ dX2_zoneBest_73 (Nat.le_refl _) (Nat.le_refl _) (MEnd.of hM (ag_u (by decide) (ag_r)) (ag_u (by decide) (ag_r)) 0 _ (obI b) (ask_t hp) rfl (fun _ => by simp only [eu]; rw [hb]) rfl)
        have hl_5 : ∀ (n_i i : Nat) (b : Option Nat), i + n_i = nC (I 10) → (b = (bsf (fun c => decide (inZ (I 10) u c)) (pwc (I 10) (I 12)) i)) → V K 4 (MA g) H 0 0 Qf 26 [(0, .ref (g 0)), (1, .int (nI u)), (2, .int (obI b)), (3, .int (nI i))] [] := by
          intro n_i
          induction n_i with
          | zero =>
            intro i b hi hb
            obtain rfl : i = nC (I 10) := by omega
            refine vv_iload_n X dX2_zoneBest_26 rfl 3 rfl ?_
            refine vv_aload_n X dX2_zoneBest_27 rfl 0 rfl ?_
            refine vv_callVp X (mX2_cellCount (kL K) D g (va_up x 0 (nI 0)) (va_up I 24 d_1) (va_up J 25 p_2) (I 10) rfl hP) q3172 q3174 qs84 q144 q3175 nX2_cellCount ⟨(Nat.le_of_ble_eq_true rfl), (Nat.le_of_ble_eq_true rfl)⟩ dX2_zoneBest_28 rfl (Nat.le_of_ble_eq_true rfl) (recv X hM.1 CL_X2) hM ⟨(Nat.le_of_ble_eq_true rfl), (Nat.le_of_ble_eq_true rfl)⟩ ?_
            refine vn_ge (tgt := 72) X (by omega) (by omega) dX2_zoneBest_31 (by decide) (fun c_31 => ?_) (fun c_31 => ?_)
            · exact hx_4 b hb
            · exact absurd c_31 (by omega)
          | succ n_i ihi =>
            intro i b hi hb
            refine vv_iload_n X dX2_zoneBest_26 rfl 3 rfl ?_
            refine vv_aload_n X dX2_zoneBest_27 rfl 0 rfl ?_
            refine vv_callVp X (mX2_cellCount (kL K) D g (va_up x 0 (nI 0)) (va_up I 24 d_1) (va_up J 25 p_2) (I 10) rfl hP) q3172 q3174 qs84 q144 q3175 nX2_cellCount ⟨(Nat.le_of_ble_eq_true rfl), (Nat.le_of_ble_eq_true rfl)⟩ dX2_zoneBest_28 rfl (Nat.le_of_ble_eq_true rfl) (recv X hM.1 CL_X2) hM ⟨(Nat.le_of_ble_eq_true rfl), (Nat.le_of_ble_eq_true rfl)⟩ ?_
            refine vn_ge (tgt := 72) X (by omega) (by omega) dX2_zoneBest_31 (by decide) (fun c_31 => ?_) (fun c_31 => ?_)
            · exact absurd hi (by omega)
            · cases hbo : b with
              | none =>
                refine vv_sub (lv' := [(0, .ref (g 0)), (1, .int (nI u)), (2, .int (-1)), (3, .int (nI i))]) [0, 1, 2, 3] rfl ?_
                refine vv_aload_n X dX2_zoneBest_34 rfl 0 rfl ?_
                refine vv_iload_n X dX2_zoneBest_35 rfl 1 rfl ?_
                refine vv_iload_n X dX2_zoneBest_36 rfl 3 rfl ?_
                refine vv_callVp X (mX2_isInZone (kL K) D g (va_up x 0 (nI 0)) (va_up I 24 d_1) (va_up J 25 p_2) (I 10) rfl u i hC (by omega) (by omega)) q3505 q3507 qs127 q144 q3508 nX2_isInZone ⟨(Nat.le_of_ble_eq_true rfl), (Nat.le_of_ble_eq_true rfl)⟩ dX2_zoneBest_37 rfl (Nat.le_of_ble_eq_true rfl) (recv X hM.1 CL_X2) hM ⟨(Nat.le_of_ble_eq_true rfl), (Nat.le_of_ble_eq_true rfl)⟩ ?_
                refine vb_eq (tgt := 66) X dX2_zoneBest_40 (by decide) (fun c_40 => ?_) (fun c_40 => ?_)
                · refine vv_iinc (v := nI (i + 1)) (lv' := [(3, .int (nI (i + 1))), (0, .ref (g 0)), (1, .int (nI u)), (2, .int (-1))]) X dX2_zoneBest_66 (k := 3) rfl (nI_add _ 1) (by decide) rfl ?_
                  refine vv_goto (tgt := 26) X dX2_zoneBest_69 (by decide) ?_
                  refine vv_sub [1, 2, 3, 0] rfl ?_
                  exact ihi (i + 1) none (by omega) (by rw [bsf_s, ← hb, hbo]; exact (if_neg (fun z => c_40 (of_decide_eq_true z))).symm)
                · refine vv_iload_n X dX2_zoneBest_43 rfl 2 rfl ?_
                  refine vv_iconst (v := -1) X dX2_zoneBest_44 (by decide) ?_
                  refine vv_icmp_eq (tgt := 64) X dX2_zoneBest_45 (by decide) (fun c_45 => ?_) (fun c_45 => ?_)
                  · refine vv_iload_n X dX2_zoneBest_64 rfl 3 rfl ?_
                    refine vv_istore_n (lv' := [(2, .int (nI i)), (0, .ref (g 0)), (1, .int (nI u)), (3, .int (nI i))]) X dX2_zoneBest_65 rfl (by decide) rfl ?_
                    refine vv_iinc (v := nI (i + 1)) (lv' := [(3, .int (nI (i + 1))), (2, .int (nI i)), (0, .ref (g 0)), (1, .int (nI u))]) X dX2_zoneBest_66 (k := 3) rfl (nI_add _ 1) (by decide) rfl ?_
                    refine vv_goto (tgt := 26) X dX2_zoneBest_69 (by decide) ?_
                    refine vv_sub [2, 3, 1, 0] rfl ?_
                    exact ihi (i + 1) (some i) (by omega) (by rw [bsf_s, ← hb, hbo]; exact (if_pos (decide_eq_true c_40)).symm)
                  · exact absurd rfl c_45
              | some j =>
                have hji : j < i := bsf_lt _ _ (hb.symm.trans hbo)
                refine vv_sub (lv' := [(0, .ref (g 0)), (1, .int (nI u)), (2, .int (nI j)), (3, .int (nI i))]) [0, 1, 2, 3] rfl ?_
                refine vv_aload_n X dX2_zoneBest_34 rfl 0 rfl ?_
                refine vv_iload_n X dX2_zoneBest_35 rfl 1 rfl ?_
                refine vv_iload_n X dX2_zoneBest_36 rfl 3 rfl ?_
                refine vv_callVp X (mX2_isInZone (kL K) D g (va_up x 0 (nI 0)) (va_up I 24 d_1) (va_up J 25 p_2) (I 10) rfl u i hC (by omega) (by omega)) q3505 q3507 qs127 q144 q3508 nX2_isInZone ⟨(Nat.le_of_ble_eq_true rfl), (Nat.le_of_ble_eq_true rfl)⟩ dX2_zoneBest_37 rfl (Nat.le_of_ble_eq_true rfl) (recv X hM.1 CL_X2) hM ⟨(Nat.le_of_ble_eq_true rfl), (Nat.le_of_ble_eq_true rfl)⟩ ?_
                refine vb_eq (tgt := 66) X dX2_zoneBest_40 (by decide) (fun c_40 => ?_) (fun c_40 => ?_)
                · refine vv_iinc (v := nI (i + 1)) (lv' := [(3, .int (nI (i + 1))), (0, .ref (g 0)), (1, .int (nI u)), (2, .int (nI j))]) X dX2_zoneBest_66 (k := 3) rfl (nI_add _ 1) (by decide) rfl ?_
                  refine vv_goto (tgt := 26) X dX2_zoneBest_69 (by decide) ?_
                  refine vv_sub [1, 2, 3, 0] rfl ?_
                  exact ihi (i + 1) (some j) (by omega) (by rw [bsf_s, ← hb, hbo]; exact (if_neg (fun z => c_40 (of_decide_eq_true z.1))).symm)
                · refine vv_iload_n X dX2_zoneBest_43 rfl 2 rfl ?_
                  refine vv_iconst (v := -1) X dX2_zoneBest_44 (by decide) ?_
                  refine vv_icmp_eq (tgt := 64) X dX2_zoneBest_45 (by decide) (fun c_45 => ?_) (fun c_45 => ?_)
                  · exact absurd c_45 (nI_nm1 (by omega))
                  · refine vv_aload_n X dX2_zoneBest_48 rfl 0 rfl ?_
                    refine mg25 X rfl hM dX2_zoneBest_49 ?_
                    refine vv_iload_n X dX2_zoneBest_52 rfl 3 rfl ?_
                    refine vv_lald X hM.a25 (i) (by omega) (by decide) rfl dX2_zoneBest_53 ?_
                    refine vv_eql (hp_3 _ (by omega)) ?_
                    refine vv_aload_n X dX2_zoneBest_54 rfl 0 rfl ?_
                    refine mg25 X rfl hM dX2_zoneBest_55 ?_
                    refine vv_iload_n X dX2_zoneBest_58 rfl 2 rfl ?_
                    refine vv_lald X hM.a25 (j) (by omega) (by decide) rfl dX2_zoneBest_59 ?_
                    refine vv_eql (hp_3 _ (by omega)) ?_
                    refine vv_lcmp X dX2_zoneBest_60 ?_
                    refine vz_le (tgt := 66) X dX2_zoneBest_61 (by decide) (fun c_61 => ?_) (fun c_61 => ?_)
                    · refine vv_iinc (v := nI (i + 1)) (lv' := [(3, .int (nI (i + 1))), (0, .ref (g 0)), (1, .int (nI u)), (2, .int (nI j))]) X dX2_zoneBest_66 (k := 3) rfl (nI_add _ 1) (by decide) rfl ?_
                      refine vv_goto (tgt := 26) X dX2_zoneBest_69 (by decide) ?_
                      refine vv_sub [1, 2, 3, 0] rfl ?_
                      exact ihi (i + 1) (some j) (by omega) (by rw [bsf_s, ← hb, hbo]; exact (if_neg (fun z => absurd z.2 (Int64.not_lt.mpr c_61))).symm)
                    · refine vv_iload_n X dX2_zoneBest_64 rfl 3 rfl ?_
                      refine vv_istore_n (lv' := [(2, .int (nI i)), (0, .ref (g 0)), (1, .int (nI u)), (3, .int (nI i))]) X dX2_zoneBest_65 rfl (by decide) rfl ?_
                      refine vv_iinc (v := nI (i + 1)) (lv' := [(3, .int (nI (i + 1))), (2, .int (nI i)), (0, .ref (g 0)), (1, .int (nI u))]) X dX2_zoneBest_66 (k := 3) rfl (nI_add _ 1) (by decide) rfl ?_
                      refine vv_goto (tgt := 26) X dX2_zoneBest_69 (by decide) ?_
                      refine vv_sub [2, 3, 1, 0] rfl ?_
                      exact ihi (i + 1) (some i) (by omega) (by rw [bsf_s, ← hb, hbo]; exact (if_pos ⟨(decide_eq_true c_40), c_61⟩).symm)
        refine vv_sub [2, 3, 1, 0] rfl ?_
        exact hl_5 (nC (I 10)) 0 none (by omega) (rfl)
      · exact absurd c_9 (by decide)
    · refine vv_eqi (b2_n hp) ?_
      rw [if_neg hp] at hM
      refine vn_if_ne (tgt := 14) X (by omega) dX2_zoneBest_9 (by decide) (fun c_9 => ?_) (fun c_9 => ?_)
      · exact absurd c_9 (by decide)
      · refine vv_iconst (v := nI 0) X dX2_zoneBest_12 (by decide) ?_
        exact vv_iret X hQ dX2_zoneBest_13 (Nat.le_refl _) (Nat.le_refl _) (MEnd.of hM (ag_u (by decide) (ag_r)) (ag_r) 2 _ (nI 0) (ask_f hp) rfl (fun h => absurd h (by decide)) rfl)
theorem nX2_movingPower : notMH yX2_movingPower 3 := by decide +kernel
set_option maxHeartbeats 800000 in
theorem aX2_movingPower (l : Launch) (D : DD) (g : Nat → Nat) (x : Nat → Int32) (I : Nat → Nat → Int32) (J : Nat → Nat → Int64) (P : Nat → Int32) (hIP : I 10 = P) (S : Nat → Int32) (hIS : I 12 = S) (C : Bool) (hg : MG g) (a p q : Int32) (hP : VP P) (hc : cam C (x 20) P S (I 17))  : Ct l yX2_movingPower cX2_movingPower 4 (some .long) { frames := 5, cells := 0, slots := 0, locals := 113 } D [.ref (g 0), .int (a), .int (p), .int (q)] (fun H => MR D g x I J H) (MA g) (fun v H H1 => MEnd D g x I lV (an_movingPower C P S a p q) v H1) := by
  refine Ct.of (by decide +kernel) (Nat.le_of_ble_eq_true rfl) (fun K Qf hkl X hM hQ => ?_)
  subst hkl
  subst hIP
  subst hIS
  have l4 := hP.l4
  have l5 := hP.l5
  have l2 := hP.l2
  have l9 := hP.l9
  have l10 := hP.l10
  have l101 := hP.l101
  have hn4 : nC (I 10) ≤ 144 := Nat.mul_le_mul l9 l10
  refine vv_sub (lv' := [(0, .ref (g 0)), (1, .int (a)), (2, .int (p)), (3, .int (q))]) [0, 1, 2, 3] rfl ?_
  rcases hc with ⟨rfl, h20⟩ | ⟨rfl, h20, hC, hS, hT⟩
  · refine vv_aload_n X dX2_movingPower_0 rfl 0 rfl ?_
    refine vv_aload_n X dX2_movingPower_1 rfl 0 rfl ?_
    refine vv_iload_n X dX2_movingPower_2 rfl 1 rfl ?_
    refine vv_callVp X (mX2_isCell (kL K) D g x I J (I 10) rfl a hP) q3268 q3270 qs100 q144 q3271 nX2_isCell ⟨(Nat.le_of_ble_eq_true rfl), (Nat.le_of_ble_eq_true rfl)⟩ dX2_movingPower_3 rfl (Nat.le_of_ble_eq_true rfl) (recv X hM.1 CL_X2) hM ⟨(Nat.le_of_ble_eq_true rfl), (Nat.le_of_ble_eq_true rfl)⟩ ?_
    refine vv_callV X (mX2_mayAsk0 (kL K) D g x I J hg (ix (nC (I 10)) a) h20) q3244 q3246 qs98 q144 q3247 nX2_mayAsk ⟨(Nat.le_of_ble_eq_true rfl), (Nat.le_of_ble_eq_true rfl)⟩ dX2_movingPower_6 rfl (Nat.le_of_ble_eq_true rfl) (recv X hM.1 CL_X2) hM  (fun _ z => Or.inl z) ⟨(Nat.le_of_ble_eq_true rfl), (Nat.le_of_ble_eq_true rfl)⟩ (fun v_ H hq hz hk => ?_)
    obtain ⟨rfl, hM⟩ := hq
    clear hz hk
    refine vv_eqi (b2_n (p := False) (fun z => z)) ?_
    refine vn_if_ne (tgt := 14) X (by omega) dX2_movingPower_9 (by decide) (fun c_9 => ?_) (fun c_9 => ?_)
    · exact absurd c_9 (by decide)
    · refine vv_lconst (v := 0) X dX2_movingPower_12 (by decide) ?_
      exact vv_lret X hQ dX2_movingPower_13 (Nat.le_refl _) (Nat.le_refl _) (MEnd.of hM (ag_u (by decide) (ag_r)) (ag_r) 1 _ (0) (ask_0) rfl (fun h => absurd h (by decide)) rfl)
  · refine vv_aload_n X dX2_movingPower_0 rfl 0 rfl ?_
    refine vv_aload_n X dX2_movingPower_1 rfl 0 rfl ?_
    refine vv_iload_n X dX2_movingPower_2 rfl 1 rfl ?_
    refine vv_callVp X (mX2_isCell (kL K) D g x I J (I 10) rfl a hP) q3268 q3270 qs100 q144 q3271 nX2_isCell ⟨(Nat.le_of_ble_eq_true rfl), (Nat.le_of_ble_eq_true rfl)⟩ dX2_movingPower_3 rfl (Nat.le_of_ble_eq_true rfl) (recv X hM.1 CL_X2) hM ⟨(Nat.le_of_ble_eq_true rfl), (Nat.le_of_ble_eq_true rfl)⟩ ?_
    refine vv_callV X (mX2_mayAsk1 (kL K) D g x I J hg (ix (nC (I 10)) a) h20) q3244 q3246 qs98 q144 q3247 nX2_mayAsk ⟨(Nat.le_of_ble_eq_true rfl), (Nat.le_of_ble_eq_true rfl)⟩ dX2_movingPower_6 rfl (Nat.le_of_ble_eq_true rfl) (recv X hM.1 CL_X2) hM  (fun _ z => Or.inl z) ⟨(Nat.le_of_ble_eq_true rfl), (Nat.le_of_ble_eq_true rfl)⟩ (fun v_ H hq hz hk => ?_)
    obtain ⟨rfl, hM⟩ := hq
    clear hz hk
    by_cases hp : ix (nC (I 10)) a
    · refine vv_eqi (b2_y hp) ?_
      rw [if_pos hp] at hM
      obtain ⟨j, hj, rfl⟩ := ix_of (by omega) hp
      have ej : cl (nI j) = j := cl_I (by omega)
      refine vn_if_ne (tgt := 14) X (by omega) dX2_movingPower_9 (by decide) (fun c_9 => ?_) (fun c_9 => ?_)
      · refine vv_iload_n X dX2_movingPower_14 rfl 2 rfl ?_
        refine vv_iload_n X dX2_movingPower_15 rfl 3 rfl ?_
        refine vv_callSp X (mX2_isVelocity (kL K) D p q) q3517 q3518 q144 q3519 nX2_isVelocity ⟨(Nat.le_of_ble_eq_true rfl), (Nat.le_of_ble_eq_true rfl)⟩ dX2_movingPower_16 rfl (Nat.le_of_ble_eq_true rfl) trivial ⟨(Nat.le_of_ble_eq_true rfl), (Nat.le_of_ble_eq_true rfl)⟩ ?_
        refine vb_eq (tgt := 32) X dX2_movingPower_19 (by decide) (fun c_19 => ?_) (fun c_19 => ?_)
        · refine vv_aload_n X dX2_movingPower_32 rfl 0 rfl ?_
          refine vv_iconst (v := nI 3) X dX2_movingPower_33 (by decide) ?_
          refine vv_callV X (mX2_throwsAt (kL K) D g (va_up x 0 (nI 0)) I J hg (nI 3)) q3034 q3036 qs59 q144 q3037 nX2_throwsAt ⟨(Nat.le_of_ble_eq_true rfl), (Nat.le_of_ble_eq_true rfl)⟩ dX2_movingPower_34 rfl (Nat.le_of_ble_eq_true rfl) (recv X hM.1 CL_X2) hM  (fun _ z => Or.inl z) ⟨(Nat.le_of_ble_eq_true rfl), (Nat.le_of_ble_eq_true rfl)⟩ (fun v_ H hq hz hk => ?_)
          obtain ⟨rfl, hM⟩ := hq
          clear hz hk
          rw [up_up] at hM
          refine vv_i2l (v := 0) X dX2_movingPower_37 rfl ?_
          exact vv_lret X hQ dX2_movingPower_38 (Nat.le_refl _) (Nat.le_refl _) (MEnd.of hM (ag_u (by decide) (ag_r)) (ag_r) 3 _ (0) ((ask_t hp).trans (arg_f c_19)) rfl (fun h => absurd h (by decide)) rfl)
        · refine vv_aload_n X dX2_movingPower_22 rfl 0 rfl ?_
          refine vv_iload_n X dX2_movingPower_23 rfl 1 rfl ?_
          refine vv_iload_n X dX2_movingPower_24 rfl 2 rfl ?_
          refine vv_iload_n X dX2_movingPower_25 rfl 3 rfl ?_
          refine vv_callV X (mX2_movingOf (kL K) D g (va_up x 0 (nI 0)) I J (I 10) rfl (I 12) rfl hg j p q hC hS (by omega) (rg_of (by decide) (by decide) c_19.1) (rg_of (by decide) (by decide) c_19.2)) q3520 q3522 qs128 q144 q3523 nX2_movingOf ⟨(Nat.le_of_ble_eq_true rfl), (Nat.le_of_ble_eq_true rfl)⟩ dX2_movingPower_26 rfl (Nat.le_of_ble_eq_true rfl) (recv X hM.1 CL_X2) hM  (fun _ z => Or.inl z) ⟨(Nat.le_of_ble_eq_true rfl), (Nat.le_of_ble_eq_true rfl)⟩ (fun v_ H hq hz hk => ?_)
          obtain ⟨rfl, d_1, hM⟩ := hq
          clear hz hk
          refine vv_goto (tgt := 38) X dX2_movingPower_29 (by decide) ?_
          exact vv_lret X hQ dX2_movingPower_38 (Nat.le_refl _) (Nat.le_refl _) (MEnd.of hM (ag_u (by decide) (ag_r)) (ag_u (by decide) (ag_r)) 0 _ (mov (I 10) (I 12) j p q) ((ask_t hp).trans (arg_t c_19)) rfl (fun _ => by simp only [ej]) rfl)
      · exact absurd c_9 (by decide)
    · refine vv_eqi (b2_n hp) ?_
      rw [if_neg hp] at hM
      refine vn_if_ne (tgt := 14) X (by omega) dX2_movingPower_9 (by decide) (fun c_9 => ?_) (fun c_9 => ?_)
      · exact absurd c_9 (by decide)
      · refine vv_lconst (v := 0) X dX2_movingPower_12 (by decide) ?_
        exact vv_lret X hQ dX2_movingPower_13 (Nat.le_refl _) (Nat.le_refl _) (MEnd.of hM (ag_u (by decide) (ag_r)) (ag_r) 2 _ (0) (ask_f hp) rfl (fun h => absurd h (by decide)) rfl)
theorem nX2_correlation : notMH yX2_correlation 3 := by decide +kernel
set_option maxHeartbeats 800000 in
theorem aX2_correlation (l : Launch) (D : DD) (g : Nat → Nat) (x : Nat → Int32) (I : Nat → Nat → Int32) (J : Nat → Nat → Int64) (P : Nat → Int32) (hIP : I 10 = P) (S : Nat → Int32) (hIS : I 12 = S) (C : Bool) (hg : MG g) (a b t : Int32) (hP : VP P) (hc : cam C (x 20) P S (I 17))  : Ct l yX2_correlation cX2_correlation 4 (some .long) { frames := 3, cells := 0, slots := 0, locals := 55 } D [.ref (g 0), .int (a), .int (b), .int (t)] (fun H => MR D g x I J H) (MA g) (fun v H H1 => MEnd D g x I lV (an_correlation C P S a b t) v H1) := by
  refine Ct.of (by decide +kernel) (Nat.le_of_ble_eq_true rfl) (fun K Qf hkl X hM hQ => ?_)
  subst hkl
  subst hIP
  subst hIS
  have l4 := hP.l4
  have l5 := hP.l5
  have l2 := hP.l2
  have l9 := hP.l9
  have l10 := hP.l10
  have l101 := hP.l101
  have hn4 : nC (I 10) ≤ 144 := Nat.mul_le_mul l9 l10
  refine vv_sub (lv' := [(0, .ref (g 0)), (1, .int (a)), (2, .int (b)), (3, .int (t))]) [0, 1, 2, 3] rfl ?_
  rcases hc with ⟨rfl, h20⟩ | ⟨rfl, h20, hC, hS, hT⟩
  · refine vv_aload_n X dX2_correlation_0 rfl 0 rfl ?_
    refine vv_aload_n X dX2_correlation_1 rfl 0 rfl ?_
    refine vv_iload_n X dX2_correlation_2 rfl 1 rfl ?_
    refine vv_callVp X (mX2_isMic (kL K) D g x I J (I 10) rfl a hP) q3240 q3242 qs97 q144 q3243 nX2_isMic ⟨(Nat.le_of_ble_eq_true rfl), (Nat.le_of_ble_eq_true rfl)⟩ dX2_correlation_3 rfl (Nat.le_of_ble_eq_true rfl) (recv X hM.1 CL_X2) hM ⟨(Nat.le_of_ble_eq_true rfl), (Nat.le_of_ble_eq_true rfl)⟩ ?_
    refine vb_eq (tgt := 21) X dX2_correlation_6 (by decide) (fun c_6 => ?_) (fun c_6 => ?_)
    · refine vv_iconst (v := nI 0) X dX2_correlation_21 (by decide) ?_
      refine vv_callV X (mX2_mayAsk0 (kL K) D g x I J hg False h20) q3244 q3246 qs98 q144 q3247 nX2_mayAsk ⟨(Nat.le_of_ble_eq_true rfl), (Nat.le_of_ble_eq_true rfl)⟩ dX2_correlation_22 rfl (Nat.le_of_ble_eq_true rfl) (recv X hM.1 CL_X2) hM  (fun _ z => Or.inl z) ⟨(Nat.le_of_ble_eq_true rfl), (Nat.le_of_ble_eq_true rfl)⟩ (fun v_ H hq hz hk => ?_)
      obtain ⟨rfl, hM⟩ := hq
      clear hz hk
      refine vv_eqi (b2_n (p := False) (fun z => z)) ?_
      refine vn_if_ne (tgt := 30) X (by omega) dX2_correlation_25 (by decide) (fun c_25 => ?_) (fun c_25 => ?_)
      · exact absurd c_25 (by decide)
      · refine vv_lconst (v := 0) X dX2_correlation_28 (by decide) ?_
        exact vv_lret X hQ dX2_correlation_29 (Nat.le_refl _) (Nat.le_refl _) (MEnd.of hM (ag_u (by decide) (ag_r)) (ag_r) 1 _ (0) (ask_0) rfl (fun h => absurd h (by decide)) rfl)
    · refine vv_aload_n X dX2_correlation_9 rfl 0 rfl ?_
      refine vv_iload_n X dX2_correlation_10 rfl 2 rfl ?_
      refine vv_callVp X (mX2_isMic (kL K) D g x I J (I 10) rfl b hP) q3240 q3242 qs97 q144 q3243 nX2_isMic ⟨(Nat.le_of_ble_eq_true rfl), (Nat.le_of_ble_eq_true rfl)⟩ dX2_correlation_11 rfl (Nat.le_of_ble_eq_true rfl) (recv X hM.1 CL_X2) hM ⟨(Nat.le_of_ble_eq_true rfl), (Nat.le_of_ble_eq_true rfl)⟩ ?_
      refine vb_eq (tgt := 21) X dX2_correlation_14 (by decide) (fun c_14 => ?_) (fun c_14 => ?_)
      · refine vv_iconst (v := nI 0) X dX2_correlation_21 (by decide) ?_
        refine vv_callV X (mX2_mayAsk0 (kL K) D g x I J hg False h20) q3244 q3246 qs98 q144 q3247 nX2_mayAsk ⟨(Nat.le_of_ble_eq_true rfl), (Nat.le_of_ble_eq_true rfl)⟩ dX2_correlation_22 rfl (Nat.le_of_ble_eq_true rfl) (recv X hM.1 CL_X2) hM  (fun _ z => Or.inl z) ⟨(Nat.le_of_ble_eq_true rfl), (Nat.le_of_ble_eq_true rfl)⟩ (fun v_ H hq hz hk => ?_)
        obtain ⟨rfl, hM⟩ := hq
        clear hz hk
        refine vv_eqi (b2_n (p := False) (fun z => z)) ?_
        refine vn_if_ne (tgt := 30) X (by omega) dX2_correlation_25 (by decide) (fun c_25 => ?_) (fun c_25 => ?_)
        · exact absurd c_25 (by decide)
        · refine vv_lconst (v := 0) X dX2_correlation_28 (by decide) ?_
          exact vv_lret X hQ dX2_correlation_29 (Nat.le_refl _) (Nat.le_refl _) (MEnd.of hM (ag_u (by decide) (ag_r)) (ag_r) 1 _ (0) (ask_0) rfl (fun h => absurd h (by decide)) rfl)
      · refine vv_iconst (v := nI 1) X dX2_correlation_17 (by decide) ?_
        refine vv_goto (tgt := 22) X dX2_correlation_18 (by decide) ?_
        refine vv_callV X (mX2_mayAsk0 (kL K) D g x I J hg True h20) q3244 q3246 qs98 q144 q3247 nX2_mayAsk ⟨(Nat.le_of_ble_eq_true rfl), (Nat.le_of_ble_eq_true rfl)⟩ dX2_correlation_22 rfl (Nat.le_of_ble_eq_true rfl) (recv X hM.1 CL_X2) hM  (fun _ z => Or.inl z) ⟨(Nat.le_of_ble_eq_true rfl), (Nat.le_of_ble_eq_true rfl)⟩ (fun v_ H hq hz hk => ?_)
        obtain ⟨rfl, hM⟩ := hq
        clear hz hk
        refine vv_eqi (b2_n (p := False) (fun z => z)) ?_
        refine vn_if_ne (tgt := 30) X (by omega) dX2_correlation_25 (by decide) (fun c_25 => ?_) (fun c_25 => ?_)
        · exact absurd c_25 (by decide)
        · refine vv_lconst (v := 0) X dX2_correlation_28 (by decide) ?_
          exact vv_lret X hQ dX2_correlation_29 (Nat.le_refl _) (Nat.le_refl _) (MEnd.of hM (ag_u (by decide) (ag_r)) (ag_r) 1 _ (0) (ask_0) rfl (fun h => absurd h (by decide)) rfl)
  · refine vv_aload_n X dX2_correlation_0 rfl 0 rfl ?_
    refine vv_aload_n X dX2_correlation_1 rfl 0 rfl ?_
    refine vv_iload_n X dX2_correlation_2 rfl 1 rfl ?_
    refine vv_callVp X (mX2_isMic (kL K) D g x I J (I 10) rfl a hP) q3240 q3242 qs97 q144 q3243 nX2_isMic ⟨(Nat.le_of_ble_eq_true rfl), (Nat.le_of_ble_eq_true rfl)⟩ dX2_correlation_3 rfl (Nat.le_of_ble_eq_true rfl) (recv X hM.1 CL_X2) hM ⟨(Nat.le_of_ble_eq_true rfl), (Nat.le_of_ble_eq_true rfl)⟩ ?_
    refine vb_eq (tgt := 21) X dX2_correlation_6 (by decide) (fun c_6 => ?_) (fun c_6 => ?_)
    · refine vv_iconst (v := nI 0) X dX2_correlation_21 (by decide) ?_
      refine vv_callV X (mX2_mayAsk1 (kL K) D g x I J hg False h20) q3244 q3246 qs98 q144 q3247 nX2_mayAsk ⟨(Nat.le_of_ble_eq_true rfl), (Nat.le_of_ble_eq_true rfl)⟩ dX2_correlation_22 rfl (Nat.le_of_ble_eq_true rfl) (recv X hM.1 CL_X2) hM  (fun _ z => Or.inl z) ⟨(Nat.le_of_ble_eq_true rfl), (Nat.le_of_ble_eq_true rfl)⟩ (fun v_ H hq hz hk => ?_)
      obtain ⟨rfl, hM⟩ := hq
      clear hz hk
      refine vv_eqi (b2_n (p := False) (fun z => z)) ?_
      rw [if_neg (fun z => z)] at hM
      refine vn_if_ne (tgt := 30) X (by omega) dX2_correlation_25 (by decide) (fun c_25 => ?_) (fun c_25 => ?_)
      · exact absurd c_25 (by decide)
      · refine vv_lconst (v := 0) X dX2_correlation_28 (by decide) ?_
        exact vv_lret X hQ dX2_correlation_29 (Nat.le_refl _) (Nat.le_refl _) (MEnd.of hM (ag_u (by decide) (ag_r)) (ag_r) 2 _ (0) (ask_f (fun z => c_6 z.1)) rfl (fun h => absurd h (by decide)) rfl)
    · refine vv_aload_n X dX2_correlation_9 rfl 0 rfl ?_
      refine vv_iload_n X dX2_correlation_10 rfl 2 rfl ?_
      refine vv_callVp X (mX2_isMic (kL K) D g x I J (I 10) rfl b hP) q3240 q3242 qs97 q144 q3243 nX2_isMic ⟨(Nat.le_of_ble_eq_true rfl), (Nat.le_of_ble_eq_true rfl)⟩ dX2_correlation_11 rfl (Nat.le_of_ble_eq_true rfl) (recv X hM.1 CL_X2) hM ⟨(Nat.le_of_ble_eq_true rfl), (Nat.le_of_ble_eq_true rfl)⟩ ?_
      refine vb_eq (tgt := 21) X dX2_correlation_14 (by decide) (fun c_14 => ?_) (fun c_14 => ?_)
      · refine vv_iconst (v := nI 0) X dX2_correlation_21 (by decide) ?_
        refine vv_callV X (mX2_mayAsk1 (kL K) D g x I J hg False h20) q3244 q3246 qs98 q144 q3247 nX2_mayAsk ⟨(Nat.le_of_ble_eq_true rfl), (Nat.le_of_ble_eq_true rfl)⟩ dX2_correlation_22 rfl (Nat.le_of_ble_eq_true rfl) (recv X hM.1 CL_X2) hM  (fun _ z => Or.inl z) ⟨(Nat.le_of_ble_eq_true rfl), (Nat.le_of_ble_eq_true rfl)⟩ (fun v_ H hq hz hk => ?_)
        obtain ⟨rfl, hM⟩ := hq
        clear hz hk
        refine vv_eqi (b2_n (p := False) (fun z => z)) ?_
        rw [if_neg (fun z => z)] at hM
        refine vn_if_ne (tgt := 30) X (by omega) dX2_correlation_25 (by decide) (fun c_25 => ?_) (fun c_25 => ?_)
        · exact absurd c_25 (by decide)
        · refine vv_lconst (v := 0) X dX2_correlation_28 (by decide) ?_
          exact vv_lret X hQ dX2_correlation_29 (Nat.le_refl _) (Nat.le_refl _) (MEnd.of hM (ag_u (by decide) (ag_r)) (ag_r) 2 _ (0) (ask_f (fun z => c_14 z.2)) rfl (fun h => absurd h (by decide)) rfl)
      · refine vv_iconst (v := nI 1) X dX2_correlation_17 (by decide) ?_
        refine vv_goto (tgt := 22) X dX2_correlation_18 (by decide) ?_
        refine vv_callV X (mX2_mayAsk1 (kL K) D g x I J hg True h20) q3244 q3246 qs98 q144 q3247 nX2_mayAsk ⟨(Nat.le_of_ble_eq_true rfl), (Nat.le_of_ble_eq_true rfl)⟩ dX2_correlation_22 rfl (Nat.le_of_ble_eq_true rfl) (recv X hM.1 CL_X2) hM  (fun _ z => Or.inl z) ⟨(Nat.le_of_ble_eq_true rfl), (Nat.le_of_ble_eq_true rfl)⟩ (fun v_ H hq hz hk => ?_)
        obtain ⟨rfl, hM⟩ := hq
        clear hz hk
        refine vv_eqi (b2_y (p := True) trivial) ?_
        rw [if_pos trivial] at hM
        obtain ⟨j, hj, rfl⟩ := ix_of (by omega) c_6
        have ej : cl (nI j) = j := cl_I (by omega)
        obtain ⟨k, hk, rfl⟩ := ix_of (by omega) c_14
        have ek : cl (nI k) = k := cl_I (by omega)
        refine vn_if_ne (tgt := 30) X (by omega) dX2_correlation_25 (by decide) (fun c_25 => ?_) (fun c_25 => ?_)
        · refine vv_aload_n X dX2_correlation_30 rfl 0 rfl ?_
          refine vv_iload_n X dX2_correlation_31 rfl 3 rfl ?_
          refine vv_callVp X (mX2_isTime (kL K) D g (va_up x 0 (nI 0)) I J (I 10) rfl t hP) q3284 q3286 qs102 q144 q3287 nX2_isTime ⟨(Nat.le_of_ble_eq_true rfl), (Nat.le_of_ble_eq_true rfl)⟩ dX2_correlation_32 rfl (Nat.le_of_ble_eq_true rfl) (recv X hM.1 CL_X2) hM ⟨(Nat.le_of_ble_eq_true rfl), (Nat.le_of_ble_eq_true rfl)⟩ ?_
          refine vb_eq (tgt := 48) X dX2_correlation_35 (by decide) (fun c_35 => ?_) (fun c_35 => ?_)
          · refine vv_aload_n X dX2_correlation_48 rfl 0 rfl ?_
            refine vv_iconst (v := nI 3) X dX2_correlation_49 (by decide) ?_
            refine vv_callV X (mX2_throwsAt (kL K) D g (va_up x 0 (nI 0)) I J hg (nI 3)) q3034 q3036 qs59 q144 q3037 nX2_throwsAt ⟨(Nat.le_of_ble_eq_true rfl), (Nat.le_of_ble_eq_true rfl)⟩ dX2_correlation_50 rfl (Nat.le_of_ble_eq_true rfl) (recv X hM.1 CL_X2) hM  (fun _ z => Or.inl z) ⟨(Nat.le_of_ble_eq_true rfl), (Nat.le_of_ble_eq_true rfl)⟩ (fun v_ H hq hz hk => ?_)
            obtain ⟨rfl, hM⟩ := hq
            clear hz hk
            rw [up_up] at hM
            refine vv_i2l (v := 0) X dX2_correlation_53 rfl ?_
            exact vv_lret X hQ dX2_correlation_54 (Nat.le_refl _) (Nat.le_refl _) (MEnd.of hM (ag_u (by decide) (ag_r)) (ag_r) 3 _ (0) ((ask_t (⟨c_6, c_14⟩)).trans (arg_f c_35)) rfl (fun h => absurd h (by decide)) rfl)
          · obtain ⟨u, hu, rfl⟩ := ix_of (by omega) c_35
            have eu : cl (nI u) = u := cl_I (by omega)
            refine vv_aload_n X dX2_correlation_38 rfl 0 rfl ?_
            refine vv_iload_n X dX2_correlation_39 rfl 1 rfl ?_
            refine vv_iload_n X dX2_correlation_40 rfl 2 rfl ?_
            refine vv_iload_n X dX2_correlation_41 rfl 3 rfl ?_
            refine vv_callVp X (mX2_together (kL K) D g (va_up x 0 (nI 0)) I J (I 10) rfl (I 12) rfl j k u hP (by omega) (by omega) (by omega)) q3532 q3534 qs129 q144 q3535 nX2_together ⟨(Nat.le_of_ble_eq_true rfl), (Nat.le_of_ble_eq_true rfl)⟩ dX2_correlation_42 rfl (Nat.le_of_ble_eq_true rfl) (recv X hM.1 CL_X2) hM ⟨(Nat.le_of_ble_eq_true rfl), (Nat.le_of_ble_eq_true rfl)⟩ ?_
            refine vv_goto (tgt := 54) X dX2_correlation_45 (by decide) ?_
            exact vv_lret X hQ dX2_correlation_54 (Nat.le_refl _) (Nat.le_refl _) (MEnd.of hM (ag_u (by decide) (ag_r)) (ag_r) 0 _ (tog (I 10) (I 12) j k u) ((ask_t (⟨c_6, c_14⟩)).trans (arg_t c_35)) rfl (fun _ => by simp only [ej, ek, eu]) rfl)
        · exact absurd c_25 (by decide)
theorem nX2_bestLag : notMH yX2_bestLag 3 := by decide +kernel
set_option maxHeartbeats 800000 in
theorem aX2_bestLag (l : Launch) (D : DD) (g : Nat → Nat) (x : Nat → Int32) (I : Nat → Nat → Int32) (J : Nat → Nat → Int64) (P : Nat → Int32) (hIP : I 10 = P) (S : Nat → Int32) (hIS : I 12 = S) (C : Bool) (hg : MG g) (a b t : Int32) (hP : VP P) (hc : cam C (x 20) P S (I 17))  : Ct l yX2_bestLag cX2_bestLag 6 (some .int) { frames := 3, cells := 0, slots := 0, locals := 55 } D [.ref (g 0), .int (a), .int (b), .int (t)] (fun H => MR D g x I J H) (MA g) (fun v H H1 => MEnd D g x I iV (an_bestLag C P S a b t) v H1) := by
  refine Ct.of (by decide +kernel) (Nat.le_of_ble_eq_true rfl) (fun K Qf hkl X hM hQ => ?_)
  subst hkl
  subst hIP
  subst hIS
  have l4 := hP.l4
  have l5 := hP.l5
  have l2 := hP.l2
  have l9 := hP.l9
  have l10 := hP.l10
  have l101 := hP.l101
  have hn4 : nC (I 10) ≤ 144 := Nat.mul_le_mul l9 l10
  refine vv_sub (lv' := [(0, .ref (g 0)), (1, .int (a)), (2, .int (b)), (3, .int (t))]) [0, 1, 2, 3] rfl ?_
  rcases hc with ⟨rfl, h20⟩ | ⟨rfl, h20, hC, hS, hT⟩
  · refine vv_aload_n X dX2_bestLag_0 rfl 0 rfl ?_
    refine vv_aload_n X dX2_bestLag_1 rfl 0 rfl ?_
    refine vv_iload_n X dX2_bestLag_2 rfl 1 rfl ?_
    refine vv_callVp X (mX2_isMic (kL K) D g x I J (I 10) rfl a hP) q3240 q3242 qs97 q144 q3243 nX2_isMic ⟨(Nat.le_of_ble_eq_true rfl), (Nat.le_of_ble_eq_true rfl)⟩ dX2_bestLag_3 rfl (Nat.le_of_ble_eq_true rfl) (recv X hM.1 CL_X2) hM ⟨(Nat.le_of_ble_eq_true rfl), (Nat.le_of_ble_eq_true rfl)⟩ ?_
    refine vb_eq (tgt := 21) X dX2_bestLag_6 (by decide) (fun c_6 => ?_) (fun c_6 => ?_)
    · refine vv_iconst (v := nI 0) X dX2_bestLag_21 (by decide) ?_
      refine vv_callV X (mX2_mayAsk0 (kL K) D g x I J hg False h20) q3244 q3246 qs98 q144 q3247 nX2_mayAsk ⟨(Nat.le_of_ble_eq_true rfl), (Nat.le_of_ble_eq_true rfl)⟩ dX2_bestLag_22 rfl (Nat.le_of_ble_eq_true rfl) (recv X hM.1 CL_X2) hM  (fun _ z => Or.inl z) ⟨(Nat.le_of_ble_eq_true rfl), (Nat.le_of_ble_eq_true rfl)⟩ (fun v_ H hq hz hk => ?_)
      obtain ⟨rfl, hM⟩ := hq
      clear hz hk
      refine vv_eqi (b2_n (p := False) (fun z => z)) ?_
      refine vn_if_ne (tgt := 30) X (by omega) dX2_bestLag_25 (by decide) (fun c_25 => ?_) (fun c_25 => ?_)
      · exact absurd c_25 (by decide)
      · refine vv_iconst (v := nI 0) X dX2_bestLag_28 (by decide) ?_
        exact vv_iret X hQ dX2_bestLag_29 (Nat.le_refl _) (Nat.le_refl _) (MEnd.of hM (ag_u (by decide) (ag_r)) (ag_r) 1 _ (nI 0) (ask_0) rfl (fun h => absurd h (by decide)) rfl)
    · refine vv_aload_n X dX2_bestLag_9 rfl 0 rfl ?_
      refine vv_iload_n X dX2_bestLag_10 rfl 2 rfl ?_
      refine vv_callVp X (mX2_isMic (kL K) D g x I J (I 10) rfl b hP) q3240 q3242 qs97 q144 q3243 nX2_isMic ⟨(Nat.le_of_ble_eq_true rfl), (Nat.le_of_ble_eq_true rfl)⟩ dX2_bestLag_11 rfl (Nat.le_of_ble_eq_true rfl) (recv X hM.1 CL_X2) hM ⟨(Nat.le_of_ble_eq_true rfl), (Nat.le_of_ble_eq_true rfl)⟩ ?_
      refine vb_eq (tgt := 21) X dX2_bestLag_14 (by decide) (fun c_14 => ?_) (fun c_14 => ?_)
      · refine vv_iconst (v := nI 0) X dX2_bestLag_21 (by decide) ?_
        refine vv_callV X (mX2_mayAsk0 (kL K) D g x I J hg False h20) q3244 q3246 qs98 q144 q3247 nX2_mayAsk ⟨(Nat.le_of_ble_eq_true rfl), (Nat.le_of_ble_eq_true rfl)⟩ dX2_bestLag_22 rfl (Nat.le_of_ble_eq_true rfl) (recv X hM.1 CL_X2) hM  (fun _ z => Or.inl z) ⟨(Nat.le_of_ble_eq_true rfl), (Nat.le_of_ble_eq_true rfl)⟩ (fun v_ H hq hz hk => ?_)
        obtain ⟨rfl, hM⟩ := hq
        clear hz hk
        refine vv_eqi (b2_n (p := False) (fun z => z)) ?_
        refine vn_if_ne (tgt := 30) X (by omega) dX2_bestLag_25 (by decide) (fun c_25 => ?_) (fun c_25 => ?_)
        · exact absurd c_25 (by decide)
        · refine vv_iconst (v := nI 0) X dX2_bestLag_28 (by decide) ?_
          exact vv_iret X hQ dX2_bestLag_29 (Nat.le_refl _) (Nat.le_refl _) (MEnd.of hM (ag_u (by decide) (ag_r)) (ag_r) 1 _ (nI 0) (ask_0) rfl (fun h => absurd h (by decide)) rfl)
      · refine vv_iconst (v := nI 1) X dX2_bestLag_17 (by decide) ?_
        refine vv_goto (tgt := 22) X dX2_bestLag_18 (by decide) ?_
        refine vv_callV X (mX2_mayAsk0 (kL K) D g x I J hg True h20) q3244 q3246 qs98 q144 q3247 nX2_mayAsk ⟨(Nat.le_of_ble_eq_true rfl), (Nat.le_of_ble_eq_true rfl)⟩ dX2_bestLag_22 rfl (Nat.le_of_ble_eq_true rfl) (recv X hM.1 CL_X2) hM  (fun _ z => Or.inl z) ⟨(Nat.le_of_ble_eq_true rfl), (Nat.le_of_ble_eq_true rfl)⟩ (fun v_ H hq hz hk => ?_)
        obtain ⟨rfl, hM⟩ := hq
        clear hz hk
        refine vv_eqi (b2_n (p := False) (fun z => z)) ?_
        refine vn_if_ne (tgt := 30) X (by omega) dX2_bestLag_25 (by decide) (fun c_25 => ?_) (fun c_25 => ?_)
        · exact absurd c_25 (by decide)
        · refine vv_iconst (v := nI 0) X dX2_bestLag_28 (by decide) ?_
          exact vv_iret X hQ dX2_bestLag_29 (Nat.le_refl _) (Nat.le_refl _) (MEnd.of hM (ag_u (by decide) (ag_r)) (ag_r) 1 _ (nI 0) (ask_0) rfl (fun h => absurd h (by decide)) rfl)
  · refine vv_aload_n X dX2_bestLag_0 rfl 0 rfl ?_
    refine vv_aload_n X dX2_bestLag_1 rfl 0 rfl ?_
    refine vv_iload_n X dX2_bestLag_2 rfl 1 rfl ?_
    refine vv_callVp X (mX2_isMic (kL K) D g x I J (I 10) rfl a hP) q3240 q3242 qs97 q144 q3243 nX2_isMic ⟨(Nat.le_of_ble_eq_true rfl), (Nat.le_of_ble_eq_true rfl)⟩ dX2_bestLag_3 rfl (Nat.le_of_ble_eq_true rfl) (recv X hM.1 CL_X2) hM ⟨(Nat.le_of_ble_eq_true rfl), (Nat.le_of_ble_eq_true rfl)⟩ ?_
    refine vb_eq (tgt := 21) X dX2_bestLag_6 (by decide) (fun c_6 => ?_) (fun c_6 => ?_)
    · refine vv_iconst (v := nI 0) X dX2_bestLag_21 (by decide) ?_
      refine vv_callV X (mX2_mayAsk1 (kL K) D g x I J hg False h20) q3244 q3246 qs98 q144 q3247 nX2_mayAsk ⟨(Nat.le_of_ble_eq_true rfl), (Nat.le_of_ble_eq_true rfl)⟩ dX2_bestLag_22 rfl (Nat.le_of_ble_eq_true rfl) (recv X hM.1 CL_X2) hM  (fun _ z => Or.inl z) ⟨(Nat.le_of_ble_eq_true rfl), (Nat.le_of_ble_eq_true rfl)⟩ (fun v_ H hq hz hk => ?_)
      obtain ⟨rfl, hM⟩ := hq
      clear hz hk
      refine vv_eqi (b2_n (p := False) (fun z => z)) ?_
      rw [if_neg (fun z => z)] at hM
      refine vn_if_ne (tgt := 30) X (by omega) dX2_bestLag_25 (by decide) (fun c_25 => ?_) (fun c_25 => ?_)
      · exact absurd c_25 (by decide)
      · refine vv_iconst (v := nI 0) X dX2_bestLag_28 (by decide) ?_
        exact vv_iret X hQ dX2_bestLag_29 (Nat.le_refl _) (Nat.le_refl _) (MEnd.of hM (ag_u (by decide) (ag_r)) (ag_r) 2 _ (nI 0) (ask_f (fun z => c_6 z.1)) rfl (fun h => absurd h (by decide)) rfl)
    · refine vv_aload_n X dX2_bestLag_9 rfl 0 rfl ?_
      refine vv_iload_n X dX2_bestLag_10 rfl 2 rfl ?_
      refine vv_callVp X (mX2_isMic (kL K) D g x I J (I 10) rfl b hP) q3240 q3242 qs97 q144 q3243 nX2_isMic ⟨(Nat.le_of_ble_eq_true rfl), (Nat.le_of_ble_eq_true rfl)⟩ dX2_bestLag_11 rfl (Nat.le_of_ble_eq_true rfl) (recv X hM.1 CL_X2) hM ⟨(Nat.le_of_ble_eq_true rfl), (Nat.le_of_ble_eq_true rfl)⟩ ?_
      refine vb_eq (tgt := 21) X dX2_bestLag_14 (by decide) (fun c_14 => ?_) (fun c_14 => ?_)
      · refine vv_iconst (v := nI 0) X dX2_bestLag_21 (by decide) ?_
        refine vv_callV X (mX2_mayAsk1 (kL K) D g x I J hg False h20) q3244 q3246 qs98 q144 q3247 nX2_mayAsk ⟨(Nat.le_of_ble_eq_true rfl), (Nat.le_of_ble_eq_true rfl)⟩ dX2_bestLag_22 rfl (Nat.le_of_ble_eq_true rfl) (recv X hM.1 CL_X2) hM  (fun _ z => Or.inl z) ⟨(Nat.le_of_ble_eq_true rfl), (Nat.le_of_ble_eq_true rfl)⟩ (fun v_ H hq hz hk => ?_)
        obtain ⟨rfl, hM⟩ := hq
        clear hz hk
        refine vv_eqi (b2_n (p := False) (fun z => z)) ?_
        rw [if_neg (fun z => z)] at hM
        refine vn_if_ne (tgt := 30) X (by omega) dX2_bestLag_25 (by decide) (fun c_25 => ?_) (fun c_25 => ?_)
        · exact absurd c_25 (by decide)
        · refine vv_iconst (v := nI 0) X dX2_bestLag_28 (by decide) ?_
          exact vv_iret X hQ dX2_bestLag_29 (Nat.le_refl _) (Nat.le_refl _) (MEnd.of hM (ag_u (by decide) (ag_r)) (ag_r) 2 _ (nI 0) (ask_f (fun z => c_14 z.2)) rfl (fun h => absurd h (by decide)) rfl)
      · refine vv_iconst (v := nI 1) X dX2_bestLag_17 (by decide) ?_
        refine vv_goto (tgt := 22) X dX2_bestLag_18 (by decide) ?_
        refine vv_callV X (mX2_mayAsk1 (kL K) D g x I J hg True h20) q3244 q3246 qs98 q144 q3247 nX2_mayAsk ⟨(Nat.le_of_ble_eq_true rfl), (Nat.le_of_ble_eq_true rfl)⟩ dX2_bestLag_22 rfl (Nat.le_of_ble_eq_true rfl) (recv X hM.1 CL_X2) hM  (fun _ z => Or.inl z) ⟨(Nat.le_of_ble_eq_true rfl), (Nat.le_of_ble_eq_true rfl)⟩ (fun v_ H hq hz hk => ?_)
        obtain ⟨rfl, hM⟩ := hq
        clear hz hk
        refine vv_eqi (b2_y (p := True) trivial) ?_
        rw [if_pos trivial] at hM
        obtain ⟨j, hj, rfl⟩ := ix_of (by omega) c_6
        have ej : cl (nI j) = j := cl_I (by omega)
        obtain ⟨k, hk, rfl⟩ := ix_of (by omega) c_14
        have ek : cl (nI k) = k := cl_I (by omega)
        refine vn_if_ne (tgt := 30) X (by omega) dX2_bestLag_25 (by decide) (fun c_25 => ?_) (fun c_25 => ?_)
        · refine vv_aload_n X dX2_bestLag_30 rfl 0 rfl ?_
          refine vv_iload_n X dX2_bestLag_31 rfl 3 rfl ?_
          refine vv_callVp X (mX2_isTime (kL K) D g (va_up x 0 (nI 0)) I J (I 10) rfl t hP) q3284 q3286 qs102 q144 q3287 nX2_isTime ⟨(Nat.le_of_ble_eq_true rfl), (Nat.le_of_ble_eq_true rfl)⟩ dX2_bestLag_32 rfl (Nat.le_of_ble_eq_true rfl) (recv X hM.1 CL_X2) hM ⟨(Nat.le_of_ble_eq_true rfl), (Nat.le_of_ble_eq_true rfl)⟩ ?_
          refine vb_ne (tgt := 44) X dX2_bestLag_35 (by decide) (fun c_35 => ?_) (fun c_35 => ?_)
          · obtain ⟨u, hu, rfl⟩ := ix_of (by omega) c_35
            have eu : cl (nI u) = u := cl_I (by omega)
            refine vv_iconst (v := nI 0) X dX2_bestLag_44 (by decide) ?_
            refine vv_istore (lv' := [(4, .int (nI 0)), (0, .ref (g 0)), (1, .int (nI j)), (2, .int (nI k)), (3, .int (nI u))]) X dX2_bestLag_45 (by decide) rfl ?_
            refine vv_iconst (v := nI 1) X dX2_bestLag_47 (by decide) ?_
            refine vv_istore (lv' := [(5, .int (nI 1)), (4, .int (nI 0)), (0, .ref (g 0)), (1, .int (nI j)), (2, .int (nI k)), (3, .int (nI u))]) X dX2_bestLag_48 (by decide) rfl ?_
            have hx_1 : ∀ (b : Nat) (hb : b = fo (bs1 (fun t => tog (I 10) (I 12) j k t)) u 0) (hbl : b ≤ u), V K 6 (MA g) H 0 0 Qf 91 [(0, .ref (g 0)), (1, .int (nI j)), (2, .int (nI k)), (3, .int (nI u)), (4, .int (nI b)), (5, .int (nI (u + 1)))] [] := by
              intro b hb hbl
              refine vv_iload X dX2_bestLag_91 4 rfl ?_
              exact vv_iret X hQ dX2_bestLag_93 (Nat.le_refl _) (Nat.le_refl _) (MEnd.of hM (ag_u (by decide) (ag_r)) (ag_r) 0 _ (nI b) ((ask_t (⟨c_6, c_14⟩)).trans (arg_t c_35)) rfl (fun _ => by simp only [ej, ek, eu]; rw [hb]; rfl) rfl)
            have hl_2 : ∀ (n_i i : Nat) (b : Nat), i + n_i = u → (b = fo (bs1 (fun t => tog (I 10) (I 12) j k t)) i 0) → (b ≤ i) → V K 6 (MA g) H 0 0 Qf 50 [(0, .ref (g 0)), (1, .int (nI j)), (2, .int (nI k)), (3, .int (nI u)), (4, .int (nI b)), (5, .int (nI (i + 1)))] [] := by
              intro n_i
              induction n_i with
              | zero =>
                intro i b hi hb hbl
                obtain rfl : i = u := by omega
                refine vv_iload X dX2_bestLag_50 5 rfl ?_
                refine vv_iload_n X dX2_bestLag_52 rfl 3 rfl ?_
                refine vn_gt (tgt := 91) X (by omega) (by omega) dX2_bestLag_53 (by decide) (fun c_53 => ?_) (fun c_53 => ?_)
                · exact hx_1 b hb hbl
                · exact absurd c_53 (by omega)
              | succ n_i ihi =>
                intro i b hi hb hbl
                refine vv_iload X dX2_bestLag_50 5 rfl ?_
                refine vv_iload_n X dX2_bestLag_52 rfl 3 rfl ?_
                refine vn_gt (tgt := 91) X (by omega) (by omega) dX2_bestLag_53 (by decide) (fun c_53 => ?_) (fun c_53 => ?_)
                · exact absurd c_53 (by omega)
                · refine vv_aload_n X dX2_bestLag_56 rfl 0 rfl ?_
                  refine vv_iload_n X dX2_bestLag_57 rfl 1 rfl ?_
                  refine vv_iload_n X dX2_bestLag_58 rfl 2 rfl ?_
                  refine vv_iload X dX2_bestLag_59 5 rfl ?_
                  refine vv_callVp X (mX2_together (kL K) D g (va_up x 0 (nI 0)) I J (I 10) rfl (I 12) rfl j k (i + 1) hP (by omega) (by omega) (by omega)) q3532 q3534 qs129 q144 q3535 nX2_together ⟨(Nat.le_of_ble_eq_true rfl), (Nat.le_of_ble_eq_true rfl)⟩ dX2_bestLag_61 rfl (Nat.le_of_ble_eq_true rfl) (recv X hM.1 CL_X2) hM ⟨(Nat.le_of_ble_eq_true rfl), (Nat.le_of_ble_eq_true rfl)⟩ ?_
                  refine vv_aload_n X dX2_bestLag_64 rfl 0 rfl ?_
                  refine vv_iload_n X dX2_bestLag_65 rfl 1 rfl ?_
                  refine vv_iload_n X dX2_bestLag_66 rfl 2 rfl ?_
                  refine vv_iload X dX2_bestLag_67 4 rfl ?_
                  refine vv_callVp X (mX2_together (kL K) D g (va_up x 0 (nI 0)) I J (I 10) rfl (I 12) rfl j k b hP (by omega) (by omega) (by omega)) q3532 q3534 qs129 q144 q3535 nX2_together ⟨(Nat.le_of_ble_eq_true rfl), (Nat.le_of_ble_eq_true rfl)⟩ dX2_bestLag_69 rfl (Nat.le_of_ble_eq_true rfl) (recv X hM.1 CL_X2) hM ⟨(Nat.le_of_ble_eq_true rfl), (Nat.le_of_ble_eq_true rfl)⟩ ?_
                  refine vv_lcmp X dX2_bestLag_72 ?_
                  refine vz_le (tgt := 81) X dX2_bestLag_73 (by decide) (fun c_73 => ?_) (fun c_73 => ?_)
                  · refine vv_iload X dX2_bestLag_81 4 rfl ?_
                    refine vv_istore (lv' := [(4, .int (nI b)), (0, .ref (g 0)), (1, .int (nI j)), (2, .int (nI k)), (3, .int (nI u)), (5, .int (nI (i + 1)))]) X dX2_bestLag_83 (by decide) rfl ?_
                    refine vv_iinc (v := nI ((i + 1) + 1)) (lv' := [(5, .int (nI ((i + 1) + 1))), (4, .int (nI b)), (0, .ref (g 0)), (1, .int (nI j)), (2, .int (nI k)), (3, .int (nI u))]) X dX2_bestLag_85 (k := 5) rfl (nI_add _ 1) (by decide) rfl ?_
                    refine vv_goto (tgt := 50) X dX2_bestLag_88 (by decide) ?_
                    refine vv_sub [2, 3, 4, 5, 1, 0] rfl ?_
                    exact ihi (i + 1) b (by omega) (by subst hb; exact (if_neg (Int64.not_lt.mpr c_73)).symm) (by omega)
                  · refine vv_iload X dX2_bestLag_76 5 rfl ?_
                    refine vv_goto (tgt := 83) X dX2_bestLag_78 (by decide) ?_
                    refine vv_istore (lv' := [(4, .int (nI (i + 1))), (0, .ref (g 0)), (1, .int (nI j)), (2, .int (nI k)), (3, .int (nI u)), (5, .int (nI (i + 1)))]) X dX2_bestLag_83 (by decide) rfl ?_
                    refine vv_iinc (v := nI ((i + 1) + 1)) (lv' := [(5, .int (nI ((i + 1) + 1))), (4, .int (nI (i + 1))), (0, .ref (g 0)), (1, .int (nI j)), (2, .int (nI k)), (3, .int (nI u))]) X dX2_bestLag_85 (k := 5) rfl (nI_add _ 1) (by decide) rfl ?_
                    refine vv_goto (tgt := 50) X dX2_bestLag_88 (by decide) ?_
                    refine vv_sub [2, 3, 4, 5, 1, 0] rfl ?_
                    exact ihi (i + 1) (i + 1) (by omega) (by subst hb; exact (if_pos c_73).symm) (by omega)
            refine vv_sub [2, 3, 4, 5, 1, 0] rfl ?_
            exact hl_2 (u) 0 0 (by omega) (rfl) (Nat.le_refl _)
          · refine vv_aload_n X dX2_bestLag_38 rfl 0 rfl ?_
            refine vv_iconst (v := nI 3) X dX2_bestLag_39 (by decide) ?_
            refine vv_callV X (mX2_throwsAt (kL K) D g (va_up x 0 (nI 0)) I J hg (nI 3)) q3034 q3036 qs59 q144 q3037 nX2_throwsAt ⟨(Nat.le_of_ble_eq_true rfl), (Nat.le_of_ble_eq_true rfl)⟩ dX2_bestLag_40 rfl (Nat.le_of_ble_eq_true rfl) (recv X hM.1 CL_X2) hM  (fun _ z => Or.inl z) ⟨(Nat.le_of_ble_eq_true rfl), (Nat.le_of_ble_eq_true rfl)⟩ (fun v_ H hq hz hk => ?_)
            obtain ⟨rfl, hM⟩ := hq
            clear hz hk
            rw [up_up] at hM
            exact vv_iret X hQ dX2_bestLag_43 (Nat.le_refl _) (Nat.le_refl _) (MEnd.of hM (ag_u (by decide) (ag_r)) (ag_r) 3 _ (nI 0) ((ask_t (⟨c_6, c_14⟩)).trans (arg_f c_35)) rfl (fun h => absurd h (by decide)) rfl)
        · exact absurd c_25 (by decide)
theorem nX2_level : notMH yX2_level 1 := by decide +kernel
set_option maxHeartbeats 800000 in
theorem aX2_level (l : Launch) (D : DD) (g : Nat → Nat) (x : Nat → Int32) (I : Nat → Nat → Int32) (J : Nat → Nat → Int64) (P : Nat → Int32) (hIP : I 10 = P) (S : Nat → Int32) (hIS : I 12 = S) (C : Bool) (hg : MG g) (a : Int32) (hP : VP P) (hc : cam C (x 20) P S (I 17))  : Ct l yX2_level cX2_level 2 (some .long) { frames := 3, cells := 0, slots := 0, locals := 59 } D [.ref (g 0), .int (a)] (fun H => MR D g x I J H) (MA g) (fun v H H1 => MEnd D g x I lV (an_level C P S a) v H1) := by
  refine Ct.of (by decide +kernel) (Nat.le_of_ble_eq_true rfl) (fun K Qf hkl X hM hQ => ?_)
  subst hkl
  subst hIP
  subst hIS
  have l4 := hP.l4
  have l5 := hP.l5
  have l2 := hP.l2
  have l9 := hP.l9
  have l10 := hP.l10
  have l101 := hP.l101
  have hn4 : nC (I 10) ≤ 144 := Nat.mul_le_mul l9 l10
  refine vv_sub (lv' := [(0, .ref (g 0)), (1, .int (a))]) [0, 1] rfl ?_
  rcases hc with ⟨rfl, h20⟩ | ⟨rfl, h20, hC, hS, hT⟩
  · refine vv_aload_n X dX2_level_0 rfl 0 rfl ?_
    refine vv_aload_n X dX2_level_1 rfl 0 rfl ?_
    refine vv_iload_n X dX2_level_2 rfl 1 rfl ?_
    refine vv_callVp X (mX2_isMic (kL K) D g x I J (I 10) rfl a hP) q3240 q3242 qs97 q144 q3243 nX2_isMic ⟨(Nat.le_of_ble_eq_true rfl), (Nat.le_of_ble_eq_true rfl)⟩ dX2_level_3 rfl (Nat.le_of_ble_eq_true rfl) (recv X hM.1 CL_X2) hM ⟨(Nat.le_of_ble_eq_true rfl), (Nat.le_of_ble_eq_true rfl)⟩ ?_
    refine vv_callV X (mX2_mayAsk0 (kL K) D g x I J hg (ix (nM (I 10)) a) h20) q3244 q3246 qs98 q144 q3247 nX2_mayAsk ⟨(Nat.le_of_ble_eq_true rfl), (Nat.le_of_ble_eq_true rfl)⟩ dX2_level_6 rfl (Nat.le_of_ble_eq_true rfl) (recv X hM.1 CL_X2) hM  (fun _ z => Or.inl z) ⟨(Nat.le_of_ble_eq_true rfl), (Nat.le_of_ble_eq_true rfl)⟩ (fun v_ H hq hz hk => ?_)
    obtain ⟨rfl, hM⟩ := hq
    clear hz hk
    refine vv_eqi (b2_n (p := False) (fun z => z)) ?_
    refine vn_if_eq (tgt := 20) X (by omega) dX2_level_9 (by decide) (fun c_9 => ?_) (fun c_9 => ?_)
    · refine vv_lconst (v := 0) X dX2_level_20 (by decide) ?_
      exact vv_lret X hQ dX2_level_21 (Nat.le_refl _) (Nat.le_refl _) (MEnd.of hM (ag_u (by decide) (ag_r)) (ag_r) 1 _ (0) (ask_0) rfl (fun h => absurd h (by decide)) rfl)
    · exact absurd c_9 (by decide)
  · refine vv_aload_n X dX2_level_0 rfl 0 rfl ?_
    refine vv_aload_n X dX2_level_1 rfl 0 rfl ?_
    refine vv_iload_n X dX2_level_2 rfl 1 rfl ?_
    refine vv_callVp X (mX2_isMic (kL K) D g x I J (I 10) rfl a hP) q3240 q3242 qs97 q144 q3243 nX2_isMic ⟨(Nat.le_of_ble_eq_true rfl), (Nat.le_of_ble_eq_true rfl)⟩ dX2_level_3 rfl (Nat.le_of_ble_eq_true rfl) (recv X hM.1 CL_X2) hM ⟨(Nat.le_of_ble_eq_true rfl), (Nat.le_of_ble_eq_true rfl)⟩ ?_
    refine vv_callV X (mX2_mayAsk1 (kL K) D g x I J hg (ix (nM (I 10)) a) h20) q3244 q3246 qs98 q144 q3247 nX2_mayAsk ⟨(Nat.le_of_ble_eq_true rfl), (Nat.le_of_ble_eq_true rfl)⟩ dX2_level_6 rfl (Nat.le_of_ble_eq_true rfl) (recv X hM.1 CL_X2) hM  (fun _ z => Or.inl z) ⟨(Nat.le_of_ble_eq_true rfl), (Nat.le_of_ble_eq_true rfl)⟩ (fun v_ H hq hz hk => ?_)
    obtain ⟨rfl, hM⟩ := hq
    clear hz hk
    by_cases hp : ix (nM (I 10)) a
    · refine vv_eqi (b2_y hp) ?_
      rw [if_pos hp] at hM
      obtain ⟨j, hj, rfl⟩ := ix_of (by omega) hp
      have ej : cl (nI j) = j := cl_I (by omega)
      refine vn_if_eq (tgt := 20) X (by omega) dX2_level_9 (by decide) (fun c_9 => ?_) (fun c_9 => ?_)
      · exact absurd c_9 (by decide)
      · refine vv_aload_n X dX2_level_12 rfl 0 rfl ?_
        refine vv_iload_n X dX2_level_13 rfl 1 rfl ?_
        refine vv_callVp X (mX2_levelOf (kL K) D g (va_up x 0 (nI 0)) I J (I 10) rfl (I 12) rfl j hC (by omega)) q3544 q3546 qs130 q144 q3547 nX2_levelOf ⟨(Nat.le_of_ble_eq_true rfl), (Nat.le_of_ble_eq_true rfl)⟩ dX2_level_14 rfl (Nat.le_of_ble_eq_true rfl) (recv X hM.1 CL_X2) hM ⟨(Nat.le_of_ble_eq_true rfl), (Nat.le_of_ble_eq_true rfl)⟩ ?_
        refine vv_goto (tgt := 21) X dX2_level_17 (by decide) ?_
        exact vv_lret X hQ dX2_level_21 (Nat.le_refl _) (Nat.le_refl _) (MEnd.of hM (ag_u (by decide) (ag_r)) (ag_r) 0 _ (lev (I 10) (I 12) j) (ask_t hp) rfl (fun _ => by simp only [ej]) rfl)
    · refine vv_eqi (b2_n hp) ?_
      rw [if_neg hp] at hM
      refine vn_if_eq (tgt := 20) X (by omega) dX2_level_9 (by decide) (fun c_9 => ?_) (fun c_9 => ?_)
      · refine vv_lconst (v := 0) X dX2_level_20 (by decide) ?_
        exact vv_lret X hQ dX2_level_21 (Nat.le_refl _) (Nat.le_refl _) (MEnd.of hM (ag_u (by decide) (ag_r)) (ag_r) 2 _ (0) (ask_f hp) rfl (fun h => absurd h (by decide)) rfl)
      · exact absurd c_9 (by decide)
theorem nX2_loudest : notMH yX2_loudest 1 := by decide +kernel
set_option maxHeartbeats 800000 in
theorem aX2_loudest (l : Launch) (D : DD) (g : Nat → Nat) (x : Nat → Int32) (I : Nat → Nat → Int32) (J : Nat → Nat → Int64) (P : Nat → Int32) (hIP : I 10 = P) (S : Nat → Int32) (hIS : I 12 = S) (C : Bool) (hg : MG g) (r : Int32) (hP : VP P) (hc : cam C (x 20) P S (I 17))  : Ct l yX2_loudest cX2_loudest 5 (some .int) { frames := 3, cells := 0, slots := 0, locals := 59 } D [.ref (g 0), .int (r)] (fun H => MR D g x I J H) (MA g) (fun v H H1 => MEnd D g x I iV (an_loudest C P S r) v H1) := by
  refine Ct.of (by decide +kernel) (Nat.le_of_ble_eq_true rfl) (fun K Qf hkl X hM hQ => ?_)
  subst hkl
  subst hIP
  subst hIS
  have l4 := hP.l4
  have l5 := hP.l5
  have l2 := hP.l2
  have l9 := hP.l9
  have l10 := hP.l10
  have l101 := hP.l101
  have hn4 : nC (I 10) ≤ 144 := Nat.mul_le_mul l9 l10
  refine vv_sub (lv' := [(0, .ref (g 0)), (1, .int (r))]) [0, 1] rfl ?_
  rcases hc with ⟨rfl, h20⟩ | ⟨rfl, h20, hC, hS, hT⟩
  · refine vv_aload_n X dX2_loudest_0 rfl 0 rfl ?_
    refine vv_aload_n X dX2_loudest_1 rfl 0 rfl ?_
    refine vv_iload_n X dX2_loudest_2 rfl 1 rfl ?_
    refine vv_callVp X (mX2_isMic (kL K) D g x I J (I 10) rfl r hP) q3240 q3242 qs97 q144 q3243 nX2_isMic ⟨(Nat.le_of_ble_eq_true rfl), (Nat.le_of_ble_eq_true rfl)⟩ dX2_loudest_3 rfl (Nat.le_of_ble_eq_true rfl) (recv X hM.1 CL_X2) hM ⟨(Nat.le_of_ble_eq_true rfl), (Nat.le_of_ble_eq_true rfl)⟩ ?_
    refine vv_callV X (mX2_mayAsk0 (kL K) D g x I J hg (ix (nM (I 10)) r) h20) q3244 q3246 qs98 q144 q3247 nX2_mayAsk ⟨(Nat.le_of_ble_eq_true rfl), (Nat.le_of_ble_eq_true rfl)⟩ dX2_loudest_6 rfl (Nat.le_of_ble_eq_true rfl) (recv X hM.1 CL_X2) hM  (fun _ z => Or.inl z) ⟨(Nat.le_of_ble_eq_true rfl), (Nat.le_of_ble_eq_true rfl)⟩ (fun v_ H hq hz hk => ?_)
    obtain ⟨rfl, hM⟩ := hq
    clear hz hk
    refine vv_eqi (b2_n (p := False) (fun z => z)) ?_
    refine vn_if_ne (tgt := 14) X (by omega) dX2_loudest_9 (by decide) (fun c_9 => ?_) (fun c_9 => ?_)
    · exact absurd c_9 (by decide)
    · refine vv_iconst (v := nI 0) X dX2_loudest_12 (by decide) ?_
      exact vv_iret X hQ dX2_loudest_13 (Nat.le_refl _) (Nat.le_refl _) (MEnd.of hM (ag_u (by decide) (ag_r)) (ag_r) 1 _ (nI 0) (ask_0) rfl (fun h => absurd h (by decide)) rfl)
  · refine vv_aload_n X dX2_loudest_0 rfl 0 rfl ?_
    refine vv_aload_n X dX2_loudest_1 rfl 0 rfl ?_
    refine vv_iload_n X dX2_loudest_2 rfl 1 rfl ?_
    refine vv_callVp X (mX2_isMic (kL K) D g x I J (I 10) rfl r hP) q3240 q3242 qs97 q144 q3243 nX2_isMic ⟨(Nat.le_of_ble_eq_true rfl), (Nat.le_of_ble_eq_true rfl)⟩ dX2_loudest_3 rfl (Nat.le_of_ble_eq_true rfl) (recv X hM.1 CL_X2) hM ⟨(Nat.le_of_ble_eq_true rfl), (Nat.le_of_ble_eq_true rfl)⟩ ?_
    refine vv_callV X (mX2_mayAsk1 (kL K) D g x I J hg (ix (nM (I 10)) r) h20) q3244 q3246 qs98 q144 q3247 nX2_mayAsk ⟨(Nat.le_of_ble_eq_true rfl), (Nat.le_of_ble_eq_true rfl)⟩ dX2_loudest_6 rfl (Nat.le_of_ble_eq_true rfl) (recv X hM.1 CL_X2) hM  (fun _ z => Or.inl z) ⟨(Nat.le_of_ble_eq_true rfl), (Nat.le_of_ble_eq_true rfl)⟩ (fun v_ H hq hz hk => ?_)
    obtain ⟨rfl, hM⟩ := hq
    clear hz hk
    by_cases hp : ix (nM (I 10)) r
    · refine vv_eqi (b2_y hp) ?_
      rw [if_pos hp] at hM
      refine vn_if_ne (tgt := 14) X (by omega) dX2_loudest_9 (by decide) (fun c_9 => ?_) (fun c_9 => ?_)
      · refine vv_iconst (v := nI 0) X dX2_loudest_14 (by decide) ?_
        refine vv_istore_n (lv' := [(2, .int (nI 0)), (0, .ref (g 0)), (1, .int (r))]) X dX2_loudest_15 rfl (by decide) rfl ?_
        have hx_1 : ∀ (hf : fo (fst1 (fun m => nI (lra (I 10) (I 12) m (nM (I 10))) = r)) (nM (I 10)) none = none), V K 5 (MA g) H 0 0 Qf 105 [(0, .ref (g 0)), (1, .int (r)), (2, .int (nI (nM (I 10))))] [] := by
          intro hf
          refine vv_iconst (v := -1) X dX2_loudest_105 (by decide) ?_
          exact vv_iret X hQ dX2_loudest_106 (Nat.le_refl _) (Nat.le_refl _) (MEnd.of hM (ag_u (by decide) (ag_r)) (ag_r) 0 _ ((-1)) (ask_t hp) rfl (fun _ => by rw [show ldA (I 10) (I 12) r (nM (I 10)) = none from hf]; rfl) rfl)
        have hl_2 : ∀ (n_i i : Nat), i + n_i = nM (I 10) → (fo (fst1 (fun m => nI (lra (I 10) (I 12) m (nM (I 10))) = r)) i none = none) → V K 5 (MA g) H 0 0 Qf 16 [(0, .ref (g 0)), (1, .int (r)), (2, .int (nI i))] [] := by
          intro n_i
          induction n_i with
          | zero =>
            intro i hi hf
            obtain rfl : i = nM (I 10) := by omega
            refine vv_iload_n X dX2_loudest_16 rfl 2 rfl ?_
            refine vv_aload_n X dX2_loudest_17 rfl 0 rfl ?_
            refine mg10 X rfl hM dX2_loudest_18 ?_
            refine vv_iconst (v := nI 4) X dX2_loudest_21 (by decide) ?_
            refine vv_iald X hM.a10 (4) (by omega) (by decide) rfl dX2_loudest_22 ?_
            refine vv_eqi hP.e4 ?_
            refine vn_ge (tgt := 105) X (by omega) (by omega) dX2_loudest_23 (by decide) (fun c_23 => ?_) (fun c_23 => ?_)
            · exact hx_1 hf
            · exact absurd c_23 (by omega)
          | succ n_i ihi =>
            intro i hi hf
            refine vv_iload_n X dX2_loudest_16 rfl 2 rfl ?_
            refine vv_aload_n X dX2_loudest_17 rfl 0 rfl ?_
            refine mg10 X rfl hM dX2_loudest_18 ?_
            refine vv_iconst (v := nI 4) X dX2_loudest_21 (by decide) ?_
            refine vv_iald X hM.a10 (4) (by omega) (by decide) rfl dX2_loudest_22 ?_
            refine vv_eqi hP.e4 ?_
            refine vn_ge (tgt := 105) X (by omega) (by omega) dX2_loudest_23 (by decide) (fun c_23 => ?_) (fun c_23 => ?_)
            · exact absurd hi (by omega)
            · refine vv_iconst (v := nI 0) X dX2_loudest_26 (by decide) ?_
              refine vv_istore_n (lv' := [(3, .int (nI 0)), (0, .ref (g 0)), (1, .int (r)), (2, .int (nI i))]) X dX2_loudest_27 rfl (by decide) rfl ?_
              refine vv_iconst (v := nI 0) X dX2_loudest_28 (by decide) ?_
              refine vv_istore (lv' := [(4, .int (nI 0)), (3, .int (nI 0)), (0, .ref (g 0)), (1, .int (r)), (2, .int (nI i))]) X dX2_loudest_29 (by decide) rfl ?_
              have hx_3 : ∀ (b : Nat) (hb : b = lra (I 10) (I 12) i (nM (I 10))) (hbl : b ≤ nM (I 10)), V K 5 (MA g) H 0 0 Qf 92 [(0, .ref (g 0)), (1, .int (r)), (2, .int (nI i)), (3, .int (nI b)), (4, .int (nI (nM (I 10))))] [] := by
                intro b hb hbl
                refine vv_iload_n X dX2_loudest_92 rfl 3 rfl ?_
                refine vv_iload_n X dX2_loudest_93 rfl 1 rfl ?_
                refine vv_icmp_ne (tgt := 99) X dX2_loudest_94 (by decide) (fun c_94 => ?_) (fun c_94 => ?_)
                · refine vv_iinc (v := nI (i + 1)) (lv' := [(2, .int (nI (i + 1))), (0, .ref (g 0)), (1, .int (r)), (3, .int (nI b)), (4, .int (nI (nM (I 10))))]) X dX2_loudest_99 (k := 2) rfl (nI_add _ 1) (by decide) rfl ?_
                  refine vv_goto (tgt := 16) X dX2_loudest_102 (by decide) ?_
                  refine vv_sub [1, 2, 0] rfl ?_
                  exact ihi (i + 1) (by omega) (by show fst1 _ i (fo (fst1 (fun m => nI (lra (I 10) (I 12) m (nM (I 10))) = r)) i none) = none; rw [hf]; exact if_neg (fun z => c_94 (by rw [hb]; exact z)))
                · refine vv_iload_n X dX2_loudest_97 rfl 2 rfl ?_
                  exact vv_iret X hQ dX2_loudest_98 (Nat.le_refl _) (Nat.le_refl _) (MEnd.of hM (ag_u (by decide) (ag_r)) (ag_r) 0 _ (nI i) (ask_t hp) rfl (fun _ => by rw [show ldA (I 10) (I 12) r (nM (I 10)) = some i from fst1_at (by omega) hf (by rw [← hb]; exact c_94)]; rfl) rfl)
              have hl_4 : ∀ (n_o o : Nat) (b : Nat), o + n_o = nM (I 10) → (b = lra (I 10) (I 12) i o) → (b ≤ o) → V K 5 (MA g) H 0 0 Qf 31 [(0, .ref (g 0)), (1, .int (r)), (2, .int (nI i)), (3, .int (nI b)), (4, .int (nI o))] [] := by
                intro n_o
                induction n_o with
                | zero =>
                  intro o b ho hb hbl
                  obtain rfl : o = nM (I 10) := by omega
                  refine vv_iload X dX2_loudest_31 4 rfl ?_
                  refine vv_aload_n X dX2_loudest_33 rfl 0 rfl ?_
                  refine mg10 X rfl hM dX2_loudest_34 ?_
                  refine vv_iconst (v := nI 4) X dX2_loudest_37 (by decide) ?_
                  refine vv_iald X hM.a10 (4) (by omega) (by decide) rfl dX2_loudest_38 ?_
                  refine vv_eqi hP.e4 ?_
                  refine vn_ge (tgt := 92) X (by omega) (by omega) dX2_loudest_39 (by decide) (fun c_39 => ?_) (fun c_39 => ?_)
                  · exact hx_3 b hb hbl
                  · exact absurd c_39 (by omega)
                | succ n_o iho =>
                  intro o b ho hb hbl
                  refine vv_iload X dX2_loudest_31 4 rfl ?_
                  refine vv_aload_n X dX2_loudest_33 rfl 0 rfl ?_
                  refine mg10 X rfl hM dX2_loudest_34 ?_
                  refine vv_iconst (v := nI 4) X dX2_loudest_37 (by decide) ?_
                  refine vv_iald X hM.a10 (4) (by omega) (by decide) rfl dX2_loudest_38 ?_
                  refine vv_eqi hP.e4 ?_
                  refine vn_ge (tgt := 92) X (by omega) (by omega) dX2_loudest_39 (by decide) (fun c_39 => ?_) (fun c_39 => ?_)
                  · exact absurd ho (by omega)
                  · refine vv_iload_n X dX2_loudest_42 rfl 3 rfl ?_
                    refine vv_aload_n X dX2_loudest_43 rfl 0 rfl ?_
                    refine vv_iload X dX2_loudest_44 4 rfl ?_
                    refine vv_callVp X (mX2_levelOf (kL K) D g (va_up x 0 (nI 0)) I J (I 10) rfl (I 12) rfl o hC (by omega)) q3544 q3546 qs130 q144 q3547 nX2_levelOf ⟨(Nat.le_of_ble_eq_true rfl), (Nat.le_of_ble_eq_true rfl)⟩ dX2_loudest_46 rfl (Nat.le_of_ble_eq_true rfl) (recv X hM.1 CL_X2) hM ⟨(Nat.le_of_ble_eq_true rfl), (Nat.le_of_ble_eq_true rfl)⟩ ?_
                    refine vv_aload_n X dX2_loudest_49 rfl 0 rfl ?_
                    refine vv_iload_n X dX2_loudest_50 rfl 2 rfl ?_
                    refine vv_callVp X (mX2_levelOf (kL K) D g (va_up x 0 (nI 0)) I J (I 10) rfl (I 12) rfl i hC (by omega)) q3544 q3546 qs130 q144 q3547 nX2_levelOf ⟨(Nat.le_of_ble_eq_true rfl), (Nat.le_of_ble_eq_true rfl)⟩ dX2_loudest_51 rfl (Nat.le_of_ble_eq_true rfl) (recv X hM.1 CL_X2) hM ⟨(Nat.le_of_ble_eq_true rfl), (Nat.le_of_ble_eq_true rfl)⟩ ?_
                    refine vv_lcmp X dX2_loudest_54 ?_
                    refine vz_gt (tgt := 79) X dX2_loudest_55 (by decide) (fun c_55 => ?_) (fun c_55 => ?_)
                    · refine vv_iconst (v := nI 1) X dX2_loudest_79 (by decide) ?_
                      refine vv_goto (tgt := 84) X dX2_loudest_80 (by decide) ?_
                      refine vn_add X dX2_loudest_84 ?_
                      refine vv_istore_n (lv' := [(3, .int (nI (b + 1))), (0, .ref (g 0)), (1, .int (r)), (2, .int (nI i)), (4, .int (nI o))]) X dX2_loudest_85 rfl (by decide) rfl ?_
                      refine vv_iinc (v := nI (o + 1)) (lv' := [(4, .int (nI (o + 1))), (3, .int (nI (b + 1))), (0, .ref (g 0)), (1, .int (r)), (2, .int (nI i))]) X dX2_loudest_86 (k := 4) rfl (nI_add _ 1) (by decide) rfl ?_
                      refine vv_goto (tgt := 31) X dX2_loudest_89 (by decide) ?_
                      refine vv_sub [2, 3, 4, 1, 0] rfl ?_
                      exact iho (o + 1) (b + 1) (by omega) (by rw [hb]; show _ = _ + (if gtr (lev (I 10) (I 12)) o i then 1 else 0); rw [if_pos (Or.inl c_55)]; rfl) (by omega)
                    · refine vv_aload_n X dX2_loudest_58 rfl 0 rfl ?_
                      refine vv_iload X dX2_loudest_59 4 rfl ?_
                      refine vv_callVp X (mX2_levelOf (kL K) D g (va_up x 0 (nI 0)) I J (I 10) rfl (I 12) rfl o hC (by omega)) q3544 q3546 qs130 q144 q3547 nX2_levelOf ⟨(Nat.le_of_ble_eq_true rfl), (Nat.le_of_ble_eq_true rfl)⟩ dX2_loudest_61 rfl (Nat.le_of_ble_eq_true rfl) (recv X hM.1 CL_X2) hM ⟨(Nat.le_of_ble_eq_true rfl), (Nat.le_of_ble_eq_true rfl)⟩ ?_
                      refine vv_aload_n X dX2_loudest_64 rfl 0 rfl ?_
                      refine vv_iload_n X dX2_loudest_65 rfl 2 rfl ?_
                      refine vv_callVp X (mX2_levelOf (kL K) D g (va_up x 0 (nI 0)) I J (I 10) rfl (I 12) rfl i hC (by omega)) q3544 q3546 qs130 q144 q3547 nX2_levelOf ⟨(Nat.le_of_ble_eq_true rfl), (Nat.le_of_ble_eq_true rfl)⟩ dX2_loudest_66 rfl (Nat.le_of_ble_eq_true rfl) (recv X hM.1 CL_X2) hM ⟨(Nat.le_of_ble_eq_true rfl), (Nat.le_of_ble_eq_true rfl)⟩ ?_
                      refine vv_lcmp X dX2_loudest_69 ?_
                      refine vz_ne (tgt := 83) X dX2_loudest_70 (by decide) (fun c_70 => ?_) (fun c_70 => ?_)
                      · refine vv_iconst (v := nI 0) X dX2_loudest_83 (by decide) ?_
                        refine vn_add X dX2_loudest_84 ?_
                        refine vv_istore_n (lv' := [(3, .int (nI (b + 0))), (0, .ref (g 0)), (1, .int (r)), (2, .int (nI i)), (4, .int (nI o))]) X dX2_loudest_85 rfl (by decide) rfl ?_
                        refine vv_iinc (v := nI (o + 1)) (lv' := [(4, .int (nI (o + 1))), (3, .int (nI (b + 0))), (0, .ref (g 0)), (1, .int (r)), (2, .int (nI i))]) X dX2_loudest_86 (k := 4) rfl (nI_add _ 1) (by decide) rfl ?_
                        refine vv_goto (tgt := 31) X dX2_loudest_89 (by decide) ?_
                        refine vv_sub [2, 3, 4, 1, 0] rfl ?_
                        exact iho (o + 1) (b + 0) (by omega) (by rw [hb]; show _ = _ + (if gtr (lev (I 10) (I 12)) o i then 1 else 0); rw [if_neg (fun z => z.elim (fun z => absurd z (Int64.not_lt.mpr c_55)) (fun z => c_70 z.1))]; rfl) (by omega)
                      · refine vv_iload X dX2_loudest_73 4 rfl ?_
                        refine vv_iload_n X dX2_loudest_75 rfl 2 rfl ?_
                        refine vn_ge (tgt := 83) X (by omega) (by omega) dX2_loudest_76 (by decide) (fun c_76 => ?_) (fun c_76 => ?_)
                        · refine vv_iconst (v := nI 0) X dX2_loudest_83 (by decide) ?_
                          refine vn_add X dX2_loudest_84 ?_
                          refine vv_istore_n (lv' := [(3, .int (nI (b + 0))), (0, .ref (g 0)), (1, .int (r)), (2, .int (nI i)), (4, .int (nI o))]) X dX2_loudest_85 rfl (by decide) rfl ?_
                          refine vv_iinc (v := nI (o + 1)) (lv' := [(4, .int (nI (o + 1))), (3, .int (nI (b + 0))), (0, .ref (g 0)), (1, .int (r)), (2, .int (nI i))]) X dX2_loudest_86 (k := 4) rfl (nI_add _ 1) (by decide) rfl ?_
                          refine vv_goto (tgt := 31) X dX2_loudest_89 (by decide) ?_
                          refine vv_sub [2, 3, 4, 1, 0] rfl ?_
                          exact iho (o + 1) (b + 0) (by omega) (by rw [hb]; show _ = _ + (if gtr (lev (I 10) (I 12)) o i then 1 else 0); rw [if_neg (fun z => z.elim (fun z => absurd z (Int64.not_lt.mpr c_55)) (fun z => absurd z.2 (by omega)))]; rfl) (by omega)
                        · refine vv_iconst (v := nI 1) X dX2_loudest_79 (by decide) ?_
                          refine vv_goto (tgt := 84) X dX2_loudest_80 (by decide) ?_
                          refine vn_add X dX2_loudest_84 ?_
                          refine vv_istore_n (lv' := [(3, .int (nI (b + 1))), (0, .ref (g 0)), (1, .int (r)), (2, .int (nI i)), (4, .int (nI o))]) X dX2_loudest_85 rfl (by decide) rfl ?_
                          refine vv_iinc (v := nI (o + 1)) (lv' := [(4, .int (nI (o + 1))), (3, .int (nI (b + 1))), (0, .ref (g 0)), (1, .int (r)), (2, .int (nI i))]) X dX2_loudest_86 (k := 4) rfl (nI_add _ 1) (by decide) rfl ?_
                          refine vv_goto (tgt := 31) X dX2_loudest_89 (by decide) ?_
                          refine vv_sub [2, 3, 4, 1, 0] rfl ?_
                          exact iho (o + 1) (b + 1) (by omega) (by rw [hb]; show _ = _ + (if gtr (lev (I 10) (I 12)) o i then 1 else 0); rw [if_pos (Or.inr ⟨c_70, c_76⟩)]; rfl) (by omega)
              refine vv_sub [2, 3, 4, 1, 0] rfl ?_
              exact hl_4 (nM (I 10)) 0 0 (by omega) (rfl) (Nat.le_refl _)
        refine vv_sub [1, 2, 0] rfl ?_
        exact hl_2 (nM (I 10)) 0 (by omega) (rfl)
      · exact absurd c_9 (by decide)
    · refine vv_eqi (b2_n hp) ?_
      rw [if_neg hp] at hM
      refine vn_if_ne (tgt := 14) X (by omega) dX2_loudest_9 (by decide) (fun c_9 => ?_) (fun c_9 => ?_)
      · exact absurd c_9 (by decide)
      · refine vv_iconst (v := nI 0) X dX2_loudest_12 (by decide) ?_
        exact vv_iret X hQ dX2_loudest_13 (Nat.le_refl _) (Nat.le_refl _) (MEnd.of hM (ag_u (by decide) (ag_r)) (ag_r) 2 _ (nI 0) (ask_f hp) rfl (fun h => absurd h (by decide)) rfl)
theorem nX2_pointBest : notMH yX2_pointBest 2 := by decide +kernel
set_option maxHeartbeats 800000 in
theorem aX2_pointBest (l : Launch) (D : DD) (g : Nat → Nat) (x : Nat → Int32) (I : Nat → Nat → Int32) (J : Nat → Nat → Int64) (P : Nat → Int32) (hIP : I 10 = P) (S : Nat → Int32) (hIS : I 12 = S) (C : Bool) (hg : MG g) (a p : Int32) (hP : VP P) (hc : cam C (x 20) P S (I 17)) (h21 : x 21 = -1) : Ct l yX2_pointBest cX2_pointBest 3 (some .int) { frames := 8, cells := 0, slots := 0, locals := 193 } D [.ref (g 0), .int (a), .int (p)] (fun H => MR D g x I J H) (MA g) (fun v H H1 => MEnd D g x I iV (an_pointBest C P S a p) v H1) := by
  refine Ct.of (by decide +kernel) (Nat.le_of_ble_eq_true rfl) (fun K Qf hkl X hM hQ => ?_)
  subst hkl
  subst hIP
  subst hIS
  have l4 := hP.l4
  have l5 := hP.l5
  have l2 := hP.l2
  have l9 := hP.l9
  have l10 := hP.l10
  have l101 := hP.l101
  have hn4 : nC (I 10) ≤ 144 := Nat.mul_le_mul l9 l10
  refine vv_sub (lv' := [(0, .ref (g 0)), (1, .int (a)), (2, .int (p))]) [0, 1, 2] rfl ?_
  rcases hc with ⟨rfl, h20⟩ | ⟨rfl, h20, hC, hS, hT⟩
  · refine vv_aload_n X dX2_pointBest_0 rfl 0 rfl ?_
    refine vv_aload_n X dX2_pointBest_1 rfl 0 rfl ?_
    refine vv_iload_n X dX2_pointBest_2 rfl 1 rfl ?_
    refine vv_callVp X (mX2_isCell (kL K) D g x I J (I 10) rfl a hP) q3268 q3270 qs100 q144 q3271 nX2_isCell ⟨(Nat.le_of_ble_eq_true rfl), (Nat.le_of_ble_eq_true rfl)⟩ dX2_pointBest_3 rfl (Nat.le_of_ble_eq_true rfl) (recv X hM.1 CL_X2) hM ⟨(Nat.le_of_ble_eq_true rfl), (Nat.le_of_ble_eq_true rfl)⟩ ?_
    refine vv_callV X (mX2_mayAsk0 (kL K) D g x I J hg (ix (nC (I 10)) a) h20) q3244 q3246 qs98 q144 q3247 nX2_mayAsk ⟨(Nat.le_of_ble_eq_true rfl), (Nat.le_of_ble_eq_true rfl)⟩ dX2_pointBest_6 rfl (Nat.le_of_ble_eq_true rfl) (recv X hM.1 CL_X2) hM  (fun _ z => Or.inl z) ⟨(Nat.le_of_ble_eq_true rfl), (Nat.le_of_ble_eq_true rfl)⟩ (fun v_ H hq hz hk => ?_)
    obtain ⟨rfl, hM⟩ := hq
    clear hz hk
    refine vv_eqi (b2_n (p := False) (fun z => z)) ?_
    refine vn_if_ne (tgt := 14) X (by omega) dX2_pointBest_9 (by decide) (fun c_9 => ?_) (fun c_9 => ?_)
    · exact absurd c_9 (by decide)
    · refine vv_iconst (v := nI 0) X dX2_pointBest_12 (by decide) ?_
      exact vv_iret X hQ dX2_pointBest_13 (Nat.le_refl _) (Nat.le_refl _) (MEnd.of hM (ag_u (by decide) (ag_r)) (ag_r) 1 _ (nI 0) (ask_0) rfl (fun h => absurd h (by decide)) rfl)
  · refine vv_aload_n X dX2_pointBest_0 rfl 0 rfl ?_
    refine vv_aload_n X dX2_pointBest_1 rfl 0 rfl ?_
    refine vv_iload_n X dX2_pointBest_2 rfl 1 rfl ?_
    refine vv_callVp X (mX2_isCell (kL K) D g x I J (I 10) rfl a hP) q3268 q3270 qs100 q144 q3271 nX2_isCell ⟨(Nat.le_of_ble_eq_true rfl), (Nat.le_of_ble_eq_true rfl)⟩ dX2_pointBest_3 rfl (Nat.le_of_ble_eq_true rfl) (recv X hM.1 CL_X2) hM ⟨(Nat.le_of_ble_eq_true rfl), (Nat.le_of_ble_eq_true rfl)⟩ ?_
    refine vv_callV X (mX2_mayAsk1 (kL K) D g x I J hg (ix (nC (I 10)) a) h20) q3244 q3246 qs98 q144 q3247 nX2_mayAsk ⟨(Nat.le_of_ble_eq_true rfl), (Nat.le_of_ble_eq_true rfl)⟩ dX2_pointBest_6 rfl (Nat.le_of_ble_eq_true rfl) (recv X hM.1 CL_X2) hM  (fun _ z => Or.inl z) ⟨(Nat.le_of_ble_eq_true rfl), (Nat.le_of_ble_eq_true rfl)⟩ (fun v_ H hq hz hk => ?_)
    obtain ⟨rfl, hM⟩ := hq
    clear hz hk
    by_cases hp : ix (nC (I 10)) a
    · refine vv_eqi (b2_y hp) ?_
      rw [if_pos hp] at hM
      obtain ⟨j, hj, rfl⟩ := ix_of (by omega) hp
      have ej : cl (nI j) = j := cl_I (by omega)
      refine vn_if_ne (tgt := 14) X (by omega) dX2_pointBest_9 (by decide) (fun c_9 => ?_) (fun c_9 => ?_)
      · refine vv_iload_n X dX2_pointBest_14 rfl 2 rfl ?_
        refine vv_callSp X (mX2_isPeriod (kL K) D p) q3419 q3420 q144 q3421 nX2_isPeriod ⟨(Nat.le_of_ble_eq_true rfl), (Nat.le_of_ble_eq_true rfl)⟩ dX2_pointBest_15 rfl (Nat.le_of_ble_eq_true rfl) trivial ⟨(Nat.le_of_ble_eq_true rfl), (Nat.le_of_ble_eq_true rfl)⟩ ?_
        refine vb_ne (tgt := 27) X dX2_pointBest_18 (by decide) (fun c_18 => ?_) (fun c_18 => ?_)
        · obtain ⟨u, hu, hu2, rfl⟩ := inR2 (by omega) (by omega) c_18
          have eu : cl (nI u) = u := cl_I (by omega)
          refine vv_aload_n X dX2_pointBest_27 rfl 0 rfl ?_
          refine mg12 X rfl hM dX2_pointBest_28 ?_
          refine vv_iconst (v := nI 0) X dX2_pointBest_31 (by decide) ?_
          refine vv_aload_n X dX2_pointBest_32 rfl 0 rfl ?_
          refine mg14 X rfl hM dX2_pointBest_33 ?_
          refine vv_iconst (v := nI 0) X dX2_pointBest_36 (by decide) ?_
          refine vv_callS X (mX2_copy (kL K) D (g 12) (g 14) 2455 2455 0 0 (I 12) (I 14) (hg.ne (by decide) (by decide) (by decide)) (by decide) (by decide) (by omega) (by omega)) q3169 q3170 q144 q3171 nX2_copy ⟨(Nat.le_of_ble_eq_true rfl), (Nat.le_of_ble_eq_true rfl)⟩ dX2_pointBest_37 rfl (Nat.le_of_ble_eq_true rfl) ⟨hM.a12, hM.a14⟩  (fun _ z => Or.inl (z ▸ MA.in (by decide))) ⟨(Nat.le_of_ble_eq_true rfl), (Nat.le_of_ble_eq_true rfl)⟩ (fun v_ H hq hz hk => ?_)
          obtain ⟨rfl, hz1, ha⟩ := hq
          replace ha := iA_cp0 (by decide) ha
          replace hM := hM.setI hg (k := 14) (n := 2455) (by decide) (Ch_of hz1 hk) ha
          clear hz hk hz1 ha
          refine vv_aload_n X dX2_pointBest_40 rfl 0 rfl ?_
          refine vv_aload_n X dX2_pointBest_41 rfl 0 rfl ?_
          refine mg14 X rfl hM dX2_pointBest_42 ?_
          refine vv_iload_n X dX2_pointBest_45 rfl 1 rfl ?_
          refine vv_iload_n X dX2_pointBest_46 rfl 2 rfl ?_
          refine vv_callV X (mX2_recordsPoint (kL K) D g (va_up x 0 (nI 0)) (va_up I 14 (I 12)) J (I 10) rfl (I 12) rfl hg j u hC hS h21 (by omega) (by omega)) q3565 q3567 qs131 q144 q3568 nX2_recordsPoint ⟨(Nat.le_of_ble_eq_true rfl), (Nat.le_of_ble_eq_true rfl)⟩ dX2_pointBest_47 rfl (Nat.le_of_ble_eq_true rfl) (recv X hM.1 CL_X2) hM  (fun _ z => Or.inl z) ⟨(Nat.le_of_ble_eq_true rfl), (Nat.le_of_ble_eq_true rfl)⟩ (fun v_ H hq hz hk => ?_)
          obtain ⟨rfl, R_1, hM⟩ := hq
          clear hz hk
          rw [up_up] at hM
          refine vv_aload_n X dX2_pointBest_50 rfl 0 rfl ?_
          refine vv_aload_n X dX2_pointBest_51 rfl 0 rfl ?_
          refine mg14 X rfl hM dX2_pointBest_52 ?_
          refine vv_callV X (mX2_bestIn14 (kL K) D g (va_up (va_up x 0 (nI 0)) 22 (nI u)) (va_up (va_up I 14 (rcd (I 10) (rawP (I 10) j u) (I 12))) 23 R_1) J (I 10) rfl (rcd (I 10) (rawP (I 10) j u) (I 12)) rfl hg hC (lowS.rcp.vs hS) hT) q3372 q3374 qs111 q144 q3375 nX2_bestIn ⟨(Nat.le_of_ble_eq_true rfl), (Nat.le_of_ble_eq_true rfl)⟩ dX2_pointBest_55 rfl (Nat.le_of_ble_eq_true rfl) (recv X hM.1 CL_X2) hM  (fun _ z => Or.inl z) ⟨(Nat.le_of_ble_eq_true rfl), (Nat.le_of_ble_eq_true rfl)⟩ (fun v_ H hq hz hk => ?_)
          obtain ⟨rfl, d_2, p_3, hM, hp_4⟩ := hq
          clear hz hk
          exact vv_iret X hQ dX2_pointBest_58 (Nat.le_refl _) (Nat.le_refl _) (MEnd.of hM (ag_u (by decide) (ag_u (by decide) (ag_r))) (ag_u (by decide) (ag_u (by decide) (ag_u (by decide) (ag_r)))) 0 _ (nI (bsN (pwc (I 10) (rcd (I 10) (rawP (I 10) j u) (I 12))) (nC (I 10)))) ((ask_t hp).trans (arg_t c_18)) rfl (fun _ => by simp only [ej, eu]) rfl)
        · refine vv_aload_n X dX2_pointBest_21 rfl 0 rfl ?_
          refine vv_iconst (v := nI 3) X dX2_pointBest_22 (by decide) ?_
          refine vv_callV X (mX2_throwsAt (kL K) D g (va_up x 0 (nI 0)) I J hg (nI 3)) q3034 q3036 qs59 q144 q3037 nX2_throwsAt ⟨(Nat.le_of_ble_eq_true rfl), (Nat.le_of_ble_eq_true rfl)⟩ dX2_pointBest_23 rfl (Nat.le_of_ble_eq_true rfl) (recv X hM.1 CL_X2) hM  (fun _ z => Or.inl z) ⟨(Nat.le_of_ble_eq_true rfl), (Nat.le_of_ble_eq_true rfl)⟩ (fun v_ H hq hz hk => ?_)
          obtain ⟨rfl, hM⟩ := hq
          clear hz hk
          rw [up_up] at hM
          exact vv_iret X hQ dX2_pointBest_26 (Nat.le_refl _) (Nat.le_refl _) (MEnd.of hM (ag_u (by decide) (ag_r)) (ag_r) 3 _ (nI 0) ((ask_t hp).trans (arg_f c_18)) rfl (fun h => absurd h (by decide)) rfl)
      · exact absurd c_9 (by decide)
    · refine vv_eqi (b2_n hp) ?_
      rw [if_neg hp] at hM
      refine vn_if_ne (tgt := 14) X (by omega) dX2_pointBest_9 (by decide) (fun c_9 => ?_) (fun c_9 => ?_)
      · exact absurd c_9 (by decide)
      · refine vv_iconst (v := nI 0) X dX2_pointBest_12 (by decide) ?_
        exact vv_iret X hQ dX2_pointBest_13 (Nat.le_refl _) (Nat.le_refl _) (MEnd.of hM (ag_u (by decide) (ag_r)) (ag_r) 2 _ (nI 0) (ask_f hp) rfl (fun h => absurd h (by decide)) rfl)
theorem nX2_pointPower : notMH yX2_pointPower 3 := by decide +kernel
set_option maxHeartbeats 800000 in
theorem aX2_pointPower (l : Launch) (D : DD) (g : Nat → Nat) (x : Nat → Int32) (I : Nat → Nat → Int32) (J : Nat → Nat → Int64) (P : Nat → Int32) (hIP : I 10 = P) (S : Nat → Int32) (hIS : I 12 = S) (C : Bool) (hg : MG g) (a b p : Int32) (hP : VP P) (hc : cam C (x 20) P S (I 17)) (h21 : x 21 = -1) : Ct l yX2_pointPower cX2_pointPower 4 (some .long) { frames := 8, cells := 0, slots := 0, locals := 193 } D [.ref (g 0), .int (a), .int (b), .int (p)] (fun H => MR D g x I J H) (MA g) (fun v H H1 => MEnd D g x I lV (an_pointPower C P S a b p) v H1) := by
  refine Ct.of (by decide +kernel) (Nat.le_of_ble_eq_true rfl) (fun K Qf hkl X hM hQ => ?_)
  subst hkl
  subst hIP
  subst hIS
  have l4 := hP.l4
  have l5 := hP.l5
  have l2 := hP.l2
  have l9 := hP.l9
  have l10 := hP.l10
  have l101 := hP.l101
  have hn4 : nC (I 10) ≤ 144 := Nat.mul_le_mul l9 l10
  refine vv_sub (lv' := [(0, .ref (g 0)), (1, .int (a)), (2, .int (b)), (3, .int (p))]) [0, 1, 2, 3] rfl ?_
  rcases hc with ⟨rfl, h20⟩ | ⟨rfl, h20, hC, hS, hT⟩
  · refine vv_aload_n X dX2_pointPower_0 rfl 0 rfl ?_
    refine vv_aload_n X dX2_pointPower_1 rfl 0 rfl ?_
    refine vv_iload_n X dX2_pointPower_2 rfl 1 rfl ?_
    refine vv_callVp X (mX2_isCell (kL K) D g x I J (I 10) rfl a hP) q3268 q3270 qs100 q144 q3271 nX2_isCell ⟨(Nat.le_of_ble_eq_true rfl), (Nat.le_of_ble_eq_true rfl)⟩ dX2_pointPower_3 rfl (Nat.le_of_ble_eq_true rfl) (recv X hM.1 CL_X2) hM ⟨(Nat.le_of_ble_eq_true rfl), (Nat.le_of_ble_eq_true rfl)⟩ ?_
    refine vb_eq (tgt := 21) X dX2_pointPower_6 (by decide) (fun c_6 => ?_) (fun c_6 => ?_)
    · refine vv_iconst (v := nI 0) X dX2_pointPower_21 (by decide) ?_
      refine vv_callV X (mX2_mayAsk0 (kL K) D g x I J hg False h20) q3244 q3246 qs98 q144 q3247 nX2_mayAsk ⟨(Nat.le_of_ble_eq_true rfl), (Nat.le_of_ble_eq_true rfl)⟩ dX2_pointPower_22 rfl (Nat.le_of_ble_eq_true rfl) (recv X hM.1 CL_X2) hM  (fun _ z => Or.inl z) ⟨(Nat.le_of_ble_eq_true rfl), (Nat.le_of_ble_eq_true rfl)⟩ (fun v_ H hq hz hk => ?_)
      obtain ⟨rfl, hM⟩ := hq
      clear hz hk
      refine vv_eqi (b2_n (p := False) (fun z => z)) ?_
      refine vn_if_ne (tgt := 30) X (by omega) dX2_pointPower_25 (by decide) (fun c_25 => ?_) (fun c_25 => ?_)
      · exact absurd c_25 (by decide)
      · refine vv_lconst (v := 0) X dX2_pointPower_28 (by decide) ?_
        exact vv_lret X hQ dX2_pointPower_29 (Nat.le_refl _) (Nat.le_refl _) (MEnd.of hM (ag_u (by decide) (ag_r)) (ag_r) 1 _ (0) (ask_0) rfl (fun h => absurd h (by decide)) rfl)
    · refine vv_aload_n X dX2_pointPower_9 rfl 0 rfl ?_
      refine vv_iload_n X dX2_pointPower_10 rfl 2 rfl ?_
      refine vv_callVp X (mX2_isCell (kL K) D g x I J (I 10) rfl b hP) q3268 q3270 qs100 q144 q3271 nX2_isCell ⟨(Nat.le_of_ble_eq_true rfl), (Nat.le_of_ble_eq_true rfl)⟩ dX2_pointPower_11 rfl (Nat.le_of_ble_eq_true rfl) (recv X hM.1 CL_X2) hM ⟨(Nat.le_of_ble_eq_true rfl), (Nat.le_of_ble_eq_true rfl)⟩ ?_
      refine vb_eq (tgt := 21) X dX2_pointPower_14 (by decide) (fun c_14 => ?_) (fun c_14 => ?_)
      · refine vv_iconst (v := nI 0) X dX2_pointPower_21 (by decide) ?_
        refine vv_callV X (mX2_mayAsk0 (kL K) D g x I J hg False h20) q3244 q3246 qs98 q144 q3247 nX2_mayAsk ⟨(Nat.le_of_ble_eq_true rfl), (Nat.le_of_ble_eq_true rfl)⟩ dX2_pointPower_22 rfl (Nat.le_of_ble_eq_true rfl) (recv X hM.1 CL_X2) hM  (fun _ z => Or.inl z) ⟨(Nat.le_of_ble_eq_true rfl), (Nat.le_of_ble_eq_true rfl)⟩ (fun v_ H hq hz hk => ?_)
        obtain ⟨rfl, hM⟩ := hq
        clear hz hk
        refine vv_eqi (b2_n (p := False) (fun z => z)) ?_
        refine vn_if_ne (tgt := 30) X (by omega) dX2_pointPower_25 (by decide) (fun c_25 => ?_) (fun c_25 => ?_)
        · exact absurd c_25 (by decide)
        · refine vv_lconst (v := 0) X dX2_pointPower_28 (by decide) ?_
          exact vv_lret X hQ dX2_pointPower_29 (Nat.le_refl _) (Nat.le_refl _) (MEnd.of hM (ag_u (by decide) (ag_r)) (ag_r) 1 _ (0) (ask_0) rfl (fun h => absurd h (by decide)) rfl)
      · refine vv_iconst (v := nI 1) X dX2_pointPower_17 (by decide) ?_
        refine vv_goto (tgt := 22) X dX2_pointPower_18 (by decide) ?_
        refine vv_callV X (mX2_mayAsk0 (kL K) D g x I J hg True h20) q3244 q3246 qs98 q144 q3247 nX2_mayAsk ⟨(Nat.le_of_ble_eq_true rfl), (Nat.le_of_ble_eq_true rfl)⟩ dX2_pointPower_22 rfl (Nat.le_of_ble_eq_true rfl) (recv X hM.1 CL_X2) hM  (fun _ z => Or.inl z) ⟨(Nat.le_of_ble_eq_true rfl), (Nat.le_of_ble_eq_true rfl)⟩ (fun v_ H hq hz hk => ?_)
        obtain ⟨rfl, hM⟩ := hq
        clear hz hk
        refine vv_eqi (b2_n (p := False) (fun z => z)) ?_
        refine vn_if_ne (tgt := 30) X (by omega) dX2_pointPower_25 (by decide) (fun c_25 => ?_) (fun c_25 => ?_)
        · exact absurd c_25 (by decide)
        · refine vv_lconst (v := 0) X dX2_pointPower_28 (by decide) ?_
          exact vv_lret X hQ dX2_pointPower_29 (Nat.le_refl _) (Nat.le_refl _) (MEnd.of hM (ag_u (by decide) (ag_r)) (ag_r) 1 _ (0) (ask_0) rfl (fun h => absurd h (by decide)) rfl)
  · refine vv_aload_n X dX2_pointPower_0 rfl 0 rfl ?_
    refine vv_aload_n X dX2_pointPower_1 rfl 0 rfl ?_
    refine vv_iload_n X dX2_pointPower_2 rfl 1 rfl ?_
    refine vv_callVp X (mX2_isCell (kL K) D g x I J (I 10) rfl a hP) q3268 q3270 qs100 q144 q3271 nX2_isCell ⟨(Nat.le_of_ble_eq_true rfl), (Nat.le_of_ble_eq_true rfl)⟩ dX2_pointPower_3 rfl (Nat.le_of_ble_eq_true rfl) (recv X hM.1 CL_X2) hM ⟨(Nat.le_of_ble_eq_true rfl), (Nat.le_of_ble_eq_true rfl)⟩ ?_
    refine vb_eq (tgt := 21) X dX2_pointPower_6 (by decide) (fun c_6 => ?_) (fun c_6 => ?_)
    · refine vv_iconst (v := nI 0) X dX2_pointPower_21 (by decide) ?_
      refine vv_callV X (mX2_mayAsk1 (kL K) D g x I J hg False h20) q3244 q3246 qs98 q144 q3247 nX2_mayAsk ⟨(Nat.le_of_ble_eq_true rfl), (Nat.le_of_ble_eq_true rfl)⟩ dX2_pointPower_22 rfl (Nat.le_of_ble_eq_true rfl) (recv X hM.1 CL_X2) hM  (fun _ z => Or.inl z) ⟨(Nat.le_of_ble_eq_true rfl), (Nat.le_of_ble_eq_true rfl)⟩ (fun v_ H hq hz hk => ?_)
      obtain ⟨rfl, hM⟩ := hq
      clear hz hk
      refine vv_eqi (b2_n (p := False) (fun z => z)) ?_
      rw [if_neg (fun z => z)] at hM
      refine vn_if_ne (tgt := 30) X (by omega) dX2_pointPower_25 (by decide) (fun c_25 => ?_) (fun c_25 => ?_)
      · exact absurd c_25 (by decide)
      · refine vv_lconst (v := 0) X dX2_pointPower_28 (by decide) ?_
        exact vv_lret X hQ dX2_pointPower_29 (Nat.le_refl _) (Nat.le_refl _) (MEnd.of hM (ag_u (by decide) (ag_r)) (ag_r) 2 _ (0) (ask_f (fun z => c_6 z.1)) rfl (fun h => absurd h (by decide)) rfl)
    · refine vv_aload_n X dX2_pointPower_9 rfl 0 rfl ?_
      refine vv_iload_n X dX2_pointPower_10 rfl 2 rfl ?_
      refine vv_callVp X (mX2_isCell (kL K) D g x I J (I 10) rfl b hP) q3268 q3270 qs100 q144 q3271 nX2_isCell ⟨(Nat.le_of_ble_eq_true rfl), (Nat.le_of_ble_eq_true rfl)⟩ dX2_pointPower_11 rfl (Nat.le_of_ble_eq_true rfl) (recv X hM.1 CL_X2) hM ⟨(Nat.le_of_ble_eq_true rfl), (Nat.le_of_ble_eq_true rfl)⟩ ?_
      refine vb_eq (tgt := 21) X dX2_pointPower_14 (by decide) (fun c_14 => ?_) (fun c_14 => ?_)
      · refine vv_iconst (v := nI 0) X dX2_pointPower_21 (by decide) ?_
        refine vv_callV X (mX2_mayAsk1 (kL K) D g x I J hg False h20) q3244 q3246 qs98 q144 q3247 nX2_mayAsk ⟨(Nat.le_of_ble_eq_true rfl), (Nat.le_of_ble_eq_true rfl)⟩ dX2_pointPower_22 rfl (Nat.le_of_ble_eq_true rfl) (recv X hM.1 CL_X2) hM  (fun _ z => Or.inl z) ⟨(Nat.le_of_ble_eq_true rfl), (Nat.le_of_ble_eq_true rfl)⟩ (fun v_ H hq hz hk => ?_)
        obtain ⟨rfl, hM⟩ := hq
        clear hz hk
        refine vv_eqi (b2_n (p := False) (fun z => z)) ?_
        rw [if_neg (fun z => z)] at hM
        refine vn_if_ne (tgt := 30) X (by omega) dX2_pointPower_25 (by decide) (fun c_25 => ?_) (fun c_25 => ?_)
        · exact absurd c_25 (by decide)
        · refine vv_lconst (v := 0) X dX2_pointPower_28 (by decide) ?_
          exact vv_lret X hQ dX2_pointPower_29 (Nat.le_refl _) (Nat.le_refl _) (MEnd.of hM (ag_u (by decide) (ag_r)) (ag_r) 2 _ (0) (ask_f (fun z => c_14 z.2)) rfl (fun h => absurd h (by decide)) rfl)
      · refine vv_iconst (v := nI 1) X dX2_pointPower_17 (by decide) ?_
        refine vv_goto (tgt := 22) X dX2_pointPower_18 (by decide) ?_
        refine vv_callV X (mX2_mayAsk1 (kL K) D g x I J hg True h20) q3244 q3246 qs98 q144 q3247 nX2_mayAsk ⟨(Nat.le_of_ble_eq_true rfl), (Nat.le_of_ble_eq_true rfl)⟩ dX2_pointPower_22 rfl (Nat.le_of_ble_eq_true rfl) (recv X hM.1 CL_X2) hM  (fun _ z => Or.inl z) ⟨(Nat.le_of_ble_eq_true rfl), (Nat.le_of_ble_eq_true rfl)⟩ (fun v_ H hq hz hk => ?_)
        obtain ⟨rfl, hM⟩ := hq
        clear hz hk
        refine vv_eqi (b2_y (p := True) trivial) ?_
        rw [if_pos trivial] at hM
        obtain ⟨j, hj, rfl⟩ := ix_of (by omega) c_6
        have ej : cl (nI j) = j := cl_I (by omega)
        obtain ⟨k, hk, rfl⟩ := ix_of (by omega) c_14
        have ek : cl (nI k) = k := cl_I (by omega)
        refine vn_if_ne (tgt := 30) X (by omega) dX2_pointPower_25 (by decide) (fun c_25 => ?_) (fun c_25 => ?_)
        · refine vv_iload_n X dX2_pointPower_30 rfl 3 rfl ?_
          refine vv_callSp X (mX2_isPeriod (kL K) D p) q3419 q3420 q144 q3421 nX2_isPeriod ⟨(Nat.le_of_ble_eq_true rfl), (Nat.le_of_ble_eq_true rfl)⟩ dX2_pointPower_31 rfl (Nat.le_of_ble_eq_true rfl) trivial ⟨(Nat.le_of_ble_eq_true rfl), (Nat.le_of_ble_eq_true rfl)⟩ ?_
          refine vb_ne (tgt := 44) X dX2_pointPower_34 (by decide) (fun c_34 => ?_) (fun c_34 => ?_)
          · obtain ⟨u, hu, hu2, rfl⟩ := inR2 (by omega) (by omega) c_34
            have eu : cl (nI u) = u := cl_I (by omega)
            refine vv_aload_n X dX2_pointPower_44 rfl 0 rfl ?_
            refine mg12 X rfl hM dX2_pointPower_45 ?_
            refine vv_iconst (v := nI 0) X dX2_pointPower_48 (by decide) ?_
            refine vv_aload_n X dX2_pointPower_49 rfl 0 rfl ?_
            refine mg14 X rfl hM dX2_pointPower_50 ?_
            refine vv_iconst (v := nI 0) X dX2_pointPower_53 (by decide) ?_
            refine vv_callS X (mX2_copy (kL K) D (g 12) (g 14) 2455 2455 0 0 (I 12) (I 14) (hg.ne (by decide) (by decide) (by decide)) (by decide) (by decide) (by omega) (by omega)) q3169 q3170 q144 q3171 nX2_copy ⟨(Nat.le_of_ble_eq_true rfl), (Nat.le_of_ble_eq_true rfl)⟩ dX2_pointPower_54 rfl (Nat.le_of_ble_eq_true rfl) ⟨hM.a12, hM.a14⟩  (fun _ z => Or.inl (z ▸ MA.in (by decide))) ⟨(Nat.le_of_ble_eq_true rfl), (Nat.le_of_ble_eq_true rfl)⟩ (fun v_ H hq hz hk => ?_)
            obtain ⟨rfl, hz1, ha⟩ := hq
            replace ha := iA_cp0 (by decide) ha
            replace hM := hM.setI hg (k := 14) (n := 2455) (by decide) (Ch_of hz1 hk) ha
            clear hz hk hz1 ha
            refine vv_aload_n X dX2_pointPower_57 rfl 0 rfl ?_
            refine vv_aload_n X dX2_pointPower_58 rfl 0 rfl ?_
            refine mg14 X rfl hM dX2_pointPower_59 ?_
            refine vv_iload_n X dX2_pointPower_62 rfl 1 rfl ?_
            refine vv_iload_n X dX2_pointPower_63 rfl 3 rfl ?_
            refine vv_callV X (mX2_recordsPoint (kL K) D g (va_up x 0 (nI 0)) (va_up I 14 (I 12)) J (I 10) rfl (I 12) rfl hg j u hC hS h21 (by omega) (by omega)) q3565 q3567 qs131 q144 q3568 nX2_recordsPoint ⟨(Nat.le_of_ble_eq_true rfl), (Nat.le_of_ble_eq_true rfl)⟩ dX2_pointPower_64 rfl (Nat.le_of_ble_eq_true rfl) (recv X hM.1 CL_X2) hM  (fun _ z => Or.inl z) ⟨(Nat.le_of_ble_eq_true rfl), (Nat.le_of_ble_eq_true rfl)⟩ (fun v_ H hq hz hk => ?_)
            obtain ⟨rfl, R_1, hM⟩ := hq
            clear hz hk
            rw [up_up] at hM
            refine vv_aload_n X dX2_pointPower_67 rfl 0 rfl ?_
            refine vv_aload_n X dX2_pointPower_68 rfl 0 rfl ?_
            refine mg14 X rfl hM dX2_pointPower_69 ?_
            refine vv_iload_n X dX2_pointPower_72 rfl 2 rfl ?_
            refine vv_callV X (mX2_powerOf14 (kL K) D g (va_up (va_up x 0 (nI 0)) 22 (nI u)) (va_up (va_up I 14 (rcd (I 10) (rawP (I 10) j u) (I 12))) 23 R_1) J (I 10) rfl (rcd (I 10) (rawP (I 10) j u) (I 12)) rfl hg k hP (lowS.rcp.vs hS) hT (by omega)) q3348 q3350 qs107 q144 q3351 nX2_powerOf ⟨(Nat.le_of_ble_eq_true rfl), (Nat.le_of_ble_eq_true rfl)⟩ dX2_pointPower_73 rfl (Nat.le_of_ble_eq_true rfl) (recv X hM.1 CL_X2) hM  (fun _ z => Or.inl z) ⟨(Nat.le_of_ble_eq_true rfl), (Nat.le_of_ble_eq_true rfl)⟩ (fun v_ H hq hz hk => ?_)
            obtain ⟨rfl, d_2, hM⟩ := hq
            clear hz hk
            exact vv_lret X hQ dX2_pointPower_76 (Nat.le_refl _) (Nat.le_refl _) (MEnd.of hM (ag_u (by decide) (ag_u (by decide) (ag_r))) (ag_u (by decide) (ag_u (by decide) (ag_u (by decide) (ag_r)))) 0 _ (pwc (I 10) (rcd (I 10) (rawP (I 10) j u) (I 12)) k) ((ask_t (⟨c_6, c_14⟩)).trans (arg_t c_34)) rfl (fun _ => by simp only [ej, ek, eu]) rfl)
          · refine vv_aload_n X dX2_pointPower_37 rfl 0 rfl ?_
            refine vv_iconst (v := nI 3) X dX2_pointPower_38 (by decide) ?_
            refine vv_callV X (mX2_throwsAt (kL K) D g (va_up x 0 (nI 0)) I J hg (nI 3)) q3034 q3036 qs59 q144 q3037 nX2_throwsAt ⟨(Nat.le_of_ble_eq_true rfl), (Nat.le_of_ble_eq_true rfl)⟩ dX2_pointPower_39 rfl (Nat.le_of_ble_eq_true rfl) (recv X hM.1 CL_X2) hM  (fun _ z => Or.inl z) ⟨(Nat.le_of_ble_eq_true rfl), (Nat.le_of_ble_eq_true rfl)⟩ (fun v_ H hq hz hk => ?_)
            obtain ⟨rfl, hM⟩ := hq
            clear hz hk
            rw [up_up] at hM
            refine vv_i2l (v := 0) X dX2_pointPower_42 rfl ?_
            exact vv_lret X hQ dX2_pointPower_43 (Nat.le_refl _) (Nat.le_refl _) (MEnd.of hM (ag_u (by decide) (ag_r)) (ag_r) 3 _ (0) ((ask_t (⟨c_6, c_14⟩)).trans (arg_f c_34)) rfl (fun h => absurd h (by decide)) rfl)
        · exact absurd c_25 (by decide)
theorem nX2_bestWithout : notMH yX2_bestWithout 1 := by decide +kernel
set_option maxHeartbeats 800000 in
theorem aX2_bestWithout (l : Launch) (D : DD) (g : Nat → Nat) (x : Nat → Int32) (I : Nat → Nat → Int32) (J : Nat → Nat → Int64) (P : Nat → Int32) (hIP : I 10 = P) (S : Nat → Int32) (hIS : I 12 = S) (C : Bool) (hg : MG g) (a : Int32) (hP : VP P) (hc : cam C (x 20) P S (I 17))  : Ct l yX2_bestWithout cX2_bestWithout 2 (some .int) { frames := 8, cells := 0, slots := 0, locals := 175 } D [.ref (g 0), .int (a)] (fun H => MR D g x I J H) (MA g) (fun v H H1 => MEnd D g x I iV (an_bestWithout C P S a) v H1) := by
  refine Ct.of (by decide +kernel) (Nat.le_of_ble_eq_true rfl) (fun K Qf hkl X hM hQ => ?_)
  subst hkl
  subst hIP
  subst hIS
  have l4 := hP.l4
  have l5 := hP.l5
  have l2 := hP.l2
  have l9 := hP.l9
  have l10 := hP.l10
  have l101 := hP.l101
  have hn4 : nC (I 10) ≤ 144 := Nat.mul_le_mul l9 l10
  refine vv_sub (lv' := [(0, .ref (g 0)), (1, .int (a))]) [0, 1] rfl ?_
  rcases hc with ⟨rfl, h20⟩ | ⟨rfl, h20, hC, hS, hT⟩
  · refine vv_aload_n X dX2_bestWithout_0 rfl 0 rfl ?_
    refine vv_aload_n X dX2_bestWithout_1 rfl 0 rfl ?_
    refine vv_iload_n X dX2_bestWithout_2 rfl 1 rfl ?_
    refine vv_callVp X (mX2_isMic (kL K) D g x I J (I 10) rfl a hP) q3240 q3242 qs97 q144 q3243 nX2_isMic ⟨(Nat.le_of_ble_eq_true rfl), (Nat.le_of_ble_eq_true rfl)⟩ dX2_bestWithout_3 rfl (Nat.le_of_ble_eq_true rfl) (recv X hM.1 CL_X2) hM ⟨(Nat.le_of_ble_eq_true rfl), (Nat.le_of_ble_eq_true rfl)⟩ ?_
    refine vv_callV X (mX2_mayAsk0 (kL K) D g x I J hg (ix (nM (I 10)) a) h20) q3244 q3246 qs98 q144 q3247 nX2_mayAsk ⟨(Nat.le_of_ble_eq_true rfl), (Nat.le_of_ble_eq_true rfl)⟩ dX2_bestWithout_6 rfl (Nat.le_of_ble_eq_true rfl) (recv X hM.1 CL_X2) hM  (fun _ z => Or.inl z) ⟨(Nat.le_of_ble_eq_true rfl), (Nat.le_of_ble_eq_true rfl)⟩ (fun v_ H hq hz hk => ?_)
    obtain ⟨rfl, hM⟩ := hq
    clear hz hk
    refine vv_eqi (b2_n (p := False) (fun z => z)) ?_
    refine vn_if_ne (tgt := 14) X (by omega) dX2_bestWithout_9 (by decide) (fun c_9 => ?_) (fun c_9 => ?_)
    · exact absurd c_9 (by decide)
    · refine vv_iconst (v := nI 0) X dX2_bestWithout_12 (by decide) ?_
      exact vv_iret X hQ dX2_bestWithout_13 (Nat.le_refl _) (Nat.le_refl _) (MEnd.of hM (ag_u (by decide) (ag_r)) (ag_r) 1 _ (nI 0) (ask_0) rfl (fun h => absurd h (by decide)) rfl)
  · refine vv_aload_n X dX2_bestWithout_0 rfl 0 rfl ?_
    refine vv_aload_n X dX2_bestWithout_1 rfl 0 rfl ?_
    refine vv_iload_n X dX2_bestWithout_2 rfl 1 rfl ?_
    refine vv_callVp X (mX2_isMic (kL K) D g x I J (I 10) rfl a hP) q3240 q3242 qs97 q144 q3243 nX2_isMic ⟨(Nat.le_of_ble_eq_true rfl), (Nat.le_of_ble_eq_true rfl)⟩ dX2_bestWithout_3 rfl (Nat.le_of_ble_eq_true rfl) (recv X hM.1 CL_X2) hM ⟨(Nat.le_of_ble_eq_true rfl), (Nat.le_of_ble_eq_true rfl)⟩ ?_
    refine vv_callV X (mX2_mayAsk1 (kL K) D g x I J hg (ix (nM (I 10)) a) h20) q3244 q3246 qs98 q144 q3247 nX2_mayAsk ⟨(Nat.le_of_ble_eq_true rfl), (Nat.le_of_ble_eq_true rfl)⟩ dX2_bestWithout_6 rfl (Nat.le_of_ble_eq_true rfl) (recv X hM.1 CL_X2) hM  (fun _ z => Or.inl z) ⟨(Nat.le_of_ble_eq_true rfl), (Nat.le_of_ble_eq_true rfl)⟩ (fun v_ H hq hz hk => ?_)
    obtain ⟨rfl, hM⟩ := hq
    clear hz hk
    by_cases hp : ix (nM (I 10)) a
    · refine vv_eqi (b2_y hp) ?_
      rw [if_pos hp] at hM
      obtain ⟨j, hj, rfl⟩ := ix_of (by omega) hp
      have ej : cl (nI j) = j := cl_I (by omega)
      refine vn_if_ne (tgt := 14) X (by omega) dX2_bestWithout_9 (by decide) (fun c_9 => ?_) (fun c_9 => ?_)
      · refine vv_aload_n X dX2_bestWithout_14 rfl 0 rfl ?_
        refine mg12 X rfl hM dX2_bestWithout_15 ?_
        refine vv_iconst (v := nI 0) X dX2_bestWithout_18 (by decide) ?_
        refine vv_aload_n X dX2_bestWithout_19 rfl 0 rfl ?_
        refine mg14 X rfl hM dX2_bestWithout_20 ?_
        refine vv_iconst (v := nI 0) X dX2_bestWithout_23 (by decide) ?_
        refine vv_callS X (mX2_copy (kL K) D (g 12) (g 14) 2455 2455 0 0 (I 12) (I 14) (hg.ne (by decide) (by decide) (by decide)) (by decide) (by decide) (by omega) (by omega)) q3169 q3170 q144 q3171 nX2_copy ⟨(Nat.le_of_ble_eq_true rfl), (Nat.le_of_ble_eq_true rfl)⟩ dX2_bestWithout_24 rfl (Nat.le_of_ble_eq_true rfl) ⟨hM.a12, hM.a14⟩  (fun _ z => Or.inl (z ▸ MA.in (by decide))) ⟨(Nat.le_of_ble_eq_true rfl), (Nat.le_of_ble_eq_true rfl)⟩ (fun v_ H hq hz hk => ?_)
        obtain ⟨rfl, hz1, ha⟩ := hq
        replace ha := iA_cp0 (by decide) ha
        replace hM := hM.setI hg (k := 14) (n := 2455) (by decide) (Ch_of hz1 hk) ha
        clear hz hk hz1 ha
        refine vv_aload_n X dX2_bestWithout_27 rfl 0 rfl ?_
        refine mg14 X rfl hM dX2_bestWithout_28 ?_
        refine vv_iconst (v := nI 1) X dX2_bestWithout_31 (by decide) ?_
        refine vv_iload_n X dX2_bestWithout_32 rfl 1 rfl ?_
        refine vn_add X dX2_bestWithout_33 ?_
        refine vv_iconst (v := nI 1) X dX2_bestWithout_34 (by decide) ?_
        refine ms14 X hM hg (1 + j) (by omega) rfl (Or.inl (MA.in (by decide))) dX2_bestWithout_35 (fun H hM => ?_)
        rw [up_up] at hM
        refine vv_aload_n X dX2_bestWithout_36 rfl 0 rfl ?_
        refine vv_aload_n X dX2_bestWithout_37 rfl 0 rfl ?_
        refine mg14 X rfl hM dX2_bestWithout_38 ?_
        refine vv_callV X (mX2_bestIn14 (kL K) D g (va_up x 0 (nI 0)) (va_up I 14 (va_up (I 12) (1 + j) (nI 1))) J (I 10) rfl (va_up (I 12) (1 + j) (nI 1)) rfl hg hC (hS.up (vok_b (q := 1 + j) (v := nI 1) (by omega) (Or.inr (by decide)))) hT) q3372 q3374 qs111 q144 q3375 nX2_bestIn ⟨(Nat.le_of_ble_eq_true rfl), (Nat.le_of_ble_eq_true rfl)⟩ dX2_bestWithout_41 rfl (Nat.le_of_ble_eq_true rfl) (recv X hM.1 CL_X2) hM  (fun _ z => Or.inl z) ⟨(Nat.le_of_ble_eq_true rfl), (Nat.le_of_ble_eq_true rfl)⟩ (fun v_ H hq hz hk => ?_)
        obtain ⟨rfl, d_1, p_2, hM, hp_3⟩ := hq
        clear hz hk
        exact vv_iret X hQ dX2_bestWithout_44 (Nat.le_refl _) (Nat.le_refl _) (MEnd.of hM (ag_u (by decide) (ag_r)) (ag_u (by decide) (ag_u (by decide) (ag_r))) 0 _ (nI (bsN (pwc (I 10) (va_up (I 12) (1 + j) (nI 1))) (nC (I 10)))) (ask_t hp) rfl (fun _ => by simp only [ej]) rfl)
      · exact absurd c_9 (by decide)
    · refine vv_eqi (b2_n hp) ?_
      rw [if_neg hp] at hM
      refine vn_if_ne (tgt := 14) X (by omega) dX2_bestWithout_9 (by decide) (fun c_9 => ?_) (fun c_9 => ?_)
      · exact absurd c_9 (by decide)
      · refine vv_iconst (v := nI 0) X dX2_bestWithout_12 (by decide) ?_
        exact vv_iret X hQ dX2_bestWithout_13 (Nat.le_refl _) (Nat.le_refl _) (MEnd.of hM (ag_u (by decide) (ag_r)) (ag_r) 2 _ (nI 0) (ask_f hp) rfl (fun h => absurd h (by decide)) rfl)
theorem nX2_bestIfOff : notMH yX2_bestIfOff 1 := by decide +kernel
set_option maxHeartbeats 800000 in
theorem aX2_bestIfOff (l : Launch) (D : DD) (g : Nat → Nat) (x : Nat → Int32) (I : Nat → Nat → Int32) (J : Nat → Nat → Int64) (P : Nat → Int32) (hIP : I 10 = P) (S : Nat → Int32) (hIS : I 12 = S) (C : Bool) (hg : MG g) (a : Int32) (hP : VP P) (hc : cam C (x 20) P S (I 17)) (h21 : x 21 = -1) : Ct l yX2_bestIfOff cX2_bestIfOff 2 (some .int) { frames := 8, cells := 0, slots := 0, locals := 175 } D [.ref (g 0), .int (a)] (fun H => MR D g x I J H) (MA g) (fun v H H1 => MEnd D g x I iV (an_bestIfOff C P S a) v H1) := by
  refine Ct.of (by decide +kernel) (Nat.le_of_ble_eq_true rfl) (fun K Qf hkl X hM hQ => ?_)
  subst hkl
  subst hIP
  subst hIS
  have l4 := hP.l4
  have l5 := hP.l5
  have l2 := hP.l2
  have l9 := hP.l9
  have l10 := hP.l10
  have l101 := hP.l101
  have hn4 : nC (I 10) ≤ 144 := Nat.mul_le_mul l9 l10
  refine vv_sub (lv' := [(0, .ref (g 0)), (1, .int (a))]) [0, 1] rfl ?_
  rcases hc with ⟨rfl, h20⟩ | ⟨rfl, h20, hC, hS, hT⟩
  · refine vv_aload_n X dX2_bestIfOff_0 rfl 0 rfl ?_
    refine vv_aload_n X dX2_bestIfOff_1 rfl 0 rfl ?_
    refine vv_iload_n X dX2_bestIfOff_2 rfl 1 rfl ?_
    refine vv_callVp X (mX2_isSource (kL K) D g x I J (I 10) rfl a hP) q3280 q3282 qs101 q144 q3283 nX2_isSource ⟨(Nat.le_of_ble_eq_true rfl), (Nat.le_of_ble_eq_true rfl)⟩ dX2_bestIfOff_3 rfl (Nat.le_of_ble_eq_true rfl) (recv X hM.1 CL_X2) hM ⟨(Nat.le_of_ble_eq_true rfl), (Nat.le_of_ble_eq_true rfl)⟩ ?_
    refine vv_callV X (mX2_mayAsk0 (kL K) D g x I J hg (ix (nS (I 10)) a) h20) q3244 q3246 qs98 q144 q3247 nX2_mayAsk ⟨(Nat.le_of_ble_eq_true rfl), (Nat.le_of_ble_eq_true rfl)⟩ dX2_bestIfOff_6 rfl (Nat.le_of_ble_eq_true rfl) (recv X hM.1 CL_X2) hM  (fun _ z => Or.inl z) ⟨(Nat.le_of_ble_eq_true rfl), (Nat.le_of_ble_eq_true rfl)⟩ (fun v_ H hq hz hk => ?_)
    obtain ⟨rfl, hM⟩ := hq
    clear hz hk
    refine vv_eqi (b2_n (p := False) (fun z => z)) ?_
    refine vn_if_ne (tgt := 14) X (by omega) dX2_bestIfOff_9 (by decide) (fun c_9 => ?_) (fun c_9 => ?_)
    · exact absurd c_9 (by decide)
    · refine vv_iconst (v := nI 0) X dX2_bestIfOff_12 (by decide) ?_
      exact vv_iret X hQ dX2_bestIfOff_13 (Nat.le_refl _) (Nat.le_refl _) (MEnd.of hM (ag_u (by decide) (ag_r)) (ag_r) 1 _ (nI 0) (ask_0) rfl (fun h => absurd h (by decide)) rfl)
  · refine vv_aload_n X dX2_bestIfOff_0 rfl 0 rfl ?_
    refine vv_aload_n X dX2_bestIfOff_1 rfl 0 rfl ?_
    refine vv_iload_n X dX2_bestIfOff_2 rfl 1 rfl ?_
    refine vv_callVp X (mX2_isSource (kL K) D g x I J (I 10) rfl a hP) q3280 q3282 qs101 q144 q3283 nX2_isSource ⟨(Nat.le_of_ble_eq_true rfl), (Nat.le_of_ble_eq_true rfl)⟩ dX2_bestIfOff_3 rfl (Nat.le_of_ble_eq_true rfl) (recv X hM.1 CL_X2) hM ⟨(Nat.le_of_ble_eq_true rfl), (Nat.le_of_ble_eq_true rfl)⟩ ?_
    refine vv_callV X (mX2_mayAsk1 (kL K) D g x I J hg (ix (nS (I 10)) a) h20) q3244 q3246 qs98 q144 q3247 nX2_mayAsk ⟨(Nat.le_of_ble_eq_true rfl), (Nat.le_of_ble_eq_true rfl)⟩ dX2_bestIfOff_6 rfl (Nat.le_of_ble_eq_true rfl) (recv X hM.1 CL_X2) hM  (fun _ z => Or.inl z) ⟨(Nat.le_of_ble_eq_true rfl), (Nat.le_of_ble_eq_true rfl)⟩ (fun v_ H hq hz hk => ?_)
    obtain ⟨rfl, hM⟩ := hq
    clear hz hk
    by_cases hp : ix (nS (I 10)) a
    · refine vv_eqi (b2_y hp) ?_
      rw [if_pos hp] at hM
      obtain ⟨j, hj, rfl⟩ := ix_of (by omega) hp
      have ej : cl (nI j) = j := cl_I (by omega)
      refine vn_if_ne (tgt := 14) X (by omega) dX2_bestIfOff_9 (by decide) (fun c_9 => ?_) (fun c_9 => ?_)
      · refine vv_aload_n X dX2_bestIfOff_14 rfl 0 rfl ?_
        refine mg12 X rfl hM dX2_bestIfOff_15 ?_
        refine vv_iconst (v := nI 0) X dX2_bestIfOff_18 (by decide) ?_
        refine vv_aload_n X dX2_bestIfOff_19 rfl 0 rfl ?_
        refine mg14 X rfl hM dX2_bestIfOff_20 ?_
        refine vv_iconst (v := nI 0) X dX2_bestIfOff_23 (by decide) ?_
        refine vv_callS X (mX2_copy (kL K) D (g 12) (g 14) 2455 2455 0 0 (I 12) (I 14) (hg.ne (by decide) (by decide) (by decide)) (by decide) (by decide) (by omega) (by omega)) q3169 q3170 q144 q3171 nX2_copy ⟨(Nat.le_of_ble_eq_true rfl), (Nat.le_of_ble_eq_true rfl)⟩ dX2_bestIfOff_24 rfl (Nat.le_of_ble_eq_true rfl) ⟨hM.a12, hM.a14⟩  (fun _ z => Or.inl (z ▸ MA.in (by decide))) ⟨(Nat.le_of_ble_eq_true rfl), (Nat.le_of_ble_eq_true rfl)⟩ (fun v_ H hq hz hk => ?_)
        obtain ⟨rfl, hz1, ha⟩ := hq
        replace ha := iA_cp0 (by decide) ha
        replace hM := hM.setI hg (k := 14) (n := 2455) (by decide) (Ch_of hz1 hk) ha
        clear hz hk hz1 ha
        refine vv_aload_n X dX2_bestIfOff_27 rfl 0 rfl ?_
        refine mg14 X rfl hM dX2_bestIfOff_28 ?_
        refine vv_bipush (v := nI 25) X dX2_bestIfOff_31 (by decide) ?_
        refine vv_iload_n X dX2_bestIfOff_33 rfl 1 rfl ?_
        refine vn_add X dX2_bestIfOff_34 ?_
        refine vv_iconst (v := nI 0) X dX2_bestIfOff_35 (by decide) ?_
        refine ms14 X hM hg (25 + j) (by omega) rfl (Or.inl (MA.in (by decide))) dX2_bestIfOff_36 (fun H hM => ?_)
        rw [up_up] at hM
        refine vv_aload_n X dX2_bestIfOff_37 rfl 0 rfl ?_
        refine vv_aload_n X dX2_bestIfOff_38 rfl 0 rfl ?_
        refine mg14 X rfl hM dX2_bestIfOff_39 ?_
        refine vv_callV X (mX2_records14 (kL K) D g (va_up x 0 (nI 0)) (va_up I 14 (va_up (I 12) (25 + j) (nI 0))) J (I 10) rfl (va_up (I 12) (25 + j) (nI 0)) rfl hg (rawA (I 10) (va_up (I 12) (25 + j) (nI 0))) hC (hS.up (vok_b (q := 25 + j) (v := nI 0) (by omega) (Or.inl (by decide)))) (Or.inl ⟨h21, fun _ _ => rfl⟩)) q3188 q3190 qs87 q144 q3191 nX2_records ⟨(Nat.le_of_ble_eq_true rfl), (Nat.le_of_ble_eq_true rfl)⟩ dX2_bestIfOff_42 rfl (Nat.le_of_ble_eq_true rfl) (recv X hM.1 CL_X2) hM  (fun _ z => Or.inl z) ⟨(Nat.le_of_ble_eq_true rfl), (Nat.le_of_ble_eq_true rfl)⟩ (fun v_ H hq hz hk => ?_)
        obtain ⟨rfl, R_1, hM⟩ := hq
        clear hz hk
        rw [up_up] at hM
        refine vv_aload_n X dX2_bestIfOff_45 rfl 0 rfl ?_
        refine vv_aload_n X dX2_bestIfOff_46 rfl 0 rfl ?_
        refine mg14 X rfl hM dX2_bestIfOff_47 ?_
        refine vv_callV X (mX2_bestIn14 (kL K) D g (va_up x 0 (nI 0)) (va_up (va_up I 14 (rcd (I 10) (rawA (I 10) (va_up (I 12) (25 + j) (nI 0))) (va_up (I 12) (25 + j) (nI 0)))) 23 R_1) J (I 10) rfl (rcd (I 10) (rawA (I 10) (va_up (I 12) (25 + j) (nI 0))) (va_up (I 12) (25 + j) (nI 0))) rfl hg hC (lowS.rcp.vs (hS.up (vok_b (q := 25 + j) (v := nI 0) (by omega) (Or.inl (by decide))))) hT) q3372 q3374 qs111 q144 q3375 nX2_bestIn ⟨(Nat.le_of_ble_eq_true rfl), (Nat.le_of_ble_eq_true rfl)⟩ dX2_bestIfOff_50 rfl (Nat.le_of_ble_eq_true rfl) (recv X hM.1 CL_X2) hM  (fun _ z => Or.inl z) ⟨(Nat.le_of_ble_eq_true rfl), (Nat.le_of_ble_eq_true rfl)⟩ (fun v_ H hq hz hk => ?_)
        obtain ⟨rfl, d_2, p_3, hM, hp_4⟩ := hq
        clear hz hk
        exact vv_iret X hQ dX2_bestIfOff_53 (Nat.le_refl _) (Nat.le_refl _) (MEnd.of hM (ag_u (by decide) (ag_r)) (ag_u (by decide) (ag_u (by decide) (ag_u (by decide) (ag_r)))) 0 _ (nI (bsN (pwc (I 10) (rcd (I 10) (rawA (I 10) (va_up (I 12) (25 + j) (nI 0))) (va_up (I 12) (25 + j) (nI 0)))) (nC (I 10)))) (ask_t hp) rfl (fun _ => by simp only [ej]) rfl)
      · exact absurd c_9 (by decide)
    · refine vv_eqi (b2_n hp) ?_
      rw [if_neg hp] at hM
      refine vn_if_ne (tgt := 14) X (by omega) dX2_bestIfOff_9 (by decide) (fun c_9 => ?_) (fun c_9 => ?_)
      · exact absurd c_9 (by decide)
      · refine vv_iconst (v := nI 0) X dX2_bestIfOff_12 (by decide) ?_
        exact vv_iret X hQ dX2_bestIfOff_13 (Nat.le_refl _) (Nat.le_refl _) (MEnd.of hM (ag_u (by decide) (ag_r)) (ag_r) 2 _ (nI 0) (ask_f hp) rfl (fun h => absurd h (by decide)) rfl)
theorem nX2_mute : notMH yX2_mute 2 := by decide +kernel
set_option maxHeartbeats 800000 in
theorem aX2_mute (l : Launch) (D : DD) (g : Nat → Nat) (x : Nat → Int32) (I : Nat → Nat → Int32) (J : Nat → Nat → Int64) (P : Nat → Int32) (hIP : I 10 = P) (S : Nat → Int32) (hIS : I 12 = S) (C : Bool) (hg : MG g) (a : Int32) (p : Prop) [Decidable p] (hP : VP P) (hc : cam C (x 20) P S (I 17)) (u : Nat) (hu : x 19 = nI u) (hu6 : u ≤ 6) : Ct l yX2_mute cX2_mute 3 (some .boolean) { frames := 4, cells := 0, slots := 0, locals := 80 } D [.ref (g 0), .int (a), .int (b2 p)] (fun H => MR D g x I J H) (MA g) (fun v H H1 => MS D g x I (va_up x 19 (nI (rmU u + 1))) (va_up (va_up I 15 (rmH u (I 15) S)) 12 (va_up S (1 + cl a) (b2 p))) iV (an_mute C P S a) v H1) := by
  refine Ct.of (by decide +kernel) (Nat.le_of_ble_eq_true rfl) (fun K Qf hkl X hM hQ => ?_)
  subst hkl
  subst hIP
  subst hIS
  have l4 := hP.l4
  have l5 := hP.l5
  have l2 := hP.l2
  have l9 := hP.l9
  have l10 := hP.l10
  have l101 := hP.l101
  have hn4 : nC (I 10) ≤ 144 := Nat.mul_le_mul l9 l10
  refine vv_sub (lv' := [(0, .ref (g 0)), (1, .int (a)), (2, .int (b2 p))]) [0, 1, 2] rfl ?_
  rcases hc with ⟨rfl, h20⟩ | ⟨rfl, h20, hC, hS, hT⟩
  · refine vv_aload_n X dX2_mute_0 rfl 0 rfl ?_
    refine vv_aload_n X dX2_mute_1 rfl 0 rfl ?_
    refine vv_iload_n X dX2_mute_2 rfl 1 rfl ?_
    refine vv_callVp X (mX2_isMic (kL K) D g x I J (I 10) rfl a hP) q3240 q3242 qs97 q144 q3243 nX2_isMic ⟨(Nat.le_of_ble_eq_true rfl), (Nat.le_of_ble_eq_true rfl)⟩ dX2_mute_3 rfl (Nat.le_of_ble_eq_true rfl) (recv X hM.1 CL_X2) hM ⟨(Nat.le_of_ble_eq_true rfl), (Nat.le_of_ble_eq_true rfl)⟩ ?_
    refine vv_callV X (mX2_mayAsk0 (kL K) D g x I J hg (ix (nM (I 10)) a) h20) q3244 q3246 qs98 q144 q3247 nX2_mayAsk ⟨(Nat.le_of_ble_eq_true rfl), (Nat.le_of_ble_eq_true rfl)⟩ dX2_mute_6 rfl (Nat.le_of_ble_eq_true rfl) (recv X hM.1 CL_X2) hM  (fun _ z => Or.inl z) ⟨(Nat.le_of_ble_eq_true rfl), (Nat.le_of_ble_eq_true rfl)⟩ (fun v_ H hq hz hk => ?_)
    obtain ⟨rfl, hM⟩ := hq
    clear hz hk
    refine vv_eqi (b2_n (p := False) (fun z => z)) ?_
    refine vn_if_eq (tgt := 36) X (by omega) dX2_mute_9 (by decide) (fun c_9 => ?_) (fun c_9 => ?_)
    · refine vv_iconst (v := nI 0) X dX2_mute_36 (by decide) ?_
      exact vv_zret X (rfl) hQ dX2_mute_37 (Nat.le_refl _) (Nat.le_refl _) (MS.no hM (ag_u (by decide) (ag_r)) (ag_r) 1 (by decide) _ (nI 0) (ask_0) rfl rfl)
    · exact absurd c_9 (by decide)
  · refine vv_aload_n X dX2_mute_0 rfl 0 rfl ?_
    refine vv_aload_n X dX2_mute_1 rfl 0 rfl ?_
    refine vv_iload_n X dX2_mute_2 rfl 1 rfl ?_
    refine vv_callVp X (mX2_isMic (kL K) D g x I J (I 10) rfl a hP) q3240 q3242 qs97 q144 q3243 nX2_isMic ⟨(Nat.le_of_ble_eq_true rfl), (Nat.le_of_ble_eq_true rfl)⟩ dX2_mute_3 rfl (Nat.le_of_ble_eq_true rfl) (recv X hM.1 CL_X2) hM ⟨(Nat.le_of_ble_eq_true rfl), (Nat.le_of_ble_eq_true rfl)⟩ ?_
    refine vv_callV X (mX2_mayAsk1 (kL K) D g x I J hg (ix (nM (I 10)) a) h20) q3244 q3246 qs98 q144 q3247 nX2_mayAsk ⟨(Nat.le_of_ble_eq_true rfl), (Nat.le_of_ble_eq_true rfl)⟩ dX2_mute_6 rfl (Nat.le_of_ble_eq_true rfl) (recv X hM.1 CL_X2) hM  (fun _ z => Or.inl z) ⟨(Nat.le_of_ble_eq_true rfl), (Nat.le_of_ble_eq_true rfl)⟩ (fun v_ H hq hz hk => ?_)
    obtain ⟨rfl, hM⟩ := hq
    clear hz hk
    by_cases hp : ix (nM (I 10)) a
    · refine vv_eqi (b2_y hp) ?_
      rw [if_pos hp] at hM
      obtain ⟨j, hj, rfl⟩ := ix_of (by omega) hp
      have ej : cl (nI j) = j := cl_I (by omega)
      refine vn_if_eq (tgt := 36) X (by omega) dX2_mute_9 (by decide) (fun c_9 => ?_) (fun c_9 => ?_)
      · exact absurd c_9 (by decide)
      · refine vv_aload_n X dX2_mute_12 rfl 0 rfl ?_
        refine vv_iconst (v := nI 1) X dX2_mute_13 (by decide) ?_
        refine vv_iload_n X dX2_mute_14 rfl 1 rfl ?_
        refine vn_add X dX2_mute_15 ?_
        refine vv_iload_n X dX2_mute_16 rfl 2 rfl ?_
        refine vb_eq (tgt := 24) X dX2_mute_17 (by decide) (fun c_17 => ?_) (fun c_17 => ?_)
        · refine vv_iconst (v := nI 0) X dX2_mute_24 (by decide) ?_
          refine vv_callV X (mX2_sets (kL K) D g (va_up x 0 (nI 0)) I J (I 12) rfl hg u (1 + j) (nI 0) hu hu6 (by omega)) q3585 q3587 qs132 q144 q3588 nX2_sets ⟨(Nat.le_of_ble_eq_true rfl), (Nat.le_of_ble_eq_true rfl)⟩ dX2_mute_25 rfl (Nat.le_of_ble_eq_true rfl) (recv X hM.1 CL_X2) hM  (fun _ z => Or.inl z) ⟨(Nat.le_of_ble_eq_true rfl), (Nat.le_of_ble_eq_true rfl)⟩ (fun v_ H hq hz hk => ?_)
          obtain ⟨rfl, hM⟩ := hq
          clear hz hk
          refine vv_iconst (v := nI 1) X dX2_mute_28 (by decide) ?_
          refine vv_icmp_ne (tgt := 36) X dX2_mute_29 (by decide) (fun c_29 => ?_) (fun c_29 => ?_)
          · refine vv_iconst (v := nI 0) X dX2_mute_36 (by decide) ?_
            exact vv_zret X (rfl) hQ dX2_mute_37 (Nat.le_refl _) (Nat.le_refl _) (MS.of hM (ag_c (ag_u (by decide) (ag_r))) (by simp only [ej, b2_n c_17]; exact ag_c (ag_c (ag_r))) _ (nI 0) (ask_t hp) rfl (by simp only [ej]; exact b2_0 c_29) rfl)
          · refine vv_iconst (v := nI 1) X dX2_mute_32 (by decide) ?_
            refine vv_goto (tgt := 37) X dX2_mute_33 (by decide) ?_
            exact vv_zret X (rfl) hQ dX2_mute_37 (Nat.le_refl _) (Nat.le_refl _) (MS.of hM (ag_c (ag_u (by decide) (ag_r))) (by simp only [ej, b2_n c_17]; exact ag_c (ag_c (ag_r))) _ (nI 1) (ask_t hp) rfl (by simp only [ej]; exact b2_1 c_29) rfl)
        · refine vv_iconst (v := nI 1) X dX2_mute_20 (by decide) ?_
          refine vv_goto (tgt := 25) X dX2_mute_21 (by decide) ?_
          refine vv_callV X (mX2_sets (kL K) D g (va_up x 0 (nI 0)) I J (I 12) rfl hg u (1 + j) (nI 1) hu hu6 (by omega)) q3585 q3587 qs132 q144 q3588 nX2_sets ⟨(Nat.le_of_ble_eq_true rfl), (Nat.le_of_ble_eq_true rfl)⟩ dX2_mute_25 rfl (Nat.le_of_ble_eq_true rfl) (recv X hM.1 CL_X2) hM  (fun _ z => Or.inl z) ⟨(Nat.le_of_ble_eq_true rfl), (Nat.le_of_ble_eq_true rfl)⟩ (fun v_ H hq hz hk => ?_)
          obtain ⟨rfl, hM⟩ := hq
          clear hz hk
          refine vv_iconst (v := nI 1) X dX2_mute_28 (by decide) ?_
          refine vv_icmp_ne (tgt := 36) X dX2_mute_29 (by decide) (fun c_29 => ?_) (fun c_29 => ?_)
          · refine vv_iconst (v := nI 0) X dX2_mute_36 (by decide) ?_
            exact vv_zret X (rfl) hQ dX2_mute_37 (Nat.le_refl _) (Nat.le_refl _) (MS.of hM (ag_c (ag_u (by decide) (ag_r))) (by simp only [ej, b2_y c_17]; exact ag_c (ag_c (ag_r))) _ (nI 0) (ask_t hp) rfl (by simp only [ej]; exact b2_0 c_29) rfl)
          · refine vv_iconst (v := nI 1) X dX2_mute_32 (by decide) ?_
            refine vv_goto (tgt := 37) X dX2_mute_33 (by decide) ?_
            exact vv_zret X (rfl) hQ dX2_mute_37 (Nat.le_refl _) (Nat.le_refl _) (MS.of hM (ag_c (ag_u (by decide) (ag_r))) (by simp only [ej, b2_y c_17]; exact ag_c (ag_c (ag_r))) _ (nI 1) (ask_t hp) rfl (by simp only [ej]; exact b2_1 c_29) rfl)
    · refine vv_eqi (b2_n hp) ?_
      rw [if_neg hp] at hM
      refine vn_if_eq (tgt := 36) X (by omega) dX2_mute_9 (by decide) (fun c_9 => ?_) (fun c_9 => ?_)
      · refine vv_iconst (v := nI 0) X dX2_mute_36 (by decide) ?_
        exact vv_zret X (rfl) hQ dX2_mute_37 (Nat.le_refl _) (Nat.le_refl _) (MS.no hM (ag_u (by decide) (ag_r)) (ag_r) 2 (by decide) _ (nI 0) (ask_f hp) rfl rfl)
      · exact absurd c_9 (by decide)
theorem nX2_setWeight : notMH yX2_setWeight 2 := by decide +kernel
set_option maxHeartbeats 800000 in
theorem aX2_setWeight (l : Launch) (D : DD) (g : Nat → Nat) (x : Nat → Int32) (I : Nat → Nat → Int32) (J : Nat → Nat → Int64) (P : Nat → Int32) (hIP : I 10 = P) (S : Nat → Int32) (hIS : I 12 = S) (C : Bool) (hg : MG g) (a q : Int32) (hP : VP P) (hc : cam C (x 20) P S (I 17)) (u : Nat) (hu : x 19 = nI u) (hu6 : u ≤ 6) : Ct l yX2_setWeight cX2_setWeight 3 (some .int) { frames := 4, cells := 0, slots := 0, locals := 80 } D [.ref (g 0), .int (a), .int (q)] (fun H => MR D g x I J H) (MA g) (fun v H H1 => MS D g x I (va_up x 19 (nI (rmU u + 1))) (va_up (va_up I 15 (rmH u (I 15) S)) 12 (va_up S (13 + cl a) q)) iV (an_setWeight C P S a q) v H1) := by
  refine Ct.of (by decide +kernel) (Nat.le_of_ble_eq_true rfl) (fun K Qf hkl X hM hQ => ?_)
  subst hkl
  subst hIP
  subst hIS
  have l4 := hP.l4
  have l5 := hP.l5
  have l2 := hP.l2
  have l9 := hP.l9
  have l10 := hP.l10
  have l101 := hP.l101
  have hn4 : nC (I 10) ≤ 144 := Nat.mul_le_mul l9 l10
  refine vv_sub (lv' := [(0, .ref (g 0)), (1, .int (a)), (2, .int (q))]) [0, 1, 2] rfl ?_
  rcases hc with ⟨rfl, h20⟩ | ⟨rfl, h20, hC, hS, hT⟩
  · refine vv_aload_n X dX2_setWeight_0 rfl 0 rfl ?_
    refine vv_aload_n X dX2_setWeight_1 rfl 0 rfl ?_
    refine vv_iload_n X dX2_setWeight_2 rfl 1 rfl ?_
    refine vv_callVp X (mX2_isMic (kL K) D g x I J (I 10) rfl a hP) q3240 q3242 qs97 q144 q3243 nX2_isMic ⟨(Nat.le_of_ble_eq_true rfl), (Nat.le_of_ble_eq_true rfl)⟩ dX2_setWeight_3 rfl (Nat.le_of_ble_eq_true rfl) (recv X hM.1 CL_X2) hM ⟨(Nat.le_of_ble_eq_true rfl), (Nat.le_of_ble_eq_true rfl)⟩ ?_
    refine vv_callV X (mX2_mayAsk0 (kL K) D g x I J hg (ix (nM (I 10)) a) h20) q3244 q3246 qs98 q144 q3247 nX2_mayAsk ⟨(Nat.le_of_ble_eq_true rfl), (Nat.le_of_ble_eq_true rfl)⟩ dX2_setWeight_6 rfl (Nat.le_of_ble_eq_true rfl) (recv X hM.1 CL_X2) hM  (fun _ z => Or.inl z) ⟨(Nat.le_of_ble_eq_true rfl), (Nat.le_of_ble_eq_true rfl)⟩ (fun v_ H hq hz hk => ?_)
    obtain ⟨rfl, hM⟩ := hq
    clear hz hk
    refine vv_eqi (b2_n (p := False) (fun z => z)) ?_
    refine vn_if_ne (tgt := 14) X (by omega) dX2_setWeight_9 (by decide) (fun c_9 => ?_) (fun c_9 => ?_)
    · exact absurd c_9 (by decide)
    · refine vv_iconst (v := nI 0) X dX2_setWeight_12 (by decide) ?_
      exact vv_iret X hQ dX2_setWeight_13 (Nat.le_refl _) (Nat.le_refl _) (MS.no hM (ag_u (by decide) (ag_r)) (ag_r) 1 (by decide) _ (nI 0) (ask_0) rfl rfl)
  · refine vv_aload_n X dX2_setWeight_0 rfl 0 rfl ?_
    refine vv_aload_n X dX2_setWeight_1 rfl 0 rfl ?_
    refine vv_iload_n X dX2_setWeight_2 rfl 1 rfl ?_
    refine vv_callVp X (mX2_isMic (kL K) D g x I J (I 10) rfl a hP) q3240 q3242 qs97 q144 q3243 nX2_isMic ⟨(Nat.le_of_ble_eq_true rfl), (Nat.le_of_ble_eq_true rfl)⟩ dX2_setWeight_3 rfl (Nat.le_of_ble_eq_true rfl) (recv X hM.1 CL_X2) hM ⟨(Nat.le_of_ble_eq_true rfl), (Nat.le_of_ble_eq_true rfl)⟩ ?_
    refine vv_callV X (mX2_mayAsk1 (kL K) D g x I J hg (ix (nM (I 10)) a) h20) q3244 q3246 qs98 q144 q3247 nX2_mayAsk ⟨(Nat.le_of_ble_eq_true rfl), (Nat.le_of_ble_eq_true rfl)⟩ dX2_setWeight_6 rfl (Nat.le_of_ble_eq_true rfl) (recv X hM.1 CL_X2) hM  (fun _ z => Or.inl z) ⟨(Nat.le_of_ble_eq_true rfl), (Nat.le_of_ble_eq_true rfl)⟩ (fun v_ H hq hz hk => ?_)
    obtain ⟨rfl, hM⟩ := hq
    clear hz hk
    by_cases hp : ix (nM (I 10)) a
    · refine vv_eqi (b2_y hp) ?_
      rw [if_pos hp] at hM
      obtain ⟨j, hj, rfl⟩ := ix_of (by omega) hp
      have ej : cl (nI j) = j := cl_I (by omega)
      refine vn_if_ne (tgt := 14) X (by omega) dX2_setWeight_9 (by decide) (fun c_9 => ?_) (fun c_9 => ?_)
      · refine vv_iload_n X dX2_setWeight_14 rfl 2 rfl ?_
        refine vv_iconst (v := nI 0) X dX2_setWeight_15 (by decide) ?_
        refine vv_bipush (v := nI 9) X dX2_setWeight_16 (by decide) ?_
        refine vv_callSp X (mX2_in (kL K) D q (nI 0) (nI 9)) q3031 q3032 q144 q3033 nX2_in ⟨(Nat.le_of_ble_eq_true rfl), (Nat.le_of_ble_eq_true rfl)⟩ dX2_setWeight_18 rfl (Nat.le_of_ble_eq_true rfl) trivial ⟨(Nat.le_of_ble_eq_true rfl), (Nat.le_of_ble_eq_true rfl)⟩ ?_
        refine vb_eq (tgt := 36) X dX2_setWeight_21 (by decide) (fun c_21 => ?_) (fun c_21 => ?_)
        · refine vv_aload_n X dX2_setWeight_36 rfl 0 rfl ?_
          refine vv_iconst (v := nI 3) X dX2_setWeight_37 (by decide) ?_
          refine vv_callV X (mX2_throwsAt (kL K) D g (va_up x 0 (nI 0)) I J hg (nI 3)) q3034 q3036 qs59 q144 q3037 nX2_throwsAt ⟨(Nat.le_of_ble_eq_true rfl), (Nat.le_of_ble_eq_true rfl)⟩ dX2_setWeight_38 rfl (Nat.le_of_ble_eq_true rfl) (recv X hM.1 CL_X2) hM  (fun _ z => Or.inl z) ⟨(Nat.le_of_ble_eq_true rfl), (Nat.le_of_ble_eq_true rfl)⟩ (fun v_ H hq hz hk => ?_)
          obtain ⟨rfl, hM⟩ := hq
          clear hz hk
          rw [up_up] at hM
          exact vv_iret X hQ dX2_setWeight_41 (Nat.le_refl _) (Nat.le_refl _) (MS.no hM (ag_u (by decide) (ag_r)) (ag_r) 3 (by decide) _ (nI 0) ((ask_t hp).trans (arg_f c_21)) rfl rfl)
        · refine vv_aload_n X dX2_setWeight_24 rfl 0 rfl ?_
          refine vv_bipush (v := nI 13) X dX2_setWeight_25 (by decide) ?_
          refine vv_iload_n X dX2_setWeight_27 rfl 1 rfl ?_
          refine vn_add X dX2_setWeight_28 ?_
          refine vv_iload_n X dX2_setWeight_29 rfl 2 rfl ?_
          refine vv_callV X (mX2_sets (kL K) D g (va_up x 0 (nI 0)) I J (I 12) rfl hg u (13 + j) q hu hu6 (by omega)) q3585 q3587 qs132 q144 q3588 nX2_sets ⟨(Nat.le_of_ble_eq_true rfl), (Nat.le_of_ble_eq_true rfl)⟩ dX2_setWeight_30 rfl (Nat.le_of_ble_eq_true rfl) (recv X hM.1 CL_X2) hM  (fun _ z => Or.inl z) ⟨(Nat.le_of_ble_eq_true rfl), (Nat.le_of_ble_eq_true rfl)⟩ (fun v_ H hq hz hk => ?_)
          obtain ⟨rfl, hM⟩ := hq
          clear hz hk
          refine vv_goto (tgt := 41) X dX2_setWeight_33 (by decide) ?_
          exact vv_iret X hQ dX2_setWeight_41 (Nat.le_refl _) (Nat.le_refl _) (MS.of hM (ag_c (ag_u (by decide) (ag_r))) (by simp only [ej]; exact ag_c (ag_c (ag_r))) _ (I 12 (13 + j)) ((ask_t hp).trans (arg_t c_21)) rfl (by simp only [ej]) rfl)
      · exact absurd c_9 (by decide)
    · refine vv_eqi (b2_n hp) ?_
      rw [if_neg hp] at hM
      refine vn_if_ne (tgt := 14) X (by omega) dX2_setWeight_9 (by decide) (fun c_9 => ?_) (fun c_9 => ?_)
      · exact absurd c_9 (by decide)
      · refine vv_iconst (v := nI 0) X dX2_setWeight_12 (by decide) ?_
        exact vv_iret X hQ dX2_setWeight_13 (Nat.le_refl _) (Nat.le_refl _) (MS.no hM (ag_u (by decide) (ag_r)) (ag_r) 2 (by decide) _ (nI 0) (ask_f hp) rfl rfl)
theorem nX2_setOn : notMH yX2_setOn 2 := by decide +kernel
set_option maxHeartbeats 800000 in
theorem aX2_setOn (l : Launch) (D : DD) (g : Nat → Nat) (x : Nat → Int32) (I : Nat → Nat → Int32) (J : Nat → Nat → Int64) (P : Nat → Int32) (hIP : I 10 = P) (S : Nat → Int32) (hIS : I 12 = S) (C : Bool) (hg : MG g) (a : Int32) (p : Prop) [Decidable p] (hP : VP P) (hc : cam C (x 20) P S (I 17)) (u : Nat) (hu : x 19 = nI u) (hu6 : u ≤ 6) (h21 : x 21 = -1) : Ct l yX2_setOn cX2_setOn 4 (some .boolean) { frames := 7, cells := 0, slots := 0, locals := 170 } D [.ref (g 0), .int (a), .int (b2 p)] (fun H => MR D g x I J H) (MA g) (fun v H H1 => MS D g x I (va_up x 19 (nI (rmU u + 1))) (va_up (va_up I 15 (rmH u (I 15) S)) 12 (st_on P S (cl a) (b2 p))) iV (an_setOn C P S a) v H1) := by
  refine Ct.of (by decide +kernel) (Nat.le_of_ble_eq_true rfl) (fun K Qf hkl X hM hQ => ?_)
  subst hkl
  subst hIP
  subst hIS
  have l4 := hP.l4
  have l5 := hP.l5
  have l2 := hP.l2
  have l9 := hP.l9
  have l10 := hP.l10
  have l101 := hP.l101
  have hn4 : nC (I 10) ≤ 144 := Nat.mul_le_mul l9 l10
  refine vv_sub (lv' := [(0, .ref (g 0)), (1, .int (a)), (2, .int (b2 p))]) [0, 1, 2] rfl ?_
  rcases hc with ⟨rfl, h20⟩ | ⟨rfl, h20, hC, hS, hT⟩
  · refine vv_aload_n X dX2_setOn_0 rfl 0 rfl ?_
    refine vv_aload_n X dX2_setOn_1 rfl 0 rfl ?_
    refine vv_iload_n X dX2_setOn_2 rfl 1 rfl ?_
    refine vv_callVp X (mX2_isSource (kL K) D g x I J (I 10) rfl a hP) q3280 q3282 qs101 q144 q3283 nX2_isSource ⟨(Nat.le_of_ble_eq_true rfl), (Nat.le_of_ble_eq_true rfl)⟩ dX2_setOn_3 rfl (Nat.le_of_ble_eq_true rfl) (recv X hM.1 CL_X2) hM ⟨(Nat.le_of_ble_eq_true rfl), (Nat.le_of_ble_eq_true rfl)⟩ ?_
    refine vv_callV X (mX2_mayAsk0 (kL K) D g x I J hg (ix (nS (I 10)) a) h20) q3244 q3246 qs98 q144 q3247 nX2_mayAsk ⟨(Nat.le_of_ble_eq_true rfl), (Nat.le_of_ble_eq_true rfl)⟩ dX2_setOn_6 rfl (Nat.le_of_ble_eq_true rfl) (recv X hM.1 CL_X2) hM  (fun _ z => Or.inl z) ⟨(Nat.le_of_ble_eq_true rfl), (Nat.le_of_ble_eq_true rfl)⟩ (fun v_ H hq hz hk => ?_)
    obtain ⟨rfl, hM⟩ := hq
    clear hz hk
    refine vv_eqi (b2_n (p := False) (fun z => z)) ?_
    refine vn_if_ne (tgt := 14) X (by omega) dX2_setOn_9 (by decide) (fun c_9 => ?_) (fun c_9 => ?_)
    · exact absurd c_9 (by decide)
    · refine vv_iconst (v := nI 0) X dX2_setOn_12 (by decide) ?_
      exact vv_zret X (rfl) hQ dX2_setOn_13 (Nat.le_refl _) (Nat.le_refl _) (MS.no hM (ag_u (by decide) (ag_r)) (ag_r) 1 (by decide) _ (nI 0) (ask_0) rfl rfl)
  · refine vv_aload_n X dX2_setOn_0 rfl 0 rfl ?_
    refine vv_aload_n X dX2_setOn_1 rfl 0 rfl ?_
    refine vv_iload_n X dX2_setOn_2 rfl 1 rfl ?_
    refine vv_callVp X (mX2_isSource (kL K) D g x I J (I 10) rfl a hP) q3280 q3282 qs101 q144 q3283 nX2_isSource ⟨(Nat.le_of_ble_eq_true rfl), (Nat.le_of_ble_eq_true rfl)⟩ dX2_setOn_3 rfl (Nat.le_of_ble_eq_true rfl) (recv X hM.1 CL_X2) hM ⟨(Nat.le_of_ble_eq_true rfl), (Nat.le_of_ble_eq_true rfl)⟩ ?_
    refine vv_callV X (mX2_mayAsk1 (kL K) D g x I J hg (ix (nS (I 10)) a) h20) q3244 q3246 qs98 q144 q3247 nX2_mayAsk ⟨(Nat.le_of_ble_eq_true rfl), (Nat.le_of_ble_eq_true rfl)⟩ dX2_setOn_6 rfl (Nat.le_of_ble_eq_true rfl) (recv X hM.1 CL_X2) hM  (fun _ z => Or.inl z) ⟨(Nat.le_of_ble_eq_true rfl), (Nat.le_of_ble_eq_true rfl)⟩ (fun v_ H hq hz hk => ?_)
    obtain ⟨rfl, hM⟩ := hq
    clear hz hk
    by_cases hp : ix (nS (I 10)) a
    · refine vv_eqi (b2_y hp) ?_
      rw [if_pos hp] at hM
      obtain ⟨j, hj, rfl⟩ := ix_of (by omega) hp
      have ej : cl (nI j) = j := cl_I (by omega)
      refine vn_if_ne (tgt := 14) X (by omega) dX2_setOn_9 (by decide) (fun c_9 => ?_) (fun c_9 => ?_)
      · refine vv_aload_n X dX2_setOn_14 rfl 0 rfl ?_
        refine vv_bipush (v := nI 25) X dX2_setOn_15 (by decide) ?_
        refine vv_iload_n X dX2_setOn_17 rfl 1 rfl ?_
        refine vn_add X dX2_setOn_18 ?_
        refine vv_iload_n X dX2_setOn_19 rfl 2 rfl ?_
        refine vb_eq (tgt := 27) X dX2_setOn_20 (by decide) (fun c_20 => ?_) (fun c_20 => ?_)
        · refine vv_iconst (v := nI 0) X dX2_setOn_27 (by decide) ?_
          refine vv_callV X (mX2_sets (kL K) D g (va_up x 0 (nI 0)) I J (I 12) rfl hg u (25 + j) (nI 0) hu hu6 (by omega)) q3585 q3587 qs132 q144 q3588 nX2_sets ⟨(Nat.le_of_ble_eq_true rfl), (Nat.le_of_ble_eq_true rfl)⟩ dX2_setOn_28 rfl (Nat.le_of_ble_eq_true rfl) (recv X hM.1 CL_X2) hM  (fun _ z => Or.inl z) ⟨(Nat.le_of_ble_eq_true rfl), (Nat.le_of_ble_eq_true rfl)⟩ (fun v_ H hq hz hk => ?_)
          obtain ⟨rfl, hM⟩ := hq
          clear hz hk
          refine vv_istore_n (lv' := [(3, .int (I 12 (25 + j))), (0, .ref (g 0)), (1, .int (nI j)), (2, .int (b2 p))]) X dX2_setOn_31 rfl (by decide) rfl ?_
          refine vv_aload_n X dX2_setOn_32 rfl 1 rfl ?_
          refine vv_aload_n X dX2_setOn_33 rfl 1 rfl ?_
          refine mg12 X rfl hM dX2_setOn_34 ?_
          refine vv_callV X (mX2_records12 (kL K) D g (va_up (va_up x 0 (nI 0)) 19 (nI (rmU u + 1))) (va_up (va_up I 15 (rmH u (I 15) (I 12))) 12 (va_up (I 12) (25 + j) (nI 0))) J (I 10) rfl (va_up (I 12) (25 + j) (nI 0)) rfl hg (rawA (I 10) (va_up (I 12) (25 + j) (nI 0))) hC (hS.up (vok_b (q := 25 + j) (v := nI 0) (by omega) (Or.inl (by decide)))) (Or.inl ⟨h21, fun _ _ => rfl⟩)) q3188 q3190 qs87 q144 q3191 nX2_records ⟨(Nat.le_of_ble_eq_true rfl), (Nat.le_of_ble_eq_true rfl)⟩ dX2_setOn_37 rfl (Nat.le_of_ble_eq_true rfl) (recv X hM.1 CL_X2) hM  (fun _ z => Or.inl z) ⟨(Nat.le_of_ble_eq_true rfl), (Nat.le_of_ble_eq_true rfl)⟩ (fun v_ H hq hz hk => ?_)
          obtain ⟨rfl, R_1, hM⟩ := hq
          clear hz hk
          rw [up_up] at hM
          refine vv_iload_n X dX2_setOn_40 rfl 0 rfl ?_
          refine vv_iconst (v := nI 1) X dX2_setOn_41 (by decide) ?_
          refine vv_icmp_ne (tgt := 49) X dX2_setOn_42 (by decide) (fun c_42 => ?_) (fun c_42 => ?_)
          · refine vv_iconst (v := nI 0) X dX2_setOn_49 (by decide) ?_
            exact vv_zret X (rfl) hQ dX2_setOn_50 (Nat.le_refl _) (Nat.le_refl _) (MS.of hM (ag_c (ag_u (by decide) (ag_r))) (by simp only [ej, b2_n c_20]; exact ag_u (by decide) (ag_c (ag_c (ag_r)))) _ (nI 0) (ask_t hp) rfl (by simp only [ej]; exact b2_0 c_42) rfl)
          · refine vv_iconst (v := nI 1) X dX2_setOn_45 (by decide) ?_
            refine vv_goto (tgt := 50) X dX2_setOn_46 (by decide) ?_
            exact vv_zret X (rfl) hQ dX2_setOn_50 (Nat.le_refl _) (Nat.le_refl _) (MS.of hM (ag_c (ag_u (by decide) (ag_r))) (by simp only [ej, b2_n c_20]; exact ag_u (by decide) (ag_c (ag_c (ag_r)))) _ (nI 1) (ask_t hp) rfl (by simp only [ej]; exact b2_1 c_42) rfl)
        · refine vv_iconst (v := nI 1) X dX2_setOn_23 (by decide) ?_
          refine vv_goto (tgt := 28) X dX2_setOn_24 (by decide) ?_
          refine vv_callV X (mX2_sets (kL K) D g (va_up x 0 (nI 0)) I J (I 12) rfl hg u (25 + j) (nI 1) hu hu6 (by omega)) q3585 q3587 qs132 q144 q3588 nX2_sets ⟨(Nat.le_of_ble_eq_true rfl), (Nat.le_of_ble_eq_true rfl)⟩ dX2_setOn_28 rfl (Nat.le_of_ble_eq_true rfl) (recv X hM.1 CL_X2) hM  (fun _ z => Or.inl z) ⟨(Nat.le_of_ble_eq_true rfl), (Nat.le_of_ble_eq_true rfl)⟩ (fun v_ H hq hz hk => ?_)
          obtain ⟨rfl, hM⟩ := hq
          clear hz hk
          refine vv_istore_n (lv' := [(3, .int (I 12 (25 + j))), (0, .ref (g 0)), (1, .int (nI j)), (2, .int (b2 p))]) X dX2_setOn_31 rfl (by decide) rfl ?_
          refine vv_aload_n X dX2_setOn_32 rfl 1 rfl ?_
          refine vv_aload_n X dX2_setOn_33 rfl 1 rfl ?_
          refine mg12 X rfl hM dX2_setOn_34 ?_
          refine vv_callV X (mX2_records12 (kL K) D g (va_up (va_up x 0 (nI 0)) 19 (nI (rmU u + 1))) (va_up (va_up I 15 (rmH u (I 15) (I 12))) 12 (va_up (I 12) (25 + j) (nI 1))) J (I 10) rfl (va_up (I 12) (25 + j) (nI 1)) rfl hg (rawA (I 10) (va_up (I 12) (25 + j) (nI 1))) hC (hS.up (vok_b (q := 25 + j) (v := nI 1) (by omega) (Or.inr (by decide)))) (Or.inl ⟨h21, fun _ _ => rfl⟩)) q3188 q3190 qs87 q144 q3191 nX2_records ⟨(Nat.le_of_ble_eq_true rfl), (Nat.le_of_ble_eq_true rfl)⟩ dX2_setOn_37 rfl (Nat.le_of_ble_eq_true rfl) (recv X hM.1 CL_X2) hM  (fun _ z => Or.inl z) ⟨(Nat.le_of_ble_eq_true rfl), (Nat.le_of_ble_eq_true rfl)⟩ (fun v_ H hq hz hk => ?_)
          obtain ⟨rfl, R_2, hM⟩ := hq
          clear hz hk
          rw [up_up] at hM
          refine vv_iload_n X dX2_setOn_40 rfl 0 rfl ?_
          refine vv_iconst (v := nI 1) X dX2_setOn_41 (by decide) ?_
          refine vv_icmp_ne (tgt := 49) X dX2_setOn_42 (by decide) (fun c_42 => ?_) (fun c_42 => ?_)
          · refine vv_iconst (v := nI 0) X dX2_setOn_49 (by decide) ?_
            exact vv_zret X (rfl) hQ dX2_setOn_50 (Nat.le_refl _) (Nat.le_refl _) (MS.of hM (ag_c (ag_u (by decide) (ag_r))) (by simp only [ej, b2_y c_20]; exact ag_u (by decide) (ag_c (ag_c (ag_r)))) _ (nI 0) (ask_t hp) rfl (by simp only [ej]; exact b2_0 c_42) rfl)
          · refine vv_iconst (v := nI 1) X dX2_setOn_45 (by decide) ?_
            refine vv_goto (tgt := 50) X dX2_setOn_46 (by decide) ?_
            exact vv_zret X (rfl) hQ dX2_setOn_50 (Nat.le_refl _) (Nat.le_refl _) (MS.of hM (ag_c (ag_u (by decide) (ag_r))) (by simp only [ej, b2_y c_20]; exact ag_u (by decide) (ag_c (ag_c (ag_r)))) _ (nI 1) (ask_t hp) rfl (by simp only [ej]; exact b2_1 c_42) rfl)
      · exact absurd c_9 (by decide)
    · refine vv_eqi (b2_n hp) ?_
      rw [if_neg hp] at hM
      refine vn_if_ne (tgt := 14) X (by omega) dX2_setOn_9 (by decide) (fun c_9 => ?_) (fun c_9 => ?_)
      · exact absurd c_9 (by decide)
      · refine vv_iconst (v := nI 0) X dX2_setOn_12 (by decide) ?_
        exact vv_zret X (rfl) hQ dX2_setOn_13 (Nat.le_refl _) (Nat.le_refl _) (MS.no hM (ag_u (by decide) (ag_r)) (ag_r) 2 (by decide) _ (nI 0) (ask_f hp) rfl rfl)
theorem nX2_setsTwo : notMH yX2_setsTwo 3 := by decide +kernel
set_option maxHeartbeats 800000 in
theorem mX2_setsTwo (l : Launch) (D : DD) (g : Nat → Nat) (x : Nat → Int32) (I : Nat → Nat → Int32) (J : Nat → Nat → Int64) (P : Nat → Int32) (hIP : I 10 = P) (S : Nat → Int32) (hIS : I 12 = S) (hg : MG g) (u q : Nat) (a b : Int32) (hC : VC P) (hS : VS S) (hT : ∀ c, c < nC P → ∀ m, m < nM P → I 17 (12 * c + m) = nI (dc P c m)) (hu : x 19 = nI u) (hu6 : u ≤ 6) (h21 : x 21 = -1) (hq : (31 ≤ q ∧ q ≤ 36 ∧ rg 2000 a ∧ rg 2000 b) ∨ (43 ≤ q ∧ q ≤ 48 ∧ rg 999 a ∧ rg 999 b)) : Ct l yX2_setsTwo cX2_setsTwo 5 (some .int) { frames := 8, cells := 0, slots := 0, locals := 175 } D [.ref (g 0), .int (nI q), .int (a), .int (b)] (fun H => MR D g x I J H) (MA g) (fun v H H1 => v = some (.int (nI (bC P (st_two P S q a b)))) ∧ ∃ R d p, MR D g (va_up x 19 (nI (rmU u + 1))) (va_up (va_up (va_up (va_up I 15 (rmH u (I 15) S)) 12 (st_two P S q a b)) 23 R) 24 d) (va_up J 25 p) H1) := by
  refine Ct.of (by decide +kernel) (Nat.le_of_ble_eq_true rfl) (fun K Qf hkl X hM hQ => ?_)
  subst hkl
  subst hIP
  subst hIS
  have hP := hC.v
  have hS2 : VS (va_up (va_up (I 12) q a) (q + 6) b) := by
    rcases hq with ⟨h1, h2, h3, h4⟩ | ⟨h1, h2, h3, h4⟩
    · exact (hS.up (vok_p (by omega) h3)).up (vok_p (by omega) h4)
    · exact (hS.up (vok_v (by omega) h3)).up (vok_v (by omega) h4)
  have hq2 : q + 6 < 2455 := by omega
  refine vv_sub (lv' := [(0, .ref (g 0)), (1, .int (nI q)), (2, .int (a)), (3, .int (b))]) [0, 1, 2, 3] rfl ?_
  refine vv_aload_n X dX2_setsTwo_0 rfl 0 rfl ?_
  refine vv_iload_n X dX2_setsTwo_1 rfl 1 rfl ?_
  refine vv_iload_n X dX2_setsTwo_2 rfl 2 rfl ?_
  refine vv_callV X (mX2_sets (kL K) D g x I J (I 12) rfl hg u q a hu hu6 (by omega)) q3585 q3587 qs132 q144 q3588 nX2_sets ⟨(Nat.le_of_ble_eq_true rfl), (Nat.le_of_ble_eq_true rfl)⟩ dX2_setsTwo_3 rfl (Nat.le_of_ble_eq_true rfl) (recv X hM.1 CL_X2) hM  (fun _ z => Or.inl z) ⟨(Nat.le_of_ble_eq_true rfl), (Nat.le_of_ble_eq_true rfl)⟩ (fun v_ H hq hz hk => ?_)
  obtain ⟨rfl, hM⟩ := hq
  clear hz hk
  refine vv_istore (lv' := [(4, .int (I 12 q)), (0, .ref (g 0)), (1, .int (nI q)), (2, .int (a)), (3, .int (b))]) X dX2_setsTwo_6 (by decide) rfl ?_
  refine vv_aload_n X dX2_setsTwo_8 rfl 1 rfl ?_
  refine mg12 X rfl hM dX2_setsTwo_9 ?_
  refine vv_iload_n X dX2_setsTwo_12 rfl 2 rfl ?_
  refine vv_bipush (v := nI 6) X dX2_setsTwo_13 (by decide) ?_
  refine vn_add X dX2_setsTwo_15 ?_
  refine vv_iload_n X dX2_setsTwo_16 rfl 4 rfl ?_
  refine ms12 X hM hg (q + 6) (by omega) rfl (Or.inl (MA.in (by decide))) dX2_setsTwo_17 (fun H hM => ?_)
  rw [up_up] at hM
  refine vv_aload_n X dX2_setsTwo_18 rfl 1 rfl ?_
  refine vv_aload_n X dX2_setsTwo_19 rfl 1 rfl ?_
  refine mg12 X rfl hM dX2_setsTwo_20 ?_
  refine vv_callV X (mX2_records12 (kL K) D g (va_up x 19 (nI (rmU u + 1))) (va_up (va_up I 15 (rmH u (I 15) (I 12))) 12 (va_up (va_up (I 12) q a) (q + 6) b)) J (I 10) rfl (va_up (va_up (I 12) q a) (q + 6) b) rfl hg (rawA (I 10) (va_up (va_up (I 12) q a) (q + 6) b)) hC hS2 (Or.inl ⟨h21, fun _ _ => rfl⟩)) q3188 q3190 qs87 q144 q3191 nX2_records ⟨(Nat.le_of_ble_eq_true rfl), (Nat.le_of_ble_eq_true rfl)⟩ dX2_setsTwo_23 rfl (Nat.le_of_ble_eq_true rfl) (recv X hM.1 CL_X2) hM  (fun _ z => Or.inl z) ⟨(Nat.le_of_ble_eq_true rfl), (Nat.le_of_ble_eq_true rfl)⟩ (fun v_ H hq hz hk => ?_)
  obtain ⟨rfl, R_1, hM⟩ := hq
  clear hz hk
  rw [up_up] at hM
  refine vv_aload_n X dX2_setsTwo_26 rfl 1 rfl ?_
  refine vv_aload_n X dX2_setsTwo_27 rfl 1 rfl ?_
  refine mg12 X rfl hM dX2_setsTwo_28 ?_
  refine vv_callV X (mX2_bestIn12 (kL K) D g (va_up x 19 (nI (rmU u + 1))) (va_up (va_up (va_up I 15 (rmH u (I 15) (I 12))) 12 (rcd (I 10) (rawA (I 10) (va_up (va_up (I 12) q a) (q + 6) b)) (va_up (va_up (I 12) q a) (q + 6) b))) 23 R_1) J (I 10) rfl (rcd (I 10) (rawA (I 10) (va_up (va_up (I 12) q a) (q + 6) b)) (va_up (va_up (I 12) q a) (q + 6) b)) rfl hg hC (lowS.rcp.vs hS2) hT) q3372 q3374 qs111 q144 q3375 nX2_bestIn ⟨(Nat.le_of_ble_eq_true rfl), (Nat.le_of_ble_eq_true rfl)⟩ dX2_setsTwo_31 rfl (Nat.le_of_ble_eq_true rfl) (recv X hM.1 CL_X2) hM  (fun _ z => Or.inl z) ⟨(Nat.le_of_ble_eq_true rfl), (Nat.le_of_ble_eq_true rfl)⟩ (fun v_ H hq hz hk => ?_)
  obtain ⟨rfl, d_2, p_3, hM, hp_4⟩ := hq
  clear hz hk
  exact vv_iret X hQ dX2_setsTwo_34 (Nat.le_refl _) (Nat.le_refl _) (⟨rfl, _, _, _, hM⟩)
theorem nX2_moveSource : notMH yX2_moveSource 3 := by decide +kernel
set_option maxHeartbeats 800000 in
theorem aX2_moveSource (l : Launch) (D : DD) (g : Nat → Nat) (x : Nat → Int32) (I : Nat → Nat → Int32) (J : Nat → Nat → Int64) (P : Nat → Int32) (hIP : I 10 = P) (S : Nat → Int32) (hIS : I 12 = S) (C : Bool) (hg : MG g) (a p q : Int32) (hP : VP P) (hc : cam C (x 20) P S (I 17)) (u : Nat) (hu : x 19 = nI u) (hu6 : u ≤ 6) (h21 : x 21 = -1) : Ct l yX2_moveSource cX2_moveSource 4 (some .int) { frames := 9, cells := 0, slots := 0, locals := 199 } D [.ref (g 0), .int (a), .int (p), .int (q)] (fun H => MR D g x I J H) (MA g) (fun v H H1 => MS D g x I (va_up x 19 (nI (rmU u + 1))) (va_up (va_up I 15 (rmH u (I 15) S)) 12 (st_two P S (31 + cl a) p q)) iV (an_moveSource C P S a p q) v H1) := by
  refine Ct.of (by decide +kernel) (Nat.le_of_ble_eq_true rfl) (fun K Qf hkl X hM hQ => ?_)
  subst hkl
  subst hIP
  subst hIS
  have l4 := hP.l4
  have l5 := hP.l5
  have l2 := hP.l2
  have l9 := hP.l9
  have l10 := hP.l10
  have l101 := hP.l101
  have hn4 : nC (I 10) ≤ 144 := Nat.mul_le_mul l9 l10
  refine vv_sub (lv' := [(0, .ref (g 0)), (1, .int (a)), (2, .int (p)), (3, .int (q))]) [0, 1, 2, 3] rfl ?_
  rcases hc with ⟨rfl, h20⟩ | ⟨rfl, h20, hC, hS, hT⟩
  · refine vv_aload_n X dX2_moveSource_0 rfl 0 rfl ?_
    refine vv_aload_n X dX2_moveSource_1 rfl 0 rfl ?_
    refine vv_iload_n X dX2_moveSource_2 rfl 1 rfl ?_
    refine vv_callVp X (mX2_isSource (kL K) D g x I J (I 10) rfl a hP) q3280 q3282 qs101 q144 q3283 nX2_isSource ⟨(Nat.le_of_ble_eq_true rfl), (Nat.le_of_ble_eq_true rfl)⟩ dX2_moveSource_3 rfl (Nat.le_of_ble_eq_true rfl) (recv X hM.1 CL_X2) hM ⟨(Nat.le_of_ble_eq_true rfl), (Nat.le_of_ble_eq_true rfl)⟩ ?_
    refine vv_callV X (mX2_mayAsk0 (kL K) D g x I J hg (ix (nS (I 10)) a) h20) q3244 q3246 qs98 q144 q3247 nX2_mayAsk ⟨(Nat.le_of_ble_eq_true rfl), (Nat.le_of_ble_eq_true rfl)⟩ dX2_moveSource_6 rfl (Nat.le_of_ble_eq_true rfl) (recv X hM.1 CL_X2) hM  (fun _ z => Or.inl z) ⟨(Nat.le_of_ble_eq_true rfl), (Nat.le_of_ble_eq_true rfl)⟩ (fun v_ H hq hz hk => ?_)
    obtain ⟨rfl, hM⟩ := hq
    clear hz hk
    refine vv_eqi (b2_n (p := False) (fun z => z)) ?_
    refine vn_if_ne (tgt := 14) X (by omega) dX2_moveSource_9 (by decide) (fun c_9 => ?_) (fun c_9 => ?_)
    · exact absurd c_9 (by decide)
    · refine vv_iconst (v := nI 0) X dX2_moveSource_12 (by decide) ?_
      exact vv_iret X hQ dX2_moveSource_13 (Nat.le_refl _) (Nat.le_refl _) (MS.no hM (ag_u (by decide) (ag_r)) (ag_r) 1 (by decide) _ (nI 0) (ask_0) rfl rfl)
  · refine vv_aload_n X dX2_moveSource_0 rfl 0 rfl ?_
    refine vv_aload_n X dX2_moveSource_1 rfl 0 rfl ?_
    refine vv_iload_n X dX2_moveSource_2 rfl 1 rfl ?_
    refine vv_callVp X (mX2_isSource (kL K) D g x I J (I 10) rfl a hP) q3280 q3282 qs101 q144 q3283 nX2_isSource ⟨(Nat.le_of_ble_eq_true rfl), (Nat.le_of_ble_eq_true rfl)⟩ dX2_moveSource_3 rfl (Nat.le_of_ble_eq_true rfl) (recv X hM.1 CL_X2) hM ⟨(Nat.le_of_ble_eq_true rfl), (Nat.le_of_ble_eq_true rfl)⟩ ?_
    refine vv_callV X (mX2_mayAsk1 (kL K) D g x I J hg (ix (nS (I 10)) a) h20) q3244 q3246 qs98 q144 q3247 nX2_mayAsk ⟨(Nat.le_of_ble_eq_true rfl), (Nat.le_of_ble_eq_true rfl)⟩ dX2_moveSource_6 rfl (Nat.le_of_ble_eq_true rfl) (recv X hM.1 CL_X2) hM  (fun _ z => Or.inl z) ⟨(Nat.le_of_ble_eq_true rfl), (Nat.le_of_ble_eq_true rfl)⟩ (fun v_ H hq hz hk => ?_)
    obtain ⟨rfl, hM⟩ := hq
    clear hz hk
    by_cases hp : ix (nS (I 10)) a
    · refine vv_eqi (b2_y hp) ?_
      rw [if_pos hp] at hM
      obtain ⟨j, hj, rfl⟩ := ix_of (by omega) hp
      have ej : cl (nI j) = j := cl_I (by omega)
      refine vn_if_ne (tgt := 14) X (by omega) dX2_moveSource_9 (by decide) (fun c_9 => ?_) (fun c_9 => ?_)
      · refine vv_iload_n X dX2_moveSource_14 rfl 2 rfl ?_
        refine vv_sipush (v := -2000) X dX2_moveSource_15 (by decide) ?_
        refine vv_sipush (v := nI 2000) X dX2_moveSource_18 (by decide) ?_
        refine vv_callSp X (mX2_in (kL K) D p (-2000) (nI 2000)) q3031 q3032 q144 q3033 nX2_in ⟨(Nat.le_of_ble_eq_true rfl), (Nat.le_of_ble_eq_true rfl)⟩ dX2_moveSource_21 rfl (Nat.le_of_ble_eq_true rfl) trivial ⟨(Nat.le_of_ble_eq_true rfl), (Nat.le_of_ble_eq_true rfl)⟩ ?_
        refine vb_eq (tgt := 53) X dX2_moveSource_24 (by decide) (fun c_24 => ?_) (fun c_24 => ?_)
        · refine vv_aload_n X dX2_moveSource_53 rfl 0 rfl ?_
          refine vv_iconst (v := nI 3) X dX2_moveSource_54 (by decide) ?_
          refine vv_callV X (mX2_throwsAt (kL K) D g (va_up x 0 (nI 0)) I J hg (nI 3)) q3034 q3036 qs59 q144 q3037 nX2_throwsAt ⟨(Nat.le_of_ble_eq_true rfl), (Nat.le_of_ble_eq_true rfl)⟩ dX2_moveSource_55 rfl (Nat.le_of_ble_eq_true rfl) (recv X hM.1 CL_X2) hM  (fun _ z => Or.inl z) ⟨(Nat.le_of_ble_eq_true rfl), (Nat.le_of_ble_eq_true rfl)⟩ (fun v_ H hq hz hk => ?_)
          obtain ⟨rfl, hM⟩ := hq
          clear hz hk
          rw [up_up] at hM
          exact vv_iret X hQ dX2_moveSource_58 (Nat.le_refl _) (Nat.le_refl _) (MS.no hM (ag_u (by decide) (ag_r)) (ag_r) 3 (by decide) _ (nI 0) ((ask_t hp).trans (arg_f (fun z => c_24 z.1))) rfl rfl)
        · refine vv_iload_n X dX2_moveSource_27 rfl 3 rfl ?_
          refine vv_sipush (v := -2000) X dX2_moveSource_28 (by decide) ?_
          refine vv_sipush (v := nI 2000) X dX2_moveSource_31 (by decide) ?_
          refine vv_callSp X (mX2_in (kL K) D q (-2000) (nI 2000)) q3031 q3032 q144 q3033 nX2_in ⟨(Nat.le_of_ble_eq_true rfl), (Nat.le_of_ble_eq_true rfl)⟩ dX2_moveSource_34 rfl (Nat.le_of_ble_eq_true rfl) trivial ⟨(Nat.le_of_ble_eq_true rfl), (Nat.le_of_ble_eq_true rfl)⟩ ?_
          refine vb_eq (tgt := 53) X dX2_moveSource_37 (by decide) (fun c_37 => ?_) (fun c_37 => ?_)
          · refine vv_aload_n X dX2_moveSource_53 rfl 0 rfl ?_
            refine vv_iconst (v := nI 3) X dX2_moveSource_54 (by decide) ?_
            refine vv_callV X (mX2_throwsAt (kL K) D g (va_up x 0 (nI 0)) I J hg (nI 3)) q3034 q3036 qs59 q144 q3037 nX2_throwsAt ⟨(Nat.le_of_ble_eq_true rfl), (Nat.le_of_ble_eq_true rfl)⟩ dX2_moveSource_55 rfl (Nat.le_of_ble_eq_true rfl) (recv X hM.1 CL_X2) hM  (fun _ z => Or.inl z) ⟨(Nat.le_of_ble_eq_true rfl), (Nat.le_of_ble_eq_true rfl)⟩ (fun v_ H hq hz hk => ?_)
            obtain ⟨rfl, hM⟩ := hq
            clear hz hk
            rw [up_up] at hM
            exact vv_iret X hQ dX2_moveSource_58 (Nat.le_refl _) (Nat.le_refl _) (MS.no hM (ag_u (by decide) (ag_r)) (ag_r) 3 (by decide) _ (nI 0) ((ask_t hp).trans (arg_f (fun z => c_37 z.2))) rfl rfl)
          · refine vv_aload_n X dX2_moveSource_40 rfl 0 rfl ?_
            refine vv_bipush (v := nI 31) X dX2_moveSource_41 (by decide) ?_
            refine vv_iload_n X dX2_moveSource_43 rfl 1 rfl ?_
            refine vn_add X dX2_moveSource_44 ?_
            refine vv_iload_n X dX2_moveSource_45 rfl 2 rfl ?_
            refine vv_iload_n X dX2_moveSource_46 rfl 3 rfl ?_
            refine vv_callV X (mX2_setsTwo (kL K) D g (va_up x 0 (nI 0)) I J (I 10) rfl (I 12) rfl hg u (31 + j) p q hC hS hT hu hu6 h21 (Or.inl ⟨by omega, by omega, rg_of (by decide) (by decide) c_24, rg_of (by decide) (by decide) c_37⟩)) q3605 q3607 qs134 q144 q3608 nX2_setsTwo ⟨(Nat.le_of_ble_eq_true rfl), (Nat.le_of_ble_eq_true rfl)⟩ dX2_moveSource_47 rfl (Nat.le_of_ble_eq_true rfl) (recv X hM.1 CL_X2) hM  (fun _ z => Or.inl z) ⟨(Nat.le_of_ble_eq_true rfl), (Nat.le_of_ble_eq_true rfl)⟩ (fun v_ H hq hz hk => ?_)
            obtain ⟨rfl, R_9, d_9, p_9, hM⟩ := hq
            clear hz hk
            refine vv_goto (tgt := 58) X dX2_moveSource_50 (by decide) ?_
            exact vv_iret X hQ dX2_moveSource_58 (Nat.le_refl _) (Nat.le_refl _) (MS.of hM (ag_c (ag_u (by decide) (ag_r))) (by simp only [ej]; exact ag_u (by decide) (ag_u (by decide) (ag_c (ag_c (ag_r))))) _ (nI (bC (I 10) (st_two (I 10) (I 12) (31 + j) p q))) ((ask_t hp).trans (arg_t (⟨c_24, c_37⟩))) rfl (by simp only [ej]) rfl)
      · exact absurd c_9 (by decide)
    · refine vv_eqi (b2_n hp) ?_
      rw [if_neg hp] at hM
      refine vn_if_ne (tgt := 14) X (by omega) dX2_moveSource_9 (by decide) (fun c_9 => ?_) (fun c_9 => ?_)
      · exact absurd c_9 (by decide)
      · refine vv_iconst (v := nI 0) X dX2_moveSource_12 (by decide) ?_
        exact vv_iret X hQ dX2_moveSource_13 (Nat.le_refl _) (Nat.le_refl _) (MS.no hM (ag_u (by decide) (ag_r)) (ag_r) 2 (by decide) _ (nI 0) (ask_f hp) rfl rfl)
theorem nX2_setVelocity : notMH yX2_setVelocity 3 := by decide +kernel
set_option maxHeartbeats 800000 in
theorem aX2_setVelocity (l : Launch) (D : DD) (g : Nat → Nat) (x : Nat → Int32) (I : Nat → Nat → Int32) (J : Nat → Nat → Int64) (P : Nat → Int32) (hIP : I 10 = P) (S : Nat → Int32) (hIS : I 12 = S) (C : Bool) (hg : MG g) (a p q : Int32) (hP : VP P) (hc : cam C (x 20) P S (I 17)) (u : Nat) (hu : x 19 = nI u) (hu6 : u ≤ 6) (h21 : x 21 = -1) : Ct l yX2_setVelocity cX2_setVelocity 4 (some .int) { frames := 9, cells := 0, slots := 0, locals := 199 } D [.ref (g 0), .int (a), .int (p), .int (q)] (fun H => MR D g x I J H) (MA g) (fun v H H1 => MS D g x I (va_up x 19 (nI (rmU u + 1))) (va_up (va_up I 15 (rmH u (I 15) S)) 12 (st_two P S (43 + cl a) p q)) iV (an_setVelocity C P S a p q) v H1) := by
  refine Ct.of (by decide +kernel) (Nat.le_of_ble_eq_true rfl) (fun K Qf hkl X hM hQ => ?_)
  subst hkl
  subst hIP
  subst hIS
  have l4 := hP.l4
  have l5 := hP.l5
  have l2 := hP.l2
  have l9 := hP.l9
  have l10 := hP.l10
  have l101 := hP.l101
  have hn4 : nC (I 10) ≤ 144 := Nat.mul_le_mul l9 l10
  refine vv_sub (lv' := [(0, .ref (g 0)), (1, .int (a)), (2, .int (p)), (3, .int (q))]) [0, 1, 2, 3] rfl ?_
  rcases hc with ⟨rfl, h20⟩ | ⟨rfl, h20, hC, hS, hT⟩
  · refine vv_aload_n X dX2_setVelocity_0 rfl 0 rfl ?_
    refine vv_aload_n X dX2_setVelocity_1 rfl 0 rfl ?_
    refine vv_iload_n X dX2_setVelocity_2 rfl 1 rfl ?_
    refine vv_callVp X (mX2_isSource (kL K) D g x I J (I 10) rfl a hP) q3280 q3282 qs101 q144 q3283 nX2_isSource ⟨(Nat.le_of_ble_eq_true rfl), (Nat.le_of_ble_eq_true rfl)⟩ dX2_setVelocity_3 rfl (Nat.le_of_ble_eq_true rfl) (recv X hM.1 CL_X2) hM ⟨(Nat.le_of_ble_eq_true rfl), (Nat.le_of_ble_eq_true rfl)⟩ ?_
    refine vv_callV X (mX2_mayAsk0 (kL K) D g x I J hg (ix (nS (I 10)) a) h20) q3244 q3246 qs98 q144 q3247 nX2_mayAsk ⟨(Nat.le_of_ble_eq_true rfl), (Nat.le_of_ble_eq_true rfl)⟩ dX2_setVelocity_6 rfl (Nat.le_of_ble_eq_true rfl) (recv X hM.1 CL_X2) hM  (fun _ z => Or.inl z) ⟨(Nat.le_of_ble_eq_true rfl), (Nat.le_of_ble_eq_true rfl)⟩ (fun v_ H hq hz hk => ?_)
    obtain ⟨rfl, hM⟩ := hq
    clear hz hk
    refine vv_eqi (b2_n (p := False) (fun z => z)) ?_
    refine vn_if_ne (tgt := 14) X (by omega) dX2_setVelocity_9 (by decide) (fun c_9 => ?_) (fun c_9 => ?_)
    · exact absurd c_9 (by decide)
    · refine vv_iconst (v := nI 0) X dX2_setVelocity_12 (by decide) ?_
      exact vv_iret X hQ dX2_setVelocity_13 (Nat.le_refl _) (Nat.le_refl _) (MS.no hM (ag_u (by decide) (ag_r)) (ag_r) 1 (by decide) _ (nI 0) (ask_0) rfl rfl)
  · refine vv_aload_n X dX2_setVelocity_0 rfl 0 rfl ?_
    refine vv_aload_n X dX2_setVelocity_1 rfl 0 rfl ?_
    refine vv_iload_n X dX2_setVelocity_2 rfl 1 rfl ?_
    refine vv_callVp X (mX2_isSource (kL K) D g x I J (I 10) rfl a hP) q3280 q3282 qs101 q144 q3283 nX2_isSource ⟨(Nat.le_of_ble_eq_true rfl), (Nat.le_of_ble_eq_true rfl)⟩ dX2_setVelocity_3 rfl (Nat.le_of_ble_eq_true rfl) (recv X hM.1 CL_X2) hM ⟨(Nat.le_of_ble_eq_true rfl), (Nat.le_of_ble_eq_true rfl)⟩ ?_
    refine vv_callV X (mX2_mayAsk1 (kL K) D g x I J hg (ix (nS (I 10)) a) h20) q3244 q3246 qs98 q144 q3247 nX2_mayAsk ⟨(Nat.le_of_ble_eq_true rfl), (Nat.le_of_ble_eq_true rfl)⟩ dX2_setVelocity_6 rfl (Nat.le_of_ble_eq_true rfl) (recv X hM.1 CL_X2) hM  (fun _ z => Or.inl z) ⟨(Nat.le_of_ble_eq_true rfl), (Nat.le_of_ble_eq_true rfl)⟩ (fun v_ H hq hz hk => ?_)
    obtain ⟨rfl, hM⟩ := hq
    clear hz hk
    by_cases hp : ix (nS (I 10)) a
    · refine vv_eqi (b2_y hp) ?_
      rw [if_pos hp] at hM
      obtain ⟨j, hj, rfl⟩ := ix_of (by omega) hp
      have ej : cl (nI j) = j := cl_I (by omega)
      refine vn_if_ne (tgt := 14) X (by omega) dX2_setVelocity_9 (by decide) (fun c_9 => ?_) (fun c_9 => ?_)
      · refine vv_iload_n X dX2_setVelocity_14 rfl 2 rfl ?_
        refine vv_iload_n X dX2_setVelocity_15 rfl 3 rfl ?_
        refine vv_callSp X (mX2_isVelocity (kL K) D p q) q3517 q3518 q144 q3519 nX2_isVelocity ⟨(Nat.le_of_ble_eq_true rfl), (Nat.le_of_ble_eq_true rfl)⟩ dX2_setVelocity_16 rfl (Nat.le_of_ble_eq_true rfl) trivial ⟨(Nat.le_of_ble_eq_true rfl), (Nat.le_of_ble_eq_true rfl)⟩ ?_
        refine vb_eq (tgt := 35) X dX2_setVelocity_19 (by decide) (fun c_19 => ?_) (fun c_19 => ?_)
        · refine vv_aload_n X dX2_setVelocity_35 rfl 0 rfl ?_
          refine vv_iconst (v := nI 3) X dX2_setVelocity_36 (by decide) ?_
          refine vv_callV X (mX2_throwsAt (kL K) D g (va_up x 0 (nI 0)) I J hg (nI 3)) q3034 q3036 qs59 q144 q3037 nX2_throwsAt ⟨(Nat.le_of_ble_eq_true rfl), (Nat.le_of_ble_eq_true rfl)⟩ dX2_setVelocity_37 rfl (Nat.le_of_ble_eq_true rfl) (recv X hM.1 CL_X2) hM  (fun _ z => Or.inl z) ⟨(Nat.le_of_ble_eq_true rfl), (Nat.le_of_ble_eq_true rfl)⟩ (fun v_ H hq hz hk => ?_)
          obtain ⟨rfl, hM⟩ := hq
          clear hz hk
          rw [up_up] at hM
          exact vv_iret X hQ dX2_setVelocity_40 (Nat.le_refl _) (Nat.le_refl _) (MS.no hM (ag_u (by decide) (ag_r)) (ag_r) 3 (by decide) _ (nI 0) ((ask_t hp).trans (arg_f c_19)) rfl rfl)
        · refine vv_aload_n X dX2_setVelocity_22 rfl 0 rfl ?_
          refine vv_bipush (v := nI 43) X dX2_setVelocity_23 (by decide) ?_
          refine vv_iload_n X dX2_setVelocity_25 rfl 1 rfl ?_
          refine vn_add X dX2_setVelocity_26 ?_
          refine vv_iload_n X dX2_setVelocity_27 rfl 2 rfl ?_
          refine vv_iload_n X dX2_setVelocity_28 rfl 3 rfl ?_
          refine vv_callV X (mX2_setsTwo (kL K) D g (va_up x 0 (nI 0)) I J (I 10) rfl (I 12) rfl hg u (43 + j) p q hC hS hT hu hu6 h21 (Or.inr ⟨by omega, by omega, rg_of (by decide) (by decide) c_19.1, rg_of (by decide) (by decide) c_19.2⟩)) q3605 q3607 qs134 q144 q3608 nX2_setsTwo ⟨(Nat.le_of_ble_eq_true rfl), (Nat.le_of_ble_eq_true rfl)⟩ dX2_setVelocity_29 rfl (Nat.le_of_ble_eq_true rfl) (recv X hM.1 CL_X2) hM  (fun _ z => Or.inl z) ⟨(Nat.le_of_ble_eq_true rfl), (Nat.le_of_ble_eq_true rfl)⟩ (fun v_ H hq hz hk => ?_)
          obtain ⟨rfl, R_9, d_9, p_9, hM⟩ := hq
          clear hz hk
          refine vv_goto (tgt := 40) X dX2_setVelocity_32 (by decide) ?_
          exact vv_iret X hQ dX2_setVelocity_40 (Nat.le_refl _) (Nat.le_refl _) (MS.of hM (ag_c (ag_u (by decide) (ag_r))) (by simp only [ej]; exact ag_u (by decide) (ag_u (by decide) (ag_c (ag_c (ag_r))))) _ (nI (bC (I 10) (st_two (I 10) (I 12) (43 + j) p q))) ((ask_t hp).trans (arg_t c_19)) rfl (by simp only [ej]) rfl)
      · exact absurd c_9 (by decide)
    · refine vv_eqi (b2_n hp) ?_
      rw [if_neg hp] at hM
      refine vn_if_ne (tgt := 14) X (by omega) dX2_setVelocity_9 (by decide) (fun c_9 => ?_) (fun c_9 => ?_)
      · exact absurd c_9 (by decide)
      · refine vv_iconst (v := nI 0) X dX2_setVelocity_12 (by decide) ?_
        exact vv_iret X hQ dX2_setVelocity_13 (Nat.le_refl _) (Nat.le_refl _) (MS.no hM (ag_u (by decide) (ag_r)) (ag_r) 2 (by decide) _ (nI 0) (ask_f hp) rfl rfl)
theorem nX2_cleaned : notMH yX2_cleaned 0 := by decide +kernel
set_option maxHeartbeats 800000 in
theorem aX2_cleaned (l : Launch) (D : DD) (g : Nat → Nat) (x : Nat → Int32) (I : Nat → Nat → Int32) (J : Nat → Nat → Int64) (P : Nat → Int32) (hIP : I 10 = P) (S : Nat → Int32) (hIS : I 12 = S) (C : Bool) (hg : MG g)  (hP : VP P) (hc : cam C (x 20) P S (I 17))  : Ct l yX2_cleaned cX2_cleaned 1 (some .int) { frames := 2, cells := 0, slots := 0, locals := 33 } D [.ref (g 0)] (fun H => MR D g x I J H) (MA g) (fun v H H1 => MEnd D g x I iV (an_cleaned C S) v H1) := by
  refine Ct.of (by decide +kernel) (Nat.le_of_ble_eq_true rfl) (fun K Qf hkl X hM hQ => ?_)
  subst hkl
  subst hIP
  subst hIS
  have l4 := hP.l4
  have l5 := hP.l5
  have l2 := hP.l2
  have l9 := hP.l9
  have l10 := hP.l10
  have l101 := hP.l101
  have hn4 : nC (I 10) ≤ 144 := Nat.mul_le_mul l9 l10
  refine vv_sub (lv' := [(0, .ref (g 0))]) [0] rfl ?_
  rcases hc with ⟨rfl, h20⟩ | ⟨rfl, h20, hC, hS, hT⟩
  · refine vv_aload_n X dX2_cleaned_0 rfl 0 rfl ?_
    refine vv_iconst (v := nI 1) X dX2_cleaned_1 (by decide) ?_
    refine vv_callV X (mX2_mayAsk0 (kL K) D g x I J hg True h20) q3244 q3246 qs98 q144 q3247 nX2_mayAsk ⟨(Nat.le_of_ble_eq_true rfl), (Nat.le_of_ble_eq_true rfl)⟩ dX2_cleaned_2 rfl (Nat.le_of_ble_eq_true rfl) (recv X hM.1 CL_X2) hM  (fun _ z => Or.inl z) ⟨(Nat.le_of_ble_eq_true rfl), (Nat.le_of_ble_eq_true rfl)⟩ (fun v_ H hq hz hk => ?_)
    obtain ⟨rfl, hM⟩ := hq
    clear hz hk
    refine vv_eqi (b2_n (p := False) (fun z => z)) ?_
    refine vn_if_eq (tgt := 17) X (by omega) dX2_cleaned_5 (by decide) (fun c_5 => ?_) (fun c_5 => ?_)
    · refine vv_iconst (v := nI 0) X dX2_cleaned_17 (by decide) ?_
      exact vv_iret X hQ dX2_cleaned_18 (Nat.le_refl _) (Nat.le_refl _) (MEnd.of hM (ag_u (by decide) (ag_r)) (ag_r) 1 _ (nI 0) (ask_0) rfl (fun h => absurd h (by decide)) rfl)
    · exact absurd c_5 (by decide)
  · refine vv_aload_n X dX2_cleaned_0 rfl 0 rfl ?_
    refine vv_iconst (v := nI 1) X dX2_cleaned_1 (by decide) ?_
    refine vv_callV X (mX2_mayAsk1 (kL K) D g x I J hg True h20) q3244 q3246 qs98 q144 q3247 nX2_mayAsk ⟨(Nat.le_of_ble_eq_true rfl), (Nat.le_of_ble_eq_true rfl)⟩ dX2_cleaned_2 rfl (Nat.le_of_ble_eq_true rfl) (recv X hM.1 CL_X2) hM  (fun _ z => Or.inl z) ⟨(Nat.le_of_ble_eq_true rfl), (Nat.le_of_ble_eq_true rfl)⟩ (fun v_ H hq hz hk => ?_)
    obtain ⟨rfl, hM⟩ := hq
    clear hz hk
    refine vv_eqi (b2_y (p := True) trivial) ?_
    rw [if_pos trivial] at hM
    refine vn_if_eq (tgt := 17) X (by omega) dX2_cleaned_5 (by decide) (fun c_5 => ?_) (fun c_5 => ?_)
    · exact absurd c_5 (by decide)
    · refine vv_aload_n X dX2_cleaned_8 rfl 0 rfl ?_
      refine mg12 X rfl hM dX2_cleaned_9 ?_
      refine vv_iconst (v := nI 0) X dX2_cleaned_12 (by decide) ?_
      refine vv_iald X hM.a12 (0) (by omega) (by decide) rfl dX2_cleaned_13 ?_
      refine vv_goto (tgt := 18) X dX2_cleaned_14 (by decide) ?_
      exact vv_iret X hQ dX2_cleaned_18 (Nat.le_refl _) (Nat.le_refl _) (MEnd.of hM (ag_u (by decide) (ag_r)) (ag_r) 0 _ (I 12 0) (ask_t trivial) rfl (fun _ => rfl) rfl)
