/-! the model's questions, second half: printed by gen/m5.py -/
set_option maxRecDepth 100000
theorem nX2_buffered : notMH yX2_buffered 0 := by decide +kernel
set_option maxHeartbeats 800000 in
theorem mX2_buffered (l : Launch) (D : DD) (g : Nat → Nat) (x : Nat → Int32) (I : Nat → Nat → Int32) (J : Nat → Nat → Int64) (hg : MG g)  : Ct l yX2_buffered cX2_buffered 1 (some .int) { frames := 1, cells := 0, slots := 0, locals := 12 } D [.ref (g 0)] (fun H => MR D g x I J H) (MA g) (fun v H H1 => MEnd D g x I iV (0, x 2) v H1) := by
  refine Ct.of (by decide +kernel) (Nat.le_of_ble_eq_true rfl) (fun K Qf hkl X hM hQ => ?_)
  subst hkl
  refine vv_sub (lv' := [(0, .ref (g 0))]) [0] rfl ?_
  refine vv_aload_n X dX2_buffered_0 rfl 0 rfl ?_
  refine vv_iconst (v := nI 0) X dX2_buffered_1 (by decide) ?_
  refine mp0 X rfl hM hg (Or.inl (MA.in (by decide))) dX2_buffered_2 (fun H hM => ?_)
  refine vv_aload_n X dX2_buffered_5 rfl 0 rfl ?_
  refine mg2 X rfl hM dX2_buffered_6 ?_
  exact vv_iret X hQ dX2_buffered_9 (Nat.le_refl _) (Nat.le_refl _) (MEnd.of hM (ag_u (by decide) ag_r) ag_r 0 _ _ rfl rfl (fun _ => rfl) rfl)
theorem nX2_parseError : notMH yX2_parseError 0 := by decide +kernel
set_option maxHeartbeats 800000 in
theorem mX2_parseError (l : Launch) (D : DD) (g : Nat → Nat) (x : Nat → Int32) (I : Nat → Nat → Int32) (J : Nat → Nat → Int64) (hg : MG g)  : Ct l yX2_parseError cX2_parseError 1 (some .int) { frames := 1, cells := 0, slots := 0, locals := 12 } D [.ref (g 0)] (fun H => MR D g x I J H) (MA g) (fun v H H1 => MEnd D g x I iV (0, x 5) v H1) := by
  refine Ct.of (by decide +kernel) (Nat.le_of_ble_eq_true rfl) (fun K Qf hkl X hM hQ => ?_)
  subst hkl
  refine vv_sub (lv' := [(0, .ref (g 0))]) [0] rfl ?_
  refine vv_aload_n X dX2_parseError_0 rfl 0 rfl ?_
  refine vv_iconst (v := nI 0) X dX2_parseError_1 (by decide) ?_
  refine mp0 X rfl hM hg (Or.inl (MA.in (by decide))) dX2_parseError_2 (fun H hM => ?_)
  refine vv_aload_n X dX2_parseError_5 rfl 0 rfl ?_
  refine mg5 X rfl hM dX2_parseError_6 ?_
  exact vv_iret X hQ dX2_parseError_9 (Nat.le_refl _) (Nat.le_refl _) (MEnd.of hM (ag_u (by decide) ag_r) ag_r 0 _ _ rfl rfl (fun _ => rfl) rfl)
theorem nX2_errorPosition : notMH yX2_errorPosition 0 := by decide +kernel
set_option maxHeartbeats 800000 in
theorem mX2_errorPosition (l : Launch) (D : DD) (g : Nat → Nat) (x : Nat → Int32) (I : Nat → Nat → Int32) (J : Nat → Nat → Int64) (hg : MG g)  : Ct l yX2_errorPosition cX2_errorPosition 1 (some .int) { frames := 1, cells := 0, slots := 0, locals := 12 } D [.ref (g 0)] (fun H => MR D g x I J H) (MA g) (fun v H H1 => MEnd D g x I iV (0, x 6) v H1) := by
  refine Ct.of (by decide +kernel) (Nat.le_of_ble_eq_true rfl) (fun K Qf hkl X hM hQ => ?_)
  subst hkl
  refine vv_sub (lv' := [(0, .ref (g 0))]) [0] rfl ?_
  refine vv_aload_n X dX2_errorPosition_0 rfl 0 rfl ?_
  refine vv_iconst (v := nI 0) X dX2_errorPosition_1 (by decide) ?_
  refine mp0 X rfl hM hg (Or.inl (MA.in (by decide))) dX2_errorPosition_2 (fun H hM => ?_)
  refine vv_aload_n X dX2_errorPosition_5 rfl 0 rfl ?_
  refine mg6 X rfl hM dX2_errorPosition_6 ?_
  exact vv_iret X hQ dX2_errorPosition_9 (Nat.le_refl _) (Nat.le_refl _) (MEnd.of hM (ag_u (by decide) ag_r) ag_r 0 _ _ rfl rfl (fun _ => rfl) rfl)
theorem nX2_undoable : notMH yX2_undoable 0 := by decide +kernel
set_option maxHeartbeats 800000 in
theorem mX2_undoable (l : Launch) (D : DD) (g : Nat → Nat) (x : Nat → Int32) (I : Nat → Nat → Int32) (J : Nat → Nat → Int64) (hg : MG g)  : Ct l yX2_undoable cX2_undoable 1 (some .int) { frames := 1, cells := 0, slots := 0, locals := 12 } D [.ref (g 0)] (fun H => MR D g x I J H) (MA g) (fun v H H1 => MEnd D g x I iV (0, x 19) v H1) := by
  refine Ct.of (by decide +kernel) (Nat.le_of_ble_eq_true rfl) (fun K Qf hkl X hM hQ => ?_)
  subst hkl
  refine vv_sub (lv' := [(0, .ref (g 0))]) [0] rfl ?_
  refine vv_aload_n X dX2_undoable_0 rfl 0 rfl ?_
  refine vv_iconst (v := nI 0) X dX2_undoable_1 (by decide) ?_
  refine mp0 X rfl hM hg (Or.inl (MA.in (by decide))) dX2_undoable_2 (fun H hM => ?_)
  refine vv_aload_n X dX2_undoable_5 rfl 0 rfl ?_
  refine mg19 X rfl hM dX2_undoable_6 ?_
  exact vv_iret X hQ dX2_undoable_9 (Nat.le_refl _) (Nat.le_refl _) (MEnd.of hM (ag_u (by decide) ag_r) ag_r 0 _ _ rfl rfl (fun _ => rfl) rfl)
theorem nX2_mapByte : notMH yX2_mapByte 1 := by decide +kernel
set_option maxHeartbeats 800000 in
theorem mX2_mapByte (l : Launch) (D : DD) (g : Nat → Nat) (x : Nat → Int32) (I : Nat → Nat → Int32) (J : Nat → Nat → Int64) (hg : MG g) (n : Nat) (i : Int32) (hn : x 28 = nI n) (hn2 : n ≤ 160) : Ct l yX2_mapByte cX2_mapByte 2 (some .int) { frames := 2, cells := 0, slots := 0, locals := 34 } D [.ref (g 0), .int (i)] (fun H => MR D g x I J H) (MA g) (fun v H H1 => MEnd D g x I iV (an_mapByte n (I 27) i) v H1) := by
  refine Ct.of (by decide +kernel) (Nat.le_of_ble_eq_true rfl) (fun K Qf hkl X hM hQ => ?_)
  subst hkl
  refine vv_sub (lv' := [(0, .ref (g 0)), (1, .int (i))]) [0, 1] rfl ?_
  refine vv_aload_n X dX2_mapByte_0 rfl 0 rfl ?_
  refine vv_iload_n X dX2_mapByte_1 rfl 1 rfl ?_
  refine vv_iconst (v := nI 0) X dX2_mapByte_2 (by decide) ?_
  refine vv_aload_n X dX2_mapByte_3 rfl 0 rfl ?_
  refine mg28 X rfl hM dX2_mapByte_4 ?_
  refine vv_eqi (hn) ?_
  refine vv_iconst (v := nI 1) X dX2_mapByte_7 (by decide) ?_
  refine vv_isub X dX2_mapByte_8 ?_
  refine vv_callSp X (mX2_in (kL K) D i (nI 0) ((nI n) - (nI 1))) q3031 q3032 q144 q3033 nX2_in ⟨(Nat.le_of_ble_eq_true rfl), (Nat.le_of_ble_eq_true rfl)⟩ dX2_mapByte_9 rfl (Nat.le_of_ble_eq_true rfl) trivial ⟨(Nat.le_of_ble_eq_true rfl), (Nat.le_of_ble_eq_true rfl)⟩ ?_
  refine vb_eq (tgt := 19) X dX2_mapByte_12 (by decide) (fun c_12 => ?_) (fun c_12 => ?_)
  · refine vv_iconst (v := nI 1) X dX2_mapByte_19 (by decide) ?_
    refine mp0 X rfl hM hg (Or.inl (MA.in (by decide))) dX2_mapByte_20 (fun H hM => ?_)
    refine vv_aload_n X dX2_mapByte_23 rfl 0 rfl ?_
    refine mg0 X rfl hM dX2_mapByte_24 ?_
    refine vn_if_ne (tgt := 39) X (by omega) dX2_mapByte_27 (by decide) (fun c_27 => ?_) (fun c_27 => ?_)
    · refine vv_iconst (v := nI 0) X dX2_mapByte_39 (by decide) ?_
      exact vv_iret X hQ dX2_mapByte_40 (Nat.le_refl _) (Nat.le_refl _) (MEnd.of hM (ag_u (by decide) ag_r) ag_r 1 _ _ (if_neg c_12) rfl (fun h => absurd h (by decide)) rfl)
    · exact absurd c_27 (by decide)
  · obtain ⟨j, hj, rfl⟩ := ix_of (by omega) c_12
    have ej : cl (nI j) = j := cl_I (by omega)
    refine vv_iconst (v := nI 0) X dX2_mapByte_15 (by decide) ?_
    refine vv_goto (tgt := 20) X dX2_mapByte_16 (by decide) ?_
    refine mp0 X rfl hM hg (Or.inl (MA.in (by decide))) dX2_mapByte_20 (fun H hM => ?_)
    refine vv_aload_n X dX2_mapByte_23 rfl 0 rfl ?_
    refine mg0 X rfl hM dX2_mapByte_24 ?_
    refine vn_if_ne (tgt := 39) X (by omega) dX2_mapByte_27 (by decide) (fun c_27 => ?_) (fun c_27 => ?_)
    · exact absurd c_27 (by decide)
    · refine vv_aload_n X dX2_mapByte_30 rfl 0 rfl ?_
      refine mg27 X rfl hM dX2_mapByte_31 ?_
      refine vv_iload_n X dX2_mapByte_34 rfl 1 rfl ?_
      refine vv_iald X hM.a27 (j) (by omega) (by decide) rfl dX2_mapByte_35 ?_
      refine vv_goto (tgt := 40) X dX2_mapByte_36 (by decide) ?_
      exact vv_iret X hQ dX2_mapByte_40 (Nat.le_refl _) (Nat.le_refl _) (MEnd.of hM (ag_u (by decide) ag_r) ag_r 0 _ (I 27 j) (if_pos c_12) rfl (fun _ => by simp only [ej]) rfl)
theorem nX2_undo : notMH yX2_undo 0 := by decide +kernel
set_option maxHeartbeats 800000 in
theorem mX2_undo (l : Launch) (D : DD) (g : Nat → Nat) (x : Nat → Int32) (I : Nat → Nat → Int32) (J : Nat → Nat → Int64) (hg : MG g) (u : Nat) (hu : x 19 = nI u) (hu6 : u ≤ 6) : Ct l yX2_undo cX2_undo 1 (some .int) { frames := 2, cells := 0, slots := 0, locals := 36 } D [.ref (g 0)] (fun H => MR D g x I J H) (MA g) (fun v H H1 => MS D g x I (va_up x 19 (nI (u - 1))) (va_up I 12 (fun i => I 15 (2455 * (u - 1) + i))) iV (an_undo u) v H1) := by
  refine Ct.of (by decide +kernel) (Nat.le_of_ble_eq_true rfl) (fun K Qf hkl X hM hQ => ?_)
  subst hkl
  refine vv_sub (lv' := [(0, .ref (g 0))]) [0] rfl ?_
  refine vv_aload_n X dX2_undo_0 rfl 0 rfl ?_
  refine vv_aload_n X dX2_undo_1 rfl 0 rfl ?_
  refine mg19 X rfl hM dX2_undo_2 ?_
  refine vv_eqi (hu) ?_
  refine vn_if_ne (tgt := 12) X (by omega) dX2_undo_5 (by decide) (fun c_5 => ?_) (fun c_5 => ?_)
  · refine vv_iconst (v := nI 0) X dX2_undo_12 (by decide) ?_
    refine mp0 X rfl hM hg (Or.inl (MA.in (by decide))) dX2_undo_13 (fun H hM => ?_)
    refine vv_aload_n X dX2_undo_16 rfl 0 rfl ?_
    refine mg0 X rfl hM dX2_undo_17 ?_
    refine vn_if_le (tgt := 25) X (by omega) dX2_undo_20 (by decide) (fun c_20 => ?_) (fun c_20 => ?_)
    · refine vv_aload_n X dX2_undo_25 rfl 0 rfl ?_
      refine vv_dup X dX2_undo_26 rfl ?_
      refine mg19 X rfl hM dX2_undo_27 ?_
      refine vv_eqi (hu) ?_
      refine vv_iconst (v := nI 1) X dX2_undo_30 (by decide) ?_
      refine vn_sub X (by omega) dX2_undo_31 ?_
      refine mp19 X rfl hM hg (Or.inl (MA.in (by decide))) dX2_undo_32 (fun H hM => ?_)
      refine vv_aload_n X dX2_undo_35 rfl 0 rfl ?_
      refine mg15 X rfl hM dX2_undo_36 ?_
      refine vv_sipush (v := nI 2455) X dX2_undo_39 (by decide) ?_
      refine vv_aload_n X dX2_undo_42 rfl 0 rfl ?_
      refine mg19 X rfl hM dX2_undo_43 ?_
      refine vn_mul X dX2_undo_46 ?_
      refine vv_aload_n X dX2_undo_47 rfl 0 rfl ?_
      refine mg12 X rfl hM dX2_undo_48 ?_
      refine vv_iconst (v := nI 0) X dX2_undo_51 (by decide) ?_
      refine vv_callS X (mX2_copy (kL K) D (g 15) (g 12) 14730 2455 (2455 * (u - 1)) 0 (I 15) (I 12) (hg.ne (by decide) (by decide) (by decide)) (by decide) (by decide) (by omega) (by omega)) q3169 q3170 q144 q3171 nX2_copy ⟨(Nat.le_of_ble_eq_true rfl), (Nat.le_of_ble_eq_true rfl)⟩ dX2_undo_52 rfl (Nat.le_of_ble_eq_true rfl) ⟨hM.a15, hM.a12⟩  (fun _ z => Or.inl (z ▸ MA.in (by decide))) ⟨(Nat.le_of_ble_eq_true rfl), (Nat.le_of_ble_eq_true rfl)⟩ (fun v_ H hq hz hk => ?_)
      obtain ⟨rfl, hz1, ha⟩ := hq
      replace ha := iA_cp (2455 * (u - 1)) (by decide) ha
      replace hM := hM.setI hg (k := 12) (n := 2455) (by decide) (Ch_of hz1 hk) ha
      clear hz hk hz1 ha
      refine vv_aload_n X dX2_undo_55 rfl 0 rfl ?_
      refine mg19 X rfl hM dX2_undo_56 ?_
      exact vv_iret X hQ dX2_undo_59 (Nat.le_refl _) (Nat.le_refl _) (MS.of hM (ag_c (ag_u (by decide) ag_r)) (ag_c ag_r) _ _ (if_neg (show ¬ u = 0 by omega)) rfl rfl rfl)
    · exact absurd c_20 (by decide)
  · refine vv_iconst (v := nI 1) X dX2_undo_8 (by decide) ?_
    refine vv_goto (tgt := 13) X dX2_undo_9 (by decide) ?_
    refine mp0 X rfl hM hg (Or.inl (MA.in (by decide))) dX2_undo_13 (fun H hM => ?_)
    refine vv_aload_n X dX2_undo_16 rfl 0 rfl ?_
    refine mg0 X rfl hM dX2_undo_17 ?_
    refine vn_if_le (tgt := 25) X (by omega) dX2_undo_20 (by decide) (fun c_20 => ?_) (fun c_20 => ?_)
    · exact absurd c_20 (by decide)
    · refine vv_iconst (v := nI 0) X dX2_undo_23 (by decide) ?_
      exact vv_iret X hQ dX2_undo_24 (Nat.le_refl _) (Nat.le_refl _) (MS.no hM (ag_u (by decide) ag_r) ag_r 1 (by decide) _ _ (if_pos c_5) rfl rfl)
theorem nX2_save : notMH yX2_save 1 := by decide +kernel
set_option maxHeartbeats 800000 in
theorem aX2_save (l : Launch) (D : DD) (g : Nat → Nat) (x : Nat → Int32) (I : Nat → Nat → Int32) (J : Nat → Nat → Int64) (P : Nat → Int32) (hIP : I 10 = P) (S : Nat → Int32) (hIS : I 12 = S) (C : Bool) (hg : MG g) (k : Int32) (hP : VP P) (hc : cam C (x 20) P S (I 17))  : Ct l yX2_save cX2_save 2 (some .int) { frames := 8, cells := 0, slots := 0, locals := 175 } D [.ref (g 0), .int (k)] (fun H => MR D g x I J H) (MA g) (fun v H H1 => MS D g x I (x) (va_up (va_up I 16 (va_cpy S (I 16) 0 (2455 * cl k) 2455)) 18 (va_up (I 18) (cl k) (nI 1))) iV (an_save C P S k) v H1) := by
  refine Ct.of (by decide +kernel) (Nat.le_of_ble_eq_true rfl) (fun K Qf hkl X hM hQ => ?_)
  subst hkl
  subst hIP
  subst hIS
  have l4 := hP.l4
  have l5 := hP.l5
  have l2 := hP.l2
  have l9 := hP.l9
  have l10 := hP.l10
  have l101 := hP.l101
  have hn4 : nC (I 10) ≤ 144 := Nat.mul_le_mul l9 l10
  refine vv_sub (lv' := [(0, .ref (g 0)), (1, .int (k))]) [0, 1] rfl ?_
  rcases hc with ⟨rfl, h20⟩ | ⟨rfl, h20, hC, hS, hT⟩
  · refine vv_aload_n X dX2_save_0 rfl 0 rfl ?_
    refine vv_iload_n X dX2_save_1 rfl 1 rfl ?_
    refine vv_iconst (v := nI 0) X dX2_save_2 (by decide) ?_
    refine vv_iconst (v := nI 1) X dX2_save_3 (by decide) ?_
    refine vv_callSp X (mX2_in (kL K) D k (nI 0) (nI 1)) q3031 q3032 q144 q3033 nX2_in ⟨(Nat.le_of_ble_eq_true rfl), (Nat.le_of_ble_eq_true rfl)⟩ dX2_save_4 rfl (Nat.le_of_ble_eq_true rfl) trivial ⟨(Nat.le_of_ble_eq_true rfl), (Nat.le_of_ble_eq_true rfl)⟩ ?_
    refine vv_callV X (mX2_mayAsk0 (kL K) D g x I J hg (nI 0 ≤ k ∧ k ≤ nI 1) h20) q3244 q3246 qs98 q144 q3247 nX2_mayAsk ⟨(Nat.le_of_ble_eq_true rfl), (Nat.le_of_ble_eq_true rfl)⟩ dX2_save_7 rfl (Nat.le_of_ble_eq_true rfl) (recv X hM.1 CL_X2) hM  (fun _ z => Or.inl z) ⟨(Nat.le_of_ble_eq_true rfl), (Nat.le_of_ble_eq_true rfl)⟩ (fun v_ H hq hz hk => ?_)
    obtain ⟨rfl, hM⟩ := hq
    clear hz hk
    refine vv_eqi (b2_n (p := False) (fun z => z)) ?_
    refine vn_if_ne (tgt := 15) X (by omega) dX2_save_10 (by decide) (fun c_10 => ?_) (fun c_10 => ?_)
    · exact absurd c_10 (by decide)
    · refine vv_iconst (v := nI 0) X dX2_save_13 (by decide) ?_
      exact vv_iret X hQ dX2_save_14 (Nat.le_refl _) (Nat.le_refl _) (MS.no hM (ag_u (by decide) (ag_r)) (ag_r) 1 (by decide) _ (nI 0) (ask_0) rfl rfl)
  · refine vv_aload_n X dX2_save_0 rfl 0 rfl ?_
    refine vv_iload_n X dX2_save_1 rfl 1 rfl ?_
    refine vv_iconst (v := nI 0) X dX2_save_2 (by decide) ?_
    refine vv_iconst (v := nI 1) X dX2_save_3 (by decide) ?_
    refine vv_callSp X (mX2_in (kL K) D k (nI 0) (nI 1)) q3031 q3032 q144 q3033 nX2_in ⟨(Nat.le_of_ble_eq_true rfl), (Nat.le_of_ble_eq_true rfl)⟩ dX2_save_4 rfl (Nat.le_of_ble_eq_true rfl) trivial ⟨(Nat.le_of_ble_eq_true rfl), (Nat.le_of_ble_eq_true rfl)⟩ ?_
    refine vv_callV X (mX2_mayAsk1 (kL K) D g x I J hg (nI 0 ≤ k ∧ k ≤ nI 1) h20) q3244 q3246 qs98 q144 q3247 nX2_mayAsk ⟨(Nat.le_of_ble_eq_true rfl), (Nat.le_of_ble_eq_true rfl)⟩ dX2_save_7 rfl (Nat.le_of_ble_eq_true rfl) (recv X hM.1 CL_X2) hM  (fun _ z => Or.inl z) ⟨(Nat.le_of_ble_eq_true rfl), (Nat.le_of_ble_eq_true rfl)⟩ (fun v_ H hq hz hk => ?_)
    obtain ⟨rfl, hM⟩ := hq
    clear hz hk
    by_cases hp : nI 0 ≤ k ∧ k ≤ nI 1
    · refine vv_eqi (b2_y hp) ?_
      rw [if_pos hp] at hM
      obtain ⟨j, hj, hj2, rfl⟩ := inR2 (by omega) (by omega) hp
      have ej : cl (nI j) = j := cl_I (by omega)
      refine vn_if_ne (tgt := 15) X (by omega) dX2_save_10 (by decide) (fun c_10 => ?_) (fun c_10 => ?_)
      · refine vv_aload_n X dX2_save_15 rfl 0 rfl ?_
        refine mg12 X rfl hM dX2_save_16 ?_
        refine vv_iconst (v := nI 0) X dX2_save_19 (by decide) ?_
        refine vv_aload_n X dX2_save_20 rfl 0 rfl ?_
        refine mg16 X rfl hM dX2_save_21 ?_
        refine vv_sipush (v := nI 2455) X dX2_save_24 (by decide) ?_
        refine vv_iload_n X dX2_save_27 rfl 1 rfl ?_
        refine vn_mul X dX2_save_28 ?_
        refine vv_callS X (mX2_copy (kL K) D (g 12) (g 16) 2455 4910 0 (2455 * j) (I 12) (I 16) (hg.ne (by decide) (by decide) (by decide)) (by decide) (by decide) (by omega) (by omega)) q3169 q3170 q144 q3171 nX2_copy ⟨(Nat.le_of_ble_eq_true rfl), (Nat.le_of_ble_eq_true rfl)⟩ dX2_save_29 rfl (Nat.le_of_ble_eq_true rfl) ⟨hM.a12, hM.a16⟩  (fun _ z => Or.inl (z ▸ MA.in (by decide))) ⟨(Nat.le_of_ble_eq_true rfl), (Nat.le_of_ble_eq_true rfl)⟩ (fun v_ H hq hz hk => ?_)
        obtain ⟨rfl, hz1, ha⟩ := hq
        replace hM := hM.setI hg (k := 16) (n := 4910) (by decide) (Ch_of hz1 hk) ha
        clear hz hk hz1 ha
        refine vv_aload_n X dX2_save_32 rfl 0 rfl ?_
        refine mg18 X rfl hM dX2_save_33 ?_
        refine vv_iload_n X dX2_save_36 rfl 1 rfl ?_
        refine vv_iconst (v := nI 1) X dX2_save_37 (by decide) ?_
        refine vv_zast X hM.a18 (j) (by omega) (by decide) rfl (Or.inl (MA.in (by decide))) dX2_save_38 (fun H1 hc ha => ?_)
        rw [show vp_nar .boolean (nI 1) = nI 1 from by decide] at ha
        replace hM := hM.setZ hg hc ha
        clear hc ha
        refine vv_aload_n X dX2_save_39 rfl 0 rfl ?_
        refine vv_aload_n X dX2_save_40 rfl 0 rfl ?_
        refine mg12 X rfl hM dX2_save_41 ?_
        refine vv_callV X (mX2_bestIn12 (kL K) D g (va_up x 0 (nI 0)) (va_up (va_up I 16 (va_cpy (I 12) (I 16) 0 (2455 * j) 2455)) 18 (va_up (I 18) j (nI 1))) J (I 10) rfl (I 12) rfl hg hC hS hT) q3372 q3374 qs111 q144 q3375 nX2_bestIn ⟨(Nat.le_of_ble_eq_true rfl), (Nat.le_of_ble_eq_true rfl)⟩ dX2_save_44 rfl (Nat.le_of_ble_eq_true rfl) (recv X hM.1 CL_X2) hM  (fun _ z => Or.inl z) ⟨(Nat.le_of_ble_eq_true rfl), (Nat.le_of_ble_eq_true rfl)⟩ (fun v_ H hq hz hk => ?_)
        obtain ⟨rfl, d_1, p_2, hM, hp_3⟩ := hq
        clear hz hk
        exact vv_iret X hQ dX2_save_47 (Nat.le_refl _) (Nat.le_refl _) (MS.of hM (ag_u (by decide) (ag_r)) (by simp only [ej]; exact ag_u (by decide) (ag_c (ag_c (ag_r)))) _ (nI (bsN (pwc (I 10) (I 12)) (nC (I 10)))) (ask_t hp) rfl (rfl) rfl)
      · exact absurd c_10 (by decide)
    · refine vv_eqi (b2_n hp) ?_
      rw [if_neg hp] at hM
      refine vn_if_ne (tgt := 15) X (by omega) dX2_save_10 (by decide) (fun c_10 => ?_) (fun c_10 => ?_)
      · exact absurd c_10 (by decide)
      · refine vv_iconst (v := nI 0) X dX2_save_13 (by decide) ?_
        exact vv_iret X hQ dX2_save_14 (Nat.le_refl _) (Nat.le_refl _) (MS.no hM (ag_u (by decide) (ag_r)) (ag_r) 2 (by decide) _ (nI 0) (ask_f hp) rfl rfl)
theorem nX2_restore : notMH yX2_restore 1 := by decide +kernel
set_option maxHeartbeats 800000 in
theorem mX2_restore (l : Launch) (D : DD) (g : Nat → Nat) (x : Nat → Int32) (I : Nat → Nat → Int32) (J : Nat → Nat → Int64) (P : Nat → Int32) (hIP : I 10 = P) (hg : MG g) (k : Int32) (hz : ∀ k, k < 2 → ¬ I 18 k = 0 → VC P ∧ VS (fun i => I 16 (2455 * k + i)) ∧ TB P (I 17)) : Ct l yX2_restore cX2_restore 2 (some .int) { frames := 8, cells := 0, slots := 0, locals := 175 } D [.ref (g 0), .int (k)] (fun H => MR D g x I J H) (MA g) (fun v H H1 => MS D g x I (va_up x 19 (nI 0)) (va_up I 12 (fun i => I 16 (2455 * cl k + i))) iV (an_restore P (I 18) (I 16) k) v H1) := by
  refine Ct.of (by decide +kernel) (Nat.le_of_ble_eq_true rfl) (fun K Qf hkl X hM hQ => ?_)
  subst hkl
  subst hIP
  refine vv_sub (lv' := [(0, .ref (g 0)), (1, .int (k))]) [0, 1] rfl ?_
  refine vv_aload_n X dX2_restore_0 rfl 0 rfl ?_
  refine vv_iload_n X dX2_restore_1 rfl 1 rfl ?_
  refine vv_iconst (v := nI 0) X dX2_restore_2 (by decide) ?_
  refine vv_iconst (v := nI 1) X dX2_restore_3 (by decide) ?_
  refine vv_callSp X (mX2_in (kL K) D k (nI 0) (nI 1)) q3031 q3032 q144 q3033 nX2_in ⟨(Nat.le_of_ble_eq_true rfl), (Nat.le_of_ble_eq_true rfl)⟩ dX2_restore_4 rfl (Nat.le_of_ble_eq_true rfl) trivial ⟨(Nat.le_of_ble_eq_true rfl), (Nat.le_of_ble_eq_true rfl)⟩ ?_
  refine vb_ne (tgt := 14) X dX2_restore_7 (by decide) (fun c_7 => ?_) (fun c_7 => ?_)
  · obtain ⟨j, hj, hj2, rfl⟩ := inR2 (by omega) (by omega) c_7
    have ej : cl (nI j) = j := cl_I (by omega)
    refine vv_aload_n X dX2_restore_14 rfl 0 rfl ?_
    refine mg18 X rfl hM dX2_restore_15 ?_
    refine vv_iload_n X dX2_restore_18 rfl 1 rfl ?_
    refine vv_zald X hM.a18 (j) (by omega) (by decide) rfl dX2_restore_19 ?_
    refine vv_if_eq (tgt := 27) X dX2_restore_20 (by decide) (fun c_20 => ?_) (fun c_20 => ?_)
    · refine vv_iconst (v := nI 2) X dX2_restore_27 (by decide) ?_
      refine mp0 X rfl hM hg (Or.inl (MA.in (by decide))) dX2_restore_28 (fun H hM => ?_)
      refine vv_aload_n X dX2_restore_31 rfl 0 rfl ?_
      refine mg0 X rfl hM dX2_restore_32 ?_
      refine vn_if_le (tgt := 40) X (by omega) dX2_restore_35 (by decide) (fun c_35 => ?_) (fun c_35 => ?_)
      · exact absurd c_35 (by decide)
      · refine vv_iconst (v := nI 0) X dX2_restore_38 (by decide) ?_
        exact vv_iret X hQ dX2_restore_39 (Nat.le_refl _) (Nat.le_refl _) (MS.no hM (ag_u (by decide) ag_r) ag_r 2 (by decide) _ _ ((if_pos c_7).trans (if_pos (by rw [ej]; exact c_20))) rfl rfl)
    · refine vv_iconst (v := nI 0) X dX2_restore_23 (by decide) ?_
      refine vv_goto (tgt := 28) X dX2_restore_24 (by decide) ?_
      refine mp0 X rfl hM hg (Or.inl (MA.in (by decide))) dX2_restore_28 (fun H hM => ?_)
      refine vv_aload_n X dX2_restore_31 rfl 0 rfl ?_
      refine mg0 X rfl hM dX2_restore_32 ?_
      refine vn_if_le (tgt := 40) X (by omega) dX2_restore_35 (by decide) (fun c_35 => ?_) (fun c_35 => ?_)
      · refine vv_aload_n X dX2_restore_40 rfl 0 rfl ?_
        refine mg16 X rfl hM dX2_restore_41 ?_
        refine vv_sipush (v := nI 2455) X dX2_restore_44 (by decide) ?_
        refine vv_iload_n X dX2_restore_47 rfl 1 rfl ?_
        refine vn_mul X dX2_restore_48 ?_
        refine vv_aload_n X dX2_restore_49 rfl 0 rfl ?_
        refine mg12 X rfl hM dX2_restore_50 ?_
        refine vv_iconst (v := nI 0) X dX2_restore_53 (by decide) ?_
        refine vv_callS X (mX2_copy (kL K) D (g 16) (g 12) 4910 2455 (2455 * j) 0 (I 16) (I 12) (hg.ne (by decide) (by decide) (by decide)) (by decide) (by decide) (by omega) (by omega)) q3169 q3170 q144 q3171 nX2_copy ⟨(Nat.le_of_ble_eq_true rfl), (Nat.le_of_ble_eq_true rfl)⟩ dX2_restore_54 rfl (Nat.le_of_ble_eq_true rfl) ⟨hM.a16, hM.a12⟩  (fun _ z => Or.inl (z ▸ MA.in (by decide))) ⟨(Nat.le_of_ble_eq_true rfl), (Nat.le_of_ble_eq_true rfl)⟩ (fun v_ H hq hz hk => ?_)
        obtain ⟨rfl, hz1, ha⟩ := hq
        replace ha := iA_cp (2455 * j) (by decide) ha
        replace hM := hM.setI hg (k := 12) (n := 2455) (by decide) (Ch_of hz1 hk) ha
        clear hz hk hz1 ha
        obtain ⟨hC, hS, hT⟩ := hz j (by omega) c_20
        have hP := hC.v
        refine vv_aload_n X dX2_restore_57 rfl 0 rfl ?_
        refine vv_iconst (v := nI 0) X dX2_restore_58 (by decide) ?_
        refine mp19 X rfl hM hg (Or.inl (MA.in (by decide))) dX2_restore_59 (fun H hM => ?_)
        refine vv_aload_n X dX2_restore_62 rfl 0 rfl ?_
        refine vv_aload_n X dX2_restore_63 rfl 0 rfl ?_
        refine mg12 X rfl hM dX2_restore_64 ?_
        refine vv_callV X (mX2_bestIn12 (kL K) D g (va_up (va_up x 0 (nI 0)) 19 (nI 0)) (va_up I 12 (fun i => (I 16) ((2455 * j) + i))) J (I 10) rfl (fun i => (I 16) ((2455 * j) + i)) rfl hg hC hS hT) q3372 q3374 qs111 q144 q3375 nX2_bestIn ⟨(Nat.le_of_ble_eq_true rfl), (Nat.le_of_ble_eq_true rfl)⟩ dX2_restore_67 rfl (Nat.le_of_ble_eq_true rfl) (recv X hM.1 CL_X2) hM  (fun _ z => Or.inl z) ⟨(Nat.le_of_ble_eq_true rfl), (Nat.le_of_ble_eq_true rfl)⟩ (fun v_ H hq hz hk => ?_)
        obtain ⟨rfl, d_1, p_2, hM, hp_3⟩ := hq
        clear hz hk
        exact vv_iret X hQ dX2_restore_70 (Nat.le_refl _) (Nat.le_refl _) (MS.of hM (ag_c (ag_u (by decide) (ag_r))) (by simp only [ej]; exact ag_u (by decide) (ag_c (ag_r))) _ _ ((if_pos c_7).trans (if_neg (by rw [ej]; exact c_20))) rfl (by simp only [ej]) rfl)
      · exact absurd c_35 (by decide)
  · refine vv_iconst (v := nI 1) X dX2_restore_10 (by decide) ?_
    refine vv_goto (tgt := 28) X dX2_restore_11 (by decide) ?_
    refine mp0 X rfl hM hg (Or.inl (MA.in (by decide))) dX2_restore_28 (fun H hM => ?_)
    refine vv_aload_n X dX2_restore_31 rfl 0 rfl ?_
    refine mg0 X rfl hM dX2_restore_32 ?_
    refine vn_if_le (tgt := 40) X (by omega) dX2_restore_35 (by decide) (fun c_35 => ?_) (fun c_35 => ?_)
    · exact absurd c_35 (by decide)
    · refine vv_iconst (v := nI 0) X dX2_restore_38 (by decide) ?_
      exact vv_iret X hQ dX2_restore_39 (Nat.le_refl _) (Nat.le_refl _) (MS.no hM (ag_u (by decide) ag_r) ag_r 1 (by decide) _ _ (if_neg c_7) rfl rfl)
theorem nX2_clean : notMH yX2_clean 1 := by decide +kernel
set_option maxHeartbeats 800000 in
theorem aX2_clean (l : Launch) (D : DD) (g : Nat → Nat) (x : Nat → Int32) (I : Nat → Nat → Int32) (J : Nat → Nat → Int64) (P : Nat → Int32) (hIP : I 10 = P) (S : Nat → Int32) (hIS : I 12 = S) (C : Bool) (hg : MG g) (q : Int32) (hP : VP P) (hc : cam C (x 20) P S (I 17)) (u : Nat) (hu : x 19 = nI u) (hu6 : u ≤ 6) : Ct l yX2_clean cX2_clean 6 (some .int) { frames := 8, cells := 0, slots := 0, locals := 175 } D [.ref (g 0), .int (q)] (fun H => MR D g x I J H) (MA g) (fun v H H1 => MS D g x I (va_up x 19 (nI (rmU u + 1))) (va_up (va_up I 15 (rmH u (I 15) S)) 12 (cln P S (bC P S) (cl q))) iV (an_clean C P S q) v H1) := by
  refine Ct.of (by decide +kernel) (Nat.le_of_ble_eq_true rfl) (fun K Qf hkl X hM hQ => ?_)
  subst hkl
  subst hIP
  subst hIS
  have l4 := hP.l4
  have l5 := hP.l5
  have l2 := hP.l2
  have l9 := hP.l9
  have l10 := hP.l10
  have l101 := hP.l101
  have hn4 : nC (I 10) ≤ 144 := Nat.mul_le_mul l9 l10
  have hn0 : C = true → 0 < nC (I 10) := fun hh => by
    rcases hc with ⟨h, _⟩ | ⟨_, _, h, _, _⟩
    · exact absurd (hh.symm.trans h) (by decide)
    · exact Nat.mul_pos h.x1 h.y1
  refine vv_sub (lv' := [(0, .ref (g 0)), (1, .int (q))]) [0, 1] rfl ?_
  rcases hc with ⟨rfl, h20⟩ | ⟨rfl, h20, hC, hS, hT⟩
  · refine vv_aload_n X dX2_clean_0 rfl 0 rfl ?_
    refine vv_aload_n X dX2_clean_1 rfl 0 rfl ?_
    refine mg20 X rfl hM dX2_clean_2 ?_
    refine vv_eqi (h20) ?_
    refine vn_if_eq (tgt := 15) X (by omega) dX2_clean_5 (by decide) (fun c_5 => ?_) (fun c_5 => ?_)
    · refine vv_iconst (v := nI 1) X dX2_clean_15 (by decide) ?_
      refine vv_goto (tgt := 34) X dX2_clean_16 (by decide) ?_
      refine mp0 X rfl hM hg (Or.inl (MA.in (by decide))) dX2_clean_34 (fun H hM => ?_)
      refine vv_aload_n X dX2_clean_37 rfl 0 rfl ?_
      refine mg0 X rfl hM dX2_clean_38 ?_
      refine vn_if_le (tgt := 46) X (by omega) dX2_clean_41 (by decide) (fun c_41 => ?_) (fun c_41 => ?_)
      · exact absurd c_41 (by decide)
      · refine vv_iconst (v := nI 0) X dX2_clean_44 (by decide) ?_
        exact vv_iret X hQ dX2_clean_45 (Nat.le_refl _) (Nat.le_refl _) (MS.no hM (ag_u (by decide) (ag_r)) (ag_r) 1 (by decide) _ (nI 0) (if_neg (fun z => absurd z.1 (by decide))) rfl rfl)
    · exact absurd c_5 (by decide)
  · refine vv_aload_n X dX2_clean_0 rfl 0 rfl ?_
    refine vv_aload_n X dX2_clean_1 rfl 0 rfl ?_
    refine mg20 X rfl hM dX2_clean_2 ?_
    refine vv_eqi (h20) ?_
    refine vn_if_eq (tgt := 15) X (by omega) dX2_clean_5 (by decide) (fun c_5 => ?_) (fun c_5 => ?_)
    · exact absurd c_5 (by decide)
    · refine vv_aload_n X dX2_clean_8 rfl 0 rfl ?_
      refine vv_callVp X (mX2_weightOf (kL K) D g x I J (I 10) rfl (I 12) rfl hP hS) q3617 q3619 qs135 q144 q3620 nX2_weightOf ⟨(Nat.le_of_ble_eq_true rfl), (Nat.le_of_ble_eq_true rfl)⟩ dX2_clean_9 rfl (Nat.le_of_ble_eq_true rfl) (recv X hM.1 CL_X2) hM ⟨(Nat.le_of_ble_eq_true rfl), (Nat.le_of_ble_eq_true rfl)⟩ ?_
      have hws0 := wsm_le hS l4
      refine vn_if_ne (tgt := 19) X (by omega) dX2_clean_12 (by decide) (fun c_12 => ?_) (fun c_12 => ?_)
      · refine vv_iload_n X dX2_clean_19 rfl 1 rfl ?_
        refine vv_iconst (v := nI 1) X dX2_clean_20 (by decide) ?_
        refine vv_bipush (v := nI 100) X dX2_clean_21 (by decide) ?_
        refine vv_callSp X (mX2_in (kL K) D q (nI 1) (nI 100)) q3031 q3032 q144 q3033 nX2_in ⟨(Nat.le_of_ble_eq_true rfl), (Nat.le_of_ble_eq_true rfl)⟩ dX2_clean_23 rfl (Nat.le_of_ble_eq_true rfl) trivial ⟨(Nat.le_of_ble_eq_true rfl), (Nat.le_of_ble_eq_true rfl)⟩ ?_
        refine vb_eq (tgt := 33) X dX2_clean_26 (by decide) (fun c_26 => ?_) (fun c_26 => ?_)
        · refine vv_iconst (v := nI 2) X dX2_clean_33 (by decide) ?_
          refine mp0 X rfl hM hg (Or.inl (MA.in (by decide))) dX2_clean_34 (fun H hM => ?_)
          refine vv_aload_n X dX2_clean_37 rfl 0 rfl ?_
          refine mg0 X rfl hM dX2_clean_38 ?_
          refine vn_if_le (tgt := 46) X (by omega) dX2_clean_41 (by decide) (fun c_41 => ?_) (fun c_41 => ?_)
          · exact absurd c_41 (by decide)
          · refine vv_iconst (v := nI 0) X dX2_clean_44 (by decide) ?_
            exact vv_iret X hQ dX2_clean_45 (Nat.le_refl _) (Nat.le_refl _) (MS.no hM (ag_u (by decide) (ag_r)) (ag_r) 2 (by decide) _ (nI 0) ((if_pos ⟨rfl, by omega⟩).trans (if_neg c_26)) rfl rfl)
        · refine vv_iconst (v := nI 0) X dX2_clean_29 (by decide) ?_
          refine vv_goto (tgt := 34) X dX2_clean_30 (by decide) ?_
          obtain ⟨p, hp, hp2, rfl⟩ := inR2 (by omega) (by omega) c_26
          have ep : cl (nI p) = p := cl_I (by omega)
          refine mp0 X rfl hM hg (Or.inl (MA.in (by decide))) dX2_clean_34 (fun H hM => ?_)
          refine vv_aload_n X dX2_clean_37 rfl 0 rfl ?_
          refine mg0 X rfl hM dX2_clean_38 ?_
          refine vn_if_le (tgt := 46) X (by omega) dX2_clean_41 (by decide) (fun c_41 => ?_) (fun c_41 => ?_)
          · refine vv_aload_n X dX2_clean_46 rfl 0 rfl ?_
            refine vv_callV X (mX2_remember (kL K) D g (va_up x 0 (nI 0)) I J (I 12) rfl hg u hu hu6) q3589 q3591 qs133 q144 q3592 nX2_remember ⟨(Nat.le_of_ble_eq_true rfl), (Nat.le_of_ble_eq_true rfl)⟩ dX2_clean_47 rfl (Nat.le_of_ble_eq_true rfl) (recv X hM.1 CL_X2) hM  (fun _ z => Or.inl z) ⟨(Nat.le_of_ble_eq_true rfl), (Nat.le_of_ble_eq_true rfl)⟩ (fun v_ H hq hz hk => ?_)
            obtain ⟨rfl, hM⟩ := hq
            clear hz hk
            refine vv_aload_n X dX2_clean_50 rfl 0 rfl ?_
            refine vv_aload_n X dX2_clean_51 rfl 0 rfl ?_
            refine mg12 X rfl hM dX2_clean_52 ?_
            refine vv_callV X (mX2_bestIn12 (kL K) D g (va_up (va_up x 0 (nI 0)) 19 (nI (rmU u + 1))) (va_up I 15 (rmH u (I 15) (I 12))) J (I 10) rfl (I 12) rfl hg hC hS hT) q3372 q3374 qs111 q144 q3375 nX2_bestIn ⟨(Nat.le_of_ble_eq_true rfl), (Nat.le_of_ble_eq_true rfl)⟩ dX2_clean_55 rfl (Nat.le_of_ble_eq_true rfl) (recv X hM.1 CL_X2) hM  (fun _ z => Or.inl z) ⟨(Nat.le_of_ble_eq_true rfl), (Nat.le_of_ble_eq_true rfl)⟩ (fun v_ H hq hz hk => ?_)
            obtain ⟨rfl, d_1, p_2, hM, hp_3⟩ := hq
            clear hz hk
            obtain ⟨b, hb⟩ : ∃ b, bC (I 10) (I 12) = b := ⟨_, rfl⟩
            have hbn : b < nC (I 10) := by rw [← hb]; exact bsN_lt (hn0 rfl)
            refine vv_eqi (congrArg nI hb) ?_
            refine vv_istore_n (lv' := [(2, .int (nI b)), (0, .ref (g 0)), (1, .int (nI p))]) X dX2_clean_58 rfl (by decide) rfl ?_
            refine vv_aload_n X dX2_clean_59 rfl 1 rfl ?_
            refine vv_iload_n X dX2_clean_60 rfl 0 rfl ?_
            refine vv_callV X (mX2_laysCell (kL K) D g (va_up (va_up x 0 (nI 0)) 19 (nI (rmU u + 1))) (va_up (va_up I 15 (rmH u (I 15) (I 12))) 24 d_1) (va_up J 25 p_2) (I 10) rfl hg b hP hT (by omega)) q3324 q3326 qs104 q144 q3327 nX2_laysCell ⟨(Nat.le_of_ble_eq_true rfl), (Nat.le_of_ble_eq_true rfl)⟩ dX2_clean_61 rfl (Nat.le_of_ble_eq_true rfl) (recv X hM.1 CL_X2) hM  (fun _ z => Or.inl z) ⟨(Nat.le_of_ble_eq_true rfl), (Nat.le_of_ble_eq_true rfl)⟩ (fun v_ H hq hz hk => ?_)
            obtain ⟨rfl, d_4, hM, hd_5⟩ := hq
            clear hz hk
            rw [up_up] at hM
            refine vv_aload_n X dX2_clean_64 rfl 1 rfl ?_
            refine vv_aload_n X dX2_clean_65 rfl 1 rfl ?_
            refine mg12 X rfl hM dX2_clean_66 ?_
            refine vv_callVp X (mX2_windowOf (kL K) D g (va_up (va_up x 0 (nI 0)) 19 (nI (rmU u + 1))) (va_up (va_up I 15 (rmH u (I 15) (I 12))) 24 d_4) (va_up J 25 p_2) 12 (I 10) rfl (I 12) rfl (dc (I 10) b) (fun h => h.a12) hP hd_5) q3328 q3330 qs105 q144 q3331 nX2_windowOf ⟨(Nat.le_of_ble_eq_true rfl), (Nat.le_of_ble_eq_true rfl)⟩ dX2_clean_69 rfl (Nat.le_of_ble_eq_true rfl) (recv X hM.1 CL_X2) hM ⟨(Nat.le_of_ble_eq_true rfl), (Nat.le_of_ble_eq_true rfl)⟩ ?_
            obtain ⟨w, hw⟩ : ∃ w, win (I 10) (I 12) (dc (I 10) b) = w := ⟨_, rfl⟩
            have hwl : w ≤ 200 := by rw [← hw]; exact Nat.le_trans (Nat.sub_le _ _) l2
            refine vv_eqi (congrArg nI hw) ?_
            refine vv_istore_n (lv' := [(3, .int (nI w)), (2, .int (nI b)), (0, .ref (g 0)), (1, .int (nI p))]) X dX2_clean_72 rfl (by decide) rfl ?_
            refine vv_iconst (v := nI 0) X dX2_clean_73 (by decide) ?_
            refine vv_istore (lv' := [(4, .int (nI 0)), (3, .int (nI w)), (2, .int (nI b)), (0, .ref (g 0)), (1, .int (nI p))]) X dX2_clean_74 (by decide) rfl ?_
            have hx_6 : ∀ (H : Heap) (hM : MR D g (va_up (va_up x 0 (nI 0)) 19 (nI (rmU u + 1))) (va_up (va_up (va_up I 15 (rmH u (I 15) (I 12))) 24 d_4) 29 (rz (I 29) (bm (I 10) (I 12) (dc (I 10) b)) w)) (va_up J 25 p_2) H), V K 6 (MA g) H 0 0 Qf 105 [(0, .ref (g 0)), (1, .int (nI p)), (2, .int (nI b)), (3, .int (nI w)), (4, .int (nI w))] [] := by
              intro H hM
              refine vv_iconst (v := nI 0) X dX2_clean_105 (by decide) ?_
              refine vv_istore (lv' := [(4, .int (nI 0)), (0, .ref (g 0)), (1, .int (nI p)), (2, .int (nI b)), (3, .int (nI w))]) X dX2_clean_106 (by decide) rfl ?_
              have hx_7 : ∀ (H : Heap) (hM : MR D g (va_up (va_up x 0 (nI 0)) 19 (nI (rmU u + 1))) (va_up (va_up (va_up (va_up I 15 (rmH u (I 15) (I 12))) 24 d_4) 29 (rz (I 29) (bm (I 10) (I 12) (dc (I 10) b)) w)) 12 (clp (I 10) (I 12) b p (nM (I 10)) 0)) (va_up J 25 p_2) H), V K 6 (MA g) H 0 0 Qf 202 [(0, .ref (g 0)), (1, .int (nI p)), (2, .int (nI b)), (3, .int (nI w)), (4, .int (nI (nM (I 10))))] [] := by
                intro H hM
                refine vv_aload_n X dX2_clean_202 rfl 0 rfl ?_
                refine mg12 X rfl hM dX2_clean_203 ?_
                refine vv_iconst (v := nI 0) X dX2_clean_206 (by decide) ?_
                refine vv_dup2_11 X dX2_clean_207 rfl rfl ?_
                refine vv_iald X hM.a12 (0) (by omega) (by decide) rfl dX2_clean_208 ?_
                refine vv_eqi (clp_z (P := I 10) (S := I 12) (b := b) (p := p) (m := nM (I 10)) (n := 0)) ?_
                refine vv_iconst (v := nI 1) X dX2_clean_209 (by decide) ?_
                refine vv_iadd X dX2_clean_210 ?_
                refine ms12 X hM hg (0) (by omega) rfl (Or.inl (MA.in (by decide))) dX2_clean_211 (fun H hM => ?_)
                rw [up_up] at hM
                refine vv_iload_n X dX2_clean_212 rfl 2 rfl ?_
                exact vv_iret X hQ dX2_clean_213 (Nat.le_refl _) (Nat.le_refl _) (MS.of hM (ag_c (ag_u (by decide) (ag_r))) (by simp only [ep, hb]; exact ag_c (ag_u (by decide) (ag_u (by decide) (ag_c (ag_r))))) _ (nI b) ((if_pos ⟨rfl, by omega⟩).trans (if_pos c_26)) rfl (by rw [hb]) rfl)
              have hl_8 : ∀ (n_m m : Nat) (H : Heap), m + n_m = nM (I 10) → (MR D g (va_up (va_up x 0 (nI 0)) 19 (nI (rmU u + 1))) (va_up (va_up (va_up (va_up I 15 (rmH u (I 15) (I 12))) 24 d_4) 29 (rz (I 29) (bm (I 10) (I 12) (dc (I 10) b)) w)) 12 (clp (I 10) (I 12) b p m 0)) (va_up J 25 p_2) H) → V K 6 (MA g) H 0 0 Qf 108 [(0, .ref (g 0)), (1, .int (nI p)), (2, .int (nI b)), (3, .int (nI w)), (4, .int (nI m))] [] := by
                intro n_m
                induction n_m with
                | zero =>
                  intro m H hm hM
                  obtain rfl : m = nM (I 10) := by omega
                  refine vv_iload X dX2_clean_108 4 rfl ?_
                  refine vv_aload_n X dX2_clean_110 rfl 0 rfl ?_
                  refine mg10 X rfl hM dX2_clean_111 ?_
                  refine vv_iconst (v := nI 4) X dX2_clean_114 (by decide) ?_
                  refine vv_iald X hM.a10 (4) (by omega) (by decide) rfl dX2_clean_115 ?_
                  refine vv_eqi hP.e4 ?_
                  refine vn_ge (tgt := 202) X (by omega) (by omega) dX2_clean_116 (by decide) (fun c_116 => ?_) (fun c_116 => ?_)
                  · exact hx_7 H hM
                  · exact absurd c_116 (by omega)
                | succ n_m ihm =>
                  intro m H hm hM
                  refine vv_iload X dX2_clean_108 4 rfl ?_
                  refine vv_aload_n X dX2_clean_110 rfl 0 rfl ?_
                  refine mg10 X rfl hM dX2_clean_111 ?_
                  refine vv_iconst (v := nI 4) X dX2_clean_114 (by decide) ?_
                  refine vv_iald X hM.a10 (4) (by omega) (by decide) rfl dX2_clean_115 ?_
                  refine vv_eqi hP.e4 ?_
                  refine vn_ge (tgt := 202) X (by omega) (by omega) dX2_clean_116 (by decide) (fun c_116 => ?_) (fun c_116 => ?_)
                  · exact absurd hm (by omega)
                  · refine vv_iconst (v := nI 0) X dX2_clean_119 (by decide) ?_
                    refine vv_istore (lv' := [(5, .int (nI 0)), (0, .ref (g 0)), (1, .int (nI p)), (2, .int (nI b)), (3, .int (nI w)), (4, .int (nI m))]) X dX2_clean_120 (by decide) rfl ?_
                    by_cases ha : I 12 (1 + m) = 0
                    · have hdm : dc (I 10) b m ≤ mxd (I 12) (dc (I 10) b) (nM (I 10)) := mxd_ge c_116 ha
                      have hwm : w + mxd (I 12) (dc (I 10) b) (nM (I 10)) ≤ nT (I 10) ∨ w = 0 := by rw [← hw]; unfold win; omega
                      have hx_9 : ∀ (H : Heap) (hM : MR D g (va_up (va_up x 0 (nI 0)) 19 (nI (rmU u + 1))) (va_up (va_up (va_up (va_up I 15 (rmH u (I 15) (I 12))) 24 d_4) 29 (rz (I 29) (bm (I 10) (I 12) (dc (I 10) b)) w)) 12 (clp (I 10) (I 12) b p m w)) (va_up J 25 p_2) H), V K 6 (MA g) H 0 0 Qf 196 [(0, .ref (g 0)), (1, .int (nI p)), (2, .int (nI b)), (3, .int (nI w)), (4, .int (nI m)), (5, .int (nI w))] [] := by
                        intro H hM
                        refine vv_iinc (v := nI (m + 1)) (lv' := [(4, .int (nI (m + 1))), (0, .ref (g 0)), (1, .int (nI p)), (2, .int (nI b)), (3, .int (nI w)), (5, .int (nI w))]) X dX2_clean_196 (k := 4) rfl (nI_add _ 1) (by decide) rfl ?_
                        refine vv_goto (tgt := 108) X dX2_clean_199 (by decide) ?_
                        refine vv_sub [1, 2, 3, 4, 0] rfl ?_
                        exact ihm (m + 1) H (by omega) (by rw [← clp_n (n := w) (Or.inr (by omega))]; exact hM)
                      have hl_10 : ∀ (n_t t : Nat) (H : Heap), t + n_t = w → (MR D g (va_up (va_up x 0 (nI 0)) 19 (nI (rmU u + 1))) (va_up (va_up (va_up (va_up I 15 (rmH u (I 15) (I 12))) 24 d_4) 29 (rz (I 29) (bm (I 10) (I 12) (dc (I 10) b)) w)) 12 (clp (I 10) (I 12) b p m t)) (va_up J 25 p_2) H) → V K 6 (MA g) H 0 0 Qf 122 [(0, .ref (g 0)), (1, .int (nI p)), (2, .int (nI b)), (3, .int (nI w)), (4, .int (nI m)), (5, .int (nI t))] [] := by
                        intro n_t
                        induction n_t with
                        | zero =>
                          intro t H ht hM
                          obtain rfl : t = w := by omega
                          refine vv_iload X dX2_clean_122 5 rfl ?_
                          refine vv_iload_n X dX2_clean_124 rfl 3 rfl ?_
                          refine vn_ge (tgt := 196) X (by omega) (by omega) dX2_clean_125 (by decide) (fun c_125 => ?_) (fun c_125 => ?_)
                          · exact hx_9 H hM
                          · exact absurd c_125 (by omega)
                        | succ n_t iht =>
                          intro t H ht hM
                          refine vv_iload X dX2_clean_122 5 rfl ?_
                          refine vv_iload_n X dX2_clean_124 rfl 3 rfl ?_
                          refine vn_ge (tgt := 196) X (by omega) (by omega) dX2_clean_125 (by decide) (fun c_125 => ?_) (fun c_125 => ?_)
                          · exact absurd ht (by omega)
                          · refine vv_aload_n X dX2_clean_128 rfl 0 rfl ?_
                            refine vv_aload_n X dX2_clean_129 rfl 0 rfl ?_
                            refine mg12 X rfl hM dX2_clean_130 ?_
                            refine vv_iload X dX2_clean_133 4 rfl ?_
                            refine vv_callVp X (mX2_hears (kL K) D g (va_up (va_up x 0 (nI 0)) 19 (nI (rmU u + 1))) (va_up (va_up (va_up (va_up I 15 (rmH u (I 15) (I 12))) 24 d_4) 29 (rz (I 29) (bm (I 10) (I 12) (dc (I 10) b)) w)) 12 (clp (I 10) (I 12) b p m t)) (va_up J 25 p_2) 12 (clp (I 10) (I 12) b p m t) rfl m (fun h => h.a12) (by omega)) q3252 q3254 qs99 q144 q3255 nX2_hears ⟨(Nat.le_of_ble_eq_true rfl), (Nat.le_of_ble_eq_true rfl)⟩ dX2_clean_135 rfl (Nat.le_of_ble_eq_true rfl) (recv X hM.1 CL_X2) hM ⟨(Nat.le_of_ble_eq_true rfl), (Nat.le_of_ble_eq_true rfl)⟩ ?_
                            refine vv_eqi (b2_c (show _ ↔ I 12 (1 + m) = 0 by rw [clp_low (1 + m) (by omega) (by omega)])) ?_
                            refine vb_eq (tgt := 196) X dX2_clean_138 (by decide) (fun c_138 => ?_) (fun c_138 => ?_)
                            · exact absurd ha c_138
                            · refine vv_aload_n X dX2_clean_141 rfl 0 rfl ?_
                              refine mg12 X rfl hM dX2_clean_142 ?_
                              refine vv_bipush (v := nI 55) X dX2_clean_145 (by decide) ?_
                              refine vv_sipush (v := nI 200) X dX2_clean_147 (by decide) ?_
                              refine vv_iload X dX2_clean_150 4 rfl ?_
                              refine vn_mul X dX2_clean_152 ?_
                              refine vn_add X dX2_clean_153 ?_
                              refine vv_iload X dX2_clean_154 5 rfl ?_
                              refine vn_add X dX2_clean_156 ?_
                              refine vv_aload_n X dX2_clean_157 rfl 0 rfl ?_
                              refine mg24 X rfl hM dX2_clean_158 ?_
                              refine vv_iload X dX2_clean_161 4 rfl ?_
                              refine vv_iald X hM.a24 (m) (by omega) (by decide) rfl dX2_clean_163 ?_
                              refine vv_eqi ((hd_5 m (by omega)).1) ?_
                              refine vn_add X dX2_clean_164 ?_
                              refine vv_dup2_11 X dX2_clean_165 rfl rfl ?_
                              refine vv_iald X hM.a12 (((55 + (200 * m)) + t) + (dc (I 10) b m)) (by omega) (by decide) rfl dX2_clean_166 ?_
                              refine vv_eqi (show _ = I 12 (55 + 200 * m + t + dc (I 10) b m) from (congrFun (va_up_self _ _ _) _).trans (clp_at (by omega))) ?_
                              refine vv_aload_n X dX2_clean_167 rfl 0 rfl ?_
                              refine mg29 X rfl hM dX2_clean_168 ?_
                              refine vv_iload X dX2_clean_171 5 rfl ?_
                              refine vv_iald X hM.a29 (t) (by omega) (by decide) rfl dX2_clean_173 ?_
                              refine vv_eqi (show _ = (bm (I 10) (I 12) (dc (I 10) b)) t from (congrFun ((va_up_ne _ _ (by decide)).trans (va_up_self _ _ _)) _).trans (rz_in (by omega))) ?_
                              refine vv_i2l (v := ((bm (I 10) (I 12) (dc (I 10) b)) t).toInt64) X dX2_clean_174 rfl ?_
                              refine vv_iload_n X dX2_clean_175 rfl 1 rfl ?_
                              refine vv_i2l (v := lN p) X dX2_clean_176 (nI_l (by omega)) ?_
                              refine vv_lmul X dX2_clean_177 ?_
                              refine vv_bipush (v := nI 100) X dX2_clean_178 (by decide) ?_
                              refine vv_aload_n X dX2_clean_180 rfl 0 rfl ?_
                              refine vv_callVp X (mX2_weightOf (kL K) D g (va_up (va_up x 0 (nI 0)) 19 (nI (rmU u + 1))) (va_up (va_up (va_up (va_up I 15 (rmH u (I 15) (I 12))) 24 d_4) 29 (rz (I 29) (bm (I 10) (I 12) (dc (I 10) b)) w)) 12 (clp (I 10) (I 12) b p m t)) (va_up J 25 p_2) (I 10) rfl (clp (I 10) (I 12) b p m t) rfl hP (clp_low.vs hS)) q3617 q3619 qs135 q144 q3620 nX2_weightOf ⟨(Nat.le_of_ble_eq_true rfl), (Nat.le_of_ble_eq_true rfl)⟩ dX2_clean_181 rfl (Nat.le_of_ble_eq_true rfl) (recv X hM.1 CL_X2) hM ⟨(Nat.le_of_ble_eq_true rfl), (Nat.le_of_ble_eq_true rfl)⟩ ?_
                              have hws := wsm_le hS l4
                              refine vv_eqi (congrArg nI (wsm_c clp_low l4)) ?_
                              refine vn_mul X dX2_clean_184 ?_
                              refine vv_i2l (v := lN (100 * (wsm (I 12) (nM (I 10))))) X dX2_clean_185 (nI_l (by omega)) ?_
                              refine vv_ldiv X dX2_clean_186 (lN_ne0 (by omega) (by omega)) ?_
                              refine vv_l2i X dX2_clean_187 rfl ?_
                              refine vv_eqi (show _ = cq (I 10) (I 12) b p t from rfl) ?_
                              refine vv_isub X dX2_clean_188 ?_
                              refine ms12 X hM hg (((55 + (200 * m)) + t) + (dc (I 10) b m)) (by omega) rfl (Or.inl (MA.in (by decide))) dX2_clean_189 (fun H hM => ?_)
                              rw [up_up] at hM
                              refine vv_iinc (v := nI (t + 1)) (lv' := [(5, .int (nI (t + 1))), (0, .ref (g 0)), (1, .int (nI p)), (2, .int (nI b)), (3, .int (nI w)), (4, .int (nI m))]) X dX2_clean_190 (k := 5) rfl (nI_add _ 1) (by decide) rfl ?_
                              refine vv_goto (tgt := 122) X dX2_clean_193 (by decide) ?_
                              refine vv_sub [1, 2, 3, 4, 5, 0] rfl ?_
                              exact iht (t + 1) H (by omega) (by rw [← clp_s (t := t) c_116 ha (by omega) (by omega) (v := I 12 (55 + 200 * m + t + dc (I 10) b m) - cq (I 10) (I 12) b p t) rfl]; exact hM)
                      refine vv_sub [1, 2, 3, 4, 5, 0] rfl ?_
                      exact hl_10 (w) 0 H (by omega) (hM)
                    · refine vv_iload X dX2_clean_122 0 rfl ?_
                      refine vv_iload_n X dX2_clean_124 rfl 4 rfl ?_
                      refine vn_ge (tgt := 196) X (by omega) (by omega) dX2_clean_125 (by decide) (fun c_125 => ?_) (fun c_125 => ?_)
                      · refine vv_iinc (v := nI (m + 1)) (lv' := [(4, .int (nI (m + 1))), (5, .int (nI 0)), (0, .ref (g 0)), (1, .int (nI p)), (2, .int (nI b)), (3, .int (nI w))]) X dX2_clean_196 (k := 5) rfl (nI_add _ 1) (by decide) rfl ?_
                        refine vv_goto (tgt := 108) X dX2_clean_199 (by decide) ?_
                        refine vv_sub [2, 3, 4, 5, 0] rfl ?_
                        exact ihm (m + 1) H (by omega) (by rw [← clp_n (n := 0) (Or.inl ha)]; exact hM)
                      · refine vv_aload_n X dX2_clean_128 rfl 1 rfl ?_
                        refine vv_aload_n X dX2_clean_129 rfl 1 rfl ?_
                        refine mg12 X rfl hM dX2_clean_130 ?_
                        refine vv_iload X dX2_clean_133 5 rfl ?_
                        refine vv_callVp X (mX2_hears (kL K) D g (va_up (va_up x 0 (nI 0)) 19 (nI (rmU u + 1))) (va_up (va_up (va_up (va_up I 15 (rmH u (I 15) (I 12))) 24 d_4) 29 (rz (I 29) (bm (I 10) (I 12) (dc (I 10) b)) w)) 12 (clp (I 10) (I 12) b p m 0)) (va_up J 25 p_2) 12 (clp (I 10) (I 12) b p m 0) rfl m (fun h => h.a12) (by omega)) q3252 q3254 qs99 q144 q3255 nX2_hears ⟨(Nat.le_of_ble_eq_true rfl), (Nat.le_of_ble_eq_true rfl)⟩ dX2_clean_135 rfl (Nat.le_of_ble_eq_true rfl) (recv X hM.1 CL_X2) hM ⟨(Nat.le_of_ble_eq_true rfl), (Nat.le_of_ble_eq_true rfl)⟩ ?_
                        refine vv_eqi (b2_c (show _ ↔ I 12 (1 + m) = 0 by rw [clp_low (1 + m) (by omega) (by omega)])) ?_
                        refine vb_eq (tgt := 196) X dX2_clean_138 (by decide) (fun c_138 => ?_) (fun c_138 => ?_)
                        · refine vv_iinc (v := nI (m + 1)) (lv' := [(4, .int (nI (m + 1))), (5, .int (nI 0)), (0, .ref (g 0)), (1, .int (nI p)), (2, .int (nI b)), (3, .int (nI w))]) X dX2_clean_196 (k := 5) rfl (nI_add _ 1) (by decide) rfl ?_
                          refine vv_goto (tgt := 108) X dX2_clean_199 (by decide) ?_
                          refine vv_sub [2, 3, 4, 5, 0] rfl ?_
                          exact ihm (m + 1) H (by omega) (by rw [← clp_n (n := 0) (Or.inl ha)]; exact hM)
                        · exact absurd c_138 ha
              refine vv_sub [1, 2, 3, 4, 0] rfl ?_
              exact hl_8 (nM (I 10)) 0 H (by omega) (by rw [clp_0, show va_up (va_up (va_up (va_up I 15 (rmH u (I 15) (I 12))) 24 d_4) 29 (rz (I 29) (bm (I 10) (I 12) (dc (I 10) b)) w)) 12 (I 12) = va_up (va_up (va_up I 15 (rmH u (I 15) (I 12))) 24 d_4) 29 (rz (I 29) (bm (I 10) (I 12) (dc (I 10) b)) w) from up_same (va_up (va_up (va_up I 15 (rmH u (I 15) (I 12))) 24 d_4) 29 (rz (I 29) (bm (I 10) (I 12) (dc (I 10) b)) w)) 12]; exact hM)
            have hl_11 : ∀ (n_i i : Nat) (H : Heap), i + n_i = w → (MR D g (va_up (va_up x 0 (nI 0)) 19 (nI (rmU u + 1))) (va_up (va_up (va_up I 15 (rmH u (I 15) (I 12))) 24 d_4) 29 (rz (I 29) (bm (I 10) (I 12) (dc (I 10) b)) i)) (va_up J 25 p_2) H) → V K 6 (MA g) H 0 0 Qf 76 [(0, .ref (g 0)), (1, .int (nI p)), (2, .int (nI b)), (3, .int (nI w)), (4, .int (nI i))] [] := by
              intro n_i
              induction n_i with
              | zero =>
                intro i H hi hM
                obtain rfl : i = w := by omega
                refine vv_iload X dX2_clean_76 4 rfl ?_
                refine vv_iload_n X dX2_clean_78 rfl 3 rfl ?_
                refine vn_ge (tgt := 105) X (by omega) (by omega) dX2_clean_79 (by decide) (fun c_79 => ?_) (fun c_79 => ?_)
                · exact hx_6 H hM
                · exact absurd c_79 (by omega)
              | succ n_i ihi =>
                intro i H hi hM
                refine vv_iload X dX2_clean_76 4 rfl ?_
                refine vv_iload_n X dX2_clean_78 rfl 3 rfl ?_
                refine vn_ge (tgt := 105) X (by omega) (by omega) dX2_clean_79 (by decide) (fun c_79 => ?_) (fun c_79 => ?_)
                · exact absurd hi (by omega)
                · refine vv_aload_n X dX2_clean_82 rfl 0 rfl ?_
                  refine mg29 X rfl hM dX2_clean_83 ?_
                  refine vv_iload X dX2_clean_86 4 rfl ?_
                  refine vv_aload_n X dX2_clean_88 rfl 0 rfl ?_
                  refine vv_aload_n X dX2_clean_89 rfl 0 rfl ?_
                  refine mg12 X rfl hM dX2_clean_90 ?_
                  refine vv_iload X dX2_clean_93 4 rfl ?_
                  refine vv_callVp X (mX2_beamAt (kL K) D g (va_up (va_up x 0 (nI 0)) 19 (nI (rmU u + 1))) (va_up (va_up (va_up I 15 (rmH u (I 15) (I 12))) 24 d_4) 29 (rz (I 29) (bm (I 10) (I 12) (dc (I 10) b)) i)) (va_up J 25 p_2) 12 (I 10) rfl (I 12) rfl i (dc (I 10) b) (fun h => h.a12) hP hS hd_5 (by omega)) q3340 q3342 qs106 q144 q3343 nX2_beamAt ⟨(Nat.le_of_ble_eq_true rfl), (Nat.le_of_ble_eq_true rfl)⟩ dX2_clean_95 rfl (Nat.le_of_ble_eq_true rfl) (recv X hM.1 CL_X2) hM ⟨(Nat.le_of_ble_eq_true rfl), (Nat.le_of_ble_eq_true rfl)⟩ ?_
                  refine ms29 X hM hg (i) (by omega) rfl (Or.inl (MA.in (by decide))) dX2_clean_98 (fun H hM => ?_)
                  rw [up_up] at hM
                  refine vv_iinc (v := nI (i + 1)) (lv' := [(4, .int (nI (i + 1))), (0, .ref (g 0)), (1, .int (nI p)), (2, .int (nI b)), (3, .int (nI w))]) X dX2_clean_99 (k := 4) rfl (nI_add _ 1) (by decide) rfl ?_
                  refine vv_goto (tgt := 76) X dX2_clean_102 (by decide) ?_
                  refine vv_sub [1, 2, 3, 4, 0] rfl ?_
                  exact ihi (i + 1) H (by omega) (by rw [← rz_s (f := I 29) (g := (bm (I 10) (I 12) (dc (I 10) b))) (n := i) (v := (bm (I 10) (I 12) (dc (I 10) b)) i) rfl]; exact hM)
            refine vv_sub [3, 4, 2, 1, 0] rfl ?_
            exact hl_11 (w) 0 H (by omega) (by rw [rz_0, show va_up (va_up (va_up I 15 (rmH u (I 15) (I 12))) 24 d_4) 29 (I 29) = va_up (va_up I 15 (rmH u (I 15) (I 12))) 24 d_4 from up_same (va_up (va_up I 15 (rmH u (I 15) (I 12))) 24 d_4) 29]; exact hM)
          · exact absurd c_41 (by decide)
      · refine vv_iconst (v := nI 1) X dX2_clean_15 (by decide) ?_
        refine vv_goto (tgt := 34) X dX2_clean_16 (by decide) ?_
        refine mp0 X rfl hM hg (Or.inl (MA.in (by decide))) dX2_clean_34 (fun H hM => ?_)
        refine vv_aload_n X dX2_clean_37 rfl 0 rfl ?_
        refine mg0 X rfl hM dX2_clean_38 ?_
        refine vn_if_le (tgt := 46) X (by omega) dX2_clean_41 (by decide) (fun c_41 => ?_) (fun c_41 => ?_)
        · exact absurd c_41 (by decide)
        · refine vv_iconst (v := nI 0) X dX2_clean_44 (by decide) ?_
          exact vv_iret X hQ dX2_clean_45 (Nat.le_refl _) (Nat.le_refl _) (MS.no hM (ag_u (by decide) (ag_r)) (ag_r) 1 (by decide) _ (nI 0) (if_neg (fun z => by omega)) rfl rfl)
theorem nX2_laysScores : notMH yX2_laysScores 1 := by decide +kernel
set_option maxHeartbeats 800000 in
theorem mX2_laysScores (l : Launch) (D : DD) (g : Nat → Nat) (x : Nat → Int32) (I : Nat → Nat → Int32) (J : Nat → Nat → Int64) (P : Nat → Int32) (hIP : I 10 = P) (S : Nat → Int32) (hIS : I 12 = S) (hg : MG g) (n B : Nat) (hC : VC P) (hS : VS S) (hT : ∀ c, c < nC P → ∀ m, m < nM P → I 17 (12 * c + m) = nI (dc P c m)) (hB : nT P / n = B) (hn : 4 ≤ n ∧ n ≤ nT P) : Ct l yX2_laysScores cX2_laysScores 5 none { frames := 5, cells := 0, slots := 0, locals := 109 } D [.ref (g 0), .int (nI n)] (fun H => MR D g x I J H) (MA g) (fun v H H1 => v = none ∧ ∃ d sc, MR D g x (va_up I 24 d) (va_up J 26 sc) H1 ∧ ∀ b c, b < B → c < nC P → sc (144 * b + c) = trk P S n B (B - 1 - b) c) := by
  refine Ct.of (by decide +kernel) (Nat.le_of_ble_eq_true rfl) (fun K Qf hkl X hM hQ => ?_)
  subst hkl
  subst hIP
  subst hIS
  have hP := hC.v
  have l2 := hP.l2
  have l9 := hP.l9
  have l10 := hP.l10
  have hn4 : nC (I 10) ≤ 144 := Nat.mul_le_mul l9 l10
  have hB50 : B ≤ 50 := by rw [← hB]; exact Nat.le_trans (Nat.div_le_div_left hn.1 (by decide)) (Nat.div_le_of_le_mul (by omega))
  have hB1 : 1 ≤ B := by rw [← hB]; exact Nat.div_pos hn.2 (by omega)
  have hBn : n * B ≤ nT (I 10) := by rw [← hB]; exact Nat.mul_div_le _ _
  refine vv_sub (lv' := [(0, .ref (g 0)), (1, .int (nI n))]) [0, 1] rfl ?_
  refine vv_aload_n X dX2_laysScores_0 rfl 0 rfl ?_
  refine vv_iload_n X dX2_laysScores_1 rfl 1 rfl ?_
  refine vv_callVp X (mX2_blockCount (kL K) D g x I J (I 10) rfl n hP (by omega) (by omega)) q3481 q3483 qs123 q144 q3484 nX2_blockCount ⟨(Nat.le_of_ble_eq_true rfl), (Nat.le_of_ble_eq_true rfl)⟩ dX2_laysScores_2 rfl (Nat.le_of_ble_eq_true rfl) (recv X hM.1 CL_X2) hM ⟨(Nat.le_of_ble_eq_true rfl), (Nat.le_of_ble_eq_true rfl)⟩ ?_
  refine vv_eqi (congrArg nI hB) ?_
  refine vv_iconst (v := nI 1) X dX2_laysScores_5 (by decide) ?_
  refine vn_sub X (by omega) dX2_laysScores_6 ?_
  refine vv_istore_n (lv' := [(2, .int (nI (B - 1))), (0, .ref (g 0)), (1, .int (nI n))]) X dX2_laysScores_7 rfl (by decide) rfl ?_
  have hx_1 : ∀ (H : Heap) (d : Nat → Int32) (sc : Nat → Int64) (bv : Int32) (hM : MR D g x (va_up I 24 d) (va_up J 26 sc) H) (hsc : ∀ b c, b < B → c < nC (I 10) → B ≤ b + B → sc (144 * b + c) = trk (I 10) (I 12) n B (B - 1 - b) c) (hbv : bv = nI B - nI (B + 1)), V K 5 (MA g) H 0 0 Qf 107 [(0, .ref (g 0)), (1, .int (nI n)), (2, .int (bv))] [] := by
    intro H d sc bv hM hsc hbv
    exact vv_vret X hQ dX2_laysScores_107 (Nat.le_refl _) (Nat.le_refl _) (⟨rfl, _, _, hM, fun b c h1 h2 => hsc b c h1 h2 (by omega)⟩)
  have hl_2 : ∀ (n_i i : Nat) (H : Heap) (d : Nat → Int32) (sc : Nat → Int64) (bv : Int32), i + n_i = B → (MR D g x (va_up I 24 d) (va_up J 26 sc) H) → (∀ b c, b < B → c < nC (I 10) → B ≤ b + i → sc (144 * b + c) = trk (I 10) (I 12) n B (B - 1 - b) c) → (bv = nI B - nI (i + 1)) → V K 5 (MA g) H 0 0 Qf 8 [(0, .ref (g 0)), (1, .int (nI n)), (2, .int (bv))] [] := by
    intro n_i
    induction n_i with
    | zero =>
      intro i H d sc bv hi hM hsc hbv
      obtain rfl : i = B := by omega
      refine vv_iload_n X dX2_laysScores_8 rfl 2 rfl ?_
      refine vv_if_lt (tgt := 107) X dX2_laysScores_9 (by decide) (fun c_9 => ?_) (fun c_9 => ?_)
      · exact hx_1 H d sc bv hM hsc hbv
      · exact absurd (by rw [hbv]; exact bv_neg (by omega)) c_9
    | succ n_i ihi =>
      intro i H d sc bv hi hM hsc hbv
      obtain rfl : bv = nI (B - (i + 1)) := hbv.trans (pk_sub (by omega))
      have hnb : n * (B - (i + 1)) ≤ 200 := Nat.le_trans (Nat.mul_le_mul_left n (Nat.sub_le B (i + 1))) (by omega)
      refine vv_iload_n X dX2_laysScores_8 rfl 2 rfl ?_
      refine vn_if_lt (tgt := 107) X (by omega) dX2_laysScores_9 (by decide) ?_
      refine vv_iload_n X dX2_laysScores_12 rfl 2 rfl ?_
      refine vv_aload_n X dX2_laysScores_13 rfl 0 rfl ?_
      refine vv_iload_n X dX2_laysScores_14 rfl 1 rfl ?_
      refine vv_callVp X (mX2_blockCount (kL K) D g x (va_up I 24 d) (va_up J 26 sc) (I 10) rfl n hP (by omega) (by omega)) q3481 q3483 qs123 q144 q3484 nX2_blockCount ⟨(Nat.le_of_ble_eq_true rfl), (Nat.le_of_ble_eq_true rfl)⟩ dX2_laysScores_15 rfl (Nat.le_of_ble_eq_true rfl) (recv X hM.1 CL_X2) hM ⟨(Nat.le_of_ble_eq_true rfl), (Nat.le_of_ble_eq_true rfl)⟩ ?_
      refine vv_eqi (congrArg nI hB) ?_
      refine vv_iconst (v := nI 1) X dX2_laysScores_18 (by decide) ?_
      refine vn_sub X (by omega) dX2_laysScores_19 ?_
      refine vn_ne (tgt := 27) X (by omega) (by omega) dX2_laysScores_20 (by decide) (fun c_20 => ?_) (fun c_20 => ?_)
      · refine vv_iconst (v := nI 0) X dX2_laysScores_27 (by decide) ?_
        refine vv_istore_n (lv' := [(3, .int (nI 0)), (0, .ref (g 0)), (1, .int (nI n)), (2, .int (nI (B - (i + 1))))]) X dX2_laysScores_28 rfl (by decide) rfl ?_
        refine vv_iconst (v := nI 0) X dX2_laysScores_29 (by decide) ?_
        refine vv_istore (lv' := [(4, .int (nI 0)), (3, .int (nI 0)), (0, .ref (g 0)), (1, .int (nI n)), (2, .int (nI (B - (i + 1))))]) X dX2_laysScores_30 (by decide) rfl ?_
        have hx_3 : ∀ (H : Heap) (d : Nat → Int32) (sc : Nat → Int64) (hM : MR D g x (va_up I 24 d) (va_up J 26 sc) H) (hsc : ∀ b c, b < B → c < nC (I 10) → B ≤ b + i → sc (144 * b + c) = trk (I 10) (I 12) n B (B - 1 - b) c) (hrow : ∀ c', c' < nC (I 10) → sc (144 * (B - (i + 1)) + c') = trk (I 10) (I 12) n B i c'), V K 5 (MA g) H 0 0 Qf 101 [(0, .ref (g 0)), (1, .int (nI n)), (2, .int (nI (B - (i + 1)))), (3, .int (nI 0)), (4, .int (nI (nC (I 10))))] [] := by
          intro H d sc hM hsc hrow
          refine vv_iinc (v := nI (B - (i + 1)) + (-1)) (lv' := [(2, .int (nI (B - (i + 1)) + (-1))), (0, .ref (g 0)), (1, .int (nI n)), (3, .int (nI 0)), (4, .int (nI (nC (I 10))))]) X dX2_laysScores_101 (k := 2) rfl rfl (by decide) rfl ?_
          refine vv_goto (tgt := 8) X dX2_laysScores_104 (by decide) ?_
          refine vv_sub [1, 2, 0] rfl ?_
          exact ihi (i + 1) H d sc (nI (B - (i + 1)) + (-1)) (by omega) (hM) (fun b c h1 h2 h3 => by
              by_cases e : b = B - (i + 1)
              · subst e; rw [show B - 1 - (B - (i + 1)) = i by omega]; exact hrow c h2
              · exact hsc b c h1 h2 (by omega)) (bv_s (by omega))
        have hl_4 : ∀ (n_c c : Nat) (H : Heap) (d : Nat → Int32) (sc : Nat → Int64), c + n_c = nC (I 10) → (MR D g x (va_up I 24 d) (va_up J 26 sc) H) → (∀ b c, b < B → c < nC (I 10) → B ≤ b + i → sc (144 * b + c) = trk (I 10) (I 12) n B (B - 1 - b) c) → (∀ c', c' < c → sc (144 * (B - (i + 1)) + c') = trk (I 10) (I 12) n B i c') → V K 5 (MA g) H 0 0 Qf 32 [(0, .ref (g 0)), (1, .int (nI n)), (2, .int (nI (B - (i + 1)))), (3, .int (nI 0)), (4, .int (nI c))] [] := by
          intro n_c
          induction n_c with
          | zero =>
            intro c H d sc hc hM hsc hrow
            obtain rfl : c = nC (I 10) := by omega
            refine vv_iload X dX2_laysScores_32 4 rfl ?_
            refine vv_aload_n X dX2_laysScores_34 rfl 0 rfl ?_
            refine vv_callVp X (mX2_cellCount (kL K) D g x (va_up I 24 d) (va_up J 26 sc) (I 10) rfl hP) q3172 q3174 qs84 q144 q3175 nX2_cellCount ⟨(Nat.le_of_ble_eq_true rfl), (Nat.le_of_ble_eq_true rfl)⟩ dX2_laysScores_35 rfl (Nat.le_of_ble_eq_true rfl) (recv X hM.1 CL_X2) hM ⟨(Nat.le_of_ble_eq_true rfl), (Nat.le_of_ble_eq_true rfl)⟩ ?_
            refine vn_ge (tgt := 101) X (by omega) (by omega) dX2_laysScores_38 (by decide) (fun c_38 => ?_) (fun c_38 => ?_)
            · exact hx_3 H d sc hM hsc hrow
            · exact absurd c_38 (by omega)
          | succ n_c ihc =>
            intro c H d sc hc hM hsc hrow
            refine vv_iload X dX2_laysScores_32 4 rfl ?_
            refine vv_aload_n X dX2_laysScores_34 rfl 0 rfl ?_
            refine vv_callVp X (mX2_cellCount (kL K) D g x (va_up I 24 d) (va_up J 26 sc) (I 10) rfl hP) q3172 q3174 qs84 q144 q3175 nX2_cellCount ⟨(Nat.le_of_ble_eq_true rfl), (Nat.le_of_ble_eq_true rfl)⟩ dX2_laysScores_35 rfl (Nat.le_of_ble_eq_true rfl) (recv X hM.1 CL_X2) hM ⟨(Nat.le_of_ble_eq_true rfl), (Nat.le_of_ble_eq_true rfl)⟩ ?_
            refine vn_ge (tgt := 101) X (by omega) (by omega) dX2_laysScores_38 (by decide) (fun c_38 => ?_) (fun c_38 => ?_)
            · exact absurd hc (by omega)
            · refine vv_aload_n X dX2_laysScores_41 rfl 0 rfl ?_
              refine mg26 X rfl hM dX2_laysScores_42 ?_
              refine vv_sipush (v := nI 144) X dX2_laysScores_45 (by decide) ?_
              refine vv_iload_n X dX2_laysScores_48 rfl 2 rfl ?_
              refine vn_mul X dX2_laysScores_49 ?_
              refine vv_iload X dX2_laysScores_50 4 rfl ?_
              refine vn_add X dX2_laysScores_52 ?_
              refine vv_aload_n X dX2_laysScores_53 rfl 0 rfl ?_
              refine vv_iload X dX2_laysScores_54 4 rfl ?_
              refine vv_iload_n X dX2_laysScores_56 rfl 1 rfl ?_
              refine vv_iload_n X dX2_laysScores_57 rfl 2 rfl ?_
              refine vn_mul X dX2_laysScores_58 ?_
              refine vv_iload_n X dX2_laysScores_59 rfl 1 rfl ?_
              refine vv_callV X (mX2_blockOf (kL K) D g x (va_up I 24 d) (va_up J 26 sc) (I 10) rfl (I 12) rfl hg c (n * (B - (i + 1))) n hP hS hT (by omega) (by omega) (by omega)) q3453 q3455 qs119 q144 q3456 nX2_blockOf ⟨(Nat.le_of_ble_eq_true rfl), (Nat.le_of_ble_eq_true rfl)⟩ dX2_laysScores_60 rfl (Nat.le_of_ble_eq_true rfl) (recv X hM.1 CL_X2) hM  (fun _ z => Or.inl z) ⟨(Nat.le_of_ble_eq_true rfl), (Nat.le_of_ble_eq_true rfl)⟩ (fun v_ H hq hz hk => ?_)
              obtain ⟨rfl, d_5, hM⟩ := hq
              clear hz hk
              rw [up_up] at hM
              refine vv_iload_n X dX2_laysScores_63 rfl 3 rfl ?_
              refine vn_if_eq (tgt := 71) X (by omega) dX2_laysScores_64 (by decide) (fun c_64 => ?_) (fun c_64 => ?_)
              · refine vv_aload_n X dX2_laysScores_71 rfl 0 rfl ?_
                refine mg26 X rfl hM dX2_laysScores_72 ?_
                refine vv_sipush (v := nI 144) X dX2_laysScores_75 (by decide) ?_
                refine vv_iload_n X dX2_laysScores_78 rfl 2 rfl ?_
                refine vv_iconst (v := nI 1) X dX2_laysScores_79 (by decide) ?_
                refine vn_add X dX2_laysScores_80 ?_
                refine vn_mul X dX2_laysScores_81 ?_
                refine vv_aload_n X dX2_laysScores_82 rfl 0 rfl ?_
                refine vv_iload_n X dX2_laysScores_83 rfl 2 rfl ?_
                refine vv_iconst (v := nI 1) X dX2_laysScores_84 (by decide) ?_
                refine vn_add X dX2_laysScores_85 ?_
                refine vv_iload X dX2_laysScores_86 4 rfl ?_
                refine vv_callVp X (mX2_bestBehind (kL K) D g x (va_up I 24 d_5) (va_up J 26 sc) (I 10) rfl ((B - (i + 1)) + 1) (nI c) (fun k => decide (nea (I 10) c k)) hC (by omega) (Or.inr ⟨c, rfl, by omega, fun k => decide_eq_true_iff⟩)) q3485 q3487 qs124 q144 q3488 nX2_bestBehind ⟨(Nat.le_of_ble_eq_true rfl), (Nat.le_of_ble_eq_true rfl)⟩ dX2_laysScores_88 rfl (Nat.le_of_ble_eq_true rfl) (recv X hM.1 CL_X2) hM ⟨(Nat.le_of_ble_eq_true rfl), (Nat.le_of_ble_eq_true rfl)⟩ ?_
                obtain ⟨j, hj, hjn⟩ := bsf_some (al := fun k => decide (nea (I 10) c k)) (sc := fun c => sc (144 * (B - (i + 1) + 1) + c)) (c := c) (n := nC (I 10)) (by omega) (decide_eq_true (nea_r _ _))
                refine vv_eqi (show _ = nI j from congrArg obI hj) ?_
                refine vn_add X dX2_laysScores_91 ?_
                refine vv_lald X hM.a26 ((144 * ((B - (i + 1)) + 1)) + j) (by omega) (by decide) rfl dX2_laysScores_92 ?_
                refine vv_ladd X dX2_laysScores_93 ?_
                refine vv_last X hM.a26 ((144 * (B - (i + 1))) + c) (by omega) (by decide) rfl (Or.inl (MA.in (by decide))) dX2_laysScores_94 (fun H1 hc ha => ?_)
                replace hM := hM.setJ26 hg hc ha
                clear hc ha
                rw [up_up] at hM
                refine vv_iinc (v := nI (c + 1)) (lv' := [(4, .int (nI (c + 1))), (0, .ref (g 0)), (1, .int (nI n)), (2, .int (nI (B - (i + 1)))), (3, .int (nI 0))]) X dX2_laysScores_95 (k := 4) rfl (nI_add _ 1) (by decide) rfl ?_
                refine vv_goto (tgt := 32) X dX2_laysScores_98 (by decide) ?_
                refine vv_sub [1, 2, 3, 4, 0] rfl ?_
                exact ihc (c + 1) H1 d_5 (va_up sc ((144 * (B - (i + 1))) + c) ((blk (I 10) (I 12) c (n * (B - (i + 1))) n) + (sc ((144 * ((B - (i + 1)) + 1)) + j)))) (by omega) (hM) (fun b c' h1 h2 h3 => by rw [up_ne (by omega)]; exact hsc b c' h1 h2 h3) (fun c' hc' => by
                    by_cases e : c' = c
                    · subst e; rw [va_up_self]; exact trk_st (by omega) (sc := fun c => sc (144 * (B - (i + 1) + 1) + c)) (fun k hk => by rw [hsc _ k (by omega) hk (by omega), show B - 1 - (B - (i + 1) + 1) = i - 1 by omega]) hj hjn
                    · rw [up_ne (by omega)]; exact hrow c' (by omega))
              · exact absurd c_64 (by decide)
        refine vv_sub [2, 3, 4, 1, 0] rfl ?_
        exact hl_4 (nC (I 10)) 0 H d sc (by omega) (hM) (hsc) (fun c' h => absurd h (by omega))
      · refine vv_iconst (v := nI 1) X dX2_laysScores_23 (by decide) ?_
        refine vv_goto (tgt := 28) X dX2_laysScores_24 (by decide) ?_
        refine vv_istore_n (lv' := [(3, .int (nI 1)), (0, .ref (g 0)), (1, .int (nI n)), (2, .int (nI (B - (i + 1))))]) X dX2_laysScores_28 rfl (by decide) rfl ?_
        refine vv_iconst (v := nI 0) X dX2_laysScores_29 (by decide) ?_
        refine vv_istore (lv' := [(4, .int (nI 0)), (3, .int (nI 1)), (0, .ref (g 0)), (1, .int (nI n)), (2, .int (nI (B - (i + 1))))]) X dX2_laysScores_30 (by decide) rfl ?_
        have hx_6 : ∀ (H : Heap) (d : Nat → Int32) (sc : Nat → Int64) (hM : MR D g x (va_up I 24 d) (va_up J 26 sc) H) (hsc : ∀ b c, b < B → c < nC (I 10) → B ≤ b + i → sc (144 * b + c) = trk (I 10) (I 12) n B (B - 1 - b) c) (hrow : ∀ c', c' < nC (I 10) → sc (144 * (B - (i + 1)) + c') = trk (I 10) (I 12) n B i c'), V K 5 (MA g) H 0 0 Qf 101 [(0, .ref (g 0)), (1, .int (nI n)), (2, .int (nI (B - (i + 1)))), (3, .int (nI 1)), (4, .int (nI (nC (I 10))))] [] := by
          intro H d sc hM hsc hrow
          refine vv_iinc (v := nI (B - (i + 1)) + (-1)) (lv' := [(2, .int (nI (B - (i + 1)) + (-1))), (0, .ref (g 0)), (1, .int (nI n)), (3, .int (nI 1)), (4, .int (nI (nC (I 10))))]) X dX2_laysScores_101 (k := 2) rfl rfl (by decide) rfl ?_
          refine vv_goto (tgt := 8) X dX2_laysScores_104 (by decide) ?_
          refine vv_sub [1, 2, 0] rfl ?_
          exact ihi (i + 1) H d sc (nI (B - (i + 1)) + (-1)) (by omega) (hM) (fun b c h1 h2 h3 => by
              by_cases e : b = B - (i + 1)
              · subst e; rw [show B - 1 - (B - (i + 1)) = i by omega]; exact hrow c h2
              · exact hsc b c h1 h2 (by omega)) (bv_s (by omega))
        have hl_7 : ∀ (n_c c : Nat) (H : Heap) (d : Nat → Int32) (sc : Nat → Int64), c + n_c = nC (I 10) → (MR D g x (va_up I 24 d) (va_up J 26 sc) H) → (∀ b c, b < B → c < nC (I 10) → B ≤ b + i → sc (144 * b + c) = trk (I 10) (I 12) n B (B - 1 - b) c) → (∀ c', c' < c → sc (144 * (B - (i + 1)) + c') = trk (I 10) (I 12) n B i c') → V K 5 (MA g) H 0 0 Qf 32 [(0, .ref (g 0)), (1, .int (nI n)), (2, .int (nI (B - (i + 1)))), (3, .int (nI 1)), (4, .int (nI c))] [] := by
          intro n_c
          induction n_c with
          | zero =>
            intro c H d sc hc hM hsc hrow
            obtain rfl : c = nC (I 10) := by omega
            refine vv_iload X dX2_laysScores_32 4 rfl ?_
            refine vv_aload_n X dX2_laysScores_34 rfl 0 rfl ?_
            refine vv_callVp X (mX2_cellCount (kL K) D g x (va_up I 24 d) (va_up J 26 sc) (I 10) rfl hP) q3172 q3174 qs84 q144 q3175 nX2_cellCount ⟨(Nat.le_of_ble_eq_true rfl), (Nat.le_of_ble_eq_true rfl)⟩ dX2_laysScores_35 rfl (Nat.le_of_ble_eq_true rfl) (recv X hM.1 CL_X2) hM ⟨(Nat.le_of_ble_eq_true rfl), (Nat.le_of_ble_eq_true rfl)⟩ ?_
            refine vn_ge (tgt := 101) X (by omega) (by omega) dX2_laysScores_38 (by decide) (fun c_38 => ?_) (fun c_38 => ?_)
            · exact hx_6 H d sc hM hsc hrow
            · exact absurd c_38 (by omega)
          | succ n_c ihc =>
            intro c H d sc hc hM hsc hrow
            refine vv_iload X dX2_laysScores_32 4 rfl ?_
            refine vv_aload_n X dX2_laysScores_34 rfl 0 rfl ?_
            refine vv_callVp X (mX2_cellCount (kL K) D g x (va_up I 24 d) (va_up J 26 sc) (I 10) rfl hP) q3172 q3174 qs84 q144 q3175 nX2_cellCount ⟨(Nat.le_of_ble_eq_true rfl), (Nat.le_of_ble_eq_true rfl)⟩ dX2_laysScores_35 rfl (Nat.le_of_ble_eq_true rfl) (recv X hM.1 CL_X2) hM ⟨(Nat.le_of_ble_eq_true rfl), (Nat.le_of_ble_eq_true rfl)⟩ ?_
            refine vn_ge (tgt := 101) X (by omega) (by omega) dX2_laysScores_38 (by decide) (fun c_38 => ?_) (fun c_38 => ?_)
            · exact absurd hc (by omega)
            · refine vv_aload_n X dX2_laysScores_41 rfl 0 rfl ?_
              refine mg26 X rfl hM dX2_laysScores_42 ?_
              refine vv_sipush (v := nI 144) X dX2_laysScores_45 (by decide) ?_
              refine vv_iload_n X dX2_laysScores_48 rfl 2 rfl ?_
              refine vn_mul X dX2_laysScores_49 ?_
              refine vv_iload X dX2_laysScores_50 4 rfl ?_
              refine vn_add X dX2_laysScores_52 ?_
              refine vv_aload_n X dX2_laysScores_53 rfl 0 rfl ?_
              refine vv_iload X dX2_laysScores_54 4 rfl ?_
              refine vv_iload_n X dX2_laysScores_56 rfl 1 rfl ?_
              refine vv_iload_n X dX2_laysScores_57 rfl 2 rfl ?_
              refine vn_mul X dX2_laysScores_58 ?_
              refine vv_iload_n X dX2_laysScores_59 rfl 1 rfl ?_
              refine vv_callV X (mX2_blockOf (kL K) D g x (va_up I 24 d) (va_up J 26 sc) (I 10) rfl (I 12) rfl hg c (n * (B - (i + 1))) n hP hS hT (by omega) (by omega) (by omega)) q3453 q3455 qs119 q144 q3456 nX2_blockOf ⟨(Nat.le_of_ble_eq_true rfl), (Nat.le_of_ble_eq_true rfl)⟩ dX2_laysScores_60 rfl (Nat.le_of_ble_eq_true rfl) (recv X hM.1 CL_X2) hM  (fun _ z => Or.inl z) ⟨(Nat.le_of_ble_eq_true rfl), (Nat.le_of_ble_eq_true rfl)⟩ (fun v_ H hq hz hk => ?_)
              obtain ⟨rfl, d_8, hM⟩ := hq
              clear hz hk
              rw [up_up] at hM
              refine vv_iload_n X dX2_laysScores_63 rfl 3 rfl ?_
              refine vn_if_eq (tgt := 71) X (by omega) dX2_laysScores_64 (by decide) (fun c_64 => ?_) (fun c_64 => ?_)
              · exact absurd c_64 (by decide)
              · refine vv_lconst (v := 0) X dX2_laysScores_67 (by decide) ?_
                refine vv_goto (tgt := 93) X dX2_laysScores_68 (by decide) ?_
                refine vv_ladd X dX2_laysScores_93 ?_
                refine vv_last X hM.a26 ((144 * (B - (i + 1))) + c) (by omega) (by decide) rfl (Or.inl (MA.in (by decide))) dX2_laysScores_94 (fun H1 hc ha => ?_)
                replace hM := hM.setJ26 hg hc ha
                clear hc ha
                rw [up_up] at hM
                refine vv_iinc (v := nI (c + 1)) (lv' := [(4, .int (nI (c + 1))), (0, .ref (g 0)), (1, .int (nI n)), (2, .int (nI (B - (i + 1)))), (3, .int (nI 1))]) X dX2_laysScores_95 (k := 4) rfl (nI_add _ 1) (by decide) rfl ?_
                refine vv_goto (tgt := 32) X dX2_laysScores_98 (by decide) ?_
                refine vv_sub [1, 2, 3, 4, 0] rfl ?_
                exact ihc (c + 1) H1 d_8 (va_up sc ((144 * (B - (i + 1))) + c) ((blk (I 10) (I 12) c (n * (B - (i + 1))) n) + 0)) (by omega) (hM) (fun b c' h1 h2 h3 => by rw [up_ne (by omega)]; exact hsc b c' h1 h2 h3) (fun c' hc' => by
                    by_cases e : c' = c
                    · subst e; rw [va_up_self]; exact (by (obtain rfl : i = 0 := by omega); rw [Int64.add_zero]; rfl)
                    · rw [up_ne (by omega)]; exact hrow c' (by omega))
        refine vv_sub [2, 3, 4, 1, 0] rfl ?_
        exact hl_7 (nC (I 10)) 0 H d sc (by omega) (hM) (hsc) (fun c' h => absurd h (by omega))
  refine vv_sub [1, 2, 0] rfl ?_
  exact hl_2 (B) 0 ((kS K).heap) (I 24) (J 26) (nI (B - 1)) (by omega) (by rw [up_same, up_same]; exact hM) (fun b c h1 h2 h3 => absurd h3 (by omega)) ((pk_sub (a := B) (b := 1) (by omega)).symm)
theorem nX2_trackScore : notMH yX2_trackScore 1 := by decide +kernel
set_option maxHeartbeats 800000 in
theorem aX2_trackScore (l : Launch) (D : DD) (g : Nat → Nat) (x : Nat → Int32) (I : Nat → Nat → Int32) (J : Nat → Nat → Int64) (P : Nat → Int32) (hIP : I 10 = P) (S : Nat → Int32) (hIS : I 12 = S) (C : Bool) (hg : MG g) (n : Int32) (hP : VP P) (hc : cam C (x 20) P S (I 17))  : Ct l yX2_trackScore cX2_trackScore 2 (some .long) { frames := 6, cells := 0, slots := 0, locals := 133 } D [.ref (g 0), .int (n)] (fun H => MR D g x I J H) (MA g) (fun v H H1 => MEnd D g x I lV (an_trackScore C P S n) v H1) := by
  refine Ct.of (by decide +kernel) (Nat.le_of_ble_eq_true rfl) (fun K Qf hkl X hM hQ => ?_)
  subst hkl
  subst hIP
  subst hIS
  have l4 := hP.l4
  have l5 := hP.l5
  have l2 := hP.l2
  have l9 := hP.l9
  have l10 := hP.l10
  have l101 := hP.l101
  have hn4 : nC (I 10) ≤ 144 := Nat.mul_le_mul l9 l10
  have hn0 : C = true → 0 < nC (I 10) := fun hh => by
    rcases hc with ⟨h, _⟩ | ⟨_, _, h, _, _⟩
    · exact absurd (hh.symm.trans h) (by decide)
    · exact Nat.mul_pos h.x1 h.y1
  refine vv_sub (lv' := [(0, .ref (g 0)), (1, .int (n))]) [0, 1] rfl ?_
  rcases hc with ⟨rfl, h20⟩ | ⟨rfl, h20, hC, hS, hT⟩
  · refine vv_aload_n X dX2_trackScore_0 rfl 0 rfl ?_
    refine vv_aload_n X dX2_trackScore_1 rfl 0 rfl ?_
    refine vv_iload_n X dX2_trackScore_2 rfl 1 rfl ?_
    refine vv_callVp X (mX2_isLength (kL K) D g x I J (I 10) rfl n hP) q3473 q3475 qs121 q144 q3476 nX2_isLength ⟨(Nat.le_of_ble_eq_true rfl), (Nat.le_of_ble_eq_true rfl)⟩ dX2_trackScore_3 rfl (Nat.le_of_ble_eq_true rfl) (recv X hM.1 CL_X2) hM ⟨(Nat.le_of_ble_eq_true rfl), (Nat.le_of_ble_eq_true rfl)⟩ ?_
    refine vv_callV X (mX2_mayAsk0 (kL K) D g x I J hg (nI 4 ≤ n ∧ n ≤ nI (nT (I 10))) h20) q3244 q3246 qs98 q144 q3247 nX2_mayAsk ⟨(Nat.le_of_ble_eq_true rfl), (Nat.le_of_ble_eq_true rfl)⟩ dX2_trackScore_6 rfl (Nat.le_of_ble_eq_true rfl) (recv X hM.1 CL_X2) hM  (fun _ z => Or.inl z) ⟨(Nat.le_of_ble_eq_true rfl), (Nat.le_of_ble_eq_true rfl)⟩ (fun v_ H hq hz hk => ?_)
    obtain ⟨rfl, hM⟩ := hq
    clear hz hk
    refine vv_eqi (b2_n (p := False) (fun z => z)) ?_
    refine vn_if_ne (tgt := 14) X (by omega) dX2_trackScore_9 (by decide) (fun c_9 => ?_) (fun c_9 => ?_)
    · exact absurd c_9 (by decide)
    · refine vv_lconst (v := 0) X dX2_trackScore_12 (by decide) ?_
      exact vv_lret X hQ dX2_trackScore_13 (Nat.le_refl _) (Nat.le_refl _) (MEnd.of hM (ag_u (by decide) (ag_r)) (ag_r) 1 _ (0) (ask_0) rfl (fun h => absurd h (by decide)) rfl)
  · refine vv_aload_n X dX2_trackScore_0 rfl 0 rfl ?_
    refine vv_aload_n X dX2_trackScore_1 rfl 0 rfl ?_
    refine vv_iload_n X dX2_trackScore_2 rfl 1 rfl ?_
    refine vv_callVp X (mX2_isLength (kL K) D g x I J (I 10) rfl n hP) q3473 q3475 qs121 q144 q3476 nX2_isLength ⟨(Nat.le_of_ble_eq_true rfl), (Nat.le_of_ble_eq_true rfl)⟩ dX2_trackScore_3 rfl (Nat.le_of_ble_eq_true rfl) (recv X hM.1 CL_X2) hM ⟨(Nat.le_of_ble_eq_true rfl), (Nat.le_of_ble_eq_true rfl)⟩ ?_
    refine vv_callV X (mX2_mayAsk1 (kL K) D g x I J hg (nI 4 ≤ n ∧ n ≤ nI (nT (I 10))) h20) q3244 q3246 qs98 q144 q3247 nX2_mayAsk ⟨(Nat.le_of_ble_eq_true rfl), (Nat.le_of_ble_eq_true rfl)⟩ dX2_trackScore_6 rfl (Nat.le_of_ble_eq_true rfl) (recv X hM.1 CL_X2) hM  (fun _ z => Or.inl z) ⟨(Nat.le_of_ble_eq_true rfl), (Nat.le_of_ble_eq_true rfl)⟩ (fun v_ H hq hz hk => ?_)
    obtain ⟨rfl, hM⟩ := hq
    clear hz hk
    by_cases hp : nI 4 ≤ n ∧ n ≤ nI (nT (I 10))
    · refine vv_eqi (b2_y hp) ?_
      rw [if_pos hp] at hM
      obtain ⟨u, hu, hu2, rfl⟩ := inR2 (by omega) (by omega) hp
      have eu : cl (nI u) = u := cl_I (by omega)
      refine vn_if_ne (tgt := 14) X (by omega) dX2_trackScore_9 (by decide) (fun c_9 => ?_) (fun c_9 => ?_)
      · obtain ⟨B, hB⟩ : ∃ B, nT (I 10) / u = B := ⟨_, rfl⟩
        have hn : 4 ≤ u ∧ u ≤ nT (I 10) := ⟨by omega, by omega⟩
        have hB50 : B ≤ 50 := by rw [← hB]; exact Nat.le_trans (Nat.div_le_div_left hn.1 (by decide)) (Nat.div_le_of_le_mul (by omega))
        have hB1 : 1 ≤ B := by rw [← hB]; exact Nat.div_pos hn.2 (by omega)
        have hBn : u * B ≤ nT (I 10) := by rw [← hB]; exact Nat.mul_div_le _ _
        refine vv_aload_n X dX2_trackScore_14 rfl 0 rfl ?_
        refine vv_iload_n X dX2_trackScore_15 rfl 1 rfl ?_
        refine vv_callV X (mX2_laysScores (kL K) D g (va_up x 0 (nI 0)) I J (I 10) rfl (I 12) rfl hg u B hC hS hT hB ⟨by omega, by omega⟩) q3477 q3479 qs122 q144 q3480 nX2_laysScores ⟨(Nat.le_of_ble_eq_true rfl), (Nat.le_of_ble_eq_true rfl)⟩ dX2_trackScore_16 rfl (Nat.le_of_ble_eq_true rfl) (recv X hM.1 CL_X2) hM  (fun _ z => Or.inl z) ⟨(Nat.le_of_ble_eq_true rfl), (Nat.le_of_ble_eq_true rfl)⟩ (fun v_ H hq hz hk => ?_)
        obtain ⟨rfl, d_8, sc, hM, hsc⟩ := hq
        clear hz hk
        refine vv_aload_n X dX2_trackScore_19 rfl 0 rfl ?_
        refine mg26 X rfl hM dX2_trackScore_20 ?_
        refine vv_aload_n X dX2_trackScore_23 rfl 0 rfl ?_
        refine vv_iconst (v := nI 0) X dX2_trackScore_24 (by decide) ?_
        refine vv_iconst (v := -1) X dX2_trackScore_25 (by decide) ?_
        refine vv_callVp X (mX2_bestBehind (kL K) D g (va_up x 0 (nI 0)) (va_up I 24 d_8) (va_up J 26 sc) (I 10) rfl 0 (-1) (fun _ => true) hC (by omega) (Or.inl ⟨rfl, fun _ => rfl⟩)) q3485 q3487 qs124 q144 q3488 nX2_bestBehind ⟨(Nat.le_of_ble_eq_true rfl), (Nat.le_of_ble_eq_true rfl)⟩ dX2_trackScore_26 rfl (Nat.le_of_ble_eq_true rfl) (recv X hM.1 CL_X2) hM ⟨(Nat.le_of_ble_eq_true rfl), (Nat.le_of_ble_eq_true rfl)⟩ ?_
        have hs0 : ∀ k, k < nC (I 10) → sc k = trk (I 10) (I 12) u B (B - 1) k := fun k hk => by have h := hsc 0 k (by omega) hk; rw [Nat.mul_zero, Nat.zero_add] at h; exact h
        have hbl : bsN (trk (I 10) (I 12) u B (B - 1)) (nC (I 10)) < nC (I 10) := bsN_lt (hn0 rfl)
        refine vv_eqi (show _ = nI (bsN (trk (I 10) (I 12) u B (B - 1)) (nC (I 10))) from (congrArg obI (show _ = some (bsN (trk (I 10) (I 12) u B (B - 1)) (nC (I 10))) from by rw [bsf_congr (sd := trk (I 10) (I 12) u B (B - 1)) (nC (I 10)) (fun k hk => by rw [Nat.mul_zero, Nat.zero_add]; exact hs0 k hk), bsf_al (hn0 rfl)]))) ?_
        refine vv_lald X hM.a26 (bsN (trk (I 10) (I 12) u B (B - 1)) (nC (I 10))) (by omega) (by decide) rfl dX2_trackScore_29 ?_
        exact vv_lret X hQ dX2_trackScore_30 (Nat.le_refl _) (Nat.le_refl _) (MEnd.of hM (ag_u (by decide) (ag_r)) (ag_u (by decide) (ag_r)) 0 _ (sc (bsN (trk (I 10) (I 12) u B (B - 1)) (nC (I 10)))) (ask_t hp) rfl (fun _ => by simp only [eu]; rw [hB]; exact hs0 _ hbl) rfl)
      · exact absurd c_9 (by decide)
    · refine vv_eqi (b2_n hp) ?_
      rw [if_neg hp] at hM
      refine vn_if_ne (tgt := 14) X (by omega) dX2_trackScore_9 (by decide) (fun c_9 => ?_) (fun c_9 => ?_)
      · exact absurd c_9 (by decide)
      · refine vv_lconst (v := 0) X dX2_trackScore_12 (by decide) ?_
        exact vv_lret X hQ dX2_trackScore_13 (Nat.le_refl _) (Nat.le_refl _) (MEnd.of hM (ag_u (by decide) (ag_r)) (ag_r) 2 _ (0) (ask_f hp) rfl (fun h => absurd h (by decide)) rfl)
theorem nX2_trackCell : notMH yX2_trackCell 2 := by decide +kernel
set_option maxHeartbeats 800000 in
theorem aX2_trackCell (l : Launch) (D : DD) (g : Nat → Nat) (x : Nat → Int32) (I : Nat → Nat → Int32) (J : Nat → Nat → Int64) (P : Nat → Int32) (hIP : I 10 = P) (S : Nat → Int32) (hIS : I 12 = S) (C : Bool) (hg : MG g) (n b : Int32) (hP : VP P) (hc : cam C (x 20) P S (I 17))  : Ct l yX2_trackCell cX2_trackCell 5 (some .int) { frames := 6, cells := 0, slots := 0, locals := 133 } D [.ref (g 0), .int (n), .int (b)] (fun H => MR D g x I J H) (MA g) (fun v H H1 => MEnd D g x I iV (an_trackCell C P S n b) v H1) := by
  refine Ct.of (by decide +kernel) (Nat.le_of_ble_eq_true rfl) (fun K Qf hkl X hM hQ => ?_)
  subst hkl
  subst hIP
  subst hIS
  have l4 := hP.l4
  have l5 := hP.l5
  have l2 := hP.l2
  have l9 := hP.l9
  have l10 := hP.l10
  have l101 := hP.l101
  have hn4 : nC (I 10) ≤ 144 := Nat.mul_le_mul l9 l10
  have hn0 : C = true → 0 < nC (I 10) := fun hh => by
    rcases hc with ⟨h, _⟩ | ⟨_, _, h, _, _⟩
    · exact absurd (hh.symm.trans h) (by decide)
    · exact Nat.mul_pos h.x1 h.y1
  refine vv_sub (lv' := [(0, .ref (g 0)), (1, .int (n)), (2, .int (b))]) [0, 1, 2] rfl ?_
  rcases hc with ⟨rfl, h20⟩ | ⟨rfl, h20, hC, hS, hT⟩
  · refine vv_aload_n X dX2_trackCell_0 rfl 0 rfl ?_
    refine vv_aload_n X dX2_trackCell_1 rfl 0 rfl ?_
    refine vv_iload_n X dX2_trackCell_2 rfl 1 rfl ?_
    refine vv_callVp X (mX2_isLength (kL K) D g x I J (I 10) rfl n hP) q3473 q3475 qs121 q144 q3476 nX2_isLength ⟨(Nat.le_of_ble_eq_true rfl), (Nat.le_of_ble_eq_true rfl)⟩ dX2_trackCell_3 rfl (Nat.le_of_ble_eq_true rfl) (recv X hM.1 CL_X2) hM ⟨(Nat.le_of_ble_eq_true rfl), (Nat.le_of_ble_eq_true rfl)⟩ ?_
    refine vb_eq (tgt := 24) X dX2_trackCell_6 (by decide) (fun c_6 => ?_) (fun c_6 => ?_)
    · refine vv_iconst (v := nI 1) X dX2_trackCell_24 (by decide) ?_
      refine vv_goto (tgt := 29) X dX2_trackCell_25 (by decide) ?_
      refine vv_callV X (mX2_mayAsk0 (kL K) D g x I J hg True h20) q3244 q3246 qs98 q144 q3247 nX2_mayAsk ⟨(Nat.le_of_ble_eq_true rfl), (Nat.le_of_ble_eq_true rfl)⟩ dX2_trackCell_29 rfl (Nat.le_of_ble_eq_true rfl) (recv X hM.1 CL_X2) hM  (fun _ z => Or.inl z) ⟨(Nat.le_of_ble_eq_true rfl), (Nat.le_of_ble_eq_true rfl)⟩ (fun v_ H hq hz hk => ?_)
      obtain ⟨rfl, hM⟩ := hq
      clear hz hk
      refine vv_eqi (b2_n (p := False) (fun z => z)) ?_
      refine vn_if_ne (tgt := 37) X (by omega) dX2_trackCell_32 (by decide) (fun c_32 => ?_) (fun c_32 => ?_)
      · exact absurd c_32 (by decide)
      · refine vv_iconst (v := nI 0) X dX2_trackCell_35 (by decide) ?_
        exact vv_iret X hQ dX2_trackCell_36 (Nat.le_refl _) (Nat.le_refl _) (MEnd.of hM (ag_u (by decide) (ag_r)) (ag_r) 1 _ (nI 0) (rfl) rfl (fun h => absurd h (by decide)) rfl)
    · obtain ⟨u, hu, hu2, rfl⟩ := inR2 (by omega) (by omega) c_6
      have eu : cl (nI u) = u := cl_I (by omega)
      obtain ⟨B, hB⟩ : ∃ B, nT (I 10) / u = B := ⟨_, rfl⟩
      have hn : 4 ≤ u ∧ u ≤ nT (I 10) := ⟨by omega, by omega⟩
      have hB50 : B ≤ 50 := by rw [← hB]; exact Nat.le_trans (Nat.div_le_div_left hn.1 (by decide)) (Nat.div_le_of_le_mul (by omega))
      have hB1 : 1 ≤ B := by rw [← hB]; exact Nat.div_pos hn.2 (by omega)
      have hBn : u * B ≤ nT (I 10) := by rw [← hB]; exact Nat.mul_div_le _ _
      refine vv_iload_n X dX2_trackCell_9 rfl 2 rfl ?_
      refine vv_iconst (v := nI 0) X dX2_trackCell_10 (by decide) ?_
      refine vv_aload_n X dX2_trackCell_11 rfl 0 rfl ?_
      refine vv_iload_n X dX2_trackCell_12 rfl 1 rfl ?_
      refine vv_callVp X (mX2_blockCount (kL K) D g x I J (I 10) rfl u hP (by omega) (by omega)) q3481 q3483 qs123 q144 q3484 nX2_blockCount ⟨(Nat.le_of_ble_eq_true rfl), (Nat.le_of_ble_eq_true rfl)⟩ dX2_trackCell_13 rfl (Nat.le_of_ble_eq_true rfl) (recv X hM.1 CL_X2) hM ⟨(Nat.le_of_ble_eq_true rfl), (Nat.le_of_ble_eq_true rfl)⟩ ?_
      refine vv_eqi (congrArg nI hB) ?_
      refine vv_iconst (v := nI 1) X dX2_trackCell_16 (by decide) ?_
      refine vv_isub X dX2_trackCell_17 ?_
      refine vv_callSp X (mX2_in (kL K) D b (nI 0) ((nI B) - (nI 1))) q3031 q3032 q144 q3033 nX2_in ⟨(Nat.le_of_ble_eq_true rfl), (Nat.le_of_ble_eq_true rfl)⟩ dX2_trackCell_18 rfl (Nat.le_of_ble_eq_true rfl) trivial ⟨(Nat.le_of_ble_eq_true rfl), (Nat.le_of_ble_eq_true rfl)⟩ ?_
      refine vb_eq (tgt := 28) X dX2_trackCell_21 (by decide) (fun c_21 => ?_) (fun c_21 => ?_)
      · refine vv_iconst (v := nI 0) X dX2_trackCell_28 (by decide) ?_
        refine vv_callV X (mX2_mayAsk0 (kL K) D g x I J hg False h20) q3244 q3246 qs98 q144 q3247 nX2_mayAsk ⟨(Nat.le_of_ble_eq_true rfl), (Nat.le_of_ble_eq_true rfl)⟩ dX2_trackCell_29 rfl (Nat.le_of_ble_eq_true rfl) (recv X hM.1 CL_X2) hM  (fun _ z => Or.inl z) ⟨(Nat.le_of_ble_eq_true rfl), (Nat.le_of_ble_eq_true rfl)⟩ (fun v_ H hq hz hk => ?_)
        obtain ⟨rfl, hM⟩ := hq
        clear hz hk
        refine vv_eqi (b2_n (p := False) (fun z => z)) ?_
        refine vn_if_ne (tgt := 37) X (by omega) dX2_trackCell_32 (by decide) (fun c_32 => ?_) (fun c_32 => ?_)
        · exact absurd c_32 (by decide)
        · refine vv_iconst (v := nI 0) X dX2_trackCell_35 (by decide) ?_
          exact vv_iret X hQ dX2_trackCell_36 (Nat.le_refl _) (Nat.le_refl _) (MEnd.of hM (ag_u (by decide) (ag_r)) (ag_r) 1 _ (nI 0) (rfl) rfl (fun h => absurd h (by decide)) rfl)
      · refine vv_iconst (v := nI 1) X dX2_trackCell_24 (by decide) ?_
        refine vv_goto (tgt := 29) X dX2_trackCell_25 (by decide) ?_
        refine vv_callV X (mX2_mayAsk0 (kL K) D g x I J hg True h20) q3244 q3246 qs98 q144 q3247 nX2_mayAsk ⟨(Nat.le_of_ble_eq_true rfl), (Nat.le_of_ble_eq_true rfl)⟩ dX2_trackCell_29 rfl (Nat.le_of_ble_eq_true rfl) (recv X hM.1 CL_X2) hM  (fun _ z => Or.inl z) ⟨(Nat.le_of_ble_eq_true rfl), (Nat.le_of_ble_eq_true rfl)⟩ (fun v_ H hq hz hk => ?_)
        obtain ⟨rfl, hM⟩ := hq
        clear hz hk
        refine vv_eqi (b2_n (p := False) (fun z => z)) ?_
        refine vn_if_ne (tgt := 37) X (by omega) dX2_trackCell_32 (by decide) (fun c_32 => ?_) (fun c_32 => ?_)
        · exact absurd c_32 (by decide)
        · refine vv_iconst (v := nI 0) X dX2_trackCell_35 (by decide) ?_
          exact vv_iret X hQ dX2_trackCell_36 (Nat.le_refl _) (Nat.le_refl _) (MEnd.of hM (ag_u (by decide) (ag_r)) (ag_r) 1 _ (nI 0) (rfl) rfl (fun h => absurd h (by decide)) rfl)
  · refine vv_aload_n X dX2_trackCell_0 rfl 0 rfl ?_
    refine vv_aload_n X dX2_trackCell_1 rfl 0 rfl ?_
    refine vv_iload_n X dX2_trackCell_2 rfl 1 rfl ?_
    refine vv_callVp X (mX2_isLength (kL K) D g x I J (I 10) rfl n hP) q3473 q3475 qs121 q144 q3476 nX2_isLength ⟨(Nat.le_of_ble_eq_true rfl), (Nat.le_of_ble_eq_true rfl)⟩ dX2_trackCell_3 rfl (Nat.le_of_ble_eq_true rfl) (recv X hM.1 CL_X2) hM ⟨(Nat.le_of_ble_eq_true rfl), (Nat.le_of_ble_eq_true rfl)⟩ ?_
    refine vb_eq (tgt := 24) X dX2_trackCell_6 (by decide) (fun c_6 => ?_) (fun c_6 => ?_)
    · refine vv_iconst (v := nI 1) X dX2_trackCell_24 (by decide) ?_
      refine vv_goto (tgt := 29) X dX2_trackCell_25 (by decide) ?_
      refine vv_callV X (mX2_mayAsk1 (kL K) D g x I J hg True h20) q3244 q3246 qs98 q144 q3247 nX2_mayAsk ⟨(Nat.le_of_ble_eq_true rfl), (Nat.le_of_ble_eq_true rfl)⟩ dX2_trackCell_29 rfl (Nat.le_of_ble_eq_true rfl) (recv X hM.1 CL_X2) hM  (fun _ z => Or.inl z) ⟨(Nat.le_of_ble_eq_true rfl), (Nat.le_of_ble_eq_true rfl)⟩ (fun v_ H hq hz hk => ?_)
      obtain ⟨rfl, hM⟩ := hq
      clear hz hk
      refine vv_eqi (b2_y (p := True) trivial) ?_
      rw [if_pos trivial] at hM
      refine vn_if_ne (tgt := 37) X (by omega) dX2_trackCell_32 (by decide) (fun c_32 => ?_) (fun c_32 => ?_)
      · refine vv_aload_n X dX2_trackCell_37 rfl 0 rfl ?_
        refine vv_iload_n X dX2_trackCell_38 rfl 1 rfl ?_
        refine vv_callVp X (mX2_isLength (kL K) D g (va_up x 0 (nI 0)) I J (I 10) rfl n hP) q3473 q3475 qs121 q144 q3476 nX2_isLength ⟨(Nat.le_of_ble_eq_true rfl), (Nat.le_of_ble_eq_true rfl)⟩ dX2_trackCell_39 rfl (Nat.le_of_ble_eq_true rfl) (recv X hM.1 CL_X2) hM ⟨(Nat.le_of_ble_eq_true rfl), (Nat.le_of_ble_eq_true rfl)⟩ ?_
        refine vb_ne (tgt := 51) X dX2_trackCell_42 (by decide) (fun c_42 => ?_) (fun c_42 => ?_)
        · exact absurd c_42 c_6
        · refine vv_aload_n X dX2_trackCell_45 rfl 0 rfl ?_
          refine vv_iconst (v := nI 3) X dX2_trackCell_46 (by decide) ?_
          refine vv_callV X (mX2_throwsAt (kL K) D g (va_up x 0 (nI 0)) I J hg (nI 3)) q3034 q3036 qs59 q144 q3037 nX2_throwsAt ⟨(Nat.le_of_ble_eq_true rfl), (Nat.le_of_ble_eq_true rfl)⟩ dX2_trackCell_47 rfl (Nat.le_of_ble_eq_true rfl) (recv X hM.1 CL_X2) hM  (fun _ z => Or.inl z) ⟨(Nat.le_of_ble_eq_true rfl), (Nat.le_of_ble_eq_true rfl)⟩ (fun v_ H hq hz hk => ?_)
          obtain ⟨rfl, hM⟩ := hq
          clear hz hk
          rw [up_up] at hM
          exact vv_iret X hQ dX2_trackCell_50 (Nat.le_refl _) (Nat.le_refl _) (MEnd.of hM (ag_u (by decide) (ag_r)) (ag_r) 3 _ (nI 0) (if_neg c_6) rfl (fun h => absurd h (by decide)) rfl)
      · exact absurd c_32 (by decide)
    · obtain ⟨u, hu, hu2, rfl⟩ := inR2 (by omega) (by omega) c_6
      have eu : cl (nI u) = u := cl_I (by omega)
      obtain ⟨B, hB⟩ : ∃ B, nT (I 10) / u = B := ⟨_, rfl⟩
      have hn : 4 ≤ u ∧ u ≤ nT (I 10) := ⟨by omega, by omega⟩
      have hB50 : B ≤ 50 := by rw [← hB]; exact Nat.le_trans (Nat.div_le_div_left hn.1 (by decide)) (Nat.div_le_of_le_mul (by omega))
      have hB1 : 1 ≤ B := by rw [← hB]; exact Nat.div_pos hn.2 (by omega)
      have hBn : u * B ≤ nT (I 10) := by rw [← hB]; exact Nat.mul_div_le _ _
      refine vv_iload_n X dX2_trackCell_9 rfl 2 rfl ?_
      refine vv_iconst (v := nI 0) X dX2_trackCell_10 (by decide) ?_
      refine vv_aload_n X dX2_trackCell_11 rfl 0 rfl ?_
      refine vv_iload_n X dX2_trackCell_12 rfl 1 rfl ?_
      refine vv_callVp X (mX2_blockCount (kL K) D g x I J (I 10) rfl u hP (by omega) (by omega)) q3481 q3483 qs123 q144 q3484 nX2_blockCount ⟨(Nat.le_of_ble_eq_true rfl), (Nat.le_of_ble_eq_true rfl)⟩ dX2_trackCell_13 rfl (Nat.le_of_ble_eq_true rfl) (recv X hM.1 CL_X2) hM ⟨(Nat.le_of_ble_eq_true rfl), (Nat.le_of_ble_eq_true rfl)⟩ ?_
      refine vv_eqi (congrArg nI hB) ?_
      refine vv_iconst (v := nI 1) X dX2_trackCell_16 (by decide) ?_
      refine vv_isub X dX2_trackCell_17 ?_
      refine vv_callSp X (mX2_in (kL K) D b (nI 0) ((nI B) - (nI 1))) q3031 q3032 q144 q3033 nX2_in ⟨(Nat.le_of_ble_eq_true rfl), (Nat.le_of_ble_eq_true rfl)⟩ dX2_trackCell_18 rfl (Nat.le_of_ble_eq_true rfl) trivial ⟨(Nat.le_of_ble_eq_true rfl), (Nat.le_of_ble_eq_true rfl)⟩ ?_
      refine vb_eq (tgt := 28) X dX2_trackCell_21 (by decide) (fun c_21 => ?_) (fun c_21 => ?_)
      · refine vv_iconst (v := nI 0) X dX2_trackCell_28 (by decide) ?_
        refine vv_callV X (mX2_mayAsk1 (kL K) D g x I J hg False h20) q3244 q3246 qs98 q144 q3247 nX2_mayAsk ⟨(Nat.le_of_ble_eq_true rfl), (Nat.le_of_ble_eq_true rfl)⟩ dX2_trackCell_29 rfl (Nat.le_of_ble_eq_true rfl) (recv X hM.1 CL_X2) hM  (fun _ z => Or.inl z) ⟨(Nat.le_of_ble_eq_true rfl), (Nat.le_of_ble_eq_true rfl)⟩ (fun v_ H hq hz hk => ?_)
        obtain ⟨rfl, hM⟩ := hq
        clear hz hk
        refine vv_eqi (b2_n (p := False) (fun z => z)) ?_
        rw [if_neg (fun z => z)] at hM
        refine vn_if_ne (tgt := 37) X (by omega) dX2_trackCell_32 (by decide) (fun c_32 => ?_) (fun c_32 => ?_)
        · exact absurd c_32 (by decide)
        · refine vv_iconst (v := nI 0) X dX2_trackCell_35 (by decide) ?_
          exact vv_iret X hQ dX2_trackCell_36 (Nat.le_refl _) (Nat.le_refl _) (MEnd.of hM (ag_u (by decide) (ag_r)) (ag_r) 2 _ (nI 0) ((if_pos c_6).trans (if_neg (by rw [eu, hB]; exact c_21))) rfl (fun h => absurd h (by decide)) rfl)
      · refine vv_iconst (v := nI 1) X dX2_trackCell_24 (by decide) ?_
        refine vv_goto (tgt := 29) X dX2_trackCell_25 (by decide) ?_
        refine vv_callV X (mX2_mayAsk1 (kL K) D g x I J hg True h20) q3244 q3246 qs98 q144 q3247 nX2_mayAsk ⟨(Nat.le_of_ble_eq_true rfl), (Nat.le_of_ble_eq_true rfl)⟩ dX2_trackCell_29 rfl (Nat.le_of_ble_eq_true rfl) (recv X hM.1 CL_X2) hM  (fun _ z => Or.inl z) ⟨(Nat.le_of_ble_eq_true rfl), (Nat.le_of_ble_eq_true rfl)⟩ (fun v_ H hq hz hk => ?_)
        obtain ⟨rfl, hM⟩ := hq
        clear hz hk
        refine vv_eqi (b2_y (p := True) trivial) ?_
        rw [if_pos trivial] at hM
        refine vn_if_ne (tgt := 37) X (by omega) dX2_trackCell_32 (by decide) (fun c_32 => ?_) (fun c_32 => ?_)
        · refine vv_aload_n X dX2_trackCell_37 rfl 0 rfl ?_
          refine vv_iload_n X dX2_trackCell_38 rfl 1 rfl ?_
          refine vv_callVp X (mX2_isLength (kL K) D g (va_up x 0 (nI 0)) I J (I 10) rfl (nI u) hP) q3473 q3475 qs121 q144 q3476 nX2_isLength ⟨(Nat.le_of_ble_eq_true rfl), (Nat.le_of_ble_eq_true rfl)⟩ dX2_trackCell_39 rfl (Nat.le_of_ble_eq_true rfl) (recv X hM.1 CL_X2) hM ⟨(Nat.le_of_ble_eq_true rfl), (Nat.le_of_ble_eq_true rfl)⟩ ?_
          refine vb_ne (tgt := 51) X dX2_trackCell_42 (by decide) (fun c_42 => ?_) (fun c_42 => ?_)
          · obtain ⟨k, hk, rfl⟩ := ix_of (by omega) c_21
            have ek : cl (nI k) = k := cl_I (by omega)
            refine vv_aload_n X dX2_trackCell_51 rfl 0 rfl ?_
            refine vv_iload_n X dX2_trackCell_52 rfl 1 rfl ?_
            refine vv_callV X (mX2_laysScores (kL K) D g (va_up x 0 (nI 0)) I J (I 10) rfl (I 12) rfl hg u B hC hS hT hB ⟨by omega, by omega⟩) q3477 q3479 qs122 q144 q3480 nX2_laysScores ⟨(Nat.le_of_ble_eq_true rfl), (Nat.le_of_ble_eq_true rfl)⟩ dX2_trackCell_53 rfl (Nat.le_of_ble_eq_true rfl) (recv X hM.1 CL_X2) hM  (fun _ z => Or.inl z) ⟨(Nat.le_of_ble_eq_true rfl), (Nat.le_of_ble_eq_true rfl)⟩ (fun v_ H hq hz hk => ?_)
            obtain ⟨rfl, d_8, sc, hM, hsc⟩ := hq
            clear hz hk
            refine vv_iconst (v := -1) X dX2_trackCell_56 (by decide) ?_
            refine vv_istore_n (lv' := [(3, .int ((-1))), (0, .ref (g 0)), (1, .int (nI u)), (2, .int (nI k))]) X dX2_trackCell_57 rfl (by decide) rfl ?_
            refine vv_iconst (v := nI 0) X dX2_trackCell_58 (by decide) ?_
            refine vv_istore (lv' := [(4, .int (nI 0)), (3, .int ((-1))), (0, .ref (g 0)), (1, .int (nI u)), (2, .int (nI k))]) X dX2_trackCell_59 (by decide) rfl ?_
            have hx_1 : ∀ (cv : Int32) (hcv : (k + 1 = 0 ∧ cv = -1) ∨ (0 < k + 1 ∧ cv = nI (trc (I 10) (I 12) u B (k + 1 - 1)) ∧ trc (I 10) (I 12) u B (k + 1 - 1) < nC (I 10))), V K 5 (MA g) H 0 0 Qf 81 [(0, .ref (g 0)), (1, .int (nI u)), (2, .int (nI k)), (3, .int (cv)), (4, .int (nI (k + 1)))] [] := by
              intro cv hcv
              refine vv_iload_n X dX2_trackCell_81 rfl 3 rfl ?_
              exact vv_iret X hQ dX2_trackCell_82 (Nat.le_refl _) (Nat.le_refl _) (MEnd.of hM (ag_u (by decide) (ag_r)) (ag_u (by decide) (ag_r)) 0 _ (cv) ((if_pos c_6).trans (if_pos (by rw [eu, hB]; exact c_21))) rfl (fun _ => by simp only [eu, ek]; rw [hB]; exact hcv.elim (fun h => absurd h.1 (by omega)) (fun h => h.2.1)) rfl)
            have hl_2 : ∀ (n_i i : Nat) (cv : Int32), i + n_i = k + 1 → ((i = 0 ∧ cv = -1) ∨ (0 < i ∧ cv = nI (trc (I 10) (I 12) u B (i - 1)) ∧ trc (I 10) (I 12) u B (i - 1) < nC (I 10))) → V K 5 (MA g) H 0 0 Qf 61 [(0, .ref (g 0)), (1, .int (nI u)), (2, .int (nI k)), (3, .int (cv)), (4, .int (nI i))] [] := by
              intro n_i
              induction n_i with
              | zero =>
                intro i cv hi hcv
                obtain rfl : i = k + 1 := by omega
                refine vv_iload X dX2_trackCell_61 4 rfl ?_
                refine vv_iload_n X dX2_trackCell_63 rfl 2 rfl ?_
                refine vn_gt (tgt := 81) X (by omega) (by omega) dX2_trackCell_64 (by decide) (fun c_64 => ?_) (fun c_64 => ?_)
                · exact hx_1 cv hcv
                · exact absurd c_64 (by omega)
              | succ n_i ihi =>
                intro i cv hi hcv
                refine vv_iload X dX2_trackCell_61 4 rfl ?_
                refine vv_iload_n X dX2_trackCell_63 rfl 2 rfl ?_
                refine vn_gt (tgt := 81) X (by omega) (by omega) dX2_trackCell_64 (by decide) (fun c_64 => ?_) (fun c_64 => ?_)
                · exact absurd c_64 (by omega)
                · have hsb := fun k hk => hsc i k (by omega) hk
                  rcases hcv with ⟨hi0, hcv⟩ | ⟨hi0, hcv, hcl⟩
                  · subst hcv
                    refine vv_sub (lv' := [(0, .ref (g 0)), (1, .int (nI u)), (2, .int (nI k)), (3, .int (-1)), (4, .int (nI i))]) [0, 1, 2, 3, 4] rfl ?_
                    refine vv_aload_n X dX2_trackCell_67 rfl 0 rfl ?_
                    refine vv_iload X dX2_trackCell_68 4 rfl ?_
                    refine vv_iload_n X dX2_trackCell_70 rfl 3 rfl ?_
                    refine vv_callVp X (mX2_bestBehind (kL K) D g (va_up x 0 (nI 0)) (va_up I 24 d_8) (va_up J 26 sc) (I 10) rfl i (-1) (fun _ => true) hC (by omega) (Or.inl ⟨rfl, fun _ => rfl⟩)) q3485 q3487 qs124 q144 q3488 nX2_bestBehind ⟨(Nat.le_of_ble_eq_true rfl), (Nat.le_of_ble_eq_true rfl)⟩ dX2_trackCell_71 rfl (Nat.le_of_ble_eq_true rfl) (recv X hM.1 CL_X2) hM ⟨(Nat.le_of_ble_eq_true rfl), (Nat.le_of_ble_eq_true rfl)⟩ ?_
                    refine vv_istore_n (lv' := [(3, .int (obI (bsf (fun _ => true) (fun c => sc (144 * i + c)) (nC (I 10))))), (0, .ref (g 0)), (1, .int (nI u)), (2, .int (nI k)), (4, .int (nI i))]) X dX2_trackCell_74 rfl (by decide) rfl ?_
                    refine vv_iinc (v := nI (i + 1)) (lv' := [(4, .int (nI (i + 1))), (3, .int (obI (bsf (fun _ => true) (fun c => sc (144 * i + c)) (nC (I 10))))), (0, .ref (g 0)), (1, .int (nI u)), (2, .int (nI k))]) X dX2_trackCell_75 (k := 4) rfl (nI_add _ 1) (by decide) rfl ?_
                    refine vv_goto (tgt := 61) X dX2_trackCell_78 (by decide) ?_
                    refine vv_sub [2, 3, 4, 1, 0] rfl ?_
                    exact ihi (i + 1) (obI (bsf (fun _ => true) (fun c => sc (144 * i + c)) (nC (I 10)))) (by omega) (Or.inr ⟨by omega, by subst hi0; exact trc_z (hn0 rfl) hsb⟩)
                  · subst hcv
                    refine vv_sub (lv' := [(0, .ref (g 0)), (1, .int (nI u)), (2, .int (nI k)), (3, .int (nI (trc (I 10) (I 12) u B (i - 1)))), (4, .int (nI i))]) [0, 1, 2, 3, 4] rfl ?_
                    refine vv_aload_n X dX2_trackCell_67 rfl 0 rfl ?_
                    refine vv_iload X dX2_trackCell_68 4 rfl ?_
                    refine vv_iload_n X dX2_trackCell_70 rfl 3 rfl ?_
                    refine vv_callVp X (mX2_bestBehind (kL K) D g (va_up x 0 (nI 0)) (va_up I 24 d_8) (va_up J 26 sc) (I 10) rfl i (nI (trc (I 10) (I 12) u B (i - 1))) (fun k => decide (nea (I 10) (trc (I 10) (I 12) u B (i - 1)) k)) hC (by omega) (Or.inr ⟨_, rfl, hcl, fun k => decide_eq_true_iff⟩)) q3485 q3487 qs124 q144 q3488 nX2_bestBehind ⟨(Nat.le_of_ble_eq_true rfl), (Nat.le_of_ble_eq_true rfl)⟩ dX2_trackCell_71 rfl (Nat.le_of_ble_eq_true rfl) (recv X hM.1 CL_X2) hM ⟨(Nat.le_of_ble_eq_true rfl), (Nat.le_of_ble_eq_true rfl)⟩ ?_
                    refine vv_istore_n (lv' := [(3, .int (obI (bsf (fun k => decide (nea (I 10) (trc (I 10) (I 12) u B (i - 1)) k)) (fun c => sc (144 * i + c)) (nC (I 10))))), (0, .ref (g 0)), (1, .int (nI u)), (2, .int (nI k)), (4, .int (nI i))]) X dX2_trackCell_74 rfl (by decide) rfl ?_
                    refine vv_iinc (v := nI (i + 1)) (lv' := [(4, .int (nI (i + 1))), (3, .int (obI (bsf (fun k => decide (nea (I 10) (trc (I 10) (I 12) u B (i - 1)) k)) (fun c => sc (144 * i + c)) (nC (I 10))))), (0, .ref (g 0)), (1, .int (nI u)), (2, .int (nI k))]) X dX2_trackCell_75 (k := 4) rfl (nI_add _ 1) (by decide) rfl ?_
                    refine vv_goto (tgt := 61) X dX2_trackCell_78 (by decide) ?_
                    refine vv_sub [2, 3, 4, 1, 0] rfl ?_
                    exact ihi (i + 1) (obI (bsf (fun k => decide (nea (I 10) (trc (I 10) (I 12) u B (i - 1)) k)) (fun c => sc (144 * i + c)) (nC (I 10)))) (by omega) (Or.inr ⟨by omega, trc_s hi0 hsb hcl⟩)
            refine vv_sub [2, 3, 4, 1, 0] rfl ?_
            exact hl_2 (k + 1) 0 (-1) (by omega) (Or.inl ⟨rfl, rfl⟩)
          · exact absurd c_6 c_42
        · exact absurd c_32 (by decide)
theorem nX2_writeMap : notMH yX2_writeMap 0 := by decide +kernel
set_option maxHeartbeats 800000 in
theorem aX2_writeMap (l : Launch) (D : DD) (g : Nat → Nat) (x : Nat → Int32) (I : Nat → Nat → Int32) (J : Nat → Nat → Int64) (P : Nat → Int32) (hIP : I 10 = P) (S : Nat → Int32) (hIS : I 12 = S) (C : Bool) (hg : MG g)  (hP : VP P) (hc : cam C (x 20) P S (I 17))  : Ct l yX2_writeMap cX2_writeMap 4 (some .int) { frames := 8, cells := 0, slots := 0, locals := 175 } D [.ref (g 0)] (fun H => MR D g x I J H) (MA g) (fun v H H1 => MS D g x I (va_up x 28 (nI (pgn P))) (va_up I 27 (rz (I 27) (pgb P (pwc P S) (bC P S)) (pgn P))) iV (an_writeMap C P) v H1) := by
  refine Ct.of (by decide +kernel) (Nat.le_of_ble_eq_true rfl) (fun K Qf hkl X hM hQ => ?_)
  subst hkl
  subst hIP
  subst hIS
  have l4 := hP.l4
  have l5 := hP.l5
  have l2 := hP.l2
  have l9 := hP.l9
  have l10 := hP.l10
  have l101 := hP.l101
  have hn4 : nC (I 10) ≤ 144 := Nat.mul_le_mul l9 l10
  have hn0 : C = true → 0 < nC (I 10) := fun hh => by
    rcases hc with ⟨h, _⟩ | ⟨_, _, h, _, _⟩
    · exact absurd (hh.symm.trans h) (by decide)
    · exact Nat.mul_pos h.x1 h.y1
  have hx1 : C = true → 0 < nX (I 10) ∧ 0 < nY (I 10) := fun hh => by
    rcases hc with ⟨h, _⟩ | ⟨_, _, h, _, _⟩
    · exact absurd (hh.symm.trans h) (by decide)
    · exact ⟨h.x1, h.y1⟩
  refine vv_sub (lv' := [(0, .ref (g 0))]) [0] rfl ?_
  rcases hc with ⟨rfl, h20⟩ | ⟨rfl, h20, hC, hS, hT⟩
  · refine vv_aload_n X dX2_writeMap_0 rfl 0 rfl ?_
    refine vv_iconst (v := nI 1) X dX2_writeMap_1 (by decide) ?_
    refine vv_callV X (mX2_mayAsk0 (kL K) D g x I J hg True h20) q3244 q3246 qs98 q144 q3247 nX2_mayAsk ⟨(Nat.le_of_ble_eq_true rfl), (Nat.le_of_ble_eq_true rfl)⟩ dX2_writeMap_2 rfl (Nat.le_of_ble_eq_true rfl) (recv X hM.1 CL_X2) hM  (fun _ z => Or.inl z) ⟨(Nat.le_of_ble_eq_true rfl), (Nat.le_of_ble_eq_true rfl)⟩ (fun v_ H hq hz hk => ?_)
    obtain ⟨rfl, hM⟩ := hq
    clear hz hk
    refine vv_eqi (b2_n (p := False) (fun z => z)) ?_
    refine vn_if_ne (tgt := 10) X (by omega) dX2_writeMap_5 (by decide) (fun c_5 => ?_) (fun c_5 => ?_)
    · exact absurd c_5 (by decide)
    · refine vv_iconst (v := nI 0) X dX2_writeMap_8 (by decide) ?_
      exact vv_iret X hQ dX2_writeMap_9 (Nat.le_refl _) (Nat.le_refl _) (MS.no hM (ag_u (by decide) (ag_r)) (ag_r) 1 (by decide) _ (nI 0) (ask_0) rfl rfl)
  · refine vv_aload_n X dX2_writeMap_0 rfl 0 rfl ?_
    refine vv_iconst (v := nI 1) X dX2_writeMap_1 (by decide) ?_
    refine vv_callV X (mX2_mayAsk1 (kL K) D g x I J hg True h20) q3244 q3246 qs98 q144 q3247 nX2_mayAsk ⟨(Nat.le_of_ble_eq_true rfl), (Nat.le_of_ble_eq_true rfl)⟩ dX2_writeMap_2 rfl (Nat.le_of_ble_eq_true rfl) (recv X hM.1 CL_X2) hM  (fun _ z => Or.inl z) ⟨(Nat.le_of_ble_eq_true rfl), (Nat.le_of_ble_eq_true rfl)⟩ (fun v_ H hq hz hk => ?_)
    obtain ⟨rfl, hM⟩ := hq
    clear hz hk
    refine vv_eqi (b2_y (p := True) trivial) ?_
    rw [if_pos trivial] at hM
    refine vn_if_ne (tgt := 10) X (by omega) dX2_writeMap_5 (by decide) (fun c_5 => ?_) (fun c_5 => ?_)
    · have hbl := bsN_lt (sc := pwc (I 10) (I 12)) (hn0 rfl)
      obtain ⟨hx1, hy1⟩ := hx1 rfl
      refine vv_aload_n X dX2_writeMap_10 rfl 0 rfl ?_
      refine mg25 X rfl hM dX2_writeMap_11 ?_
      refine vv_aload_n X dX2_writeMap_14 rfl 0 rfl ?_
      refine vv_aload_n X dX2_writeMap_15 rfl 0 rfl ?_
      refine mg12 X rfl hM dX2_writeMap_16 ?_
      refine vv_callV X (mX2_bestIn12 (kL K) D g (va_up x 0 (nI 0)) I J (I 10) rfl (I 12) rfl hg hC hS hT) q3372 q3374 qs111 q144 q3375 nX2_bestIn ⟨(Nat.le_of_ble_eq_true rfl), (Nat.le_of_ble_eq_true rfl)⟩ dX2_writeMap_19 rfl (Nat.le_of_ble_eq_true rfl) (recv X hM.1 CL_X2) hM  (fun _ z => Or.inl z) ⟨(Nat.le_of_ble_eq_true rfl), (Nat.le_of_ble_eq_true rfl)⟩ (fun v_ H hq hz hk => ?_)
      obtain ⟨rfl, d_1, p_2, hM, hp_3⟩ := hq
      clear hz hk
      refine vv_lald X hM.a25 (bsN (pwc (I 10) (I 12)) (nC (I 10))) (by omega) (by decide) rfl dX2_writeMap_22 ?_
      refine vv_eql (hp_3 _ (by omega)) ?_
      refine vv_lstore_n (lv' := [(1, .long (pwc (I 10) (I 12) (bsN (pwc (I 10) (I 12)) (nC (I 10))))), (0, .ref (g 0))]) X dX2_writeMap_23 rfl (by decide) rfl ?_
      refine vv_aload_n X dX2_writeMap_24 rfl 1 rfl ?_
      refine vv_iconst (v := nI 0) X dX2_writeMap_25 (by decide) ?_
      refine mp28 X rfl hM hg (Or.inl (MA.in (by decide))) dX2_writeMap_26 (fun H hM => ?_)
      refine vv_iconst (v := nI 0) X dX2_writeMap_29 (by decide) ?_
      refine vv_istore_n (lv' := [(3, .int (nI 0)), (1, .long (pwc (I 10) (I 12) (bsN (pwc (I 10) (I 12)) (nC (I 10))))), (0, .ref (g 0))]) X dX2_writeMap_30 rfl (by decide) rfl ?_
      have hx_4 : ∀ (H : Heap) (hM : MR D g (va_up (va_up x 0 (nI 0)) 28 (nI (pgl (I 10) (nC (I 10))))) (va_up (va_up I 24 d_1) 27 (rz (I 27) (pgb (I 10) (pwc (I 10) (I 12)) (bC (I 10) (I 12))) (pgl (I 10) (nC (I 10))))) (va_up J 25 p_2) H), V K 4 (MA g) H 0 0 Qf 127 [(0, .ref (g 0)), (1, .long ((pwc (I 10) (I 12)) (bC (I 10) (I 12)))), (3, .int (nI (nC (I 10))))] [] := by
        intro H hM
        rw [pgl_n hx1 hy1] at hM
        refine vv_aload_n X dX2_writeMap_127 rfl 0 rfl ?_
        refine mg28 X rfl hM dX2_writeMap_128 ?_
        exact vv_iret X hQ dX2_writeMap_131 (Nat.le_refl _) (Nat.le_refl _) (MS.of hM (ag_c (ag_u (by decide) (ag_r))) (ag_c (ag_u (by decide) (ag_r))) _ (nI (pgn (I 10))) (ask_t trivial) rfl (rfl) rfl)
      have hl_5 : ∀ (n_i i : Nat) (H : Heap), i + n_i = nC (I 10) → (MR D g (va_up (va_up x 0 (nI 0)) 28 (nI (pgl (I 10) i))) (va_up (va_up I 24 d_1) 27 (rz (I 27) (pgb (I 10) (pwc (I 10) (I 12)) (bC (I 10) (I 12))) (pgl (I 10) i))) (va_up J 25 p_2) H) → V K 4 (MA g) H 0 0 Qf 31 [(0, .ref (g 0)), (1, .long ((pwc (I 10) (I 12)) (bC (I 10) (I 12)))), (3, .int (nI i))] [] := by
        intro n_i
        induction n_i with
        | zero =>
          intro i H hi hM
          obtain rfl : i = nC (I 10) := by omega
          refine vv_iload_n X dX2_writeMap_31 rfl 2 rfl ?_
          refine vv_aload_n X dX2_writeMap_32 rfl 0 rfl ?_
          refine vv_callVp X (mX2_cellCount (kL K) D g (va_up (va_up x 0 (nI 0)) 28 (nI (pgl (I 10) (nC (I 10))))) (va_up (va_up I 24 d_1) 27 (rz (I 27) (pgb (I 10) (pwc (I 10) (I 12)) (bC (I 10) (I 12))) (pgl (I 10) (nC (I 10))))) (va_up J 25 p_2) (I 10) rfl hP) q3172 q3174 qs84 q144 q3175 nX2_cellCount ⟨(Nat.le_of_ble_eq_true rfl), (Nat.le_of_ble_eq_true rfl)⟩ dX2_writeMap_33 rfl (Nat.le_of_ble_eq_true rfl) (recv X hM.1 CL_X2) hM ⟨(Nat.le_of_ble_eq_true rfl), (Nat.le_of_ble_eq_true rfl)⟩ ?_
          refine vn_ge (tgt := 127) X (by omega) (by omega) dX2_writeMap_36 (by decide) (fun c_36 => ?_) (fun c_36 => ?_)
          · exact hx_4 H hM
          · exact absurd c_36 (by omega)
        | succ n_i ihi =>
          intro i H hi hM
          have hlt := pgl_lt l10 (c := i) (by omega) hn4
          have hmx := Nat.mod_le i (nX (I 10))
          refine vv_iload_n X dX2_writeMap_31 rfl 2 rfl ?_
          refine vv_aload_n X dX2_writeMap_32 rfl 0 rfl ?_
          refine vv_callVp X (mX2_cellCount (kL K) D g (va_up (va_up x 0 (nI 0)) 28 (nI (pgl (I 10) i))) (va_up (va_up I 24 d_1) 27 (rz (I 27) (pgb (I 10) (pwc (I 10) (I 12)) (bC (I 10) (I 12))) (pgl (I 10) i))) (va_up J 25 p_2) (I 10) rfl hP) q3172 q3174 qs84 q144 q3175 nX2_cellCount ⟨(Nat.le_of_ble_eq_true rfl), (Nat.le_of_ble_eq_true rfl)⟩ dX2_writeMap_33 rfl (Nat.le_of_ble_eq_true rfl) (recv X hM.1 CL_X2) hM ⟨(Nat.le_of_ble_eq_true rfl), (Nat.le_of_ble_eq_true rfl)⟩ ?_
          refine vn_ge (tgt := 127) X (by omega) (by omega) dX2_writeMap_36 (by decide) (fun c_36 => ?_) (fun c_36 => ?_)
          · exact absurd hi (by omega)
          · refine vv_iload_n X dX2_writeMap_39 rfl 2 rfl ?_
            refine vn_if_le (tgt := 76) X (by omega) dX2_writeMap_40 (by decide) (fun c_40 => ?_) (fun c_40 => ?_)
            · have hpb := pgl_b hx1 (c := i) (fun z => absurd z.1 (by omega))
              refine vv_aload_n X dX2_writeMap_76 rfl 0 rfl ?_
              refine mg27 X rfl hM dX2_writeMap_77 ?_
              refine vv_aload_n X dX2_writeMap_80 rfl 0 rfl ?_
              refine mg28 X rfl hM dX2_writeMap_81 ?_
              refine vv_bipush (v := nI 48) X dX2_writeMap_84 (by decide) ?_
              refine vv_lload_n X dX2_writeMap_86 rfl 1 rfl ?_
              refine vv_lconst (v := 0) X dX2_writeMap_87 (by decide) ?_
              refine vv_lcmp X dX2_writeMap_88 ?_
              refine vz_ne (tgt := 96) X dX2_writeMap_89 (by decide) (fun c_89 => ?_) (fun c_89 => ?_)
              · refine vv_ldc2 (v := 9) X q3556 dX2_writeMap_96 ?_
                refine vv_aload_n X dX2_writeMap_99 rfl 0 rfl ?_
                refine mg25 X rfl hM dX2_writeMap_100 ?_
                refine vv_iload_n X dX2_writeMap_103 rfl 2 rfl ?_
                refine vv_lald X hM.a25 (i) (by omega) (by decide) rfl dX2_writeMap_104 ?_
                refine vv_eql (hp_3 _ (by omega)) ?_
                refine vv_lmul X dX2_writeMap_105 ?_
                refine vv_lload_n X dX2_writeMap_106 rfl 1 rfl ?_
                refine vv_ldiv X dX2_writeMap_107 (c_89) ?_
                refine vv_l2i X dX2_writeMap_108 rfl ?_
                refine vv_iadd X dX2_writeMap_109 ?_
                refine ms27 X hM hg (pgl (I 10) i) (by omega) rfl (Or.inl (MA.in (by decide))) dX2_writeMap_110 (fun H hM => ?_)
                rw [up_up] at hM
                refine vv_aload_n X dX2_writeMap_111 rfl 0 rfl ?_
                refine vv_dup X dX2_writeMap_112 rfl ?_
                refine mg28 X rfl hM dX2_writeMap_113 ?_
                refine vv_iconst (v := nI 1) X dX2_writeMap_116 (by decide) ?_
                refine vn_add X dX2_writeMap_117 ?_
                refine mp28 X rfl hM hg (Or.inl (MA.in (by decide))) dX2_writeMap_118 (fun H hM => ?_)
                rw [up_up] at hM
                refine vv_iinc (v := nI (i + 1)) (lv' := [(3, .int (nI (i + 1))), (0, .ref (g 0)), (1, .long ((pwc (I 10) (I 12)) (bC (I 10) (I 12))))]) X dX2_writeMap_121 (k := 2) rfl (nI_add _ 1) (by decide) rfl ?_
                refine vv_goto (tgt := 31) X dX2_writeMap_124 (by decide) ?_
                refine vv_sub [1, 2, 0] rfl ?_
                exact ihi (i + 1) H (by omega) (by rw [pgl_s, ← hpb, ← rz_s (f := I 27) (g := (pgb (I 10) (pwc (I 10) (I 12)) (bC (I 10) (I 12)))) (n := pgl (I 10) i) (v := nI 48 + ((9 : Int64) * (pwc (I 10) (I 12)) i / (pwc (I 10) (I 12)) (bC (I 10) (I 12))).toInt32) (by rw [hpb]; exact (pgb_n hx1 c_89))]; exact hM)
              · refine vv_iconst (v := nI 0) X dX2_writeMap_92 (by decide) ?_
                refine vv_goto (tgt := 109) X dX2_writeMap_93 (by decide) ?_
                refine vv_iadd X dX2_writeMap_109 ?_
                refine ms27 X hM hg (pgl (I 10) i) (by omega) rfl (Or.inl (MA.in (by decide))) dX2_writeMap_110 (fun H hM => ?_)
                rw [up_up] at hM
                refine vv_aload_n X dX2_writeMap_111 rfl 0 rfl ?_
                refine vv_dup X dX2_writeMap_112 rfl ?_
                refine mg28 X rfl hM dX2_writeMap_113 ?_
                refine vv_iconst (v := nI 1) X dX2_writeMap_116 (by decide) ?_
                refine vn_add X dX2_writeMap_117 ?_
                refine mp28 X rfl hM hg (Or.inl (MA.in (by decide))) dX2_writeMap_118 (fun H hM => ?_)
                rw [up_up] at hM
                refine vv_iinc (v := nI (i + 1)) (lv' := [(3, .int (nI (i + 1))), (0, .ref (g 0)), (1, .long ((pwc (I 10) (I 12)) (bC (I 10) (I 12))))]) X dX2_writeMap_121 (k := 2) rfl (nI_add _ 1) (by decide) rfl ?_
                refine vv_goto (tgt := 31) X dX2_writeMap_124 (by decide) ?_
                refine vv_sub [1, 2, 0] rfl ?_
                exact ihi (i + 1) H (by omega) (by rw [pgl_s, ← hpb, ← rz_s (f := I 27) (g := (pgb (I 10) (pwc (I 10) (I 12)) (bC (I 10) (I 12)))) (n := pgl (I 10) i) (v := nI 48 + nI 0) (by rw [hpb]; exact (pgb_y hx1 c_89))]; exact hM)
            · refine vv_iload_n X dX2_writeMap_43 rfl 2 rfl ?_
              refine vv_aload_n X dX2_writeMap_44 rfl 0 rfl ?_
              refine mg10 X rfl hM dX2_writeMap_45 ?_
              refine vv_bipush (v := nI 9) X dX2_writeMap_48 (by decide) ?_
              refine vv_iald X hM.a10 (9) (by omega) (by decide) rfl dX2_writeMap_50 ?_
              refine vv_eqi hP.e9 ?_
              refine vn_rem X (by omega) (by omega) (by omega) dX2_writeMap_51 ?_
              refine vn_if_ne (tgt := 76) X (by omega) dX2_writeMap_52 (by decide) (fun c_52 => ?_) (fun c_52 => ?_)
              · have hpb := pgl_b hx1 (c := i) (fun z => absurd z.2 (Nat.ne_of_gt c_52))
                refine vv_aload_n X dX2_writeMap_76 rfl 0 rfl ?_
                refine mg27 X rfl hM dX2_writeMap_77 ?_
                refine vv_aload_n X dX2_writeMap_80 rfl 0 rfl ?_
                refine mg28 X rfl hM dX2_writeMap_81 ?_
                refine vv_bipush (v := nI 48) X dX2_writeMap_84 (by decide) ?_
                refine vv_lload_n X dX2_writeMap_86 rfl 1 rfl ?_
                refine vv_lconst (v := 0) X dX2_writeMap_87 (by decide) ?_
                refine vv_lcmp X dX2_writeMap_88 ?_
                refine vz_ne (tgt := 96) X dX2_writeMap_89 (by decide) (fun c_89 => ?_) (fun c_89 => ?_)
                · refine vv_ldc2 (v := 9) X q3556 dX2_writeMap_96 ?_
                  refine vv_aload_n X dX2_writeMap_99 rfl 0 rfl ?_
                  refine mg25 X rfl hM dX2_writeMap_100 ?_
                  refine vv_iload_n X dX2_writeMap_103 rfl 2 rfl ?_
                  refine vv_lald X hM.a25 (i) (by omega) (by decide) rfl dX2_writeMap_104 ?_
                  refine vv_eql (hp_3 _ (by omega)) ?_
                  refine vv_lmul X dX2_writeMap_105 ?_
                  refine vv_lload_n X dX2_writeMap_106 rfl 1 rfl ?_
                  refine vv_ldiv X dX2_writeMap_107 (c_89) ?_
                  refine vv_l2i X dX2_writeMap_108 rfl ?_
                  refine vv_iadd X dX2_writeMap_109 ?_
                  refine ms27 X hM hg (pgl (I 10) i) (by omega) rfl (Or.inl (MA.in (by decide))) dX2_writeMap_110 (fun H hM => ?_)
                  rw [up_up] at hM
                  refine vv_aload_n X dX2_writeMap_111 rfl 0 rfl ?_
                  refine vv_dup X dX2_writeMap_112 rfl ?_
                  refine mg28 X rfl hM dX2_writeMap_113 ?_
                  refine vv_iconst (v := nI 1) X dX2_writeMap_116 (by decide) ?_
                  refine vn_add X dX2_writeMap_117 ?_
                  refine mp28 X rfl hM hg (Or.inl (MA.in (by decide))) dX2_writeMap_118 (fun H hM => ?_)
                  rw [up_up] at hM
                  refine vv_iinc (v := nI (i + 1)) (lv' := [(3, .int (nI (i + 1))), (0, .ref (g 0)), (1, .long ((pwc (I 10) (I 12)) (bC (I 10) (I 12))))]) X dX2_writeMap_121 (k := 2) rfl (nI_add _ 1) (by decide) rfl ?_
                  refine vv_goto (tgt := 31) X dX2_writeMap_124 (by decide) ?_
                  refine vv_sub [1, 2, 0] rfl ?_
                  exact ihi (i + 1) H (by omega) (by rw [pgl_s, ← hpb, ← rz_s (f := I 27) (g := (pgb (I 10) (pwc (I 10) (I 12)) (bC (I 10) (I 12)))) (n := pgl (I 10) i) (v := nI 48 + ((9 : Int64) * (pwc (I 10) (I 12)) i / (pwc (I 10) (I 12)) (bC (I 10) (I 12))).toInt32) (by rw [hpb]; exact (pgb_n hx1 c_89))]; exact hM)
                · refine vv_iconst (v := nI 0) X dX2_writeMap_92 (by decide) ?_
                  refine vv_goto (tgt := 109) X dX2_writeMap_93 (by decide) ?_
                  refine vv_iadd X dX2_writeMap_109 ?_
                  refine ms27 X hM hg (pgl (I 10) i) (by omega) rfl (Or.inl (MA.in (by decide))) dX2_writeMap_110 (fun H hM => ?_)
                  rw [up_up] at hM
                  refine vv_aload_n X dX2_writeMap_111 rfl 0 rfl ?_
                  refine vv_dup X dX2_writeMap_112 rfl ?_
                  refine mg28 X rfl hM dX2_writeMap_113 ?_
                  refine vv_iconst (v := nI 1) X dX2_writeMap_116 (by decide) ?_
                  refine vn_add X dX2_writeMap_117 ?_
                  refine mp28 X rfl hM hg (Or.inl (MA.in (by decide))) dX2_writeMap_118 (fun H hM => ?_)
                  rw [up_up] at hM
                  refine vv_iinc (v := nI (i + 1)) (lv' := [(3, .int (nI (i + 1))), (0, .ref (g 0)), (1, .long ((pwc (I 10) (I 12)) (bC (I 10) (I 12))))]) X dX2_writeMap_121 (k := 2) rfl (nI_add _ 1) (by decide) rfl ?_
                  refine vv_goto (tgt := 31) X dX2_writeMap_124 (by decide) ?_
                  refine vv_sub [1, 2, 0] rfl ?_
                  exact ihi (i + 1) H (by omega) (by rw [pgl_s, ← hpb, ← rz_s (f := I 27) (g := (pgb (I 10) (pwc (I 10) (I 12)) (bC (I 10) (I 12)))) (n := pgl (I 10) i) (v := nI 48 + nI 0) (by rw [hpb]; exact (pgb_y hx1 c_89))]; exact hM)
              · have hpa := pgl_a hx1 c_40 c_52
                have hpa1 := hpa.1
                refine vv_aload_n X dX2_writeMap_55 rfl 0 rfl ?_
                refine mg27 X rfl hM dX2_writeMap_56 ?_
                refine vv_aload_n X dX2_writeMap_59 rfl 0 rfl ?_
                refine mg28 X rfl hM dX2_writeMap_60 ?_
                refine vv_bipush (v := nI 59) X dX2_writeMap_63 (by decide) ?_
                refine ms27 X hM hg (pgl (I 10) i) (by omega) rfl (Or.inl (MA.in (by decide))) dX2_writeMap_65 (fun H hM => ?_)
                rw [up_up] at hM
                refine vv_aload_n X dX2_writeMap_66 rfl 0 rfl ?_
                refine vv_dup X dX2_writeMap_67 rfl ?_
                refine mg28 X rfl hM dX2_writeMap_68 ?_
                refine vv_iconst (v := nI 1) X dX2_writeMap_71 (by decide) ?_
                refine vn_add X dX2_writeMap_72 ?_
                refine mp28 X rfl hM hg (Or.inl (MA.in (by decide))) dX2_writeMap_73 (fun H hM => ?_)
                rw [up_up] at hM
                refine vv_aload_n X dX2_writeMap_76 rfl 0 rfl ?_
                refine mg27 X rfl hM dX2_writeMap_77 ?_
                refine vv_aload_n X dX2_writeMap_80 rfl 0 rfl ?_
                refine mg28 X rfl hM dX2_writeMap_81 ?_
                refine vv_bipush (v := nI 48) X dX2_writeMap_84 (by decide) ?_
                refine vv_lload_n X dX2_writeMap_86 rfl 1 rfl ?_
                refine vv_lconst (v := 0) X dX2_writeMap_87 (by decide) ?_
                refine vv_lcmp X dX2_writeMap_88 ?_
                refine vz_ne (tgt := 96) X dX2_writeMap_89 (by decide) (fun c_89 => ?_) (fun c_89 => ?_)
                · refine vv_ldc2 (v := 9) X q3556 dX2_writeMap_96 ?_
                  refine vv_aload_n X dX2_writeMap_99 rfl 0 rfl ?_
                  refine mg25 X rfl hM dX2_writeMap_100 ?_
                  refine vv_iload_n X dX2_writeMap_103 rfl 2 rfl ?_
                  refine vv_lald X hM.a25 (i) (by omega) (by decide) rfl dX2_writeMap_104 ?_
                  refine vv_eql (hp_3 _ (by omega)) ?_
                  refine vv_lmul X dX2_writeMap_105 ?_
                  refine vv_lload_n X dX2_writeMap_106 rfl 1 rfl ?_
                  refine vv_ldiv X dX2_writeMap_107 (c_89) ?_
                  refine vv_l2i X dX2_writeMap_108 rfl ?_
                  refine vv_iadd X dX2_writeMap_109 ?_
                  refine ms27 X hM hg ((pgl (I 10) i) + 1) (by omega) rfl (Or.inl (MA.in (by decide))) dX2_writeMap_110 (fun H hM => ?_)
                  rw [up_up] at hM
                  refine vv_aload_n X dX2_writeMap_111 rfl 0 rfl ?_
                  refine vv_dup X dX2_writeMap_112 rfl ?_
                  refine mg28 X rfl hM dX2_writeMap_113 ?_
                  refine vv_iconst (v := nI 1) X dX2_writeMap_116 (by decide) ?_
                  refine vn_add X dX2_writeMap_117 ?_
                  refine mp28 X rfl hM hg (Or.inl (MA.in (by decide))) dX2_writeMap_118 (fun H hM => ?_)
                  rw [up_up] at hM
                  refine vv_iinc (v := nI (i + 1)) (lv' := [(3, .int (nI (i + 1))), (0, .ref (g 0)), (1, .long ((pwc (I 10) (I 12)) (bC (I 10) (I 12))))]) X dX2_writeMap_121 (k := 2) rfl (nI_add _ 1) (by decide) rfl ?_
                  refine vv_goto (tgt := 31) X dX2_writeMap_124 (by decide) ?_
                  refine vv_sub [1, 2, 0] rfl ?_
                  exact ihi (i + 1) H (by omega) (by rw [pgl_s, ← hpa.1, ← rz_s (f := I 27) (g := (pgb (I 10) (pwc (I 10) (I 12)) (bC (I 10) (I 12)))) (n := pgl (I 10) i + 1) (v := nI 48 + ((9 : Int64) * (pwc (I 10) (I 12)) i / (pwc (I 10) (I 12)) (bC (I 10) (I 12))).toInt32) (by rw [hpa.1]; exact (pgb_n hx1 c_89)), ← rz_s (f := I 27) (g := (pgb (I 10) (pwc (I 10) (I 12)) (bC (I 10) (I 12)))) (n := pgl (I 10) i) (pgb_s hpa.2).symm]; exact hM)
                · refine vv_iconst (v := nI 0) X dX2_writeMap_92 (by decide) ?_
                  refine vv_goto (tgt := 109) X dX2_writeMap_93 (by decide) ?_
                  refine vv_iadd X dX2_writeMap_109 ?_
                  refine ms27 X hM hg ((pgl (I 10) i) + 1) (by omega) rfl (Or.inl (MA.in (by decide))) dX2_writeMap_110 (fun H hM => ?_)
                  rw [up_up] at hM
                  refine vv_aload_n X dX2_writeMap_111 rfl 0 rfl ?_
                  refine vv_dup X dX2_writeMap_112 rfl ?_
                  refine mg28 X rfl hM dX2_writeMap_113 ?_
                  refine vv_iconst (v := nI 1) X dX2_writeMap_116 (by decide) ?_
                  refine vn_add X dX2_writeMap_117 ?_
                  refine mp28 X rfl hM hg (Or.inl (MA.in (by decide))) dX2_writeMap_118 (fun H hM => ?_)
                  rw [up_up] at hM
                  refine vv_iinc (v := nI (i + 1)) (lv' := [(3, .int (nI (i + 1))), (0, .ref (g 0)), (1, .long ((pwc (I 10) (I 12)) (bC (I 10) (I 12))))]) X dX2_writeMap_121 (k := 2) rfl (nI_add _ 1) (by decide) rfl ?_
                  refine vv_goto (tgt := 31) X dX2_writeMap_124 (by decide) ?_
                  refine vv_sub [1, 2, 0] rfl ?_
                  exact ihi (i + 1) H (by omega) (by rw [pgl_s, ← hpa.1, ← rz_s (f := I 27) (g := (pgb (I 10) (pwc (I 10) (I 12)) (bC (I 10) (I 12)))) (n := pgl (I 10) i + 1) (v := nI 48 + nI 0) (by rw [hpa.1]; exact (pgb_y hx1 c_89)), ← rz_s (f := I 27) (g := (pgb (I 10) (pwc (I 10) (I 12)) (bC (I 10) (I 12)))) (n := pgl (I 10) i) (pgb_s hpa.2).symm]; exact hM)
      refine vv_sub [2, 1, 0] rfl ?_
      exact hl_5 (nC (I 10)) 0 H (by omega) (by rw [show pgl (I 10) 0 = 0 from rfl, rz_0, show va_up (va_up I 24 d_1) 27 (I 27) = va_up I 24 d_1 from up_same (va_up I 24 d_1) 27]; exact hM)
    · exact absurd c_5 (by decide)
theorem nX2_bestVelocity : notMH yX2_bestVelocity 3 := by decide +kernel
set_option maxHeartbeats 800000 in
theorem aX2_bestVelocity (l : Launch) (D : DD) (g : Nat → Nat) (x : Nat → Int32) (I : Nat → Nat → Int32) (J : Nat → Nat → Int64) (P : Nat → Int32) (hIP : I 10 = P) (S : Nat → Int32) (hIS : I 12 = S) (C : Bool) (hg : MG g) (a st q : Int32) (hP : VP P) (hc : cam C (x 20) P S (I 17))  : Ct l yX2_bestVelocity cX2_bestVelocity 11 (some .int) { frames := 5, cells := 0, slots := 0, locals := 113 } D [.ref (g 0), .int (a), .int (st), .int (q)] (fun H => MR D g x I J H) (MA g) (fun v H H1 => MEnd D g x I iV (an_bestVelocity C P S a st q) v H1) := by
  refine Ct.of (by decide +kernel) (Nat.le_of_ble_eq_true rfl) (fun K Qf hkl X hM hQ => ?_)
  subst hkl
  subst hIP
  subst hIS
  have l4 := hP.l4
  have l5 := hP.l5
  have l2 := hP.l2
  have l9 := hP.l9
  have l10 := hP.l10
  have l101 := hP.l101
  have hn4 : nC (I 10) ≤ 144 := Nat.mul_le_mul l9 l10
  refine vv_sub (lv' := [(0, .ref (g 0)), (1, .int (a)), (2, .int (st)), (3, .int (q))]) [0, 1, 2, 3] rfl ?_
  rcases hc with ⟨rfl, h20⟩ | ⟨rfl, h20, hC, hS, hT⟩
  · refine vv_aload_n X dX2_bestVelocity_0 rfl 0 rfl ?_
    refine vv_aload_n X dX2_bestVelocity_1 rfl 0 rfl ?_
    refine vv_iload_n X dX2_bestVelocity_2 rfl 1 rfl ?_
    refine vv_callVp X (mX2_isCell (kL K) D g x I J (I 10) rfl a hP) q3268 q3270 qs100 q144 q3271 nX2_isCell ⟨(Nat.le_of_ble_eq_true rfl), (Nat.le_of_ble_eq_true rfl)⟩ dX2_bestVelocity_3 rfl (Nat.le_of_ble_eq_true rfl) (recv X hM.1 CL_X2) hM ⟨(Nat.le_of_ble_eq_true rfl), (Nat.le_of_ble_eq_true rfl)⟩ ?_
    refine vv_callV X (mX2_mayAsk0 (kL K) D g x I J hg (ix (nC (I 10)) a) h20) q3244 q3246 qs98 q144 q3247 nX2_mayAsk ⟨(Nat.le_of_ble_eq_true rfl), (Nat.le_of_ble_eq_true rfl)⟩ dX2_bestVelocity_6 rfl (Nat.le_of_ble_eq_true rfl) (recv X hM.1 CL_X2) hM  (fun _ z => Or.inl z) ⟨(Nat.le_of_ble_eq_true rfl), (Nat.le_of_ble_eq_true rfl)⟩ (fun v_ H hq hz hk => ?_)
    obtain ⟨rfl, hM⟩ := hq
    clear hz hk
    refine vv_eqi (b2_n (p := False) (fun z => z)) ?_
    refine vn_if_ne (tgt := 14) X (by omega) dX2_bestVelocity_9 (by decide) (fun c_9 => ?_) (fun c_9 => ?_)
    · exact absurd c_9 (by decide)
    · refine vv_iconst (v := nI 0) X dX2_bestVelocity_12 (by decide) ?_
      exact vv_iret X hQ dX2_bestVelocity_13 (Nat.le_refl _) (Nat.le_refl _) (MEnd.of hM (ag_u (by decide) (ag_r)) (ag_r) 1 _ (nI 0) (ask_0) rfl (fun h => absurd h (by decide)) rfl)
  · refine vv_aload_n X dX2_bestVelocity_0 rfl 0 rfl ?_
    refine vv_aload_n X dX2_bestVelocity_1 rfl 0 rfl ?_
    refine vv_iload_n X dX2_bestVelocity_2 rfl 1 rfl ?_
    refine vv_callVp X (mX2_isCell (kL K) D g x I J (I 10) rfl a hP) q3268 q3270 qs100 q144 q3271 nX2_isCell ⟨(Nat.le_of_ble_eq_true rfl), (Nat.le_of_ble_eq_true rfl)⟩ dX2_bestVelocity_3 rfl (Nat.le_of_ble_eq_true rfl) (recv X hM.1 CL_X2) hM ⟨(Nat.le_of_ble_eq_true rfl), (Nat.le_of_ble_eq_true rfl)⟩ ?_
    refine vv_callV X (mX2_mayAsk1 (kL K) D g x I J hg (ix (nC (I 10)) a) h20) q3244 q3246 qs98 q144 q3247 nX2_mayAsk ⟨(Nat.le_of_ble_eq_true rfl), (Nat.le_of_ble_eq_true rfl)⟩ dX2_bestVelocity_6 rfl (Nat.le_of_ble_eq_true rfl) (recv X hM.1 CL_X2) hM  (fun _ z => Or.inl z) ⟨(Nat.le_of_ble_eq_true rfl), (Nat.le_of_ble_eq_true rfl)⟩ (fun v_ H hq hz hk => ?_)
    obtain ⟨rfl, hM⟩ := hq
    clear hz hk
    by_cases hp : ix (nC (I 10)) a
    · refine vv_eqi (b2_y hp) ?_
      rw [if_pos hp] at hM
      obtain ⟨j, hj, rfl⟩ := ix_of (by omega) hp
      have ej : cl (nI j) = j := cl_I (by omega)
      refine vn_if_ne (tgt := 14) X (by omega) dX2_bestVelocity_9 (by decide) (fun c_9 => ?_) (fun c_9 => ?_)
      · refine vv_iload_n X dX2_bestVelocity_14 rfl 2 rfl ?_
        refine vv_iconst (v := nI 1) X dX2_bestVelocity_15 (by decide) ?_
        refine vv_bipush (v := nI 99) X dX2_bestVelocity_16 (by decide) ?_
        refine vv_callSp X (mX2_in (kL K) D st (nI 1) (nI 99)) q3031 q3032 q144 q3033 nX2_in ⟨(Nat.le_of_ble_eq_true rfl), (Nat.le_of_ble_eq_true rfl)⟩ dX2_bestVelocity_18 rfl (Nat.le_of_ble_eq_true rfl) trivial ⟨(Nat.le_of_ble_eq_true rfl), (Nat.le_of_ble_eq_true rfl)⟩ ?_
        refine vb_eq (tgt := 33) X dX2_bestVelocity_21 (by decide) (fun c_21 => ?_) (fun c_21 => ?_)
        · refine vv_aload_n X dX2_bestVelocity_33 rfl 0 rfl ?_
          refine vv_iconst (v := nI 3) X dX2_bestVelocity_34 (by decide) ?_
          refine vv_callV X (mX2_throwsAt (kL K) D g (va_up x 0 (nI 0)) I J hg (nI 3)) q3034 q3036 qs59 q144 q3037 nX2_throwsAt ⟨(Nat.le_of_ble_eq_true rfl), (Nat.le_of_ble_eq_true rfl)⟩ dX2_bestVelocity_35 rfl (Nat.le_of_ble_eq_true rfl) (recv X hM.1 CL_X2) hM  (fun _ z => Or.inl z) ⟨(Nat.le_of_ble_eq_true rfl), (Nat.le_of_ble_eq_true rfl)⟩ (fun v_ H hq hz hk => ?_)
          obtain ⟨rfl, hM⟩ := hq
          clear hz hk
          rw [up_up] at hM
          exact vv_iret X hQ dX2_bestVelocity_38 (Nat.le_refl _) (Nat.le_refl _) (MEnd.of hM (ag_u (by decide) (ag_r)) (ag_r) 3 _ (nI 0) ((ask_t hp).trans (arg_f (fun z => c_21 z.1))) rfl (fun h => absurd h (by decide)) rfl)
        · refine vv_iload_n X dX2_bestVelocity_24 rfl 3 rfl ?_
          refine vv_iconst (v := nI 0) X dX2_bestVelocity_25 (by decide) ?_
          refine vv_iconst (v := nI 4) X dX2_bestVelocity_26 (by decide) ?_
          refine vv_callSp X (mX2_in (kL K) D q (nI 0) (nI 4)) q3031 q3032 q144 q3033 nX2_in ⟨(Nat.le_of_ble_eq_true rfl), (Nat.le_of_ble_eq_true rfl)⟩ dX2_bestVelocity_27 rfl (Nat.le_of_ble_eq_true rfl) trivial ⟨(Nat.le_of_ble_eq_true rfl), (Nat.le_of_ble_eq_true rfl)⟩ ?_
          refine vb_ne (tgt := 39) X dX2_bestVelocity_30 (by decide) (fun c_30 => ?_) (fun c_30 => ?_)
          · obtain ⟨m, hm, hm2, rfl⟩ := inR2 (by omega) (by omega) c_30
            have em : cl (nI m) = m := cl_I (by omega)
            refine vv_iconst (v := -1) X dX2_bestVelocity_39 (by decide) ?_
            refine vv_istore (lv' := [(4, .int ((-1))), (0, .ref (g 0)), (1, .int (nI j)), (2, .int (st)), (3, .int (nI m))]) X dX2_bestVelocity_40 (by decide) rfl ?_
            refine vv_lconst (v := 0) X dX2_bestVelocity_42 (by decide) ?_
            refine vv_lstore (lv' := [(5, .long (0)), (4, .int ((-1))), (0, .ref (g 0)), (1, .int (nI j)), (2, .int (st)), (3, .int (nI m))]) X dX2_bestVelocity_43 (by decide) rfl ?_
            refine vv_iload_n X dX2_bestVelocity_45 rfl 5 rfl ?_
            refine vv_ineg X dX2_bestVelocity_46 ?_
            refine vv_istore (lv' := [(7, .int (-(nI m))), (5, .long (0)), (4, .int ((-1))), (0, .ref (g 0)), (1, .int (nI j)), (2, .int (st)), (3, .int (nI m))]) X dX2_bestVelocity_47 (by decide) rfl ?_
            have hx_1 : ∀ (H : Heap) (d : Nat → Int32) (cb : Int32) (gr : Int64) (iv : Int32) (hM : MR D g (va_up x 0 (nI 0)) (va_up I 24 d) J H) (hbi : bvi (bvs (I 10) (I 12) j st m) (2 * m + 1) ((2 * m + 1) * (2 * m + 1)) cb gr) (hiv : iv = nI (2 * m + 1) - nI m), V K 11 (MA g) H 0 0 Qf 127 [(0, .ref (g 0)), (1, .int (nI j)), (2, .int (st)), (3, .int (nI m)), (4, .int (cb)), (5, .long (gr)), (7, .int (iv))] [] := by
              intro H d cb gr iv hM hbi hiv
              refine vv_iload X dX2_bestVelocity_127 4 rfl ?_
              exact vv_iret X hQ dX2_bestVelocity_129 (Nat.le_refl _) (Nat.le_refl _) (MEnd.of hM (ag_u (by decide) (ag_r)) (ag_u (by decide) (ag_r)) 0 _ (cb) ((ask_t hp).trans (arg_t (⟨c_21, c_30⟩))) rfl (fun _ => by simp only [ej, em]; exact hbi.elim (fun h => absurd h.1 (Nat.ne_of_gt (Nat.mul_pos (by omega) (by omega)))) (fun h => h.2.1)) rfl)
            have hl_2 : ∀ (n_a a : Nat) (H : Heap) (d : Nat → Int32) (cb : Int32) (gr : Int64) (iv : Int32), a + n_a = (2 * m + 1) → (MR D g (va_up x 0 (nI 0)) (va_up I 24 d) J H) → (bvi (bvs (I 10) (I 12) j st m) (2 * m + 1) ((2 * m + 1) * a) cb gr) → (iv = nI a - nI m) → V K 11 (MA g) H 0 0 Qf 49 [(0, .ref (g 0)), (1, .int (nI j)), (2, .int (st)), (3, .int (nI m)), (4, .int (cb)), (5, .long (gr)), (7, .int (iv))] [] := by
              intro n_a
              induction n_a with
              | zero =>
                intro a H d cb gr iv ha hM hbi hiv
                obtain rfl : a = (2 * m + 1) := by omega
                refine vv_iload X dX2_bestVelocity_49 6 rfl ?_
                refine vv_iload_n X dX2_bestVelocity_51 rfl 3 rfl ?_
                refine vv_icmp_gt (tgt := 127) X dX2_bestVelocity_52 (by decide) (fun c_52 => ?_) (fun c_52 => ?_)
                · exact hx_1 H d cb gr iv hM hbi hiv
                · exact absurd ((dv_gt (a := 2 * m + 1) (m := m) (by omega) (by omega)).mpr (by omega)) (by rw [← hiv]; exact c_52)
              | succ n_a iha =>
                intro a H d cb gr iv ha hM hbi hiv
                refine vv_iload X dX2_bestVelocity_49 6 rfl ?_
                refine vv_iload_n X dX2_bestVelocity_51 rfl 3 rfl ?_
                refine vv_icmp_gt (tgt := 127) X dX2_bestVelocity_52 (by decide) (fun c_52 => ?_) (fun c_52 => ?_)
                · exact absurd c_52 (by rw [hiv, dv_gt (by omega) (by omega)]; omega)
                · refine vv_iload_n X dX2_bestVelocity_55 rfl 3 rfl ?_
                  refine vv_ineg X dX2_bestVelocity_56 ?_
                  refine vv_istore (lv' := [(8, .int (-(nI m))), (0, .ref (g 0)), (1, .int (nI j)), (2, .int (st)), (3, .int (nI m)), (4, .int (cb)), (5, .long (gr)), (7, .int (iv))]) X dX2_bestVelocity_57 (by decide) rfl ?_
                  have hx_3 : ∀ (H : Heap) (d : Nat → Int32) (cb : Int32) (gr : Int64) (kv : Int32) (hM : MR D g (va_up x 0 (nI 0)) (va_up I 24 d) J H) (hbi : bvi (bvs (I 10) (I 12) j st m) (2 * m + 1) ((2 * m + 1) * a + (2 * m + 1)) cb gr) (hkv : kv = nI (2 * m + 1) - nI m), V K 11 (MA g) H 0 0 Qf 121 [(0, .ref (g 0)), (1, .int (nI j)), (2, .int (st)), (3, .int (nI m)), (4, .int (cb)), (5, .long (gr)), (7, .int (iv)), (8, .int (kv))] [] := by
                    intro H d cb gr kv hM hbi hkv
                    refine vv_iinc (v := iv + (1)) (lv' := [(7, .int (iv + (1))), (0, .ref (g 0)), (1, .int (nI j)), (2, .int (st)), (3, .int (nI m)), (4, .int (cb)), (5, .long (gr)), (8, .int (kv))]) X dX2_bestVelocity_121 (k := 6) rfl rfl (by decide) rfl ?_
                    refine vv_goto (tgt := 49) X dX2_bestVelocity_124 (by decide) ?_
                    refine vv_sub [1, 2, 3, 4, 5, 6, 0] rfl ?_
                    exact iha (a + 1) H d cb gr (iv + (1)) (by omega) (hM) (by rw [Nat.mul_succ]; exact hbi) (by rw [hiv]; exact dv_s)
                  have hl_4 : ∀ (n_b b : Nat) (H : Heap) (d : Nat → Int32) (cb : Int32) (gr : Int64) (kv : Int32), b + n_b = (2 * m + 1) → (MR D g (va_up x 0 (nI 0)) (va_up I 24 d) J H) → (bvi (bvs (I 10) (I 12) j st m) (2 * m + 1) ((2 * m + 1) * a + b) cb gr) → (kv = nI b - nI m) → V K 11 (MA g) H 0 0 Qf 59 [(0, .ref (g 0)), (1, .int (nI j)), (2, .int (st)), (3, .int (nI m)), (4, .int (cb)), (5, .long (gr)), (7, .int (iv)), (8, .int (kv))] [] := by
                    intro n_b
                    induction n_b with
                    | zero =>
                      intro b H d cb gr kv hb hM hbi hkv
                      obtain rfl : b = (2 * m + 1) := by omega
                      refine vv_iload X dX2_bestVelocity_59 7 rfl ?_
                      refine vv_iload_n X dX2_bestVelocity_61 rfl 3 rfl ?_
                      refine vv_icmp_gt (tgt := 121) X dX2_bestVelocity_62 (by decide) (fun c_62 => ?_) (fun c_62 => ?_)
                      · exact hx_3 H d cb gr kv hM hbi hkv
                      · exact absurd ((dv_gt (a := 2 * m + 1) (m := m) (by omega) (by omega)).mpr (by omega)) (by rw [← hkv]; exact c_62)
                    | succ n_b ihb =>
                      intro b H d cb gr kv hb hM hbi hkv
                      refine vv_iload X dX2_bestVelocity_59 7 rfl ?_
                      refine vv_iload_n X dX2_bestVelocity_61 rfl 3 rfl ?_
                      refine vv_icmp_gt (tgt := 121) X dX2_bestVelocity_62 (by decide) (fun c_62 => ?_) (fun c_62 => ?_)
                      · exact absurd c_62 (by rw [hkv, dv_gt (by omega) (by omega)]; omega)
                      · have hst : rg 99 st := by
                          obtain ⟨k, h1, h2, rfl⟩ := inR2 (by omega) (by omega) c_21
                          exact rg.ofN (by omega) (by omega)
                        have hru : rg 999 (st * iv) := by rw [hiv]; exact (hst.mul (dv_rg (a := a) (m := m) (by omega) (by omega)) (by omega)).mono (by omega)
                        have hrw : rg 999 (st * kv) := by rw [hkv]; exact (hst.mul (dv_rg (a := b) (m := m) (by omega) (by omega)) (by omega)).mono (by omega)
                        refine vv_aload_n X dX2_bestVelocity_65 rfl 0 rfl ?_
                        refine vv_iload_n X dX2_bestVelocity_66 rfl 1 rfl ?_
                        refine vv_iload_n X dX2_bestVelocity_67 rfl 2 rfl ?_
                        refine vv_iload X dX2_bestVelocity_68 6 rfl ?_
                        refine vv_imul X dX2_bestVelocity_70 ?_
                        refine vv_iload_n X dX2_bestVelocity_71 rfl 2 rfl ?_
                        refine vv_iload X dX2_bestVelocity_72 7 rfl ?_
                        refine vv_imul X dX2_bestVelocity_74 ?_
                        refine vv_callV X (mX2_movingOf (kL K) D g (va_up x 0 (nI 0)) (va_up I 24 d) J (I 10) rfl (I 12) rfl hg j (st * iv) (st * kv) hC hS (by omega) (hru) (hrw)) q3520 q3522 qs128 q144 q3523 nX2_movingOf ⟨(Nat.le_of_ble_eq_true rfl), (Nat.le_of_ble_eq_true rfl)⟩ dX2_bestVelocity_75 rfl (Nat.le_of_ble_eq_true rfl) (recv X hM.1 CL_X2) hM  (fun _ z => Or.inl z) ⟨(Nat.le_of_ble_eq_true rfl), (Nat.le_of_ble_eq_true rfl)⟩ (fun v_ H hq hz hk => ?_)
                        obtain ⟨rfl, d_5, hM⟩ := hq
                        clear hz hk
                        rw [up_up] at hM
                        have hsc : mov (I 10) (I 12) j (st * iv) (st * kv) = bvs (I 10) (I 12) j st m ((2 * m + 1) * a + b) := by rw [bvs_q (by omega), ← hiv, ← hkv]
                        have hbq := bvq (m := m) (a := a) (b := b) (by omega)
                        have hkk : nI 100 * (iv + nI m) + kv + nI m = nI (100 * (((2 * m + 1) * a + b) / (2 * m + 1)) + ((2 * m + 1) * a + b) % (2 * m + 1)) := by rw [hbq.1, hbq.2, hiv, hkv, Int32.add_assoc, dv_c, dv_c, pk_mul, nI_add]
                        have hb0 := hbi
                        rcases hb0 with ⟨h0, hcb⟩ | ⟨h0, hcb, -, -⟩
                        · refine vv_lstore (lv' := [(9, .long (mov (I 10) (I 12) j (st * iv) (st * kv))), (0, .ref (g 0)), (1, .int (nI j)), (2, .int (st)), (3, .int (nI m)), (4, .int (cb)), (5, .long (gr)), (7, .int (iv)), (8, .int (kv))]) X dX2_bestVelocity_78 (by decide) rfl ?_
                          refine vv_iload X dX2_bestVelocity_80 5 rfl ?_
                          refine vv_iconst (v := -1) X dX2_bestVelocity_82 (by decide) ?_
                          refine vv_icmp_eq (tgt := 97) X dX2_bestVelocity_83 (by decide) (fun c_83 => ?_) (fun c_83 => ?_)
                          · refine vv_bipush (v := nI 100) X dX2_bestVelocity_97 (by decide) ?_
                            refine vv_iload X dX2_bestVelocity_99 7 rfl ?_
                            refine vv_iload_n X dX2_bestVelocity_101 rfl 4 rfl ?_
                            refine vv_iadd X dX2_bestVelocity_102 ?_
                            refine vv_imul X dX2_bestVelocity_103 ?_
                            refine vv_iload X dX2_bestVelocity_104 8 rfl ?_
                            refine vv_iadd X dX2_bestVelocity_106 ?_
                            refine vv_iload_n X dX2_bestVelocity_107 rfl 4 rfl ?_
                            refine vv_iadd X dX2_bestVelocity_108 ?_
                            refine vv_istore (lv' := [(4, .int ((((nI 100) * (iv + (nI m))) + kv) + (nI m))), (9, .long (mov (I 10) (I 12) j (st * iv) (st * kv))), (0, .ref (g 0)), (1, .int (nI j)), (2, .int (st)), (3, .int (nI m)), (5, .long (gr)), (7, .int (iv)), (8, .int (kv))]) X dX2_bestVelocity_109 (by decide) rfl ?_
                            refine vv_lload X dX2_bestVelocity_111 1 rfl ?_
                            refine vv_lstore (lv' := [(5, .long (mov (I 10) (I 12) j (st * iv) (st * kv))), (4, .int ((((nI 100) * (iv + (nI m))) + kv) + (nI m))), (9, .long (mov (I 10) (I 12) j (st * iv) (st * kv))), (0, .ref (g 0)), (1, .int (nI j)), (2, .int (st)), (3, .int (nI m)), (7, .int (iv)), (8, .int (kv))]) X dX2_bestVelocity_113 (by decide) rfl ?_
                            refine vv_iinc (v := kv + (1)) (lv' := [(8, .int (kv + (1))), (5, .long (mov (I 10) (I 12) j (st * iv) (st * kv))), (4, .int ((((nI 100) * (iv + (nI m))) + kv) + (nI m))), (9, .long (mov (I 10) (I 12) j (st * iv) (st * kv))), (0, .ref (g 0)), (1, .int (nI j)), (2, .int (st)), (3, .int (nI m)), (7, .int (iv))]) X dX2_bestVelocity_115 (k := 8) rfl rfl (by decide) rfl ?_
                            refine vv_goto (tgt := 59) X dX2_bestVelocity_118 (by decide) ?_
                            refine vv_sub [4, 5, 6, 7, 2, 1, 8, 0] rfl ?_
                            exact ihb (b + 1) H d_5 ((((nI 100) * (iv + (nI m))) + kv) + (nI m)) (mov (I 10) (I 12) j (st * iv) (st * kv)) (kv + (1)) (by omega) (hM) (by show bvi _ _ ((2 * m + 1) * a + b + 1) _ _; rw [hkk, hsc, h0]; rw [h0] at hbi; have := bvi_0 hbi (by omega); rw [Nat.zero_div, Nat.zero_mod]; exact this) (by rw [hkv]; exact dv_s)
                          · exact absurd hcb c_83
                        · have hbb : 100 * (fo (bs1 (bvs (I 10) (I 12) j st m)) ((2 * m + 1) * a + b - 1) 0 / (2 * m + 1)) + fo (bs1 (bvs (I 10) (I 12) j st m)) ((2 * m + 1) * a + b - 1) 0 % (2 * m + 1) < 100000 := by
                            have h1 := fo_bs1 (bvs (I 10) (I 12) j st m) ((2 * m + 1) * a + b - 1)
                            have h2 := Nat.div_le_self (fo (bs1 (bvs (I 10) (I 12) j st m)) ((2 * m + 1) * a + b - 1) 0) (2 * m + 1)
                            have h3 := Nat.mod_le (fo (bs1 (bvs (I 10) (I 12) j st m)) ((2 * m + 1) * a + b - 1) 0) (2 * m + 1)
                            have h4 : (2 * m + 1) * a ≤ 9 * 9 := Nat.mul_le_mul (by omega) (by omega)
                            omega
                          refine vv_lstore (lv' := [(9, .long (mov (I 10) (I 12) j (st * iv) (st * kv))), (0, .ref (g 0)), (1, .int (nI j)), (2, .int (st)), (3, .int (nI m)), (4, .int (cb)), (5, .long (gr)), (7, .int (iv)), (8, .int (kv))]) X dX2_bestVelocity_78 (by decide) rfl ?_
                          refine vv_iload X dX2_bestVelocity_80 5 rfl ?_
                          refine vv_iconst (v := -1) X dX2_bestVelocity_82 (by decide) ?_
                          refine vv_icmp_eq (tgt := 97) X dX2_bestVelocity_83 (by decide) (fun c_83 => ?_) (fun c_83 => ?_)
                          · exact absurd (hcb.symm.trans c_83) (nI_nm1 (by have := hbb; omega))
                          · refine vv_lload X dX2_bestVelocity_86 0 rfl ?_
                            refine vv_lload X dX2_bestVelocity_88 6 rfl ?_
                            refine vv_lcmp X dX2_bestVelocity_90 ?_
                            refine vz_gt (tgt := 97) X dX2_bestVelocity_91 (by decide) (fun c_91 => ?_) (fun c_91 => ?_)
                            · refine vv_bipush (v := nI 100) X dX2_bestVelocity_97 (by decide) ?_
                              refine vv_iload X dX2_bestVelocity_99 7 rfl ?_
                              refine vv_iload_n X dX2_bestVelocity_101 rfl 4 rfl ?_
                              refine vv_iadd X dX2_bestVelocity_102 ?_
                              refine vv_imul X dX2_bestVelocity_103 ?_
                              refine vv_iload X dX2_bestVelocity_104 8 rfl ?_
                              refine vv_iadd X dX2_bestVelocity_106 ?_
                              refine vv_iload_n X dX2_bestVelocity_107 rfl 4 rfl ?_
                              refine vv_iadd X dX2_bestVelocity_108 ?_
                              refine vv_istore (lv' := [(4, .int ((((nI 100) * (iv + (nI m))) + kv) + (nI m))), (9, .long (mov (I 10) (I 12) j (st * iv) (st * kv))), (0, .ref (g 0)), (1, .int (nI j)), (2, .int (st)), (3, .int (nI m)), (5, .long (gr)), (7, .int (iv)), (8, .int (kv))]) X dX2_bestVelocity_109 (by decide) rfl ?_
                              refine vv_lload X dX2_bestVelocity_111 1 rfl ?_
                              refine vv_lstore (lv' := [(5, .long (mov (I 10) (I 12) j (st * iv) (st * kv))), (4, .int ((((nI 100) * (iv + (nI m))) + kv) + (nI m))), (9, .long (mov (I 10) (I 12) j (st * iv) (st * kv))), (0, .ref (g 0)), (1, .int (nI j)), (2, .int (st)), (3, .int (nI m)), (7, .int (iv)), (8, .int (kv))]) X dX2_bestVelocity_113 (by decide) rfl ?_
                              refine vv_iinc (v := kv + (1)) (lv' := [(8, .int (kv + (1))), (5, .long (mov (I 10) (I 12) j (st * iv) (st * kv))), (4, .int ((((nI 100) * (iv + (nI m))) + kv) + (nI m))), (9, .long (mov (I 10) (I 12) j (st * iv) (st * kv))), (0, .ref (g 0)), (1, .int (nI j)), (2, .int (st)), (3, .int (nI m)), (7, .int (iv))]) X dX2_bestVelocity_115 (k := 8) rfl rfl (by decide) rfl ?_
                              refine vv_goto (tgt := 59) X dX2_bestVelocity_118 (by decide) ?_
                              refine vv_sub [4, 5, 6, 7, 2, 1, 8, 0] rfl ?_
                              exact ihb (b + 1) H d_5 ((((nI 100) * (iv + (nI m))) + kv) + (nI m)) (mov (I 10) (I 12) j (st * iv) (st * kv)) (kv + (1)) (by omega) (hM) (by show bvi _ _ ((2 * m + 1) * a + b + 1) _ _; rw [hkk, hsc]; exact bvi_y hbi h0 (by rw [← hsc]; exact c_91)) (by rw [hkv]; exact dv_s)
                            · refine vv_goto (tgt := 115) X dX2_bestVelocity_94 (by decide) ?_
                              refine vv_iinc (v := kv + (1)) (lv' := [(8, .int (kv + (1))), (9, .long (mov (I 10) (I 12) j (st * iv) (st * kv))), (0, .ref (g 0)), (1, .int (nI j)), (2, .int (st)), (3, .int (nI m)), (4, .int (cb)), (5, .long (gr)), (7, .int (iv))]) X dX2_bestVelocity_115 (k := 8) rfl rfl (by decide) rfl ?_
                              refine vv_goto (tgt := 59) X dX2_bestVelocity_118 (by decide) ?_
                              refine vv_sub [2, 3, 4, 5, 6, 7, 8, 0] rfl ?_
                              exact ihb (b + 1) H d_5 cb gr (kv + (1)) (by omega) (hM) (by show bvi _ _ ((2 * m + 1) * a + b + 1) _ _; exact bvi_n hbi h0 (by rw [← hsc]; exact c_91)) (by rw [hkv]; exact dv_s)
                  refine vv_sub [1, 2, 3, 4, 5, 6, 7, 0] rfl ?_
                  exact hl_4 ((2 * m + 1)) 0 H d cb gr (-nI m) (by omega) (hM) (hbi) (by rw [show nI 0 = (0 : Int32) from by decide, Int32.zero_sub])
            refine vv_sub [3, 4, 5, 6, 2, 1, 0] rfl ?_
            exact hl_2 ((2 * m + 1)) 0 H (I 24) (-1) 0 (-nI m) (by omega) (by rw [up_same]; exact hM) (Or.inl ⟨Nat.mul_zero _, rfl⟩) (by rw [show nI 0 = (0 : Int32) from by decide, Int32.zero_sub])
          · refine vv_aload_n X dX2_bestVelocity_33 rfl 0 rfl ?_
            refine vv_iconst (v := nI 3) X dX2_bestVelocity_34 (by decide) ?_
            refine vv_callV X (mX2_throwsAt (kL K) D g (va_up x 0 (nI 0)) I J hg (nI 3)) q3034 q3036 qs59 q144 q3037 nX2_throwsAt ⟨(Nat.le_of_ble_eq_true rfl), (Nat.le_of_ble_eq_true rfl)⟩ dX2_bestVelocity_35 rfl (Nat.le_of_ble_eq_true rfl) (recv X hM.1 CL_X2) hM  (fun _ z => Or.inl z) ⟨(Nat.le_of_ble_eq_true rfl), (Nat.le_of_ble_eq_true rfl)⟩ (fun v_ H hq hz hk => ?_)
            obtain ⟨rfl, hM⟩ := hq
            clear hz hk
            rw [up_up] at hM
            exact vv_iret X hQ dX2_bestVelocity_38 (Nat.le_refl _) (Nat.le_refl _) (MEnd.of hM (ag_u (by decide) (ag_r)) (ag_r) 3 _ (nI 0) ((ask_t hp).trans (arg_f (fun z => c_30 z.2))) rfl (fun h => absurd h (by decide)) rfl)
      · exact absurd c_9 (by decide)
    · refine vv_eqi (b2_n hp) ?_
      rw [if_neg hp] at hM
      refine vn_if_ne (tgt := 14) X (by omega) dX2_bestVelocity_9 (by decide) (fun c_9 => ?_) (fun c_9 => ?_)
      · exact absurd c_9 (by decide)
      · refine vv_iconst (v := nI 0) X dX2_bestVelocity_12 (by decide) ?_
        exact vv_iret X hQ dX2_bestVelocity_13 (Nat.le_refl _) (Nat.le_refl _) (MEnd.of hM (ag_u (by decide) (ag_r)) (ag_r) 2 _ (nI 0) (ask_f hp) rfl (fun h => absurd h (by decide)) rfl)
theorem mxL {a b : Int64} : (if b < a then a else b) = (if a < b then b else a) := by
  by_cases h : a < b
  · rw [if_pos h, if_neg (Int64.not_lt.mpr (Int64.le_of_lt h))]
  · rw [if_neg h]
    by_cases h2 : b < a
    · rw [if_pos h2]
    · rw [if_neg h2]
      exact Int64.le_antisymm (Int64.not_lt.mp h) (Int64.not_lt.mp h2)
theorem nX2_contrast : notMH yX2_contrast 0 := by decide +kernel
set_option maxHeartbeats 800000 in
theorem aX2_contrast (l : Launch) (D : DD) (g : Nat → Nat) (x : Nat → Int32) (I : Nat → Nat → Int32) (J : Nat → Nat → Int64) (P : Nat → Int32) (hIP : I 10 = P) (S : Nat → Int32) (hIS : I 12 = S) (C : Bool) (hg : MG g)  (hP : VP P) (hc : cam C (x 20) P S (I 17))  : Ct l yX2_contrast cX2_contrast 5 (some .float) { frames := 8, cells := 0, slots := 0, locals := 175 } D [.ref (g 0)] (fun H => MR D g x I J H) (MA g) (fun v H H1 => MEnd D g x I fV (an_contrast C P S) v H1) := by
  refine Ct.of (by decide +kernel) (Nat.le_of_ble_eq_true rfl) (fun K Qf hkl X hM hQ => ?_)
  subst hkl
  subst hIP
  subst hIS
  have l4 := hP.l4
  have l5 := hP.l5
  have l2 := hP.l2
  have l9 := hP.l9
  have l10 := hP.l10
  have l101 := hP.l101
  have hn4 : nC (I 10) ≤ 144 := Nat.mul_le_mul l9 l10
  have hn0 : C = true → 0 < nC (I 10) := fun hh => by
    rcases hc with ⟨h, _⟩ | ⟨_, _, h, _, _⟩
    · exact absurd (hh.symm.trans h) (by decide)
    · exact Nat.mul_pos h.x1 h.y1
  refine vv_sub (lv' := [(0, .ref (g 0))]) [0] rfl ?_
  rcases hc with ⟨rfl, h20⟩ | ⟨rfl, h20, hC, hS, hT⟩
  · refine vv_aload_n X dX2_contrast_0 rfl 0 rfl ?_
    refine vv_iconst (v := nI 1) X dX2_contrast_1 (by decide) ?_
    refine vv_callV X (mX2_mayAsk0 (kL K) D g x I J hg True h20) q3244 q3246 qs98 q144 q3247 nX2_mayAsk ⟨(Nat.le_of_ble_eq_true rfl), (Nat.le_of_ble_eq_true rfl)⟩ dX2_contrast_2 rfl (Nat.le_of_ble_eq_true rfl) (recv X hM.1 CL_X2) hM  (fun _ z => Or.inl z) ⟨(Nat.le_of_ble_eq_true rfl), (Nat.le_of_ble_eq_true rfl)⟩ (fun v_ H hq hz hk => ?_)
    obtain ⟨rfl, hM⟩ := hq
    clear hz hk
    refine vv_eqi (b2_n (p := False) (fun z => z)) ?_
    refine vn_if_ne (tgt := 10) X (by omega) dX2_contrast_5 (by decide) (fun c_5 => ?_) (fun c_5 => ?_)
    · exact absurd c_5 (by decide)
    · refine vv_fconst0 X dX2_contrast_8 ?_
      exact vv_fret X hQ dX2_contrast_9 (Nat.le_refl _) (Nat.le_refl _) (MEnd.of hM (ag_u (by decide) (ag_r)) (ag_r) 1 _ (FP.fconst0) (ask_0) rfl (fun h => absurd h (by decide)) rfl)
  · refine vv_aload_n X dX2_contrast_0 rfl 0 rfl ?_
    refine vv_iconst (v := nI 1) X dX2_contrast_1 (by decide) ?_
    refine vv_callV X (mX2_mayAsk1 (kL K) D g x I J hg True h20) q3244 q3246 qs98 q144 q3247 nX2_mayAsk ⟨(Nat.le_of_ble_eq_true rfl), (Nat.le_of_ble_eq_true rfl)⟩ dX2_contrast_2 rfl (Nat.le_of_ble_eq_true rfl) (recv X hM.1 CL_X2) hM  (fun _ z => Or.inl z) ⟨(Nat.le_of_ble_eq_true rfl), (Nat.le_of_ble_eq_true rfl)⟩ (fun v_ H hq hz hk => ?_)
    obtain ⟨rfl, hM⟩ := hq
    clear hz hk
    refine vv_eqi (b2_y (p := True) trivial) ?_
    rw [if_pos trivial] at hM
    refine vn_if_ne (tgt := 10) X (by omega) dX2_contrast_5 (by decide) (fun c_5 => ?_) (fun c_5 => ?_)
    · refine vv_aload_n X dX2_contrast_10 rfl 0 rfl ?_
      refine vv_aload_n X dX2_contrast_11 rfl 0 rfl ?_
      refine mg12 X rfl hM dX2_contrast_12 ?_
      refine vv_callV X (mX2_bestIn12 (kL K) D g (va_up x 0 (nI 0)) I J (I 10) rfl (I 12) rfl hg hC hS hT) q3372 q3374 qs111 q144 q3375 nX2_bestIn ⟨(Nat.le_of_ble_eq_true rfl), (Nat.le_of_ble_eq_true rfl)⟩ dX2_contrast_15 rfl (Nat.le_of_ble_eq_true rfl) (recv X hM.1 CL_X2) hM  (fun _ z => Or.inl z) ⟨(Nat.le_of_ble_eq_true rfl), (Nat.le_of_ble_eq_true rfl)⟩ (fun v_ H hq hz hk => ?_)
      obtain ⟨rfl, d_1, p_2, hM, hp_3⟩ := hq
      clear hz hk
      have hbl : bC (I 10) (I 12) < nC (I 10) := bsN_lt (hn0 rfl)
      refine vv_istore_n (lv' := [(1, .int (nI (bsN (pwc (I 10) (I 12)) (nC (I 10))))), (0, .ref (g 0))]) X dX2_contrast_18 rfl (by decide) rfl ?_
      refine vv_lconst (v := 0) X dX2_contrast_19 (by decide) ?_
      refine vv_lstore_n (lv' := [(2, .long (0)), (1, .int (nI (bsN (pwc (I 10) (I 12)) (nC (I 10))))), (0, .ref (g 0))]) X dX2_contrast_20 rfl (by decide) rfl ?_
      refine vv_iconst (v := nI 0) X dX2_contrast_21 (by decide) ?_
      refine vv_istore (lv' := [(4, .int (nI 0)), (2, .long (0)), (1, .int (nI (bsN (pwc (I 10) (I 12)) (nC (I 10))))), (0, .ref (g 0))]) X dX2_contrast_22 (by decide) rfl ?_
      have hx_4 : ∀ (s : Int64) (hs : s = cse (I 10) (I 12) (nC (I 10))), V K 5 (MA g) H 0 0 Qf 61 [(0, .ref (g 0)), (1, .int (nI (bC (I 10) (I 12)))), (2, .long (s)), (4, .int (nI (nC (I 10))))] [] := by
        intro s hs
        refine vv_lload_n X dX2_contrast_61 rfl 2 rfl ?_
        refine vv_lconst (v := 0) X dX2_contrast_62 (by decide) ?_
        refine vv_lcmp X dX2_contrast_63 ?_
        refine vz_ne (tgt := 71) X dX2_contrast_64 (by decide) (fun c_64 => ?_) (fun c_64 => ?_)
        · refine vv_aload_n X dX2_contrast_71 rfl 0 rfl ?_
          refine mg25 X rfl hM dX2_contrast_72 ?_
          refine vv_iload_n X dX2_contrast_75 rfl 1 rfl ?_
          refine vv_lald X hM.a25 (bC (I 10) (I 12)) (by omega) (by decide) rfl dX2_contrast_76 ?_
          refine vv_eql (hp_3 _ (by exact hbl)) ?_
          refine vv_l2f X dX2_contrast_77 ?_
          refine vv_lload_n X dX2_contrast_78 rfl 2 rfl ?_
          refine vv_l2f X dX2_contrast_79 ?_
          refine vv_fdiv X dX2_contrast_80 (fl_div c_64) ?_
          exact vv_fret X hQ dX2_contrast_81 (Nat.le_refl _) (Nat.le_refl _) (MEnd.of hM (ag_u (by decide) (ag_r)) (ag_u (by decide) (ag_r)) 0 _ (FP.fdiv (FP.l2f (pwc (I 10) (I 12) (bC (I 10) (I 12)))) (FP.l2f s)) (ask_t trivial) rfl (fun _ => by rw [hs] at c_64 ⊢; exact (if_neg c_64).symm) rfl)
        · refine vv_fconst0 X dX2_contrast_67 ?_
          refine vv_goto (tgt := 81) X dX2_contrast_68 (by decide) ?_
          exact vv_fret X hQ dX2_contrast_81 (Nat.le_refl _) (Nat.le_refl _) (MEnd.of hM (ag_u (by decide) (ag_r)) (ag_u (by decide) (ag_r)) 0 _ (FP.fconst0) (ask_t trivial) rfl (fun _ => by rw [hs] at c_64; exact (if_pos c_64).symm) rfl)
      have hl_5 : ∀ (n_i i : Nat) (s : Int64), i + n_i = nC (I 10) → (s = cse (I 10) (I 12) i) → V K 5 (MA g) H 0 0 Qf 24 [(0, .ref (g 0)), (1, .int (nI (bC (I 10) (I 12)))), (2, .long (s)), (4, .int (nI i))] [] := by
        intro n_i
        induction n_i with
        | zero =>
          intro i s hi hs
          obtain rfl : i = nC (I 10) := by omega
          refine vv_iload X dX2_contrast_24 3 rfl ?_
          refine vv_aload_n X dX2_contrast_26 rfl 0 rfl ?_
          refine vv_callVp X (mX2_cellCount (kL K) D g (va_up x 0 (nI 0)) (va_up I 24 d_1) (va_up J 25 p_2) (I 10) rfl hP) q3172 q3174 qs84 q144 q3175 nX2_cellCount ⟨(Nat.le_of_ble_eq_true rfl), (Nat.le_of_ble_eq_true rfl)⟩ dX2_contrast_27 rfl (Nat.le_of_ble_eq_true rfl) (recv X hM.1 CL_X2) hM ⟨(Nat.le_of_ble_eq_true rfl), (Nat.le_of_ble_eq_true rfl)⟩ ?_
          refine vn_ge (tgt := 61) X (by omega) (by omega) dX2_contrast_30 (by decide) (fun c_30 => ?_) (fun c_30 => ?_)
          · exact hx_4 s hs
          · exact absurd c_30 (by omega)
        | succ n_i ihi =>
          intro i s hi hs
          refine vv_iload X dX2_contrast_24 3 rfl ?_
          refine vv_aload_n X dX2_contrast_26 rfl 0 rfl ?_
          refine vv_callVp X (mX2_cellCount (kL K) D g (va_up x 0 (nI 0)) (va_up I 24 d_1) (va_up J 25 p_2) (I 10) rfl hP) q3172 q3174 qs84 q144 q3175 nX2_cellCount ⟨(Nat.le_of_ble_eq_true rfl), (Nat.le_of_ble_eq_true rfl)⟩ dX2_contrast_27 rfl (Nat.le_of_ble_eq_true rfl) (recv X hM.1 CL_X2) hM ⟨(Nat.le_of_ble_eq_true rfl), (Nat.le_of_ble_eq_true rfl)⟩ ?_
          refine vn_ge (tgt := 61) X (by omega) (by omega) dX2_contrast_30 (by decide) (fun c_30 => ?_) (fun c_30 => ?_)
          · exact absurd hi (by omega)
          · refine vv_iload X dX2_contrast_33 3 rfl ?_
            refine vv_iload_n X dX2_contrast_35 rfl 1 rfl ?_
            refine vn_ne (tgt := 43) X (by omega) (by omega) dX2_contrast_36 (by decide) (fun c_36 => ?_) (fun c_36 => ?_)
            · refine vv_lload_n X dX2_contrast_43 rfl 2 rfl ?_
              refine vv_aload_n X dX2_contrast_44 rfl 0 rfl ?_
              refine mg25 X rfl hM dX2_contrast_45 ?_
              refine vv_iload X dX2_contrast_48 3 rfl ?_
              refine vv_lald X hM.a25 (i) (by omega) (by decide) rfl dX2_contrast_50 ?_
              refine vv_eql (hp_3 _ (by omega)) ?_
              refine vv_mmaxL X q3412 (Nat.le_of_ble_eq_true rfl) (Nat.le_of_ble_eq_true rfl) (Nat.le_of_ble_eq_true rfl) (Nat.le_of_ble_eq_true rfl) dX2_contrast_51 ?_
              refine vv_lstore_n (lv' := [(2, .long (if pwc (I 10) (I 12) i < s then s else pwc (I 10) (I 12) i)), (0, .ref (g 0)), (1, .int (nI (bC (I 10) (I 12)))), (4, .int (nI i))]) X dX2_contrast_54 rfl (by decide) rfl ?_
              refine vv_iinc (v := nI (i + 1)) (lv' := [(4, .int (nI (i + 1))), (2, .long (if pwc (I 10) (I 12) i < s then s else pwc (I 10) (I 12) i)), (0, .ref (g 0)), (1, .int (nI (bC (I 10) (I 12))))]) X dX2_contrast_55 (k := 3) rfl (nI_add _ 1) (by decide) rfl ?_
              refine vv_goto (tgt := 24) X dX2_contrast_58 (by decide) ?_
              refine vv_sub [2, 3, 1, 0] rfl ?_
              exact ihi (i + 1) (if pwc (I 10) (I 12) i < s then s else pwc (I 10) (I 12) i) (by omega) (by rw [hs]; rw [mxL]; exact (if_neg c_36).symm)
            · refine vv_lload_n X dX2_contrast_39 rfl 2 rfl ?_
              refine vv_goto (tgt := 54) X dX2_contrast_40 (by decide) ?_
              refine vv_lstore_n (lv' := [(2, .long (s)), (0, .ref (g 0)), (1, .int (nI (bC (I 10) (I 12)))), (4, .int (nI i))]) X dX2_contrast_54 rfl (by decide) rfl ?_
              refine vv_iinc (v := nI (i + 1)) (lv' := [(4, .int (nI (i + 1))), (2, .long (s)), (0, .ref (g 0)), (1, .int (nI (bC (I 10) (I 12))))]) X dX2_contrast_55 (k := 3) rfl (nI_add _ 1) (by decide) rfl ?_
              refine vv_goto (tgt := 24) X dX2_contrast_58 (by decide) ?_
              refine vv_sub [2, 3, 1, 0] rfl ?_
              exact ihi (i + 1) s (by omega) (by rw [hs]; exact (if_pos c_36).symm)
      refine vv_sub [3, 2, 1, 0] rfl ?_
      exact hl_5 (nC (I 10)) 0 0 (by omega) (rfl)
    · exact absurd c_5 (by decide)
theorem nX2_four : notMH yX2_four 1 := by decide +kernel
set_option maxHeartbeats 800000 in
theorem mX2_four (l : Launch) (D : DD) (g : Nat → Nat) (x : Nat → Int32) (I : Nat → Nat → Int32) (J : Nat → Nat → Int64) (hg : MG g) (n : Nat) (w : Int32) (hn : x 2 = nI n) (hn2 : n + 4 ≤ 1000) : Ct l yX2_four cX2_four 3 none { frames := 1, cells := 0, slots := 0, locals := 12 } D [.ref (g 0), .int (w)] (fun H => MR D g x I J H) (MA g) (fun v H H1 => v = none ∧ MR D g (va_up x 2 (nI (n + 4))) (va_up I 1 (frB (I 1) n w)) J H1) := by
  refine Ct.of (by decide +kernel) (Nat.le_of_ble_eq_true rfl) (fun K Qf hkl X hM hQ => ?_)
  subst hkl
  refine vv_sub (lv' := [(0, .ref (g 0)), (1, .int (w))]) [0, 1] rfl ?_
  refine vv_bipush (v := nI 24) X dX2_four_0 (by decide) ?_
  refine vv_istore_n (lv' := [(2, .int (nI 24)), (0, .ref (g 0)), (1, .int (w))]) X dX2_four_2 rfl (by decide) rfl ?_
  refine vv_iload_n X dX2_four_3 rfl 0 rfl ?_
  refine vn_if_lt (tgt := 39) X (by omega) dX2_four_4 (by decide) ?_
  refine vv_aload_n X dX2_four_7 rfl 1 rfl ?_
  refine mg1 X rfl hM dX2_four_8 ?_
  refine vv_aload_n X dX2_four_11 rfl 1 rfl ?_
  refine mg2 X rfl hM dX2_four_12 ?_
  refine vv_eqi (hn) ?_
  refine vv_iload_n X dX2_four_15 rfl 2 rfl ?_
  refine vv_iload_n X dX2_four_16 rfl 0 rfl ?_
  refine vv_ishr X dX2_four_17 ?_
  refine vv_sipush (v := nI 255) X dX2_four_18 (by decide) ?_
  refine vv_iand X dX2_four_21 ?_
  refine ms1 X hM hg (n) (by omega) rfl (Or.inl (MA.in (by decide))) dX2_four_22 (fun H hM => ?_)
  refine vv_aload_n X dX2_four_23 rfl 1 rfl ?_
  refine vv_dup X dX2_four_24 rfl ?_
  refine mg2 X rfl hM dX2_four_25 ?_
  refine vv_eqi (hn) ?_
  refine vv_iconst (v := nI 1) X dX2_four_28 (by decide) ?_
  refine vn_add X dX2_four_29 ?_
  refine mp2 X rfl hM hg (Or.inl (MA.in (by decide))) dX2_four_30 (fun H hM => ?_)
  refine vv_iinc (v := nI 16) (lv' := [(2, .int (nI 16)), (0, .ref (g 0)), (1, .int (w))]) X dX2_four_33 (k := 0) rfl (by decide) (by decide) rfl ?_
  refine vv_goto (tgt := 3) X dX2_four_36 (by decide) ?_
  refine vv_iload_n X dX2_four_3 rfl 0 rfl ?_
  refine vn_if_lt (tgt := 39) X (by omega) dX2_four_4 (by decide) ?_
  refine vv_aload_n X dX2_four_7 rfl 1 rfl ?_
  refine mg1 X rfl hM dX2_four_8 ?_
  refine vv_aload_n X dX2_four_11 rfl 1 rfl ?_
  refine mg2 X rfl hM dX2_four_12 ?_
  refine vv_iload_n X dX2_four_15 rfl 2 rfl ?_
  refine vv_iload_n X dX2_four_16 rfl 0 rfl ?_
  refine vv_ishr X dX2_four_17 ?_
  refine vv_sipush (v := nI 255) X dX2_four_18 (by decide) ?_
  refine vv_iand X dX2_four_21 ?_
  refine ms1 X hM hg (n + 1) (by omega) rfl (Or.inl (MA.in (by decide))) dX2_four_22 (fun H hM => ?_)
  rw [up_up] at hM
  refine vv_aload_n X dX2_four_23 rfl 1 rfl ?_
  refine vv_dup X dX2_four_24 rfl ?_
  refine mg2 X rfl hM dX2_four_25 ?_
  refine vv_iconst (v := nI 1) X dX2_four_28 (by decide) ?_
  refine vn_add X dX2_four_29 ?_
  refine mp2 X rfl hM hg (Or.inl (MA.in (by decide))) dX2_four_30 (fun H hM => ?_)
  rw [up_up] at hM
  refine vv_iinc (v := nI 8) (lv' := [(2, .int (nI 8)), (0, .ref (g 0)), (1, .int (w))]) X dX2_four_33 (k := 0) rfl (by decide) (by decide) rfl ?_
  refine vv_goto (tgt := 3) X dX2_four_36 (by decide) ?_
  refine vv_iload_n X dX2_four_3 rfl 0 rfl ?_
  refine vn_if_lt (tgt := 39) X (by omega) dX2_four_4 (by decide) ?_
  refine vv_aload_n X dX2_four_7 rfl 1 rfl ?_
  refine mg1 X rfl hM dX2_four_8 ?_
  refine vv_aload_n X dX2_four_11 rfl 1 rfl ?_
  refine mg2 X rfl hM dX2_four_12 ?_
  refine vv_iload_n X dX2_four_15 rfl 2 rfl ?_
  refine vv_iload_n X dX2_four_16 rfl 0 rfl ?_
  refine vv_ishr X dX2_four_17 ?_
  refine vv_sipush (v := nI 255) X dX2_four_18 (by decide) ?_
  refine vv_iand X dX2_four_21 ?_
  refine ms1 X hM hg ((n + 1) + 1) (by omega) rfl (Or.inl (MA.in (by decide))) dX2_four_22 (fun H hM => ?_)
  rw [up_up] at hM
  refine vv_aload_n X dX2_four_23 rfl 1 rfl ?_
  refine vv_dup X dX2_four_24 rfl ?_
  refine mg2 X rfl hM dX2_four_25 ?_
  refine vv_iconst (v := nI 1) X dX2_four_28 (by decide) ?_
  refine vn_add X dX2_four_29 ?_
  refine mp2 X rfl hM hg (Or.inl (MA.in (by decide))) dX2_four_30 (fun H hM => ?_)
  rw [up_up] at hM
  refine vv_iinc (v := nI 0) (lv' := [(2, .int (nI 0)), (0, .ref (g 0)), (1, .int (w))]) X dX2_four_33 (k := 0) rfl (by decide) (by decide) rfl ?_
  refine vv_goto (tgt := 3) X dX2_four_36 (by decide) ?_
  refine vv_iload_n X dX2_four_3 rfl 0 rfl ?_
  refine vn_if_lt (tgt := 39) X (by omega) dX2_four_4 (by decide) ?_
  refine vv_aload_n X dX2_four_7 rfl 1 rfl ?_
  refine mg1 X rfl hM dX2_four_8 ?_
  refine vv_aload_n X dX2_four_11 rfl 1 rfl ?_
  refine mg2 X rfl hM dX2_four_12 ?_
  refine vv_iload_n X dX2_four_15 rfl 2 rfl ?_
  refine vv_iload_n X dX2_four_16 rfl 0 rfl ?_
  refine vv_ishr X dX2_four_17 ?_
  refine vv_sipush (v := nI 255) X dX2_four_18 (by decide) ?_
  refine vv_iand X dX2_four_21 ?_
  refine ms1 X hM hg (((n + 1) + 1) + 1) (by omega) rfl (Or.inl (MA.in (by decide))) dX2_four_22 (fun H hM => ?_)
  rw [up_up] at hM
  refine vv_aload_n X dX2_four_23 rfl 1 rfl ?_
  refine vv_dup X dX2_four_24 rfl ?_
  refine mg2 X rfl hM dX2_four_25 ?_
  refine vv_iconst (v := nI 1) X dX2_four_28 (by decide) ?_
  refine vn_add X dX2_four_29 ?_
  refine mp2 X rfl hM hg (Or.inl (MA.in (by decide))) dX2_four_30 (fun H hM => ?_)
  rw [up_up] at hM
  refine vv_iinc (v := (-8)) (lv' := [(2, .int ((-8))), (0, .ref (g 0)), (1, .int (w))]) X dX2_four_33 (k := 0) rfl (by decide) (by decide) rfl ?_
  refine vv_goto (tgt := 3) X dX2_four_36 (by decide) ?_
  refine vv_iload_n X dX2_four_3 rfl 0 rfl ?_
  refine vv_if_lt (tgt := 39) X dX2_four_4 (by decide) (fun c_4 => ?_) (fun c_4 => ?_)
  · exact vv_vret X hQ dX2_four_39 (Nat.le_refl _) (Nat.le_refl _) (⟨rfl, hM⟩)
  · exact absurd (by decide) c_4
theorem nX2_append : notMH yX2_append 5 := by decide +kernel
set_option maxHeartbeats 800000 in
theorem mX2_append (l : Launch) (D : DD) (g : Nat → Nat) (x : Nat → Int32) (I : Nat → Nat → Int32) (J : Nat → Nat → Int64) (hg : MG g) (n : Nat) (a b c d e : Int32) (hn : x 2 = nI n) (hn2 : n ≤ 1000) : Ct l yX2_append cX2_append 6 (some .int) { frames := 2, cells := 0, slots := 0, locals := 34 } D [.ref (g 0), .int (a), .int (b), .int (c), .int (d), .int (e)] (fun H => MR D g x I J H) (MA g) (fun v H H1 => MEnd D g (if n + 20 ≤ 1000 then va_up x 2 (nI (n + 20)) else x) (if n + 20 ≤ 1000 then va_up I 1 (apB (I 1) n a b c d e) else I) iV (0, if n + 20 ≤ 1000 then nI (n + 20) else -1) v H1) := by
  refine Ct.of (by decide +kernel) (Nat.le_of_ble_eq_true rfl) (fun K Qf hkl X hM hQ => ?_)
  subst hkl
  refine vv_sub (lv' := [(0, .ref (g 0)), (1, .int (a)), (2, .int (b)), (3, .int (c)), (4, .int (d)), (5, .int (e))]) [0, 1, 2, 3, 4, 5] rfl ?_
  refine vv_aload_n X dX2_append_0 rfl 0 rfl ?_
  refine vv_iconst (v := nI 0) X dX2_append_1 (by decide) ?_
  refine mp0 X rfl hM hg (Or.inl (MA.in (by decide))) dX2_append_2 (fun H hM => ?_)
  refine vv_aload_n X dX2_append_5 rfl 0 rfl ?_
  refine mg2 X rfl hM dX2_append_6 ?_
  refine vv_eqi (hn) ?_
  refine vv_bipush (v := nI 20) X dX2_append_9 (by decide) ?_
  refine vn_add X dX2_append_11 ?_
  refine vv_sipush (v := nI 1000) X dX2_append_12 (by decide) ?_
  refine vn_le (tgt := 20) X (by omega) (by omega) dX2_append_15 (by decide) (fun c_15 => ?_) (fun c_15 => ?_)
  · refine vv_aload_n X dX2_append_20 rfl 0 rfl ?_
    refine vv_iload_n X dX2_append_21 rfl 1 rfl ?_
    refine vv_callV X (mX2_four (kL K) D g (va_up x 0 (nI 0)) I J hg n a hn (by omega)) q3011 q3013 qs58 q144 q3014 nX2_four ⟨(Nat.le_of_ble_eq_true rfl), (Nat.le_of_ble_eq_true rfl)⟩ dX2_append_22 rfl (Nat.le_of_ble_eq_true rfl) (recv X hM.1 CL_X2) hM  (fun _ z => Or.inl z) ⟨(Nat.le_of_ble_eq_true rfl), (Nat.le_of_ble_eq_true rfl)⟩ (fun v_ H hq hz hk => ?_)
    obtain ⟨rfl, hM⟩ := hq
    clear hz hk
    refine vv_aload_n X dX2_append_25 rfl 0 rfl ?_
    refine vv_iload_n X dX2_append_26 rfl 2 rfl ?_
    refine vv_callV X (mX2_four (kL K) D g (va_up (va_up x 0 (nI 0)) 2 (nI (n + 4))) (va_up I 1 (frB (I 1) n a)) J hg (n + 4) b rfl (by omega)) q3011 q3013 qs58 q144 q3014 nX2_four ⟨(Nat.le_of_ble_eq_true rfl), (Nat.le_of_ble_eq_true rfl)⟩ dX2_append_27 rfl (Nat.le_of_ble_eq_true rfl) (recv X hM.1 CL_X2) hM  (fun _ z => Or.inl z) ⟨(Nat.le_of_ble_eq_true rfl), (Nat.le_of_ble_eq_true rfl)⟩ (fun v_ H hq hz hk => ?_)
    obtain ⟨rfl, hM⟩ := hq
    clear hz hk
    rw [up_up] at hM
    rw [up_up] at hM
    refine vv_aload_n X dX2_append_30 rfl 0 rfl ?_
    refine vv_iload_n X dX2_append_31 rfl 3 rfl ?_
    refine vv_callV X (mX2_four (kL K) D g (va_up (va_up x 0 (nI 0)) 2 (nI (n + 4 + 4))) (va_up I 1 (frB (frB (I 1) n a) (n + 4) b)) J hg (n + 4 + 4) c rfl (by omega)) q3011 q3013 qs58 q144 q3014 nX2_four ⟨(Nat.le_of_ble_eq_true rfl), (Nat.le_of_ble_eq_true rfl)⟩ dX2_append_32 rfl (Nat.le_of_ble_eq_true rfl) (recv X hM.1 CL_X2) hM  (fun _ z => Or.inl z) ⟨(Nat.le_of_ble_eq_true rfl), (Nat.le_of_ble_eq_true rfl)⟩ (fun v_ H hq hz hk => ?_)
    obtain ⟨rfl, hM⟩ := hq
    clear hz hk
    rw [up_up] at hM
    rw [up_up] at hM
    refine vv_aload_n X dX2_append_35 rfl 0 rfl ?_
    refine vv_iload X dX2_append_36 4 rfl ?_
    refine vv_callV X (mX2_four (kL K) D g (va_up (va_up x 0 (nI 0)) 2 (nI (n + 4 + 4 + 4))) (va_up I 1 (frB (frB (frB (I 1) n a) (n + 4) b) (n + 4 + 4) c)) J hg (n + 4 + 4 + 4) d rfl (by omega)) q3011 q3013 qs58 q144 q3014 nX2_four ⟨(Nat.le_of_ble_eq_true rfl), (Nat.le_of_ble_eq_true rfl)⟩ dX2_append_38 rfl (Nat.le_of_ble_eq_true rfl) (recv X hM.1 CL_X2) hM  (fun _ z => Or.inl z) ⟨(Nat.le_of_ble_eq_true rfl), (Nat.le_of_ble_eq_true rfl)⟩ (fun v_ H hq hz hk => ?_)
    obtain ⟨rfl, hM⟩ := hq
    clear hz hk
    rw [up_up] at hM
    rw [up_up] at hM
    refine vv_aload_n X dX2_append_41 rfl 0 rfl ?_
    refine vv_iload X dX2_append_42 5 rfl ?_
    refine vv_callV X (mX2_four (kL K) D g (va_up (va_up x 0 (nI 0)) 2 (nI (n + 4 + 4 + 4 + 4))) (va_up I 1 (frB (frB (frB (frB (I 1) n a) (n + 4) b) (n + 4 + 4) c) (n + 4 + 4 + 4) d)) J hg (n + 4 + 4 + 4 + 4) e rfl (by omega)) q3011 q3013 qs58 q144 q3014 nX2_four ⟨(Nat.le_of_ble_eq_true rfl), (Nat.le_of_ble_eq_true rfl)⟩ dX2_append_44 rfl (Nat.le_of_ble_eq_true rfl) (recv X hM.1 CL_X2) hM  (fun _ z => Or.inl z) ⟨(Nat.le_of_ble_eq_true rfl), (Nat.le_of_ble_eq_true rfl)⟩ (fun v_ H hq hz hk => ?_)
    obtain ⟨rfl, hM⟩ := hq
    clear hz hk
    rw [up_up] at hM
    rw [up_up] at hM
    refine vv_aload_n X dX2_append_47 rfl 0 rfl ?_
    refine mg2 X rfl hM dX2_append_48 ?_
    exact vv_iret X hQ dX2_append_51 (Nat.le_refl _) (Nat.le_refl _) (by rw [if_pos c_15, if_pos c_15, if_pos c_15]; exact MEnd.of hM (ag_c (ag_u (by decide) ag_r)) (ag_c ag_r) 0 _ _ rfl rfl (fun _ => rfl) rfl)
  · refine vv_iconst (v := -1) X dX2_append_18 (by decide) ?_
    exact vv_iret X hQ dX2_append_19 (Nat.le_refl _) (Nat.le_refl _) (by rw [if_neg (Nat.not_le.mpr c_15), if_neg (Nat.not_le.mpr c_15), if_neg (Nat.not_le.mpr c_15)]; exact MEnd.of hM (ag_u (by decide) ag_r) ag_r 0 _ _ rfl rfl (fun _ => rfl) rfl)
