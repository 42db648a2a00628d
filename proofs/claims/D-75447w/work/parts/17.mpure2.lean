/-! the model's methods that only read, second half: printed by gen/m2.py -/
set_option maxRecDepth 100000
theorem mX2_inN (l : Launch) (D : DD) (v lo hi : Nat) (h1 : v < 2 ^ 31) (h2 : lo < 2 ^ 31) (h3 : hi < 2 ^ 31) : Cp l yX2_in cX2_in 3 (some .boolean) { frames := 1, cells := 0, slots := 0, locals := 12 } D [.int (nI v), .int (nI lo), .int (nI hi)] (fun _ => True) (.int (b2 (lo ≤ v ∧ v ≤ hi))) := by
  have h := mX2_in l D (nI v) (nI lo) (nI hi)
  rw [b2_eq (show (nI lo ≤ nI v ∧ nI v ≤ nI hi) ↔ (lo ≤ v ∧ v ≤ hi) from and_congr (nI_leI h2 h1) (nI_leI h1 h3))] at h
  exact h
theorem nX2_isMic : notMH yX2_isMic 1 := by decide +kernel
set_option maxHeartbeats 800000 in
theorem mX2_isMic (l : Launch) (D : DD) (g : Nat → Nat) (x : Nat → Int32) (I : Nat → Nat → Int32) (J : Nat → Nat → Int64) (P : Nat → Int32) (hIP : I 10 = P) (v : Int32) (hP : VP P) : Cp l yX2_isMic cX2_isMic 2 (some .boolean) { frames := 2, cells := 0, slots := 0, locals := 34 } D [.ref (g 0), .int (v)] (fun H => MR D g x I J H) (.int (b2 (ix (nM P) v))) := by
  refine Ct.of (by decide +kernel) (Nat.le_of_ble_eq_true rfl) (fun K Qf hkl X hM hQ => ?_)
  subst hkl
  subst hIP
  have l4 := hP.l4
  refine vv_sub (lv' := [(0, .ref (g 0)), (1, .int (v))]) [0, 1] rfl ?_
  refine vv_iload_n X dX2_isMic_0 rfl 1 rfl ?_
  refine vv_iconst (v := nI 0) X dX2_isMic_1 (by decide) ?_
  refine vv_aload_n X dX2_isMic_2 rfl 0 rfl ?_
  refine mg10 X rfl hM dX2_isMic_3 ?_
  refine vv_iconst (v := nI 4) X dX2_isMic_6 (by decide) ?_
  refine vv_iald X hM.a10 (4) (by omega) (by decide) rfl dX2_isMic_7 ?_
  refine vv_eqi hP.e4 ?_
  refine vv_iconst (v := nI 1) X dX2_isMic_8 (by decide) ?_
  refine vv_isub X dX2_isMic_9 ?_
  refine vv_callSp X (mX2_in (kL K) D v (nI 0) ((nI (nM (I 10))) - (nI 1))) q3031 q3032 q144 q3033 nX2_in ⟨(Nat.le_of_ble_eq_true rfl), (Nat.le_of_ble_eq_true rfl)⟩ dX2_isMic_10 rfl (Nat.le_of_ble_eq_true rfl) trivial ⟨(Nat.le_of_ble_eq_true rfl), (Nat.le_of_ble_eq_true rfl)⟩ ?_
  exact vv_zret X (b2_nar _) hQ dX2_isMic_13 (Nat.le_refl _) (Nat.le_refl _) (pq (rfl))
theorem nX2_isCell : notMH yX2_isCell 1 := by decide +kernel
set_option maxHeartbeats 800000 in
theorem mX2_isCell (l : Launch) (D : DD) (g : Nat → Nat) (x : Nat → Int32) (I : Nat → Nat → Int32) (J : Nat → Nat → Int64) (P : Nat → Int32) (hIP : I 10 = P) (v : Int32) (hP : VP P) : Cp l yX2_isCell cX2_isCell 2 (some .boolean) { frames := 2, cells := 0, slots := 0, locals := 34 } D [.ref (g 0), .int (v)] (fun H => MR D g x I J H) (.int (b2 (ix (nC P) v))) := by
  refine Ct.of (by decide +kernel) (Nat.le_of_ble_eq_true rfl) (fun K Qf hkl X hM hQ => ?_)
  subst hkl
  subst hIP
  have l9 := hP.l9
  have l10 := hP.l10
  refine vv_sub (lv' := [(0, .ref (g 0)), (1, .int (v))]) [0, 1] rfl ?_
  refine vv_iload_n X dX2_isCell_0 rfl 1 rfl ?_
  refine vv_iconst (v := nI 0) X dX2_isCell_1 (by decide) ?_
  refine vv_aload_n X dX2_isCell_2 rfl 0 rfl ?_
  refine vv_callVp X (mX2_cellCount (kL K) D g x I J (I 10) rfl hP) q3172 q3174 qs84 q144 q3175 nX2_cellCount ⟨(Nat.le_of_ble_eq_true rfl), (Nat.le_of_ble_eq_true rfl)⟩ dX2_isCell_3 rfl (Nat.le_of_ble_eq_true rfl) (recv X hM.1 CL_X2) hM ⟨(Nat.le_of_ble_eq_true rfl), (Nat.le_of_ble_eq_true rfl)⟩ ?_
  refine vv_iconst (v := nI 1) X dX2_isCell_6 (by decide) ?_
  refine vv_isub X dX2_isCell_7 ?_
  refine vv_callSp X (mX2_in (kL K) D v (nI 0) ((nI (nC (I 10))) - (nI 1))) q3031 q3032 q144 q3033 nX2_in ⟨(Nat.le_of_ble_eq_true rfl), (Nat.le_of_ble_eq_true rfl)⟩ dX2_isCell_8 rfl (Nat.le_of_ble_eq_true rfl) trivial ⟨(Nat.le_of_ble_eq_true rfl), (Nat.le_of_ble_eq_true rfl)⟩ ?_
  exact vv_zret X (b2_nar _) hQ dX2_isCell_11 (Nat.le_refl _) (Nat.le_refl _) (pq (rfl))
theorem nX2_isSource : notMH yX2_isSource 1 := by decide +kernel
set_option maxHeartbeats 800000 in
theorem mX2_isSource (l : Launch) (D : DD) (g : Nat → Nat) (x : Nat → Int32) (I : Nat → Nat → Int32) (J : Nat → Nat → Int64) (P : Nat → Int32) (hIP : I 10 = P) (v : Int32) (hP : VP P) : Cp l yX2_isSource cX2_isSource 2 (some .boolean) { frames := 2, cells := 0, slots := 0, locals := 34 } D [.ref (g 0), .int (v)] (fun H => MR D g x I J H) (.int (b2 (ix (nS P) v))) := by
  refine Ct.of (by decide +kernel) (Nat.le_of_ble_eq_true rfl) (fun K Qf hkl X hM hQ => ?_)
  subst hkl
  subst hIP
  have l5 := hP.l5
  refine vv_sub (lv' := [(0, .ref (g 0)), (1, .int (v))]) [0, 1] rfl ?_
  refine vv_iload_n X dX2_isSource_0 rfl 1 rfl ?_
  refine vv_iconst (v := nI 0) X dX2_isSource_1 (by decide) ?_
  refine vv_aload_n X dX2_isSource_2 rfl 0 rfl ?_
  refine mg10 X rfl hM dX2_isSource_3 ?_
  refine vv_iconst (v := nI 5) X dX2_isSource_6 (by decide) ?_
  refine vv_iald X hM.a10 (5) (by omega) (by decide) rfl dX2_isSource_7 ?_
  refine vv_eqi hP.e5 ?_
  refine vv_iconst (v := nI 1) X dX2_isSource_8 (by decide) ?_
  refine vv_isub X dX2_isSource_9 ?_
  refine vv_callSp X (mX2_in (kL K) D v (nI 0) ((nI (nS (I 10))) - (nI 1))) q3031 q3032 q144 q3033 nX2_in ⟨(Nat.le_of_ble_eq_true rfl), (Nat.le_of_ble_eq_true rfl)⟩ dX2_isSource_10 rfl (Nat.le_of_ble_eq_true rfl) trivial ⟨(Nat.le_of_ble_eq_true rfl), (Nat.le_of_ble_eq_true rfl)⟩ ?_
  exact vv_zret X (b2_nar _) hQ dX2_isSource_13 (Nat.le_refl _) (Nat.le_refl _) (pq (rfl))
theorem nX2_isTime : notMH yX2_isTime 1 := by decide +kernel
set_option maxHeartbeats 800000 in
theorem mX2_isTime (l : Launch) (D : DD) (g : Nat → Nat) (x : Nat → Int32) (I : Nat → Nat → Int32) (J : Nat → Nat → Int64) (P : Nat → Int32) (hIP : I 10 = P) (v : Int32) (hP : VP P) : Cp l yX2_isTime cX2_isTime 2 (some .boolean) { frames := 2, cells := 0, slots := 0, locals := 34 } D [.ref (g 0), .int (v)] (fun H => MR D g x I J H) (.int (b2 (ix (nT P) v))) := by
  refine Ct.of (by decide +kernel) (Nat.le_of_ble_eq_true rfl) (fun K Qf hkl X hM hQ => ?_)
  subst hkl
  subst hIP
  have l2 := hP.l2
  refine vv_sub (lv' := [(0, .ref (g 0)), (1, .int (v))]) [0, 1] rfl ?_
  refine vv_iload_n X dX2_isTime_0 rfl 1 rfl ?_
  refine vv_iconst (v := nI 0) X dX2_isTime_1 (by decide) ?_
  refine vv_aload_n X dX2_isTime_2 rfl 0 rfl ?_
  refine mg10 X rfl hM dX2_isTime_3 ?_
  refine vv_iconst (v := nI 2) X dX2_isTime_6 (by decide) ?_
  refine vv_iald X hM.a10 (2) (by omega) (by decide) rfl dX2_isTime_7 ?_
  refine vv_eqi hP.e2 ?_
  refine vv_iconst (v := nI 1) X dX2_isTime_8 (by decide) ?_
  refine vv_isub X dX2_isTime_9 ?_
  refine vv_callSp X (mX2_in (kL K) D v (nI 0) ((nI (nT (I 10))) - (nI 1))) q3031 q3032 q144 q3033 nX2_in ⟨(Nat.le_of_ble_eq_true rfl), (Nat.le_of_ble_eq_true rfl)⟩ dX2_isTime_10 rfl (Nat.le_of_ble_eq_true rfl) trivial ⟨(Nat.le_of_ble_eq_true rfl), (Nat.le_of_ble_eq_true rfl)⟩ ?_
  exact vv_zret X (b2_nar _) hQ dX2_isTime_13 (Nat.le_refl _) (Nat.le_refl _) (pq (rfl))
theorem nX2_isZone : notMH yX2_isZone 1 := by decide +kernel
set_option maxHeartbeats 800000 in
theorem mX2_isZone (l : Launch) (D : DD) (g : Nat → Nat) (x : Nat → Int32) (I : Nat → Nat → Int32) (J : Nat → Nat → Int64) (P : Nat → Int32) (hIP : I 10 = P) (v : Int32) (hP : VP P) : Cp l yX2_isZone cX2_isZone 2 (some .boolean) { frames := 2, cells := 0, slots := 0, locals := 34 } D [.ref (g 0), .int (v)] (fun H => MR D g x I J H) (.int (b2 (ix (nZ P) v))) := by
  refine Ct.of (by decide +kernel) (Nat.le_of_ble_eq_true rfl) (fun K Qf hkl X hM hQ => ?_)
  subst hkl
  subst hIP
  have l101 := hP.l101
  refine vv_sub (lv' := [(0, .ref (g 0)), (1, .int (v))]) [0, 1] rfl ?_
  refine vv_iload_n X dX2_isZone_0 rfl 1 rfl ?_
  refine vv_iconst (v := nI 0) X dX2_isZone_1 (by decide) ?_
  refine vv_aload_n X dX2_isZone_2 rfl 0 rfl ?_
  refine mg10 X rfl hM dX2_isZone_3 ?_
  refine vv_bipush (v := nI 101) X dX2_isZone_6 (by decide) ?_
  refine vv_iald X hM.a10 (101) (by omega) (by decide) rfl dX2_isZone_8 ?_
  refine vv_eqi hP.e101 ?_
  refine vv_iconst (v := nI 1) X dX2_isZone_9 (by decide) ?_
  refine vv_isub X dX2_isZone_10 ?_
  refine vv_callSp X (mX2_in (kL K) D v (nI 0) ((nI (nZ (I 10))) - (nI 1))) q3031 q3032 q144 q3033 nX2_in ⟨(Nat.le_of_ble_eq_true rfl), (Nat.le_of_ble_eq_true rfl)⟩ dX2_isZone_11 rfl (Nat.le_of_ble_eq_true rfl) trivial ⟨(Nat.le_of_ble_eq_true rfl), (Nat.le_of_ble_eq_true rfl)⟩ ?_
  exact vv_zret X (b2_nar _) hQ dX2_isZone_14 (Nat.le_refl _) (Nat.le_refl _) (pq (rfl))
theorem nX2_isLength : notMH yX2_isLength 1 := by decide +kernel
set_option maxHeartbeats 800000 in
theorem mX2_isLength (l : Launch) (D : DD) (g : Nat → Nat) (x : Nat → Int32) (I : Nat → Nat → Int32) (J : Nat → Nat → Int64) (P : Nat → Int32) (hIP : I 10 = P) (v : Int32) (hP : VP P) : Cp l yX2_isLength cX2_isLength 2 (some .boolean) { frames := 2, cells := 0, slots := 0, locals := 34 } D [.ref (g 0), .int (v)] (fun H => MR D g x I J H) (.int (b2 (nI 4 ≤ v ∧ v ≤ nI (nT P)))) := by
  refine Ct.of (by decide +kernel) (Nat.le_of_ble_eq_true rfl) (fun K Qf hkl X hM hQ => ?_)
  subst hkl
  subst hIP
  have l2 := hP.l2
  refine vv_sub (lv' := [(0, .ref (g 0)), (1, .int (v))]) [0, 1] rfl ?_
  refine vv_iload_n X dX2_isLength_0 rfl 1 rfl ?_
  refine vv_iconst (v := nI 4) X dX2_isLength_1 (by decide) ?_
  refine vv_aload_n X dX2_isLength_2 rfl 0 rfl ?_
  refine mg10 X rfl hM dX2_isLength_3 ?_
  refine vv_iconst (v := nI 2) X dX2_isLength_6 (by decide) ?_
  refine vv_iald X hM.a10 (2) (by omega) (by decide) rfl dX2_isLength_7 ?_
  refine vv_eqi hP.e2 ?_
  refine vv_callSp X (mX2_in (kL K) D v (nI 4) (nI (nT (I 10)))) q3031 q3032 q144 q3033 nX2_in ⟨(Nat.le_of_ble_eq_true rfl), (Nat.le_of_ble_eq_true rfl)⟩ dX2_isLength_8 rfl (Nat.le_of_ble_eq_true rfl) trivial ⟨(Nat.le_of_ble_eq_true rfl), (Nat.le_of_ble_eq_true rfl)⟩ ?_
  exact vv_zret X (b2_nar _) hQ dX2_isLength_11 (Nat.le_refl _) (Nat.le_refl _) (pq (rfl))
theorem nX2_isPeriod : notMH yX2_isPeriod 1 := by decide +kernel
set_option maxHeartbeats 800000 in
theorem mX2_isPeriod (l : Launch) (D : DD) (v : Int32) : Cp l yX2_isPeriod cX2_isPeriod 1 (some .boolean) { frames := 2, cells := 0, slots := 0, locals := 34 } D [.int (v)] (fun _ => True) (.int (b2 (nI 2 ≤ v ∧ v ≤ nI 99))) := by
  refine Ct.of (by decide +kernel) (Nat.le_of_ble_eq_true rfl) (fun K Qf hkl X hM hQ => ?_)
  subst hkl
  refine vv_sub (lv' := [(0, .int (v))]) [0] rfl ?_
  refine vv_iload_n X dX2_isPeriod_0 rfl 0 rfl ?_
  refine vv_iconst (v := nI 2) X dX2_isPeriod_1 (by decide) ?_
  refine vv_bipush (v := nI 99) X dX2_isPeriod_2 (by decide) ?_
  refine vv_callSp X (mX2_in (kL K) D v (nI 2) (nI 99)) q3031 q3032 q144 q3033 nX2_in ⟨(Nat.le_of_ble_eq_true rfl), (Nat.le_of_ble_eq_true rfl)⟩ dX2_isPeriod_4 rfl (Nat.le_of_ble_eq_true rfl) trivial ⟨(Nat.le_of_ble_eq_true rfl), (Nat.le_of_ble_eq_true rfl)⟩ ?_
  exact vv_zret X (b2_nar _) hQ dX2_isPeriod_7 (Nat.le_refl _) (Nat.le_refl _) (pq (rfl))
theorem nX2_isShare : notMH yX2_isShare 1 := by decide +kernel
set_option maxHeartbeats 800000 in
theorem mX2_isShare (l : Launch) (D : DD) (v : Int32) : Cp l yX2_isShare cX2_isShare 1 (some .boolean) { frames := 2, cells := 0, slots := 0, locals := 34 } D [.int (v)] (fun _ => True) (.int (b2 (nI 1 ≤ v ∧ v ≤ nI 100))) := by
  refine Ct.of (by decide +kernel) (Nat.le_of_ble_eq_true rfl) (fun K Qf hkl X hM hQ => ?_)
  subst hkl
  refine vv_sub (lv' := [(0, .int (v))]) [0] rfl ?_
  refine vv_iload_n X dX2_isShare_0 rfl 0 rfl ?_
  refine vv_iconst (v := nI 1) X dX2_isShare_1 (by decide) ?_
  refine vv_bipush (v := nI 100) X dX2_isShare_2 (by decide) ?_
  refine vv_callSp X (mX2_in (kL K) D v (nI 1) (nI 100)) q3031 q3032 q144 q3033 nX2_in ⟨(Nat.le_of_ble_eq_true rfl), (Nat.le_of_ble_eq_true rfl)⟩ dX2_isShare_4 rfl (Nat.le_of_ble_eq_true rfl) trivial ⟨(Nat.le_of_ble_eq_true rfl), (Nat.le_of_ble_eq_true rfl)⟩ ?_
  exact vv_zret X (b2_nar _) hQ dX2_isShare_7 (Nat.le_refl _) (Nat.le_refl _) (pq (rfl))
theorem nX2_isPoint : notMH yX2_isPoint 2 := by decide +kernel
set_option maxHeartbeats 800000 in
theorem mX2_isPoint (l : Launch) (D : DD) (v u : Int32) : Cp l yX2_isPoint cX2_isPoint 2 (some .boolean) { frames := 2, cells := 0, slots := 0, locals := 34 } D [.int (v), .int (u)] (fun _ => True) (.int (b2 ((-9999 ≤ v ∧ v ≤ nI 9999) ∧ (-9999 ≤ u ∧ u ≤ nI 9999)))) := by
  refine Ct.of (by decide +kernel) (Nat.le_of_ble_eq_true rfl) (fun K Qf hkl X hM hQ => ?_)
  subst hkl
  refine vv_sub (lv' := [(0, .int (v)), (1, .int (u))]) [0, 1] rfl ?_
  refine vv_iload_n X dX2_isPoint_0 rfl 0 rfl ?_
  refine vv_sipush (v := -9999) X dX2_isPoint_1 (by decide) ?_
  refine vv_sipush (v := nI 9999) X dX2_isPoint_4 (by decide) ?_
  refine vv_callSp X (mX2_in (kL K) D v (-9999) (nI 9999)) q3031 q3032 q144 q3033 nX2_in ⟨(Nat.le_of_ble_eq_true rfl), (Nat.le_of_ble_eq_true rfl)⟩ dX2_isPoint_7 rfl (Nat.le_of_ble_eq_true rfl) trivial ⟨(Nat.le_of_ble_eq_true rfl), (Nat.le_of_ble_eq_true rfl)⟩ ?_
  refine vb_eq (tgt := 30) X dX2_isPoint_10 (by decide) (fun c_10 => ?_) (fun c_10 => ?_)
  · refine vv_iconst (v := nI 0) X dX2_isPoint_30 (by decide) ?_
    exact vv_zret X (rfl) hQ dX2_isPoint_31 (Nat.le_refl _) (Nat.le_refl _) (pq (b2_0 (fun z => c_10 z.1)))
  · refine vv_iload_n X dX2_isPoint_13 rfl 1 rfl ?_
    refine vv_sipush (v := -9999) X dX2_isPoint_14 (by decide) ?_
    refine vv_sipush (v := nI 9999) X dX2_isPoint_17 (by decide) ?_
    refine vv_callSp X (mX2_in (kL K) D u (-9999) (nI 9999)) q3031 q3032 q144 q3033 nX2_in ⟨(Nat.le_of_ble_eq_true rfl), (Nat.le_of_ble_eq_true rfl)⟩ dX2_isPoint_20 rfl (Nat.le_of_ble_eq_true rfl) trivial ⟨(Nat.le_of_ble_eq_true rfl), (Nat.le_of_ble_eq_true rfl)⟩ ?_
    refine vb_eq (tgt := 30) X dX2_isPoint_23 (by decide) (fun c_23 => ?_) (fun c_23 => ?_)
    · refine vv_iconst (v := nI 0) X dX2_isPoint_30 (by decide) ?_
      exact vv_zret X (rfl) hQ dX2_isPoint_31 (Nat.le_refl _) (Nat.le_refl _) (pq (b2_0 (fun z => c_23 z.2)))
    · refine vv_iconst (v := nI 1) X dX2_isPoint_26 (by decide) ?_
      refine vv_goto (tgt := 31) X dX2_isPoint_27 (by decide) ?_
      exact vv_zret X (rfl) hQ dX2_isPoint_31 (Nat.le_refl _) (Nat.le_refl _) (pq (b2_1 ⟨c_10, c_23⟩))
theorem nX2_isVelocity : notMH yX2_isVelocity 2 := by decide +kernel
set_option maxHeartbeats 800000 in
theorem mX2_isVelocity (l : Launch) (D : DD) (v u : Int32) : Cp l yX2_isVelocity cX2_isVelocity 2 (some .boolean) { frames := 2, cells := 0, slots := 0, locals := 34 } D [.int (v), .int (u)] (fun _ => True) (.int (b2 ((-999 ≤ v ∧ v ≤ nI 999) ∧ (-999 ≤ u ∧ u ≤ nI 999)))) := by
  refine Ct.of (by decide +kernel) (Nat.le_of_ble_eq_true rfl) (fun K Qf hkl X hM hQ => ?_)
  subst hkl
  refine vv_sub (lv' := [(0, .int (v)), (1, .int (u))]) [0, 1] rfl ?_
  refine vv_iload_n X dX2_isVelocity_0 rfl 0 rfl ?_
  refine vv_sipush (v := -999) X dX2_isVelocity_1 (by decide) ?_
  refine vv_sipush (v := nI 999) X dX2_isVelocity_4 (by decide) ?_
  refine vv_callSp X (mX2_in (kL K) D v (-999) (nI 999)) q3031 q3032 q144 q3033 nX2_in ⟨(Nat.le_of_ble_eq_true rfl), (Nat.le_of_ble_eq_true rfl)⟩ dX2_isVelocity_7 rfl (Nat.le_of_ble_eq_true rfl) trivial ⟨(Nat.le_of_ble_eq_true rfl), (Nat.le_of_ble_eq_true rfl)⟩ ?_
  refine vb_eq (tgt := 30) X dX2_isVelocity_10 (by decide) (fun c_10 => ?_) (fun c_10 => ?_)
  · refine vv_iconst (v := nI 0) X dX2_isVelocity_30 (by decide) ?_
    exact vv_zret X (rfl) hQ dX2_isVelocity_31 (Nat.le_refl _) (Nat.le_refl _) (pq (b2_0 (fun z => c_10 z.1)))
  · refine vv_iload_n X dX2_isVelocity_13 rfl 1 rfl ?_
    refine vv_sipush (v := -999) X dX2_isVelocity_14 (by decide) ?_
    refine vv_sipush (v := nI 999) X dX2_isVelocity_17 (by decide) ?_
    refine vv_callSp X (mX2_in (kL K) D u (-999) (nI 999)) q3031 q3032 q144 q3033 nX2_in ⟨(Nat.le_of_ble_eq_true rfl), (Nat.le_of_ble_eq_true rfl)⟩ dX2_isVelocity_20 rfl (Nat.le_of_ble_eq_true rfl) trivial ⟨(Nat.le_of_ble_eq_true rfl), (Nat.le_of_ble_eq_true rfl)⟩ ?_
    refine vb_eq (tgt := 30) X dX2_isVelocity_23 (by decide) (fun c_23 => ?_) (fun c_23 => ?_)
    · refine vv_iconst (v := nI 0) X dX2_isVelocity_30 (by decide) ?_
      exact vv_zret X (rfl) hQ dX2_isVelocity_31 (Nat.le_refl _) (Nat.le_refl _) (pq (b2_0 (fun z => c_23 z.2)))
    · refine vv_iconst (v := nI 1) X dX2_isVelocity_26 (by decide) ?_
      refine vv_goto (tgt := 31) X dX2_isVelocity_27 (by decide) ?_
      exact vv_zret X (rfl) hQ dX2_isVelocity_31 (Nat.le_refl _) (Nat.le_refl _) (pq (b2_1 ⟨c_10, c_23⟩))
theorem nX2_isBlock : notMH yX2_isBlock 2 := by decide +kernel
set_option maxHeartbeats 800000 in
theorem mX2_isBlock (l : Launch) (D : DD) (g : Nat → Nat) (x : Nat → Int32) (I : Nat → Nat → Int32) (J : Nat → Nat → Int64) (P : Nat → Int32) (hIP : I 10 = P) (v u : Int32) (hP : VP P) : Cp l yX2_isBlock cX2_isBlock 3 (some .boolean) { frames := 3, cells := 0, slots := 0, locals := 55 } D [.ref (g 0), .int (v), .int (u)] (fun H => MR D g x I J H) (.int (b2 (ix (nT P) v ∧ (nI 1 ≤ u ∧ u ≤ nI (nT P))))) := by
  refine Ct.of (by decide +kernel) (Nat.le_of_ble_eq_true rfl) (fun K Qf hkl X hM hQ => ?_)
  subst hkl
  subst hIP
  refine vv_sub (lv' := [(0, .ref (g 0)), (1, .int (v)), (2, .int (u))]) [0, 1, 2] rfl ?_
  refine vv_aload_n X dX2_isBlock_0 rfl 0 rfl ?_
  refine vv_iload_n X dX2_isBlock_1 rfl 1 rfl ?_
  refine vv_callVp X (mX2_isTime (kL K) D g x I J (I 10) rfl v hP) q3284 q3286 qs102 q144 q3287 nX2_isTime ⟨(Nat.le_of_ble_eq_true rfl), (Nat.le_of_ble_eq_true rfl)⟩ dX2_isBlock_2 rfl (Nat.le_of_ble_eq_true rfl) (recv X hM.1 CL_X2) hM ⟨(Nat.le_of_ble_eq_true rfl), (Nat.le_of_ble_eq_true rfl)⟩ ?_
  refine vb_eq (tgt := 26) X dX2_isBlock_5 (by decide) (fun c_5 => ?_) (fun c_5 => ?_)
  · refine vv_iconst (v := nI 0) X dX2_isBlock_26 (by decide) ?_
    exact vv_zret X (rfl) hQ dX2_isBlock_27 (Nat.le_refl _) (Nat.le_refl _) (pq (b2_0 (fun z => c_5 z.1)))
  · refine vv_iload_n X dX2_isBlock_8 rfl 2 rfl ?_
    refine vv_iconst (v := nI 1) X dX2_isBlock_9 (by decide) ?_
    refine vv_aload_n X dX2_isBlock_10 rfl 0 rfl ?_
    refine mg10 X rfl hM dX2_isBlock_11 ?_
    refine vv_iconst (v := nI 2) X dX2_isBlock_14 (by decide) ?_
    refine vv_iald X hM.a10 (2) (by omega) (by decide) rfl dX2_isBlock_15 ?_
    refine vv_eqi hP.e2 ?_
    refine vv_callSp X (mX2_in (kL K) D u (nI 1) (nI (nT (I 10)))) q3031 q3032 q144 q3033 nX2_in ⟨(Nat.le_of_ble_eq_true rfl), (Nat.le_of_ble_eq_true rfl)⟩ dX2_isBlock_16 rfl (Nat.le_of_ble_eq_true rfl) trivial ⟨(Nat.le_of_ble_eq_true rfl), (Nat.le_of_ble_eq_true rfl)⟩ ?_
    refine vb_eq (tgt := 26) X dX2_isBlock_19 (by decide) (fun c_19 => ?_) (fun c_19 => ?_)
    · refine vv_iconst (v := nI 0) X dX2_isBlock_26 (by decide) ?_
      exact vv_zret X (rfl) hQ dX2_isBlock_27 (Nat.le_refl _) (Nat.le_refl _) (pq (b2_0 (fun z => c_19 z.2)))
    · refine vv_iconst (v := nI 1) X dX2_isBlock_22 (by decide) ?_
      refine vv_goto (tgt := 27) X dX2_isBlock_23 (by decide) ?_
      exact vv_zret X (rfl) hQ dX2_isBlock_27 (Nat.le_refl _) (Nat.le_refl _) (pq (b2_1 ⟨c_5, c_19⟩))
theorem nX2_together : notMH yX2_together 3 := by decide +kernel
set_option maxHeartbeats 800000 in
theorem mX2_together (l : Launch) (D : DD) (g : Nat → Nat) (x : Nat → Int32) (I : Nat → Nat → Int32) (J : Nat → Nat → Int64) (P : Nat → Int32) (hIP : I 10 = P) (S : Nat → Int32) (hIS : I 12 = S) (a b u : Nat) (hP : VP P) (ha : a < nM P) (hb : b < nM P) (hu : u < nT P) : Cp l yX2_together cX2_together 7 (some .long) { frames := 1, cells := 0, slots := 0, locals := 12 } D [.ref (g 0), .int (nI a), .int (nI b), .int (nI u)] (fun H => MR D g x I J H) (.long (tog P S a b u)) := by
  refine Ct.of (by decide +kernel) (Nat.le_of_ble_eq_true rfl) (fun K Qf hkl X hM hQ => ?_)
  subst hkl
  subst hIP
  subst hIS
  have l2 := hP.l2
  have l4 := hP.l4
  refine vv_sub (lv' := [(0, .ref (g 0)), (1, .int (nI a)), (2, .int (nI b)), (3, .int (nI u))]) [0, 1, 2, 3] rfl ?_
  refine vv_lconst (v := 0) X dX2_together_0 (by decide) ?_
  refine vv_lstore (lv' := [(4, .long (0)), (0, .ref (g 0)), (1, .int (nI a)), (2, .int (nI b)), (3, .int (nI u))]) X dX2_together_1 (by decide) rfl ?_
  refine vv_iconst (v := nI 0) X dX2_together_3 (by decide) ?_
  refine vv_istore (lv' := [(6, .int (nI 0)), (4, .long (0)), (0, .ref (g 0)), (1, .int (nI a)), (2, .int (nI b)), (3, .int (nI u))]) X dX2_together_4 (by decide) rfl ?_
  have hx_1 : ∀ (e : Int64) (he : e = fo (fun t s => s + (I 12 (55 + 200 * a + t)).toInt64 * (I 12 (55 + 200 * b + t + u)).toInt64) (nT (I 10) - u) 0), V K 7 (fun _ => False) (kS K).heap 0 0 Qf 67 [(0, .ref (g 0)), (1, .int (nI a)), (2, .int (nI b)), (3, .int (nI u)), (4, .long (e)), (6, .int (nI (nT (I 10) - u)))] [] := by
    intro e he
    refine vv_lload X dX2_together_67 4 rfl ?_
    exact vv_lret X hQ dX2_together_69 (Nat.le_refl _) (Nat.le_refl _) (pql (he))
  have hl_2 : ∀ (n_i i : Nat) (e : Int64), i + n_i = nT (I 10) - u → (e = fo (fun t s => s + (I 12 (55 + 200 * a + t)).toInt64 * (I 12 (55 + 200 * b + t + u)).toInt64) i 0) → V K 7 (fun _ => False) (kS K).heap 0 0 Qf 6 [(0, .ref (g 0)), (1, .int (nI a)), (2, .int (nI b)), (3, .int (nI u)), (4, .long (e)), (6, .int (nI i))] [] := by
    intro n_i
    induction n_i with
    | zero =>
      intro i e hi he
      obtain rfl : i = nT (I 10) - u := by omega
      refine vv_iload X dX2_together_6 5 rfl ?_
      refine vv_iload_n X dX2_together_8 rfl 3 rfl ?_
      refine vn_add X dX2_together_9 ?_
      refine vv_aload_n X dX2_together_10 rfl 0 rfl ?_
      refine mg10 X rfl hM dX2_together_11 ?_
      refine vv_iconst (v := nI 2) X dX2_together_14 (by decide) ?_
      refine vv_iald X hM.a10 (2) (by omega) (by decide) rfl dX2_together_15 ?_
      refine vv_eqi hP.e2 ?_
      refine vn_ge (tgt := 67) X (by omega) (by omega) dX2_together_16 (by decide) (fun c_16 => ?_) (fun c_16 => ?_)
      · exact hx_1 e he
      · exact absurd c_16 (by omega)
    | succ n_i ihi =>
      intro i e hi he
      refine vv_iload X dX2_together_6 5 rfl ?_
      refine vv_iload_n X dX2_together_8 rfl 3 rfl ?_
      refine vn_add X dX2_together_9 ?_
      refine vv_aload_n X dX2_together_10 rfl 0 rfl ?_
      refine mg10 X rfl hM dX2_together_11 ?_
      refine vv_iconst (v := nI 2) X dX2_together_14 (by decide) ?_
      refine vv_iald X hM.a10 (2) (by omega) (by decide) rfl dX2_together_15 ?_
      refine vv_eqi hP.e2 ?_
      refine vn_ge (tgt := 67) X (by omega) (by omega) dX2_together_16 (by decide) (fun c_16 => ?_) (fun c_16 => ?_)
      · exact absurd hi (by omega)
      · refine vv_lload X dX2_together_19 4 rfl ?_
        refine vv_aload_n X dX2_together_21 rfl 0 rfl ?_
        refine mg12 X rfl hM dX2_together_22 ?_
        refine vv_bipush (v := nI 55) X dX2_together_25 (by decide) ?_
        refine vv_sipush (v := nI 200) X dX2_together_27 (by decide) ?_
        refine vv_iload_n X dX2_together_30 rfl 1 rfl ?_
        refine vn_mul X dX2_together_31 ?_
        refine vn_add X dX2_together_32 ?_
        refine vv_iload X dX2_together_33 5 rfl ?_
        refine vn_add X dX2_together_35 ?_
        refine vv_iald X hM.a12 ((55 + (200 * a)) + i) (by omega) (by decide) rfl dX2_together_36 ?_
        refine vv_i2l (v := (I 12 ((55 + (200 * a)) + i)).toInt64) X dX2_together_37 rfl ?_
        refine vv_aload_n X dX2_together_38 rfl 0 rfl ?_
        refine mg12 X rfl hM dX2_together_39 ?_
        refine vv_bipush (v := nI 55) X dX2_together_42 (by decide) ?_
        refine vv_sipush (v := nI 200) X dX2_together_44 (by decide) ?_
        refine vv_iload_n X dX2_together_47 rfl 2 rfl ?_
        refine vn_mul X dX2_together_48 ?_
        refine vn_add X dX2_together_49 ?_
        refine vv_iload X dX2_together_50 5 rfl ?_
        refine vn_add X dX2_together_52 ?_
        refine vv_iload_n X dX2_together_53 rfl 3 rfl ?_
        refine vn_add X dX2_together_54 ?_
        refine vv_iald X hM.a12 (((55 + (200 * b)) + i) + u) (by omega) (by decide) rfl dX2_together_55 ?_
        refine vv_i2l (v := (I 12 (((55 + (200 * b)) + i) + u)).toInt64) X dX2_together_56 rfl ?_
        refine vv_lmul X dX2_together_57 ?_
        refine vv_ladd X dX2_together_58 ?_
        refine vv_lstore (lv' := [(4, .long (e + (((I 12 ((55 + (200 * a)) + i)).toInt64) * ((I 12 (((55 + (200 * b)) + i) + u)).toInt64)))), (0, .ref (g 0)), (1, .int (nI a)), (2, .int (nI b)), (3, .int (nI u)), (6, .int (nI i))]) X dX2_together_59 (by decide) rfl ?_
        refine vv_iinc (v := nI (i + 1)) (lv' := [(6, .int (nI (i + 1))), (4, .long (e + (((I 12 ((55 + (200 * a)) + i)).toInt64) * ((I 12 (((55 + (200 * b)) + i) + u)).toInt64)))), (0, .ref (g 0)), (1, .int (nI a)), (2, .int (nI b)), (3, .int (nI u))]) X dX2_together_61 (k := 5) rfl (nI_add _ 1) (by decide) rfl ?_
        refine vv_goto (tgt := 6) X dX2_together_64 (by decide) ?_
        refine vv_sub [2, 3, 4, 5, 1, 0] rfl ?_
        exact ihi (i + 1) (e + (((I 12 ((55 + (200 * a)) + i)).toInt64) * ((I 12 (((55 + (200 * b)) + i) + u)).toInt64))) (by omega) (by rw [he]; rfl)
  refine vv_sub [2, 3, 4, 5, 1, 0] rfl ?_
  exact hl_2 (nT (I 10) - u) 0 0 (by omega) (rfl)
theorem nX2_levelOf : notMH yX2_levelOf 1 := by decide +kernel
set_option maxHeartbeats 800000 in
theorem mX2_levelOf (l : Launch) (D : DD) (g : Nat → Nat) (x : Nat → Int32) (I : Nat → Nat → Int32) (J : Nat → Nat → Int64) (P : Nat → Int32) (hIP : I 10 = P) (S : Nat → Int32) (hIS : I 12 = S) (m : Nat) (hC : VC P) (hm : m < nM P) : Cp l yX2_levelOf cX2_levelOf 2 (some .long) { frames := 2, cells := 0, slots := 0, locals := 38 } D [.ref (g 0), .int (nI m)] (fun H => MR D g x I J H) (.long (lev P S m)) := by
  refine Ct.of (by decide +kernel) (Nat.le_of_ble_eq_true rfl) (fun K Qf hkl X hM hQ => ?_)
  subst hkl
  subst hIP
  subst hIS
  have hP := hC.v
  have l2 := hP.l2
  have t1 := hC.t1
  refine vv_sub (lv' := [(0, .ref (g 0)), (1, .int (nI m))]) [0, 1] rfl ?_
  refine vv_aload_n X dX2_levelOf_0 rfl 0 rfl ?_
  refine vv_iload_n X dX2_levelOf_1 rfl 1 rfl ?_
  refine vv_iload_n X dX2_levelOf_2 rfl 1 rfl ?_
  refine vv_iconst (v := nI 0) X dX2_levelOf_3 (by decide) ?_
  refine vv_callVp X (mX2_together (kL K) D g x I J (I 10) rfl (I 12) rfl m m 0 hP (by omega) (by omega) (by omega)) q3532 q3534 qs129 q144 q3535 nX2_together ⟨(Nat.le_of_ble_eq_true rfl), (Nat.le_of_ble_eq_true rfl)⟩ dX2_levelOf_4 rfl (Nat.le_of_ble_eq_true rfl) (recv X hM.1 CL_X2) hM ⟨(Nat.le_of_ble_eq_true rfl), (Nat.le_of_ble_eq_true rfl)⟩ ?_
  refine vv_aload_n X dX2_levelOf_7 rfl 0 rfl ?_
  refine mg10 X rfl hM dX2_levelOf_8 ?_
  refine vv_iconst (v := nI 2) X dX2_levelOf_11 (by decide) ?_
  refine vv_iald X hM.a10 (2) (by omega) (by decide) rfl dX2_levelOf_12 ?_
  refine vv_eqi hP.e2 ?_
  refine vv_i2l (v := lN (nT (I 10))) X dX2_levelOf_13 (nI_l (by omega)) ?_
  refine vv_ldiv X dX2_levelOf_14 (lN_ne0 (by omega) (by omega)) ?_
  exact vv_lret X hQ dX2_levelOf_15 (Nat.le_refl _) (Nat.le_refl _) (pql (rfl))
theorem nX2_weightOf : notMH yX2_weightOf 0 := by decide +kernel
set_option maxHeartbeats 800000 in
theorem mX2_weightOf (l : Launch) (D : DD) (g : Nat → Nat) (x : Nat → Int32) (I : Nat → Nat → Int32) (J : Nat → Nat → Int64) (P : Nat → Int32) (hIP : I 10 = P) (S : Nat → Int32) (hIS : I 12 = S)  (hP : VP P) (hS : VS S) : Cp l yX2_weightOf cX2_weightOf 3 (some .int) { frames := 2, cells := 0, slots := 0, locals := 34 } D [.ref (g 0)] (fun H => MR D g x I J H) (.int (nI (wsm S (nM P)))) := by
  refine Ct.of (by decide +kernel) (Nat.le_of_ble_eq_true rfl) (fun K Qf hkl X hM hQ => ?_)
  subst hkl
  subst hIP
  subst hIS
  have l4 := hP.l4
  refine vv_sub (lv' := [(0, .ref (g 0))]) [0] rfl ?_
  refine vv_iconst (v := nI 0) X dX2_weightOf_0 (by decide) ?_
  refine vv_istore_n (lv' := [(1, .int (nI 0)), (0, .ref (g 0))]) X dX2_weightOf_1 rfl (by decide) rfl ?_
  refine vv_iconst (v := nI 0) X dX2_weightOf_2 (by decide) ?_
  refine vv_istore_n (lv' := [(2, .int (nI 0)), (1, .int (nI 0)), (0, .ref (g 0))]) X dX2_weightOf_3 rfl (by decide) rfl ?_
  have hx_1 : ∀ (a : Nat) (ha : a = wsm (I 12) (nM (I 10))), V K 3 (fun _ => False) (kS K).heap 0 0 Qf 48 [(0, .ref (g 0)), (1, .int (nI a)), (2, .int (nI (nM (I 10))))] [] := by
    intro a ha
    refine vv_iload_n X dX2_weightOf_48 rfl 1 rfl ?_
    exact vv_iret X hQ dX2_weightOf_49 (Nat.le_refl _) (Nat.le_refl _) (pq (by rw [ha]))
  have hl_2 : ∀ (n_i i : Nat) (a : Nat), i + n_i = nM (I 10) → (a = wsm (I 12) i) → V K 3 (fun _ => False) (kS K).heap 0 0 Qf 4 [(0, .ref (g 0)), (1, .int (nI a)), (2, .int (nI i))] [] := by
    intro n_i
    induction n_i with
    | zero =>
      intro i a hi ha
      obtain rfl : i = nM (I 10) := by omega
      refine vv_iload_n X dX2_weightOf_4 rfl 2 rfl ?_
      refine vv_aload_n X dX2_weightOf_5 rfl 0 rfl ?_
      refine mg10 X rfl hM dX2_weightOf_6 ?_
      refine vv_iconst (v := nI 4) X dX2_weightOf_9 (by decide) ?_
      refine vv_iald X hM.a10 (4) (by omega) (by decide) rfl dX2_weightOf_10 ?_
      refine vv_eqi hP.e4 ?_
      refine vn_ge (tgt := 48) X (by omega) (by omega) dX2_weightOf_11 (by decide) (fun c_11 => ?_) (fun c_11 => ?_)
      · exact hx_1 a ha
      · exact absurd c_11 (by omega)
    | succ n_i ihi =>
      intro i a hi ha
      refine vv_iload_n X dX2_weightOf_4 rfl 2 rfl ?_
      refine vv_aload_n X dX2_weightOf_5 rfl 0 rfl ?_
      refine mg10 X rfl hM dX2_weightOf_6 ?_
      refine vv_iconst (v := nI 4) X dX2_weightOf_9 (by decide) ?_
      refine vv_iald X hM.a10 (4) (by omega) (by decide) rfl dX2_weightOf_10 ?_
      refine vv_eqi hP.e4 ?_
      refine vn_ge (tgt := 48) X (by omega) (by omega) dX2_weightOf_11 (by decide) (fun c_11 => ?_) (fun c_11 => ?_)
      · exact absurd hi (by omega)
      · refine vv_iload_n X dX2_weightOf_14 rfl 1 rfl ?_
        refine vv_aload_n X dX2_weightOf_15 rfl 0 rfl ?_
        refine vv_aload_n X dX2_weightOf_16 rfl 0 rfl ?_
        refine mg12 X rfl hM dX2_weightOf_17 ?_
        refine vv_iload_n X dX2_weightOf_20 rfl 2 rfl ?_
        refine vv_callVp X (mX2_hears (kL K) D g x I J 12 (I 12) rfl i (fun h => h.a12) (by omega)) q3252 q3254 qs99 q144 q3255 nX2_hears ⟨(Nat.le_of_ble_eq_true rfl), (Nat.le_of_ble_eq_true rfl)⟩ dX2_weightOf_21 rfl (Nat.le_of_ble_eq_true rfl) (recv X hM.1 CL_X2) hM ⟨(Nat.le_of_ble_eq_true rfl), (Nat.le_of_ble_eq_true rfl)⟩ ?_
        refine vb_eq (tgt := 39) X dX2_weightOf_24 (by decide) (fun c_24 => ?_) (fun c_24 => ?_)
        · refine vv_iconst (v := nI 0) X dX2_weightOf_39 (by decide) ?_
          refine vn_add X dX2_weightOf_40 ?_
          refine vv_istore_n (lv' := [(1, .int (nI (a + 0))), (0, .ref (g 0)), (2, .int (nI i))]) X dX2_weightOf_41 rfl (by decide) rfl ?_
          refine vv_iinc (v := nI (i + 1)) (lv' := [(2, .int (nI (i + 1))), (1, .int (nI (a + 0))), (0, .ref (g 0))]) X dX2_weightOf_42 (k := 2) rfl (nI_add _ 1) (by decide) rfl ?_
          refine vv_goto (tgt := 4) X dX2_weightOf_45 (by decide) ?_
          refine vv_sub [2, 1, 0] rfl ?_
          exact ihi (i + 1) (a + 0) (by omega) (by rw [ha]; show _ = _ + (if I 12 (1 + i) = 0 then wgt (I 12) i else 0); rw [if_neg c_24]; rfl)
        · refine vv_aload_n X dX2_weightOf_27 rfl 0 rfl ?_
          refine mg12 X rfl hM dX2_weightOf_28 ?_
          refine vv_bipush (v := nI 13) X dX2_weightOf_31 (by decide) ?_
          refine vv_iload_n X dX2_weightOf_33 rfl 2 rfl ?_
          refine vn_add X dX2_weightOf_34 ?_
          refine vv_iald X hM.a12 (13 + i) (by omega) (by decide) rfl dX2_weightOf_35 ?_
          refine vv_eqi (hS.wgt i (by omega)).1 ?_
          refine vv_goto (tgt := 40) X dX2_weightOf_36 (by decide) ?_
          refine vn_add X dX2_weightOf_40 ?_
          refine vv_istore_n (lv' := [(1, .int (nI (a + (wgt (I 12) i)))), (0, .ref (g 0)), (2, .int (nI i))]) X dX2_weightOf_41 rfl (by decide) rfl ?_
          refine vv_iinc (v := nI (i + 1)) (lv' := [(2, .int (nI (i + 1))), (1, .int (nI (a + (wgt (I 12) i)))), (0, .ref (g 0))]) X dX2_weightOf_42 (k := 2) rfl (nI_add _ 1) (by decide) rfl ?_
          refine vv_goto (tgt := 4) X dX2_weightOf_45 (by decide) ?_
          refine vv_sub [2, 1, 0] rfl ?_
          exact ihi (i + 1) (a + (wgt (I 12) i)) (by omega) (by rw [ha]; show _ = _ + (if I 12 (1 + i) = 0 then wgt (I 12) i else 0); rw [if_pos c_24]; rfl)
  refine vv_sub [2, 1, 0] rfl ?_
  exact hl_2 (nM (I 10)) 0 0 (by omega) (rfl)
theorem nX2_activeCount : notMH yX2_activeCount 0 := by decide +kernel
set_option maxHeartbeats 800000 in
theorem mX2_activeCount (l : Launch) (D : DD) (g : Nat → Nat) (x : Nat → Int32) (I : Nat → Nat → Int32) (J : Nat → Nat → Int64) (P : Nat → Int32) (hIP : I 10 = P) (S : Nat → Int32) (hIS : I 12 = S)  (hP : VP P) : Cp l yX2_activeCount cX2_activeCount 3 (some .int) { frames := 2, cells := 0, slots := 0, locals := 34 } D [.ref (g 0)] (fun H => MR D g x I J H) (.int (nI (act S (nM P)))) := by
  refine Ct.of (by decide +kernel) (Nat.le_of_ble_eq_true rfl) (fun K Qf hkl X hM hQ => ?_)
  subst hkl
  subst hIP
  subst hIS
  have l4 := hP.l4
  refine vv_sub (lv' := [(0, .ref (g 0))]) [0] rfl ?_
  refine vv_iconst (v := nI 0) X dX2_activeCount_0 (by decide) ?_
  refine vv_istore_n (lv' := [(1, .int (nI 0)), (0, .ref (g 0))]) X dX2_activeCount_1 rfl (by decide) rfl ?_
  refine vv_iconst (v := nI 0) X dX2_activeCount_2 (by decide) ?_
  refine vv_istore_n (lv' := [(2, .int (nI 0)), (1, .int (nI 0)), (0, .ref (g 0))]) X dX2_activeCount_3 rfl (by decide) rfl ?_
  have hx_1 : ∀ (a : Nat) (ha : a = act (I 12) (nM (I 10))), V K 3 (fun _ => False) (kS K).heap 0 0 Qf 40 [(0, .ref (g 0)), (1, .int (nI a)), (2, .int (nI (nM (I 10))))] [] := by
    intro a ha
    refine vv_iload_n X dX2_activeCount_40 rfl 1 rfl ?_
    exact vv_iret X hQ dX2_activeCount_41 (Nat.le_refl _) (Nat.le_refl _) (pq (by rw [ha]))
  have hl_2 : ∀ (n_i i : Nat) (a : Nat), i + n_i = nM (I 10) → (a = act (I 12) i) → V K 3 (fun _ => False) (kS K).heap 0 0 Qf 4 [(0, .ref (g 0)), (1, .int (nI a)), (2, .int (nI i))] [] := by
    intro n_i
    induction n_i with
    | zero =>
      intro i a hi ha
      obtain rfl : i = nM (I 10) := by omega
      refine vv_iload_n X dX2_activeCount_4 rfl 2 rfl ?_
      refine vv_aload_n X dX2_activeCount_5 rfl 0 rfl ?_
      refine mg10 X rfl hM dX2_activeCount_6 ?_
      refine vv_iconst (v := nI 4) X dX2_activeCount_9 (by decide) ?_
      refine vv_iald X hM.a10 (4) (by omega) (by decide) rfl dX2_activeCount_10 ?_
      refine vv_eqi hP.e4 ?_
      refine vn_ge (tgt := 40) X (by omega) (by omega) dX2_activeCount_11 (by decide) (fun c_11 => ?_) (fun c_11 => ?_)
      · exact hx_1 a ha
      · exact absurd c_11 (by omega)
    | succ n_i ihi =>
      intro i a hi ha
      refine vv_iload_n X dX2_activeCount_4 rfl 2 rfl ?_
      refine vv_aload_n X dX2_activeCount_5 rfl 0 rfl ?_
      refine mg10 X rfl hM dX2_activeCount_6 ?_
      refine vv_iconst (v := nI 4) X dX2_activeCount_9 (by decide) ?_
      refine vv_iald X hM.a10 (4) (by omega) (by decide) rfl dX2_activeCount_10 ?_
      refine vv_eqi hP.e4 ?_
      refine vn_ge (tgt := 40) X (by omega) (by omega) dX2_activeCount_11 (by decide) (fun c_11 => ?_) (fun c_11 => ?_)
      · exact absurd hi (by omega)
      · refine vv_iload_n X dX2_activeCount_14 rfl 1 rfl ?_
        refine vv_aload_n X dX2_activeCount_15 rfl 0 rfl ?_
        refine vv_aload_n X dX2_activeCount_16 rfl 0 rfl ?_
        refine mg12 X rfl hM dX2_activeCount_17 ?_
        refine vv_iload_n X dX2_activeCount_20 rfl 2 rfl ?_
        refine vv_callVp X (mX2_hears (kL K) D g x I J 12 (I 12) rfl i (fun h => h.a12) (by omega)) q3252 q3254 qs99 q144 q3255 nX2_hears ⟨(Nat.le_of_ble_eq_true rfl), (Nat.le_of_ble_eq_true rfl)⟩ dX2_activeCount_21 rfl (Nat.le_of_ble_eq_true rfl) (recv X hM.1 CL_X2) hM ⟨(Nat.le_of_ble_eq_true rfl), (Nat.le_of_ble_eq_true rfl)⟩ ?_
        refine vb_eq (tgt := 31) X dX2_activeCount_24 (by decide) (fun c_24 => ?_) (fun c_24 => ?_)
        · refine vv_iconst (v := nI 0) X dX2_activeCount_31 (by decide) ?_
          refine vn_add X dX2_activeCount_32 ?_
          refine vv_istore_n (lv' := [(1, .int (nI (a + 0))), (0, .ref (g 0)), (2, .int (nI i))]) X dX2_activeCount_33 rfl (by decide) rfl ?_
          refine vv_iinc (v := nI (i + 1)) (lv' := [(2, .int (nI (i + 1))), (1, .int (nI (a + 0))), (0, .ref (g 0))]) X dX2_activeCount_34 (k := 2) rfl (nI_add _ 1) (by decide) rfl ?_
          refine vv_goto (tgt := 4) X dX2_activeCount_37 (by decide) ?_
          refine vv_sub [2, 1, 0] rfl ?_
          exact ihi (i + 1) (a + 0) (by omega) (by rw [ha]; show _ = _ + (if I 12 (1 + i) = 0 then 1 else 0); rw [if_neg c_24]; rfl)
        · refine vv_iconst (v := nI 1) X dX2_activeCount_27 (by decide) ?_
          refine vv_goto (tgt := 32) X dX2_activeCount_28 (by decide) ?_
          refine vn_add X dX2_activeCount_32 ?_
          refine vv_istore_n (lv' := [(1, .int (nI (a + 1))), (0, .ref (g 0)), (2, .int (nI i))]) X dX2_activeCount_33 rfl (by decide) rfl ?_
          refine vv_iinc (v := nI (i + 1)) (lv' := [(2, .int (nI (i + 1))), (1, .int (nI (a + 1))), (0, .ref (g 0))]) X dX2_activeCount_34 (k := 2) rfl (nI_add _ 1) (by decide) rfl ?_
          refine vv_goto (tgt := 4) X dX2_activeCount_37 (by decide) ?_
          refine vv_sub [2, 1, 0] rfl ?_
          exact ihi (i + 1) (a + 1) (by omega) (by rw [ha]; show _ = _ + (if I 12 (1 + i) = 0 then 1 else 0); rw [if_pos c_24]; rfl)
  refine vv_sub [2, 1, 0] rfl ?_
  exact hl_2 (nM (I 10)) 0 0 (by omega) (rfl)
theorem nX2_shift : notMH yX2_shift 3 := by decide +kernel
set_option maxHeartbeats 800000 in
theorem mX2_shift (l : Launch) (D : DD) (g : Nat → Nat) (x : Nat → Int32) (I : Nat → Nat → Int32) (J : Nat → Nat → Int64) (P : Nat → Int32) (hIP : I 10 = P) (c o m : Nat) (hP : VP P) (hT : ∀ c, c < nC P → ∀ m, m < nM P → I 17 (12 * c + m) = nI (dc P c m)) (hc : c < nC P) (ho : o < nC P) (hm : m < nM P) : Cp l yX2_shift cX2_shift 4 (some .int) { frames := 1, cells := 0, slots := 0, locals := 12 } D [.ref (g 0), .int (nI c), .int (nI o), .int (nI m)] (fun H => MR D g x I J H) (.int (shf P c o m)) := by
  refine Ct.of (by decide +kernel) (Nat.le_of_ble_eq_true rfl) (fun K Qf hkl X hM hQ => ?_)
  subst hkl
  subst hIP
  have l4 := hP.l4
  have l9 := hP.l9
  have l10 := hP.l10
  have hcc : c < 144 := Nat.lt_of_lt_of_le hc (Nat.mul_le_mul l9 l10)
  have hoo : o < 144 := Nat.lt_of_lt_of_le ho (Nat.mul_le_mul l9 l10)
  refine vv_sub (lv' := [(0, .ref (g 0)), (1, .int (nI c)), (2, .int (nI o)), (3, .int (nI m))]) [0, 1, 2, 3] rfl ?_
  refine vv_aload_n X dX2_shift_0 rfl 0 rfl ?_
  refine mg17 X rfl hM dX2_shift_1 ?_
  refine vv_bipush (v := nI 12) X dX2_shift_4 (by decide) ?_
  refine vv_iload_n X dX2_shift_6 rfl 1 rfl ?_
  refine vn_mul X dX2_shift_7 ?_
  refine vv_iload_n X dX2_shift_8 rfl 3 rfl ?_
  refine vn_add X dX2_shift_9 ?_
  refine vv_iald X hM.a17 ((12 * c) + m) (by omega) (by decide) rfl dX2_shift_10 ?_
  refine vv_eqi (hT c hc m hm) ?_
  refine vv_aload_n X dX2_shift_11 rfl 0 rfl ?_
  refine mg17 X rfl hM dX2_shift_12 ?_
  refine vv_bipush (v := nI 12) X dX2_shift_15 (by decide) ?_
  refine vv_iload_n X dX2_shift_17 rfl 2 rfl ?_
  refine vn_mul X dX2_shift_18 ?_
  refine vv_iload_n X dX2_shift_19 rfl 3 rfl ?_
  refine vn_add X dX2_shift_20 ?_
  refine vv_iald X hM.a17 ((12 * o) + m) (by omega) (by decide) rfl dX2_shift_21 ?_
  refine vv_eqi (hT o ho m hm) ?_
  refine vv_isub X dX2_shift_22 ?_
  exact vv_iret X hQ dX2_shift_23 (Nat.le_refl _) (Nat.le_refl _) (pq (rfl))
theorem nX2_confusion : notMH yX2_confusion 3 := by decide +kernel
set_option maxHeartbeats 800000 in
theorem mX2_confusion (l : Launch) (D : DD) (g : Nat → Nat) (x : Nat → Int32) (I : Nat → Nat → Int32) (J : Nat → Nat → Int64) (P : Nat → Int32) (hIP : I 10 = P) (S : Nat → Int32) (hIS : I 12 = S) (c o p : Nat) (hP : VP P) (hT : ∀ c, c < nC P → ∀ m, m < nM P → I 17 (12 * c + m) = nI (dc P c m)) (hc : c < nC P) (ho : o < nC P) (hp : 2 ≤ p ∧ p ≤ 99) : Cp l yX2_confusion cX2_confusion 8 (some .int) { frames := 2, cells := 0, slots := 0, locals := 35 } D [.ref (g 0), .int (nI c), .int (nI o), .int (nI p)] (fun H => MR D g x I J H) (.int (nI (cnf P S c o p (nM P)))) := by
  refine Ct.of (by decide +kernel) (Nat.le_of_ble_eq_true rfl) (fun K Qf hkl X hM hQ => ?_)
  subst hkl
  subst hIP
  subst hIS
  have l4 := hP.l4
  have l9 := hP.l9
  have l10 := hP.l10
  have hcc : c < 144 := Nat.lt_of_lt_of_le hc (Nat.mul_le_mul l9 l10)
  have hoo : o < 144 := Nat.lt_of_lt_of_le ho (Nat.mul_le_mul l9 l10)
  refine vv_sub (lv' := [(0, .ref (g 0)), (1, .int (nI c)), (2, .int (nI o)), (3, .int (nI p))]) [0, 1, 2, 3] rfl ?_
  refine vv_iconst (v := nI 0) X dX2_confusion_0 (by decide) ?_
  refine vv_istore (lv' := [(4, .int (nI 0)), (0, .ref (g 0)), (1, .int (nI c)), (2, .int (nI o)), (3, .int (nI p))]) X dX2_confusion_1 (by decide) rfl ?_
  refine vv_iconst (v := nI 0) X dX2_confusion_3 (by decide) ?_
  refine vv_istore (lv' := [(5, .int (nI 0)), (4, .int (nI 0)), (0, .ref (g 0)), (1, .int (nI c)), (2, .int (nI o)), (3, .int (nI p))]) X dX2_confusion_4 (by decide) rfl ?_
  have hx_1 : ∀ (a : Nat) (ha : a = cnf (I 10) (I 12) c o p (nM (I 10))) (hab : a ≤ 12), V K 8 (fun _ => False) (kS K).heap 0 0 Qf 118 [(0, .ref (g 0)), (1, .int (nI c)), (2, .int (nI o)), (3, .int (nI p)), (4, .int (nI a)), (5, .int (nI (nM (I 10))))] [] := by
    intro a ha hab
    refine vv_iload X dX2_confusion_118 4 rfl ?_
    exact vv_iret X hQ dX2_confusion_120 (Nat.le_refl _) (Nat.le_refl _) (pq (by rw [ha]))
  have hl_2 : ∀ (n_i i : Nat) (a : Nat), i + n_i = nM (I 10) → (a = cnf (I 10) (I 12) c o p i) → (a ≤ 12) → V K 8 (fun _ => False) (kS K).heap 0 0 Qf 6 [(0, .ref (g 0)), (1, .int (nI c)), (2, .int (nI o)), (3, .int (nI p)), (4, .int (nI a)), (5, .int (nI i))] [] := by
    intro n_i
    induction n_i with
    | zero =>
      intro i a hi ha hab
      obtain rfl : i = nM (I 10) := by omega
      refine vv_iload X dX2_confusion_6 5 rfl ?_
      refine vv_aload_n X dX2_confusion_8 rfl 0 rfl ?_
      refine mg10 X rfl hM dX2_confusion_9 ?_
      refine vv_iconst (v := nI 4) X dX2_confusion_12 (by decide) ?_
      refine vv_iald X hM.a10 (4) (by omega) (by decide) rfl dX2_confusion_13 ?_
      refine vv_eqi hP.e4 ?_
      refine vn_ge (tgt := 118) X (by omega) (by omega) dX2_confusion_14 (by decide) (fun c_14 => ?_) (fun c_14 => ?_)
      · exact hx_1 a ha hab
      · exact absurd c_14 (by omega)
    | succ n_i ihi =>
      intro i a hi ha hab
      refine vv_iload X dX2_confusion_6 5 rfl ?_
      refine vv_aload_n X dX2_confusion_8 rfl 0 rfl ?_
      refine mg10 X rfl hM dX2_confusion_9 ?_
      refine vv_iconst (v := nI 4) X dX2_confusion_12 (by decide) ?_
      refine vv_iald X hM.a10 (4) (by omega) (by decide) rfl dX2_confusion_13 ?_
      refine vv_eqi hP.e4 ?_
      refine vn_ge (tgt := 118) X (by omega) (by omega) dX2_confusion_14 (by decide) (fun c_14 => ?_) (fun c_14 => ?_)
      · exact absurd hi (by omega)
      · refine vv_iconst (v := nI 0) X dX2_confusion_17 (by decide) ?_
        refine vv_istore (lv' := [(6, .int (nI 0)), (0, .ref (g 0)), (1, .int (nI c)), (2, .int (nI o)), (3, .int (nI p)), (4, .int (nI a)), (5, .int (nI i))]) X dX2_confusion_18 (by decide) rfl ?_
        refine vv_iconst (v := nI 0) X dX2_confusion_20 (by decide) ?_
        refine vv_istore (lv' := [(7, .int (nI 0)), (6, .int (nI 0)), (0, .ref (g 0)), (1, .int (nI c)), (2, .int (nI o)), (3, .int (nI p)), (4, .int (nI a)), (5, .int (nI i))]) X dX2_confusion_21 (by decide) rfl ?_
        have hx_3 : ∀ (b : Nat) (hb : b = cfi (I 10) (I 12) c o p i (nM (I 10))) (hbb : b ≤ nM (I 10)), V K 8 (fun _ => False) (kS K).heap 0 0 Qf 85 [(0, .ref (g 0)), (1, .int (nI c)), (2, .int (nI o)), (3, .int (nI p)), (4, .int (nI a)), (5, .int (nI i)), (6, .int (nI b)), (7, .int (nI (nM (I 10))))] [] := by
          intro b hb hbb
          refine vv_aload_n X dX2_confusion_85 rfl 0 rfl ?_
          refine vv_aload_n X dX2_confusion_86 rfl 0 rfl ?_
          refine mg12 X rfl hM dX2_confusion_87 ?_
          refine vv_iload X dX2_confusion_90 5 rfl ?_
          refine vv_callVp X (mX2_hears (kL K) D g x I J 12 (I 12) rfl i (fun h => h.a12) (by omega)) q3252 q3254 qs99 q144 q3255 nX2_hears ⟨(Nat.le_of_ble_eq_true rfl), (Nat.le_of_ble_eq_true rfl)⟩ dX2_confusion_92 rfl (Nat.le_of_ble_eq_true rfl) (recv X hM.1 CL_X2) hM ⟨(Nat.le_of_ble_eq_true rfl), (Nat.le_of_ble_eq_true rfl)⟩ ?_
          refine vb_eq (tgt := 108) X dX2_confusion_95 (by decide) (fun c_95 => ?_) (fun c_95 => ?_)
          · refine vv_iload X dX2_confusion_108 4 rfl ?_
            refine vv_istore (lv' := [(4, .int (nI a)), (0, .ref (g 0)), (1, .int (nI c)), (2, .int (nI o)), (3, .int (nI p)), (5, .int (nI i)), (6, .int (nI b)), (7, .int (nI (nM (I 10))))]) X dX2_confusion_110 (by decide) rfl ?_
            refine vv_iinc (v := nI (i + 1)) (lv' := [(5, .int (nI (i + 1))), (4, .int (nI a)), (0, .ref (g 0)), (1, .int (nI c)), (2, .int (nI o)), (3, .int (nI p)), (6, .int (nI b)), (7, .int (nI (nM (I 10))))]) X dX2_confusion_112 (k := 5) rfl (nI_add _ 1) (by decide) rfl ?_
            refine vv_goto (tgt := 6) X dX2_confusion_115 (by decide) ?_
            refine vv_sub [2, 3, 4, 5, 1, 0] rfl ?_
            exact ihi (i + 1) a (by omega) (by rw [ha]; exact (if_neg c_95).symm) (by omega)
          · refine vv_iload X dX2_confusion_98 4 rfl ?_
            refine vv_iload X dX2_confusion_100 6 rfl ?_
            refine vn_max X q3227 (Nat.le_of_ble_eq_true rfl) (Nat.le_of_ble_eq_true rfl) (Nat.le_of_ble_eq_true rfl) (Nat.le_of_ble_eq_true rfl) (by omega) (by omega) dX2_confusion_102 ?_
            refine vv_goto (tgt := 110) X dX2_confusion_105 (by decide) ?_
            refine vv_istore (lv' := [(4, .int (nI (max a b))), (0, .ref (g 0)), (1, .int (nI c)), (2, .int (nI o)), (3, .int (nI p)), (5, .int (nI i)), (6, .int (nI b)), (7, .int (nI (nM (I 10))))]) X dX2_confusion_110 (by decide) rfl ?_
            refine vv_iinc (v := nI (i + 1)) (lv' := [(5, .int (nI (i + 1))), (4, .int (nI (max a b))), (0, .ref (g 0)), (1, .int (nI c)), (2, .int (nI o)), (3, .int (nI p)), (6, .int (nI b)), (7, .int (nI (nM (I 10))))]) X dX2_confusion_112 (k := 5) rfl (nI_add _ 1) (by decide) rfl ?_
            refine vv_goto (tgt := 6) X dX2_confusion_115 (by decide) ?_
            refine vv_sub [2, 3, 4, 5, 1, 0] rfl ?_
            exact ihi (i + 1) (max a b) (by omega) (by rw [ha, hb]; exact (if_pos c_95).symm) (by omega)
        have hl_4 : ∀ (n_k k : Nat) (b : Nat), k + n_k = nM (I 10) → (b = cfi (I 10) (I 12) c o p i k) → (b ≤ k) → V K 8 (fun _ => False) (kS K).heap 0 0 Qf 23 [(0, .ref (g 0)), (1, .int (nI c)), (2, .int (nI o)), (3, .int (nI p)), (4, .int (nI a)), (5, .int (nI i)), (6, .int (nI b)), (7, .int (nI k))] [] := by
          intro n_k
          induction n_k with
          | zero =>
            intro k b hk hb hbb
            obtain rfl : k = nM (I 10) := by omega
            refine vv_iload X dX2_confusion_23 7 rfl ?_
            refine vv_aload_n X dX2_confusion_25 rfl 0 rfl ?_
            refine mg10 X rfl hM dX2_confusion_26 ?_
            refine vv_iconst (v := nI 4) X dX2_confusion_29 (by decide) ?_
            refine vv_iald X hM.a10 (4) (by omega) (by decide) rfl dX2_confusion_30 ?_
            refine vv_eqi hP.e4 ?_
            refine vn_ge (tgt := 85) X (by omega) (by omega) dX2_confusion_31 (by decide) (fun c_31 => ?_) (fun c_31 => ?_)
            · exact hx_3 b hb hbb
            · exact absurd c_31 (by omega)
          | succ n_k ihk =>
            intro k b hk hb hbb
            refine vv_iload X dX2_confusion_23 7 rfl ?_
            refine vv_aload_n X dX2_confusion_25 rfl 0 rfl ?_
            refine mg10 X rfl hM dX2_confusion_26 ?_
            refine vv_iconst (v := nI 4) X dX2_confusion_29 (by decide) ?_
            refine vv_iald X hM.a10 (4) (by omega) (by decide) rfl dX2_confusion_30 ?_
            refine vv_eqi hP.e4 ?_
            refine vn_ge (tgt := 85) X (by omega) (by omega) dX2_confusion_31 (by decide) (fun c_31 => ?_) (fun c_31 => ?_)
            · exact absurd hk (by omega)
            · refine vv_iload X dX2_confusion_34 6 rfl ?_
              refine vv_aload_n X dX2_confusion_36 rfl 0 rfl ?_
              refine vv_aload_n X dX2_confusion_37 rfl 0 rfl ?_
              refine mg12 X rfl hM dX2_confusion_38 ?_
              refine vv_iload X dX2_confusion_41 7 rfl ?_
              refine vv_callVp X (mX2_hears (kL K) D g x I J 12 (I 12) rfl k (fun h => h.a12) (by omega)) q3252 q3254 qs99 q144 q3255 nX2_hears ⟨(Nat.le_of_ble_eq_true rfl), (Nat.le_of_ble_eq_true rfl)⟩ dX2_confusion_43 rfl (Nat.le_of_ble_eq_true rfl) (recv X hM.1 CL_X2) hM ⟨(Nat.le_of_ble_eq_true rfl), (Nat.le_of_ble_eq_true rfl)⟩ ?_
              refine vb_eq (tgt := 75) X dX2_confusion_46 (by decide) (fun c_46 => ?_) (fun c_46 => ?_)
              · refine vv_iconst (v := nI 0) X dX2_confusion_75 (by decide) ?_
                refine vn_add X dX2_confusion_76 ?_
                refine vv_istore (lv' := [(6, .int (nI (b + 0))), (0, .ref (g 0)), (1, .int (nI c)), (2, .int (nI o)), (3, .int (nI p)), (4, .int (nI a)), (5, .int (nI i)), (7, .int (nI k))]) X dX2_confusion_77 (by decide) rfl ?_
                refine vv_iinc (v := nI (k + 1)) (lv' := [(7, .int (nI (k + 1))), (6, .int (nI (b + 0))), (0, .ref (g 0)), (1, .int (nI c)), (2, .int (nI o)), (3, .int (nI p)), (4, .int (nI a)), (5, .int (nI i))]) X dX2_confusion_79 (k := 7) rfl (nI_add _ 1) (by decide) rfl ?_
                refine vv_goto (tgt := 23) X dX2_confusion_82 (by decide) ?_
                refine vv_sub [2, 3, 4, 5, 6, 7, 1, 0] rfl ?_
                exact ihk (k + 1) (b + 0) (by omega) (by rw [hb]; show _ = _ + (if cfe (I 10) (I 12) c o p i k then 1 else 0); rw [if_neg (fun z => c_46 z.1)]; rfl) (by omega)
              · refine vv_aload_n X dX2_confusion_49 rfl 0 rfl ?_
                refine vv_iload_n X dX2_confusion_50 rfl 1 rfl ?_
                refine vv_iload_n X dX2_confusion_51 rfl 2 rfl ?_
                refine vv_iload X dX2_confusion_52 7 rfl ?_
                refine vv_callVp X (mX2_shift (kL K) D g x I J (I 10) rfl c o k hP hT (by omega) (by omega) (by omega)) q3426 q3428 qs116 q144 q3429 nX2_shift ⟨(Nat.le_of_ble_eq_true rfl), (Nat.le_of_ble_eq_true rfl)⟩ dX2_confusion_54 rfl (Nat.le_of_ble_eq_true rfl) (recv X hM.1 CL_X2) hM ⟨(Nat.le_of_ble_eq_true rfl), (Nat.le_of_ble_eq_true rfl)⟩ ?_
                refine vv_aload_n X dX2_confusion_57 rfl 0 rfl ?_
                refine vv_iload_n X dX2_confusion_58 rfl 1 rfl ?_
                refine vv_iload_n X dX2_confusion_59 rfl 2 rfl ?_
                refine vv_iload X dX2_confusion_60 5 rfl ?_
                refine vv_callVp X (mX2_shift (kL K) D g x I J (I 10) rfl c o i hP hT (by omega) (by omega) (by omega)) q3426 q3428 qs116 q144 q3429 nX2_shift ⟨(Nat.le_of_ble_eq_true rfl), (Nat.le_of_ble_eq_true rfl)⟩ dX2_confusion_62 rfl (Nat.le_of_ble_eq_true rfl) (recv X hM.1 CL_X2) hM ⟨(Nat.le_of_ble_eq_true rfl), (Nat.le_of_ble_eq_true rfl)⟩ ?_
                refine vv_isub X dX2_confusion_65 ?_
                refine vv_iload_n X dX2_confusion_66 rfl 3 rfl ?_
                refine vv_irem X dX2_confusion_67 (nI_ne0 (by omega) (by omega)) ?_
                refine vv_if_ne (tgt := 75) X dX2_confusion_68 (by decide) (fun c_68 => ?_) (fun c_68 => ?_)
                · refine vv_iconst (v := nI 0) X dX2_confusion_75 (by decide) ?_
                  refine vn_add X dX2_confusion_76 ?_
                  refine vv_istore (lv' := [(6, .int (nI (b + 0))), (0, .ref (g 0)), (1, .int (nI c)), (2, .int (nI o)), (3, .int (nI p)), (4, .int (nI a)), (5, .int (nI i)), (7, .int (nI k))]) X dX2_confusion_77 (by decide) rfl ?_
                  refine vv_iinc (v := nI (k + 1)) (lv' := [(7, .int (nI (k + 1))), (6, .int (nI (b + 0))), (0, .ref (g 0)), (1, .int (nI c)), (2, .int (nI o)), (3, .int (nI p)), (4, .int (nI a)), (5, .int (nI i))]) X dX2_confusion_79 (k := 7) rfl (nI_add _ 1) (by decide) rfl ?_
                  refine vv_goto (tgt := 23) X dX2_confusion_82 (by decide) ?_
                  refine vv_sub [2, 3, 4, 5, 6, 7, 1, 0] rfl ?_
                  exact ihk (k + 1) (b + 0) (by omega) (by rw [hb]; show _ = _ + (if cfe (I 10) (I 12) c o p i k then 1 else 0); rw [if_neg (fun z => c_68 z.2)]; rfl) (by omega)
                · refine vv_iconst (v := nI 1) X dX2_confusion_71 (by decide) ?_
                  refine vv_goto (tgt := 76) X dX2_confusion_72 (by decide) ?_
                  refine vn_add X dX2_confusion_76 ?_
                  refine vv_istore (lv' := [(6, .int (nI (b + 1))), (0, .ref (g 0)), (1, .int (nI c)), (2, .int (nI o)), (3, .int (nI p)), (4, .int (nI a)), (5, .int (nI i)), (7, .int (nI k))]) X dX2_confusion_77 (by decide) rfl ?_
                  refine vv_iinc (v := nI (k + 1)) (lv' := [(7, .int (nI (k + 1))), (6, .int (nI (b + 1))), (0, .ref (g 0)), (1, .int (nI c)), (2, .int (nI o)), (3, .int (nI p)), (4, .int (nI a)), (5, .int (nI i))]) X dX2_confusion_79 (k := 7) rfl (nI_add _ 1) (by decide) rfl ?_
                  refine vv_goto (tgt := 23) X dX2_confusion_82 (by decide) ?_
                  refine vv_sub [2, 3, 4, 5, 6, 7, 1, 0] rfl ?_
                  exact ihk (k + 1) (b + 1) (by omega) (by rw [hb]; show _ = _ + (if cfe (I 10) (I 12) c o p i k then 1 else 0); rw [if_pos ⟨c_46, c_68⟩]; rfl) (by omega)
        refine vv_sub [2, 3, 4, 5, 6, 7, 1, 0] rfl ?_
        exact hl_4 (nM (I 10)) 0 0 (by omega) (rfl) (by omega)
  refine vv_sub [2, 3, 4, 5, 1, 0] rfl ?_
  exact hl_2 (nM (I 10)) 0 0 (by omega) (rfl) (by omega)
def mn (a b : Nat) : Nat := min a b
theorem mn_in (a b : Nat) : (mn a b ≤ a ∧ mn a b ≤ b) ∧ (mn a b = a ∨ mn a b = b) := by unfold mn; omega
theorem nX2_isTop : notMH yX2_isTop 1 := by decide +kernel
set_option maxHeartbeats 800000 in
theorem mX2_isTop (l : Launch) (D : DD) (g : Nat → Nat) (x : Nat → Int32) (I : Nat → Nat → Int32) (J : Nat → Nat → Int64) (P : Nat → Int32) (hIP : I 10 = P) (c : Nat) (hC : VC P) (hc : c < nC P) : Cp l yX2_isTop cX2_isTop 7 (some .boolean) { frames := 1, cells := 0, slots := 0, locals := 20 } D [.ref (g 0), .int (nI c)] (fun H => MR D g x I J H) (.int (b2 (top P (J 25) c))) := by
  refine Ct.of (by decide +kernel) (Nat.le_of_ble_eq_true rfl) (fun K Qf hkl X hM hQ => ?_)
  subst hkl
  subst hIP
  have hP := hC.v
  have l9 := hP.l9
  have l10 := hP.l10
  have x1 := hC.x1
  have y1 := hC.y1
  have hcc : c < 144 := Nat.lt_of_lt_of_le hc (Nat.mul_le_mul l9 l10)
  have hm := Nat.mod_lt c x1
  have hd : c / nX (I 10) < nY (I 10) := Nat.div_lt_of_lt_mul hc
  have n1 := mn_in (nY (I 10) - 1) (c / nX (I 10) + 1)
  have n2 := mn_in (nX (I 10) - 1) (c % nX (I 10) + 1)
  refine vv_sub (lv' := [(0, .ref (g 0)), (1, .int (nI c))]) [0, 1] rfl ?_
  refine vv_iload_n X dX2_isTop_0 rfl 1 rfl ?_
  refine vv_aload_n X dX2_isTop_1 rfl 0 rfl ?_
  refine mg10 X rfl hM dX2_isTop_2 ?_
  refine vv_bipush (v := nI 9) X dX2_isTop_5 (by decide) ?_
  refine vv_iald X hM.a10 (9) (by omega) (by decide) rfl dX2_isTop_7 ?_
  refine vv_eqi hP.e9 ?_
  refine vn_rem X (by omega) (by omega) (by omega) dX2_isTop_8 ?_
  refine vv_istore_n (lv' := [(2, .int (nI (c % (nX (I 10))))), (0, .ref (g 0)), (1, .int (nI c))]) X dX2_isTop_9 rfl (by decide) rfl ?_
  refine vv_iload_n X dX2_isTop_10 rfl 2 rfl ?_
  refine vv_aload_n X dX2_isTop_11 rfl 1 rfl ?_
  refine mg10 X rfl hM dX2_isTop_12 ?_
  refine vv_bipush (v := nI 9) X dX2_isTop_15 (by decide) ?_
  refine vv_iald X hM.a10 (9) (by omega) (by decide) rfl dX2_isTop_17 ?_
  refine vv_eqi hP.e9 ?_
  refine vn_div X (by omega) (by omega) (by omega) dX2_isTop_18 ?_
  refine vv_istore_n (lv' := [(3, .int (nI (c / (nX (I 10))))), (2, .int (nI (c % (nX (I 10))))), (0, .ref (g 0)), (1, .int (nI c))]) X dX2_isTop_19 rfl (by decide) rfl ?_
  refine vv_iconst (v := nI 0) X dX2_isTop_20 (by decide) ?_
  refine vv_iload_n X dX2_isTop_21 rfl 0 rfl ?_
  refine vv_iconst (v := nI 1) X dX2_isTop_22 (by decide) ?_
  refine vv_isub X dX2_isTop_23 ?_
  refine vn_max0 X q3227 (Nat.le_of_ble_eq_true rfl) (Nat.le_of_ble_eq_true rfl) (Nat.le_of_ble_eq_true rfl) (Nat.le_of_ble_eq_true rfl) (by omega) (by omega) dX2_isTop_24 ?_
  refine vv_istore (lv' := [(4, .int (nI ((c / (nX (I 10))) - 1))), (3, .int (nI (c / (nX (I 10))))), (2, .int (nI (c % (nX (I 10))))), (0, .ref (g 0)), (1, .int (nI c))]) X dX2_isTop_27 (by decide) rfl ?_
  have hx_1 : ∀ (hj : ∀ j', j' < nY (I 10) → j' < mn (nY (I 10) - 1) (c / nX (I 10) + 1) + 1 → ∀ i', i' < nX (I 10) → (j' ≤ c / nX (I 10) + 1 ∧ c / nX (I 10) ≤ j' + 1 ∧ i' ≤ c % nX (I 10) + 1 ∧ c % nX (I 10) ≤ i' + 1 ∧ nX (I 10) * j' + i' ≠ c) → J 25 (nX (I 10) * j' + i') < J 25 c) (hjl : c / nX (I 10) - 1 ≤ mn (nY (I 10) - 1) (c / nX (I 10) + 1) + 1), V K 7 (fun _ => False) (kS K).heap 0 0 Qf 130 [(0, .ref (g 0)), (1, .int (nI c)), (2, .int (nI (c % nX (I 10)))), (3, .int (nI (c / nX (I 10)))), (4, .int (nI (mn (nY (I 10) - 1) (c / nX (I 10) + 1) + 1)))] [] := by
    intro hj hjl
    refine vv_iconst (v := nI 1) X dX2_isTop_130 (by decide) ?_
    exact vv_zret X (rfl) hQ dX2_isTop_131 (Nat.le_refl _) (Nat.le_refl _) (pq (b2_1 (fun j' h1 i' h3 h4 => hj j' h1 (by omega) i' h3 h4)))
  have hl_2 : ∀ (n_j j : Nat), j + n_j = mn (nY (I 10) - 1) (c / nX (I 10) + 1) + 1 → (∀ j', j' < nY (I 10) → j' < j → ∀ i', i' < nX (I 10) → (j' ≤ c / nX (I 10) + 1 ∧ c / nX (I 10) ≤ j' + 1 ∧ i' ≤ c % nX (I 10) + 1 ∧ c % nX (I 10) ≤ i' + 1 ∧ nX (I 10) * j' + i' ≠ c) → J 25 (nX (I 10) * j' + i') < J 25 c) → (c / nX (I 10) - 1 ≤ j) → V K 7 (fun _ => False) (kS K).heap 0 0 Qf 29 [(0, .ref (g 0)), (1, .int (nI c)), (2, .int (nI (c % nX (I 10)))), (3, .int (nI (c / nX (I 10)))), (4, .int (nI j))] [] := by
    intro n_j
    induction n_j with
    | zero =>
      intro j hj hj hjl
      obtain rfl : j = mn (nY (I 10) - 1) (c / nX (I 10) + 1) + 1 := by omega
      refine vv_iload X dX2_isTop_29 4 rfl ?_
      refine vv_aload_n X dX2_isTop_31 rfl 0 rfl ?_
      refine mg10 X rfl hM dX2_isTop_32 ?_
      refine vv_bipush (v := nI 10) X dX2_isTop_35 (by decide) ?_
      refine vv_iald X hM.a10 (10) (by omega) (by decide) rfl dX2_isTop_37 ?_
      refine vv_eqi hP.e10 ?_
      refine vv_iconst (v := nI 1) X dX2_isTop_38 (by decide) ?_
      refine vn_sub X (by omega) dX2_isTop_39 ?_
      refine vv_iload_n X dX2_isTop_40 rfl 3 rfl ?_
      refine vv_iconst (v := nI 1) X dX2_isTop_41 (by decide) ?_
      refine vn_add X dX2_isTop_42 ?_
      refine vn_min X q3226 (Nat.le_of_ble_eq_true rfl) (Nat.le_of_ble_eq_true rfl) (Nat.le_of_ble_eq_true rfl) (Nat.le_of_ble_eq_true rfl) (by omega) (by omega) dX2_isTop_43 ?_
      refine vv_eqi (show _ = nI (mn ((nY (I 10)) - 1) ((c / nX (I 10)) + 1)) from rfl) ?_
      refine vn_gt (tgt := 130) X (by omega) (by omega) dX2_isTop_46 (by decide) (fun c_46 => ?_) (fun c_46 => ?_)
      · exact hx_1 hj hjl
      · exact absurd c_46 (by omega)
    | succ n_j ihj =>
      intro j hj hj hjl
      refine vv_iload X dX2_isTop_29 4 rfl ?_
      refine vv_aload_n X dX2_isTop_31 rfl 0 rfl ?_
      refine mg10 X rfl hM dX2_isTop_32 ?_
      refine vv_bipush (v := nI 10) X dX2_isTop_35 (by decide) ?_
      refine vv_iald X hM.a10 (10) (by omega) (by decide) rfl dX2_isTop_37 ?_
      refine vv_eqi hP.e10 ?_
      refine vv_iconst (v := nI 1) X dX2_isTop_38 (by decide) ?_
      refine vn_sub X (by omega) dX2_isTop_39 ?_
      refine vv_iload_n X dX2_isTop_40 rfl 3 rfl ?_
      refine vv_iconst (v := nI 1) X dX2_isTop_41 (by decide) ?_
      refine vn_add X dX2_isTop_42 ?_
      refine vn_min X q3226 (Nat.le_of_ble_eq_true rfl) (Nat.le_of_ble_eq_true rfl) (Nat.le_of_ble_eq_true rfl) (Nat.le_of_ble_eq_true rfl) (by omega) (by omega) dX2_isTop_43 ?_
      refine vv_eqi (show _ = nI (mn ((nY (I 10)) - 1) ((c / nX (I 10)) + 1)) from rfl) ?_
      refine vn_gt (tgt := 130) X (by omega) (by omega) dX2_isTop_46 (by decide) (fun c_46 => ?_) (fun c_46 => ?_)
      · exact absurd hj (by omega)
      · refine vv_iconst (v := nI 0) X dX2_isTop_49 (by decide) ?_
        refine vv_iload_n X dX2_isTop_50 rfl 2 rfl ?_
        refine vv_iconst (v := nI 1) X dX2_isTop_51 (by decide) ?_
        refine vv_isub X dX2_isTop_52 ?_
        refine vn_max0 X q3227 (Nat.le_of_ble_eq_true rfl) (Nat.le_of_ble_eq_true rfl) (Nat.le_of_ble_eq_true rfl) (Nat.le_of_ble_eq_true rfl) (by omega) (by omega) dX2_isTop_53 ?_
        refine vv_istore (lv' := [(5, .int (nI ((c % nX (I 10)) - 1))), (0, .ref (g 0)), (1, .int (nI c)), (2, .int (nI (c % nX (I 10)))), (3, .int (nI (c / nX (I 10)))), (4, .int (nI j))]) X dX2_isTop_56 (by decide) rfl ?_
        have hx_3 : ∀ (hi : ∀ j', j' = j → ∀ i', i' < nX (I 10) → i' < mn (nX (I 10) - 1) (c % nX (I 10) + 1) + 1 → (j' ≤ c / nX (I 10) + 1 ∧ c / nX (I 10) ≤ j' + 1 ∧ i' ≤ c % nX (I 10) + 1 ∧ c % nX (I 10) ≤ i' + 1 ∧ nX (I 10) * j' + i' ≠ c) → J 25 (nX (I 10) * j' + i') < J 25 c) (hil : c % nX (I 10) - 1 ≤ mn (nX (I 10) - 1) (c % nX (I 10) + 1) + 1), V K 7 (fun _ => False) (kS K).heap 0 0 Qf 124 [(0, .ref (g 0)), (1, .int (nI c)), (2, .int (nI (c % nX (I 10)))), (3, .int (nI (c / nX (I 10)))), (4, .int (nI j)), (5, .int (nI (mn (nX (I 10) - 1) (c % nX (I 10) + 1) + 1)))] [] := by
          intro hi hil
          refine vv_iinc (v := nI (j + 1)) (lv' := [(4, .int (nI (j + 1))), (0, .ref (g 0)), (1, .int (nI c)), (2, .int (nI (c % nX (I 10)))), (3, .int (nI (c / nX (I 10)))), (5, .int (nI (mn (nX (I 10) - 1) (c % nX (I 10) + 1) + 1)))]) X dX2_isTop_124 (k := 4) rfl (nI_add _ 1) (by decide) rfl ?_
          refine vv_goto (tgt := 29) X dX2_isTop_127 (by decide) ?_
          refine vv_sub [1, 2, 3, 4, 0] rfl ?_
          exact ihj (j + 1) (by omega) (fun j' h1 h2 => by
              rcases Nat.lt_or_ge j' j with w | w
              · exact hj j' h1 w
              · obtain rfl : j' = j := by omega
                exact fun i' h3 h4 => hi j' rfl i' h3 (by omega) h4) (by omega)
        have hl_4 : ∀ (n_k k : Nat), k + n_k = mn (nX (I 10) - 1) (c % nX (I 10) + 1) + 1 → (∀ j', j' = j → ∀ i', i' < nX (I 10) → i' < k → (j' ≤ c / nX (I 10) + 1 ∧ c / nX (I 10) ≤ j' + 1 ∧ i' ≤ c % nX (I 10) + 1 ∧ c % nX (I 10) ≤ i' + 1 ∧ nX (I 10) * j' + i' ≠ c) → J 25 (nX (I 10) * j' + i') < J 25 c) → (c % nX (I 10) - 1 ≤ k) → V K 7 (fun _ => False) (kS K).heap 0 0 Qf 58 [(0, .ref (g 0)), (1, .int (nI c)), (2, .int (nI (c % nX (I 10)))), (3, .int (nI (c / nX (I 10)))), (4, .int (nI j)), (5, .int (nI k))] [] := by
          intro n_k
          induction n_k with
          | zero =>
            intro k hk hi hil
            obtain rfl : k = mn (nX (I 10) - 1) (c % nX (I 10) + 1) + 1 := by omega
            refine vv_iload X dX2_isTop_58 5 rfl ?_
            refine vv_aload_n X dX2_isTop_60 rfl 0 rfl ?_
            refine mg10 X rfl hM dX2_isTop_61 ?_
            refine vv_bipush (v := nI 9) X dX2_isTop_64 (by decide) ?_
            refine vv_iald X hM.a10 (9) (by omega) (by decide) rfl dX2_isTop_66 ?_
            refine vv_eqi hP.e9 ?_
            refine vv_iconst (v := nI 1) X dX2_isTop_67 (by decide) ?_
            refine vn_sub X (by omega) dX2_isTop_68 ?_
            refine vv_iload_n X dX2_isTop_69 rfl 2 rfl ?_
            refine vv_iconst (v := nI 1) X dX2_isTop_70 (by decide) ?_
            refine vn_add X dX2_isTop_71 ?_
            refine vn_min X q3226 (Nat.le_of_ble_eq_true rfl) (Nat.le_of_ble_eq_true rfl) (Nat.le_of_ble_eq_true rfl) (Nat.le_of_ble_eq_true rfl) (by omega) (by omega) dX2_isTop_72 ?_
            refine vv_eqi (show _ = nI (mn ((nX (I 10)) - 1) ((c % nX (I 10)) + 1)) from rfl) ?_
            refine vn_gt (tgt := 124) X (by omega) (by omega) dX2_isTop_75 (by decide) (fun c_75 => ?_) (fun c_75 => ?_)
            · exact hx_3 hi hil
            · exact absurd c_75 (by omega)
          | succ n_k ihk =>
            intro k hk hi hil
            refine vv_iload X dX2_isTop_58 5 rfl ?_
            refine vv_aload_n X dX2_isTop_60 rfl 0 rfl ?_
            refine mg10 X rfl hM dX2_isTop_61 ?_
            refine vv_bipush (v := nI 9) X dX2_isTop_64 (by decide) ?_
            refine vv_iald X hM.a10 (9) (by omega) (by decide) rfl dX2_isTop_66 ?_
            refine vv_eqi hP.e9 ?_
            refine vv_iconst (v := nI 1) X dX2_isTop_67 (by decide) ?_
            refine vn_sub X (by omega) dX2_isTop_68 ?_
            refine vv_iload_n X dX2_isTop_69 rfl 2 rfl ?_
            refine vv_iconst (v := nI 1) X dX2_isTop_70 (by decide) ?_
            refine vn_add X dX2_isTop_71 ?_
            refine vn_min X q3226 (Nat.le_of_ble_eq_true rfl) (Nat.le_of_ble_eq_true rfl) (Nat.le_of_ble_eq_true rfl) (Nat.le_of_ble_eq_true rfl) (by omega) (by omega) dX2_isTop_72 ?_
            refine vv_eqi (show _ = nI (mn ((nX (I 10)) - 1) ((c % nX (I 10)) + 1)) from rfl) ?_
            refine vn_gt (tgt := 124) X (by omega) (by omega) dX2_isTop_75 (by decide) (fun c_75 => ?_) (fun c_75 => ?_)
            · exact absurd hk (by omega)
            · refine vv_aload_n X dX2_isTop_78 rfl 0 rfl ?_
              refine mg10 X rfl hM dX2_isTop_79 ?_
              have hxj : nX (I 10) * j + k < 144 := Nat.lt_of_lt_of_le (show nX (I 10) * j + k < nX (I 10) * (j + 1) by rw [Nat.mul_succ]; omega) (Nat.mul_le_mul l9 (show j + 1 ≤ 12 by omega))
              refine vv_bipush (v := nI 9) X dX2_isTop_82 (by decide) ?_
              refine vv_iald X hM.a10 (9) (by omega) (by decide) rfl dX2_isTop_84 ?_
              refine vv_eqi hP.e9 ?_
              refine vv_iload X dX2_isTop_85 4 rfl ?_
              refine vn_mul X dX2_isTop_87 ?_
              refine vv_iload X dX2_isTop_88 5 rfl ?_
              refine vn_add X dX2_isTop_90 ?_
              refine vv_istore (lv' := [(6, .int (nI (((nX (I 10)) * j) + k))), (0, .ref (g 0)), (1, .int (nI c)), (2, .int (nI (c % nX (I 10)))), (3, .int (nI (c / nX (I 10)))), (4, .int (nI j)), (5, .int (nI k))]) X dX2_isTop_91 (by decide) rfl ?_
              refine vv_iload X dX2_isTop_93 0 rfl ?_
              refine vv_iload_n X dX2_isTop_95 rfl 2 rfl ?_
              refine vn_eq (tgt := 118) X (by omega) (by omega) dX2_isTop_96 (by decide) (fun c_96 => ?_) (fun c_96 => ?_)
              · refine vv_iinc (v := nI (k + 1)) (lv' := [(5, .int (nI (k + 1))), (6, .int (nI (((nX (I 10)) * j) + k))), (0, .ref (g 0)), (1, .int (nI c)), (2, .int (nI (c % nX (I 10)))), (3, .int (nI (c / nX (I 10)))), (4, .int (nI j))]) X dX2_isTop_118 (k := 6) rfl (nI_add _ 1) (by decide) rfl ?_
                refine vv_goto (tgt := 58) X dX2_isTop_121 (by decide) ?_
                refine vv_sub [2, 3, 4, 5, 6, 0] rfl ?_
                exact ihk (k + 1) (by omega) (fun j' h0 i' h1 h2 h4 => by
                    rcases Nat.lt_or_ge i' k with w | w
                    · exact hi j' h0 i' h1 w h4
                    · obtain rfl : i' = k := by omega
                      subst h0
                      exact absurd c_96 h4.2.2.2.2) (by omega)
              · refine vv_aload_n X dX2_isTop_99 rfl 1 rfl ?_
                refine mg25 X rfl hM dX2_isTop_100 ?_
                refine vv_iload X dX2_isTop_103 0 rfl ?_
                refine vv_lald X hM.a25 (((nX (I 10)) * j) + k) (by omega) (by decide) rfl dX2_isTop_105 ?_
                refine vv_aload_n X dX2_isTop_106 rfl 1 rfl ?_
                refine mg25 X rfl hM dX2_isTop_107 ?_
                refine vv_iload_n X dX2_isTop_110 rfl 2 rfl ?_
                refine vv_lald X hM.a25 (c) (by omega) (by decide) rfl dX2_isTop_111 ?_
                refine vv_lcmp X dX2_isTop_112 ?_
                refine vz_lt (tgt := 118) X dX2_isTop_113 (by decide) (fun c_113 => ?_) (fun c_113 => ?_)
                · refine vv_iinc (v := nI (k + 1)) (lv' := [(5, .int (nI (k + 1))), (6, .int (nI (((nX (I 10)) * j) + k))), (0, .ref (g 0)), (1, .int (nI c)), (2, .int (nI (c % nX (I 10)))), (3, .int (nI (c / nX (I 10)))), (4, .int (nI j))]) X dX2_isTop_118 (k := 6) rfl (nI_add _ 1) (by decide) rfl ?_
                  refine vv_goto (tgt := 58) X dX2_isTop_121 (by decide) ?_
                  refine vv_sub [2, 3, 4, 5, 6, 0] rfl ?_
                  exact ihk (k + 1) (by omega) (fun j' h0 i' h1 h2 h4 => by
                      rcases Nat.lt_or_ge i' k with w | w
                      · exact hi j' h0 i' h1 w h4
                      · obtain rfl : i' = k := by omega
                        subst h0
                        exact c_113) (by omega)
                · refine vv_iconst (v := nI 0) X dX2_isTop_116 (by decide) ?_
                  exact vv_zret X (rfl) hQ dX2_isTop_117 (Nat.le_refl _) (Nat.le_refl _) (pq (b2_0 (fun z => absurd (z j (by omega) k (by omega) ⟨by omega, by omega, by omega, by omega, c_96⟩) (Int64.not_lt.mpr c_113))))
        refine vv_sub [1, 2, 3, 4, 5, 0] rfl ?_
        exact hl_4 (mn (nX (I 10) - 1) (c % nX (I 10) + 1) + 1 - (c % nX (I 10) - 1)) (c % nX (I 10) - 1) (by omega) (fun j' h0 i' h1 h2 h4 => absurd h4.2.2.2.1 (by omega)) (Nat.le_refl _)
  refine vv_sub [3, 4, 2, 1, 0] rfl ?_
  exact hl_2 (mn (nY (I 10) - 1) (c / nX (I 10) + 1) + 1 - (c / nX (I 10) - 1)) (c / nX (I 10) - 1) (by omega) (fun j' h1 h2 i' h3 h4 => absurd h4.2.1 (by omega)) (Nat.le_refl _)
theorem nX2_isGreater : notMH yX2_isGreater 2 := by decide +kernel
set_option maxHeartbeats 800000 in
theorem mX2_isGreater (l : Launch) (D : DD) (g : Nat → Nat) (x : Nat → Int32) (I : Nat → Nat → Int32) (J : Nat → Nat → Int64) (a b : Nat) (ha : a < 144) (hb : b < 144) : Cp l yX2_isGreater cX2_isGreater 3 (some .boolean) { frames := 1, cells := 0, slots := 0, locals := 12 } D [.ref (g 0), .int (nI a), .int (nI b)] (fun H => MR D g x I J H) (.int (b2 (gtr (J 25) a b))) := by
  refine Ct.of (by decide +kernel) (Nat.le_of_ble_eq_true rfl) (fun K Qf hkl X hM hQ => ?_)
  subst hkl
  refine vv_sub (lv' := [(0, .ref (g 0)), (1, .int (nI a)), (2, .int (nI b))]) [0, 1, 2] rfl ?_
  refine vv_aload_n X dX2_isGreater_0 rfl 0 rfl ?_
  refine mg25 X rfl hM dX2_isGreater_1 ?_
  refine vv_iload_n X dX2_isGreater_4 rfl 1 rfl ?_
  refine vv_lald X hM.a25 (a) (by omega) (by decide) rfl dX2_isGreater_5 ?_
  refine vv_aload_n X dX2_isGreater_6 rfl 0 rfl ?_
  refine mg25 X rfl hM dX2_isGreater_7 ?_
  refine vv_iload_n X dX2_isGreater_10 rfl 2 rfl ?_
  refine vv_lald X hM.a25 (b) (by omega) (by decide) rfl dX2_isGreater_11 ?_
  refine vv_lcmp X dX2_isGreater_12 ?_
  refine vz_gt (tgt := 37) X dX2_isGreater_13 (by decide) (fun c_13 => ?_) (fun c_13 => ?_)
  · refine vv_iconst (v := nI 1) X dX2_isGreater_37 (by decide) ?_
    refine vv_goto (tgt := 42) X dX2_isGreater_38 (by decide) ?_
    exact vv_zret X (rfl) hQ dX2_isGreater_42 (Nat.le_refl _) (Nat.le_refl _) (pq (b2_1 (Or.inl c_13)))
  · refine vv_aload_n X dX2_isGreater_16 rfl 0 rfl ?_
    refine mg25 X rfl hM dX2_isGreater_17 ?_
    refine vv_iload_n X dX2_isGreater_20 rfl 1 rfl ?_
    refine vv_lald X hM.a25 (a) (by omega) (by decide) rfl dX2_isGreater_21 ?_
    refine vv_aload_n X dX2_isGreater_22 rfl 0 rfl ?_
    refine mg25 X rfl hM dX2_isGreater_23 ?_
    refine vv_iload_n X dX2_isGreater_26 rfl 2 rfl ?_
    refine vv_lald X hM.a25 (b) (by omega) (by decide) rfl dX2_isGreater_27 ?_
    refine vv_lcmp X dX2_isGreater_28 ?_
    refine vz_ne (tgt := 41) X dX2_isGreater_29 (by decide) (fun c_29 => ?_) (fun c_29 => ?_)
    · refine vv_iconst (v := nI 0) X dX2_isGreater_41 (by decide) ?_
      exact vv_zret X (rfl) hQ dX2_isGreater_42 (Nat.le_refl _) (Nat.le_refl _) (pq (b2_0 (fun z => z.elim (fun z => absurd z (Int64.not_lt.mpr c_13)) (fun z => c_29 z.1))))
    · refine vv_iload_n X dX2_isGreater_32 rfl 1 rfl ?_
      refine vv_iload_n X dX2_isGreater_33 rfl 2 rfl ?_
      refine vn_ge (tgt := 41) X (by omega) (by omega) dX2_isGreater_34 (by decide) (fun c_34 => ?_) (fun c_34 => ?_)
      · refine vv_iconst (v := nI 0) X dX2_isGreater_41 (by decide) ?_
        exact vv_zret X (rfl) hQ dX2_isGreater_42 (Nat.le_refl _) (Nat.le_refl _) (pq (b2_0 (fun z => z.elim (fun z => absurd z (Int64.not_lt.mpr c_13)) (fun z => absurd z.2 (by omega)))))
      · refine vv_iconst (v := nI 1) X dX2_isGreater_37 (by decide) ?_
        refine vv_goto (tgt := 42) X dX2_isGreater_38 (by decide) ?_
        exact vv_zret X (rfl) hQ dX2_isGreater_42 (Nat.le_refl _) (Nat.le_refl _) (pq (b2_1 (Or.inr ⟨c_29, c_34⟩)))
theorem act_le (S : Nat → Int32) (n : Nat) : act S n ≤ n := by
  induction n with
  | zero => exact Nat.le_refl _
  | succ n ih =>
    show act S n + (if S (1 + n) = 0 then 1 else 0) ≤ n + 1
    split <;> omega
theorem cfi_le (P S : Nat → Int32) (c o p m n : Nat) : cfi P S c o p m n ≤ n := by
  induction n with
  | zero => exact Nat.le_refl _
  | succ n ih =>
    show cfi P S c o p m n + (if cfe P S c o p m n then 1 else 0) ≤ n + 1
    split <;> omega
theorem cnf_le (P S : Nat → Int32) (c o p n : Nat) : cnf P S c o p n ≤ nM P := by
  induction n with
  | zero => exact Nat.zero_le _
  | succ n ih =>
    show (if S (1 + n) = 0 then max (cnf P S c o p n) (cfi P S c o p n (nM P)) else cnf P S c o p n) ≤ nM P
    have := cfi_le P S c o p n (nM P)
    split <;> omega
theorem nX2_isMark : notMH yX2_isMark 4 := by decide +kernel
set_option maxHeartbeats 800000 in
theorem mX2_isMark (l : Launch) (D : DD) (g : Nat → Nat) (x : Nat → Int32) (I : Nat → Nat → Int32) (J : Nat → Nat → Int64) (P : Nat → Int32) (hIP : I 10 = P) (S : Nat → Int32) (hIS : I 12 = S) (c o p h : Nat) (hC : VC P) (hT : ∀ c, c < nC P → ∀ m, m < nM P → I 17 (12 * c + m) = nI (dc P c m)) (hc : c < nC P) (ho : o < nC P) (hp : 2 ≤ p ∧ p ≤ 99) (hh : h ≤ 100) : Cp l yX2_isMark cX2_isMark 5 (some .boolean) { frames := 3, cells := 0, slots := 0, locals := 62 } D [.ref (g 0), .int (nI c), .int (nI o), .int (nI p), .int (nI h)] (fun H => MR D g x I J H) (.int (b2 (mrk P S (J 25) c o p h))) := by
  refine Ct.of (by decide +kernel) (Nat.le_of_ble_eq_true rfl) (fun K Qf hkl X hM hQ => ?_)
  subst hkl
  subst hIP
  subst hIS
  have hP := hC.v
  have l4 := hP.l4
  have l9 := hP.l9
  have l10 := hP.l10
  have hcc : c < 144 := Nat.lt_of_lt_of_le hc (Nat.mul_le_mul l9 l10)
  have hoo : o < 144 := Nat.lt_of_lt_of_le ho (Nat.mul_le_mul l9 l10)
  have ha := act_le (I 12) (nM (I 10))
  have hb := cnf_le (I 10) (I 12) c o p (nM (I 10))
  have hm : h * act (I 12) (nM (I 10)) ≤ 100 * 12 := Nat.mul_le_mul hh (by omega)
  refine vv_sub (lv' := [(0, .ref (g 0)), (1, .int (nI c)), (2, .int (nI o)), (3, .int (nI p)), (4, .int (nI h))]) [0, 1, 2, 3, 4] rfl ?_
  refine vv_iload_n X dX2_isMark_0 rfl 1 rfl ?_
  refine vv_iload_n X dX2_isMark_1 rfl 2 rfl ?_
  refine vn_eq (tgt := 44) X (by omega) (by omega) dX2_isMark_2 (by decide) (fun c_2 => ?_) (fun c_2 => ?_)
  · refine vv_iconst (v := nI 0) X dX2_isMark_44 (by decide) ?_
    exact vv_zret X (rfl) hQ dX2_isMark_45 (Nat.le_refl _) (Nat.le_refl _) (pq (b2_0 (fun z => z.1 c_2)))
  · refine vv_aload_n X dX2_isMark_5 rfl 0 rfl ?_
    refine vv_iload_n X dX2_isMark_6 rfl 1 rfl ?_
    refine vv_callVp X (mX2_isTop (kL K) D g x I J (I 10) rfl c hC (by omega)) q3392 q3394 qs113 q144 q3395 nX2_isTop ⟨(Nat.le_of_ble_eq_true rfl), (Nat.le_of_ble_eq_true rfl)⟩ dX2_isMark_7 rfl (Nat.le_of_ble_eq_true rfl) (recv X hM.1 CL_X2) hM ⟨(Nat.le_of_ble_eq_true rfl), (Nat.le_of_ble_eq_true rfl)⟩ ?_
    refine vb_eq (tgt := 44) X dX2_isMark_10 (by decide) (fun c_10 => ?_) (fun c_10 => ?_)
    · refine vv_iconst (v := nI 0) X dX2_isMark_44 (by decide) ?_
      exact vv_zret X (rfl) hQ dX2_isMark_45 (Nat.le_refl _) (Nat.le_refl _) (pq (b2_0 (fun z => c_10 z.2.1)))
    · refine vv_aload_n X dX2_isMark_13 rfl 0 rfl ?_
      refine vv_callVp X (mX2_activeCount (kL K) D g x I J (I 10) rfl (I 12) rfl hP) q3315 q3317 qs103 q144 q3318 nX2_activeCount ⟨(Nat.le_of_ble_eq_true rfl), (Nat.le_of_ble_eq_true rfl)⟩ dX2_isMark_14 rfl (Nat.le_of_ble_eq_true rfl) (recv X hM.1 CL_X2) hM ⟨(Nat.le_of_ble_eq_true rfl), (Nat.le_of_ble_eq_true rfl)⟩ ?_
      refine vn_if_le (tgt := 44) X (by omega) dX2_isMark_17 (by decide) (fun c_17 => ?_) (fun c_17 => ?_)
      · refine vv_iconst (v := nI 0) X dX2_isMark_44 (by decide) ?_
        exact vv_zret X (rfl) hQ dX2_isMark_45 (Nat.le_refl _) (Nat.le_refl _) (pq (b2_0 (fun z => absurd z.2.2.1 (by omega))))
      · refine vv_bipush (v := nI 100) X dX2_isMark_20 (by decide) ?_
        refine vv_aload_n X dX2_isMark_22 rfl 0 rfl ?_
        refine vv_iload_n X dX2_isMark_23 rfl 1 rfl ?_
        refine vv_iload_n X dX2_isMark_24 rfl 2 rfl ?_
        refine vv_iload_n X dX2_isMark_25 rfl 3 rfl ?_
        refine vv_callVp X (mX2_confusion (kL K) D g x I J (I 10) rfl (I 12) rfl c o p hP hT (by omega) (by omega) (by omega)) q3422 q3424 qs115 q144 q3425 nX2_confusion ⟨(Nat.le_of_ble_eq_true rfl), (Nat.le_of_ble_eq_true rfl)⟩ dX2_isMark_26 rfl (Nat.le_of_ble_eq_true rfl) (recv X hM.1 CL_X2) hM ⟨(Nat.le_of_ble_eq_true rfl), (Nat.le_of_ble_eq_true rfl)⟩ ?_
        refine vn_mul X dX2_isMark_29 ?_
        refine vv_iload X dX2_isMark_30 4 rfl ?_
        refine vv_aload_n X dX2_isMark_32 rfl 0 rfl ?_
        refine vv_callVp X (mX2_activeCount (kL K) D g x I J (I 10) rfl (I 12) rfl hP) q3315 q3317 qs103 q144 q3318 nX2_activeCount ⟨(Nat.le_of_ble_eq_true rfl), (Nat.le_of_ble_eq_true rfl)⟩ dX2_isMark_33 rfl (Nat.le_of_ble_eq_true rfl) (recv X hM.1 CL_X2) hM ⟨(Nat.le_of_ble_eq_true rfl), (Nat.le_of_ble_eq_true rfl)⟩ ?_
        refine vn_mul X dX2_isMark_36 ?_
        refine vn_lt (tgt := 44) X (by omega) (by omega) dX2_isMark_37 (by decide) (fun c_37 => ?_) (fun c_37 => ?_)
        · refine vv_iconst (v := nI 0) X dX2_isMark_44 (by decide) ?_
          exact vv_zret X (rfl) hQ dX2_isMark_45 (Nat.le_refl _) (Nat.le_refl _) (pq (b2_0 (fun z => absurd z.2.2.2 (Nat.not_le.mpr c_37))))
        · refine vv_iconst (v := nI 1) X dX2_isMark_40 (by decide) ?_
          refine vv_goto (tgt := 45) X dX2_isMark_41 (by decide) ?_
          exact vv_zret X (rfl) hQ dX2_isMark_45 (Nat.le_refl _) (Nat.le_refl _) (pq (b2_1 ⟨c_2, c_10, c_17, c_37⟩))
theorem nX2_areNear : notMH yX2_areNear 2 := by decide +kernel
set_option maxHeartbeats 800000 in
theorem mX2_areNear (l : Launch) (D : DD) (g : Nat → Nat) (x : Nat → Int32) (I : Nat → Nat → Int32) (J : Nat → Nat → Int64) (P : Nat → Int32) (hIP : I 10 = P) (a b : Nat) (hC : VC P) (ha : a < 144) (hb : b < 144) : Cp l yX2_areNear cX2_areNear 3 (some .boolean) { frames := 1, cells := 0, slots := 0, locals := 20 } D [.ref (g 0), .int (nI a), .int (nI b)] (fun H => MR D g x I J H) (.int (b2 (nea P a b))) := by
  refine Ct.of (by decide +kernel) (Nat.le_of_ble_eq_true rfl) (fun K Qf hkl X hM hQ => ?_)
  subst hkl
  subst hIP
  have hP := hC.v
  have l9 := hP.l9
  have l10 := hP.l10
  have x1 := hC.x1
  have m1 := Nat.mod_le a (nX (I 10))
  have m2 := Nat.mod_le b (nX (I 10))
  have d1 := Nat.div_le_self a (nX (I 10))
  have d2 := Nat.div_le_self b (nX (I 10))
  refine vv_sub (lv' := [(0, .ref (g 0)), (1, .int (nI a)), (2, .int (nI b))]) [0, 1, 2] rfl ?_
  refine vv_iload_n X dX2_areNear_0 rfl 1 rfl ?_
  refine vv_aload_n X dX2_areNear_1 rfl 0 rfl ?_
  refine mg10 X rfl hM dX2_areNear_2 ?_
  refine vv_bipush (v := nI 9) X dX2_areNear_5 (by decide) ?_
  refine vv_iald X hM.a10 (9) (by omega) (by decide) rfl dX2_areNear_7 ?_
  refine vv_eqi hP.e9 ?_
  refine vn_rem X (by omega) (by omega) (by omega) dX2_areNear_8 ?_
  refine vv_iload_n X dX2_areNear_9 rfl 2 rfl ?_
  refine vv_aload_n X dX2_areNear_10 rfl 0 rfl ?_
  refine mg10 X rfl hM dX2_areNear_11 ?_
  refine vv_bipush (v := nI 9) X dX2_areNear_14 (by decide) ?_
  refine vv_iald X hM.a10 (9) (by omega) (by decide) rfl dX2_areNear_16 ?_
  refine vv_eqi hP.e9 ?_
  refine vn_rem X (by omega) (by omega) (by omega) dX2_areNear_17 ?_
  refine vv_isub X dX2_areNear_18 ?_
  refine vv_mabs X q3212 (Nat.le_of_ble_eq_true rfl) (Nat.le_of_ble_eq_true rfl) (Nat.le_of_ble_eq_true rfl) (Nat.le_of_ble_eq_true rfl) dX2_areNear_19 ?_
  refine vv_iconst (v := nI 1) X dX2_areNear_22 (by decide) ?_
  refine vv_icmp_gt (tgt := 56) X dX2_areNear_23 (by decide) (fun c_23 => ?_) (fun c_23 => ?_)
  · refine vv_iconst (v := nI 0) X dX2_areNear_56 (by decide) ?_
    exact vv_zret X (rfl) hQ dX2_areNear_57 (Nat.le_refl _) (Nat.le_refl _) (pq (b2_0 (fun z => absurd ((nI_abs1 (by omega) (by omega)).mpr z.1) (Int32.not_le.mpr c_23))))
  · refine vv_iload_n X dX2_areNear_26 rfl 1 rfl ?_
    refine vv_aload_n X dX2_areNear_27 rfl 0 rfl ?_
    refine mg10 X rfl hM dX2_areNear_28 ?_
    refine vv_bipush (v := nI 9) X dX2_areNear_31 (by decide) ?_
    refine vv_iald X hM.a10 (9) (by omega) (by decide) rfl dX2_areNear_33 ?_
    refine vv_eqi hP.e9 ?_
    refine vn_div X (by omega) (by omega) (by omega) dX2_areNear_34 ?_
    refine vv_iload_n X dX2_areNear_35 rfl 2 rfl ?_
    refine vv_aload_n X dX2_areNear_36 rfl 0 rfl ?_
    refine mg10 X rfl hM dX2_areNear_37 ?_
    refine vv_bipush (v := nI 9) X dX2_areNear_40 (by decide) ?_
    refine vv_iald X hM.a10 (9) (by omega) (by decide) rfl dX2_areNear_42 ?_
    refine vv_eqi hP.e9 ?_
    refine vn_div X (by omega) (by omega) (by omega) dX2_areNear_43 ?_
    refine vv_isub X dX2_areNear_44 ?_
    refine vv_mabs X q3212 (Nat.le_of_ble_eq_true rfl) (Nat.le_of_ble_eq_true rfl) (Nat.le_of_ble_eq_true rfl) (Nat.le_of_ble_eq_true rfl) dX2_areNear_45 ?_
    refine vv_iconst (v := nI 1) X dX2_areNear_48 (by decide) ?_
    refine vv_icmp_gt (tgt := 56) X dX2_areNear_49 (by decide) (fun c_49 => ?_) (fun c_49 => ?_)
    · refine vv_iconst (v := nI 0) X dX2_areNear_56 (by decide) ?_
      exact vv_zret X (rfl) hQ dX2_areNear_57 (Nat.le_refl _) (Nat.le_refl _) (pq (b2_0 (fun z => absurd ((nI_abs1 (by omega) (by omega)).mpr z.2) (Int32.not_le.mpr c_49))))
    · refine vv_iconst (v := nI 1) X dX2_areNear_52 (by decide) ?_
      refine vv_goto (tgt := 57) X dX2_areNear_53 (by decide) ?_
      exact vv_zret X (rfl) hQ dX2_areNear_57 (Nat.le_refl _) (Nat.le_refl _) (pq (b2_1 ⟨(nI_abs1 (by omega) (by omega)).mp (Int32.not_lt.mp c_23), (nI_abs1 (by omega) (by omega)).mp (Int32.not_lt.mp c_49)⟩))
theorem nX2_bestBehind : notMH yX2_bestBehind 2 := by decide +kernel
set_option maxHeartbeats 800000 in
theorem mX2_bestBehind (l : Launch) (D : DD) (g : Nat → Nat) (x : Nat → Int32) (I : Nat → Nat → Int32) (J : Nat → Nat → Int64) (P : Nat → Int32) (hIP : I 10 = P) (blk : Nat) (cv : Int32) (al : Nat → Bool) (hC : VC P) (hblk : blk < 50) (hcell : (cv = -1 ∧ ∀ i, al i = true) ∨ ∃ cc, cv = nI cc ∧ cc < nC P ∧ ∀ i, al i = true ↔ nea P cc i) : Cp l yX2_bestBehind cX2_bestBehind 5 (some .int) { frames := 2, cells := 0, slots := 0, locals := 42 } D [.ref (g 0), .int (nI blk), .int (cv)] (fun H => MR D g x I J H) (.int (obI (bsf al (fun c => J 26 (144 * blk + c)) (nC P)))) := by
  refine Ct.of (by decide +kernel) (Nat.le_of_ble_eq_true rfl) (fun K Qf hkl X hM hQ => ?_)
  subst hkl
  subst hIP
  have hP := hC.v
  have l9 := hP.l9
  have l10 := hP.l10
  have hn : nC (I 10) ≤ 144 := Nat.mul_le_mul l9 l10
  refine vv_sub (lv' := [(0, .ref (g 0)), (1, .int (nI blk)), (2, .int (cv))]) [0, 1, 2] rfl ?_
  refine vv_iconst (v := -1) X dX2_bestBehind_0 (by decide) ?_
  refine vv_istore_n (lv' := [(3, .int ((-1))), (0, .ref (g 0)), (1, .int (nI blk)), (2, .int (cv))]) X dX2_bestBehind_1 rfl (by decide) rfl ?_
  refine vv_iconst (v := nI 0) X dX2_bestBehind_2 (by decide) ?_
  refine vv_istore (lv' := [(4, .int (nI 0)), (3, .int ((-1))), (0, .ref (g 0)), (1, .int (nI blk)), (2, .int (cv))]) X dX2_bestBehind_3 (by decide) rfl ?_
  have hx_1 : ∀ (b : Option Nat) (hb : b = bsf al (fun c => J 26 (144 * blk + c)) (nC (I 10))), V K 5 (fun _ => False) (kS K).heap 0 0 Qf 75 [(0, .ref (g 0)), (1, .int (nI blk)), (2, .int (cv)), (3, .int (obI b)), (4, .int (nI (nC (I 10))))] [] := by
    intro b hb
    refine vv_iload_n X dX2_bestBehind_75 rfl 3 rfl ?_
    exact vv_iret X hQ dX2_bestBehind_76 (Nat.le_refl _) (Nat.le_refl _) (pq (by rw [hb]))
  have hl_2 : ∀ (n_i i : Nat) (b : Option Nat), i + n_i = nC (I 10) → (b = bsf al (fun c => J 26 (144 * blk + c)) i) → V K 5 (fun _ => False) (kS K).heap 0 0 Qf 5 [(0, .ref (g 0)), (1, .int (nI blk)), (2, .int (cv)), (3, .int (obI b)), (4, .int (nI i))] [] := by
    intro n_i
    induction n_i with
    | zero =>
      intro i b hi hb
      obtain rfl : i = nC (I 10) := by omega
      refine vv_iload X dX2_bestBehind_5 4 rfl ?_
      refine vv_aload_n X dX2_bestBehind_7 rfl 0 rfl ?_
      refine vv_callVp X (mX2_cellCount (kL K) D g x I J (I 10) rfl hP) q3172 q3174 qs84 q144 q3175 nX2_cellCount ⟨(Nat.le_of_ble_eq_true rfl), (Nat.le_of_ble_eq_true rfl)⟩ dX2_bestBehind_8 rfl (Nat.le_of_ble_eq_true rfl) (recv X hM.1 CL_X2) hM ⟨(Nat.le_of_ble_eq_true rfl), (Nat.le_of_ble_eq_true rfl)⟩ ?_
      refine vn_ge (tgt := 75) X (by omega) (by omega) dX2_bestBehind_11 (by decide) (fun c_11 => ?_) (fun c_11 => ?_)
      · exact hx_1 b hb
      · exact absurd c_11 (by omega)
    | succ n_i ihi =>
      intro i b hi hb
      refine vv_iload X dX2_bestBehind_5 4 rfl ?_
      refine vv_aload_n X dX2_bestBehind_7 rfl 0 rfl ?_
      refine vv_callVp X (mX2_cellCount (kL K) D g x I J (I 10) rfl hP) q3172 q3174 qs84 q144 q3175 nX2_cellCount ⟨(Nat.le_of_ble_eq_true rfl), (Nat.le_of_ble_eq_true rfl)⟩ dX2_bestBehind_8 rfl (Nat.le_of_ble_eq_true rfl) (recv X hM.1 CL_X2) hM ⟨(Nat.le_of_ble_eq_true rfl), (Nat.le_of_ble_eq_true rfl)⟩ ?_
      refine vn_ge (tgt := 75) X (by omega) (by omega) dX2_bestBehind_11 (by decide) (fun c_11 => ?_) (fun c_11 => ?_)
      · exact absurd hi (by omega)
      · rcases hcell with ⟨hc1, hal⟩ | ⟨cc, hc1, hcc, hal⟩
        · subst hc1
          cases hbo : b with
          | none =>
            refine vv_sub (lv' := [(0, .ref (g 0)), (1, .int (nI blk)), (2, .int (-1)), (3, .int (-1)), (4, .int (nI i))]) [0, 1, 2, 3, 4] rfl ?_
            refine vv_iload_n X dX2_bestBehind_14 rfl 2 rfl ?_
            refine vv_iconst (v := -1) X dX2_bestBehind_15 (by decide) ?_
            refine vv_icmp_eq (tgt := 29) X dX2_bestBehind_16 (by decide) (fun c_16 => ?_) (fun c_16 => ?_)
            · refine vv_iload_n X dX2_bestBehind_29 rfl 3 rfl ?_
              refine vv_iconst (v := -1) X dX2_bestBehind_30 (by decide) ?_
              refine vv_icmp_eq (tgt := 66) X dX2_bestBehind_31 (by decide) (fun c_31 => ?_) (fun c_31 => ?_)
              · refine vv_iload X dX2_bestBehind_66 4 rfl ?_
                refine vv_istore_n (lv' := [(3, .int (nI i)), (0, .ref (g 0)), (1, .int (nI blk)), (2, .int (-1)), (4, .int (nI i))]) X dX2_bestBehind_68 rfl (by decide) rfl ?_
                refine vv_iinc (v := nI (i + 1)) (lv' := [(4, .int (nI (i + 1))), (3, .int (nI i)), (0, .ref (g 0)), (1, .int (nI blk)), (2, .int (-1))]) X dX2_bestBehind_69 (k := 4) rfl (nI_add _ 1) (by decide) rfl ?_
                refine vv_goto (tgt := 5) X dX2_bestBehind_72 (by decide) ?_
                refine vv_sub [2, 3, 4, 1, 0] rfl ?_
                exact ihi (i + 1) (some i) (by omega) (by show _ = bst al (fun c => J 26 (144 * blk + c)) i (bsf al (fun c => J 26 (144 * blk + c)) i); rw [← hb, hbo]; exact (if_pos (hal i)).symm)
              · exact absurd rfl c_31
            · exact absurd rfl c_16
          | some j =>
            have hji : j < i := bsf_lt _ _ (hb.symm.trans hbo)
            refine vv_sub (lv' := [(0, .ref (g 0)), (1, .int (nI blk)), (2, .int (-1)), (3, .int (nI j)), (4, .int (nI i))]) [0, 1, 2, 3, 4] rfl ?_
            refine vv_iload_n X dX2_bestBehind_14 rfl 2 rfl ?_
            refine vv_iconst (v := -1) X dX2_bestBehind_15 (by decide) ?_
            refine vv_icmp_eq (tgt := 29) X dX2_bestBehind_16 (by decide) (fun c_16 => ?_) (fun c_16 => ?_)
            · refine vv_iload_n X dX2_bestBehind_29 rfl 3 rfl ?_
              refine vv_iconst (v := -1) X dX2_bestBehind_30 (by decide) ?_
              refine vv_icmp_eq (tgt := 66) X dX2_bestBehind_31 (by decide) (fun c_31 => ?_) (fun c_31 => ?_)
              · exact absurd c_31 (nI_nm1 (by omega))
              · refine vv_aload_n X dX2_bestBehind_34 rfl 0 rfl ?_
                refine mg26 X rfl hM dX2_bestBehind_35 ?_
                refine vv_sipush (v := nI 144) X dX2_bestBehind_38 (by decide) ?_
                refine vv_iload_n X dX2_bestBehind_41 rfl 1 rfl ?_
                refine vn_mul X dX2_bestBehind_42 ?_
                refine vv_iload X dX2_bestBehind_43 4 rfl ?_
                refine vn_add X dX2_bestBehind_45 ?_
                refine vv_lald X hM.a26 ((144 * blk) + i) (by omega) (by decide) rfl dX2_bestBehind_46 ?_
                refine vv_aload_n X dX2_bestBehind_47 rfl 0 rfl ?_
                refine mg26 X rfl hM dX2_bestBehind_48 ?_
                refine vv_sipush (v := nI 144) X dX2_bestBehind_51 (by decide) ?_
                refine vv_iload_n X dX2_bestBehind_54 rfl 1 rfl ?_
                refine vn_mul X dX2_bestBehind_55 ?_
                refine vv_iload_n X dX2_bestBehind_56 rfl 3 rfl ?_
                refine vn_add X dX2_bestBehind_57 ?_
                refine vv_lald X hM.a26 ((144 * blk) + j) (by omega) (by decide) rfl dX2_bestBehind_58 ?_
                refine vv_lcmp X dX2_bestBehind_59 ?_
                refine vz_gt (tgt := 66) X dX2_bestBehind_60 (by decide) (fun c_60 => ?_) (fun c_60 => ?_)
                · refine vv_iload X dX2_bestBehind_66 4 rfl ?_
                  refine vv_istore_n (lv' := [(3, .int (nI i)), (0, .ref (g 0)), (1, .int (nI blk)), (2, .int (-1)), (4, .int (nI i))]) X dX2_bestBehind_68 rfl (by decide) rfl ?_
                  refine vv_iinc (v := nI (i + 1)) (lv' := [(4, .int (nI (i + 1))), (3, .int (nI i)), (0, .ref (g 0)), (1, .int (nI blk)), (2, .int (-1))]) X dX2_bestBehind_69 (k := 4) rfl (nI_add _ 1) (by decide) rfl ?_
                  refine vv_goto (tgt := 5) X dX2_bestBehind_72 (by decide) ?_
                  refine vv_sub [2, 3, 4, 1, 0] rfl ?_
                  exact ihi (i + 1) (some i) (by omega) (by show _ = bst al (fun c => J 26 (144 * blk + c)) i (bsf al (fun c => J 26 (144 * blk + c)) i); rw [← hb, hbo]; exact (if_pos ⟨hal i, c_60⟩).symm)
                · refine vv_goto (tgt := 69) X dX2_bestBehind_63 (by decide) ?_
                  refine vv_iinc (v := nI (i + 1)) (lv' := [(4, .int (nI (i + 1))), (0, .ref (g 0)), (1, .int (nI blk)), (2, .int (-1)), (3, .int (nI j))]) X dX2_bestBehind_69 (k := 4) rfl (nI_add _ 1) (by decide) rfl ?_
                  refine vv_goto (tgt := 5) X dX2_bestBehind_72 (by decide) ?_
                  refine vv_sub [1, 2, 3, 4, 0] rfl ?_
                  exact ihi (i + 1) (some j) (by omega) (by show _ = bst al (fun c => J 26 (144 * blk + c)) i (bsf al (fun c => J 26 (144 * blk + c)) i); rw [← hb, hbo]; exact (if_neg (fun z => absurd z.2 (Int64.not_lt.mpr c_60))).symm)
            · exact absurd rfl c_16
        · subst hc1
          cases hbo : b with
          | none =>
            refine vv_sub (lv' := [(0, .ref (g 0)), (1, .int (nI blk)), (2, .int (nI cc)), (3, .int (-1)), (4, .int (nI i))]) [0, 1, 2, 3, 4] rfl ?_
            refine vv_iload_n X dX2_bestBehind_14 rfl 2 rfl ?_
            refine vv_iconst (v := -1) X dX2_bestBehind_15 (by decide) ?_
            refine vv_icmp_eq (tgt := 29) X dX2_bestBehind_16 (by decide) (fun c_16 => ?_) (fun c_16 => ?_)
            · exact absurd c_16 (nI_nm1 (by omega))
            · refine vv_aload_n X dX2_bestBehind_19 rfl 0 rfl ?_
              refine vv_iload_n X dX2_bestBehind_20 rfl 2 rfl ?_
              refine vv_iload X dX2_bestBehind_21 4 rfl ?_
              refine vv_callVp X (mX2_areNear (kL K) D g x I J (I 10) rfl cc i hC (by omega) (by omega)) q3489 q3491 qs125 q144 q3492 nX2_areNear ⟨(Nat.le_of_ble_eq_true rfl), (Nat.le_of_ble_eq_true rfl)⟩ dX2_bestBehind_23 rfl (Nat.le_of_ble_eq_true rfl) (recv X hM.1 CL_X2) hM ⟨(Nat.le_of_ble_eq_true rfl), (Nat.le_of_ble_eq_true rfl)⟩ ?_
              refine vb_eq (tgt := 69) X dX2_bestBehind_26 (by decide) (fun c_26 => ?_) (fun c_26 => ?_)
              · refine vv_iinc (v := nI (i + 1)) (lv' := [(4, .int (nI (i + 1))), (0, .ref (g 0)), (1, .int (nI blk)), (2, .int (nI cc)), (3, .int (-1))]) X dX2_bestBehind_69 (k := 4) rfl (nI_add _ 1) (by decide) rfl ?_
                refine vv_goto (tgt := 5) X dX2_bestBehind_72 (by decide) ?_
                refine vv_sub [1, 2, 3, 4, 0] rfl ?_
                exact ihi (i + 1) none (by omega) (by show _ = bst al (fun c => J 26 (144 * blk + c)) i (bsf al (fun c => J 26 (144 * blk + c)) i); rw [← hb, hbo]; exact (if_neg (fun z => c_26 ((hal i).mp z))).symm)
              · refine vv_iload_n X dX2_bestBehind_29 rfl 3 rfl ?_
                refine vv_iconst (v := -1) X dX2_bestBehind_30 (by decide) ?_
                refine vv_icmp_eq (tgt := 66) X dX2_bestBehind_31 (by decide) (fun c_31 => ?_) (fun c_31 => ?_)
                · refine vv_iload X dX2_bestBehind_66 4 rfl ?_
                  refine vv_istore_n (lv' := [(3, .int (nI i)), (0, .ref (g 0)), (1, .int (nI blk)), (2, .int (nI cc)), (4, .int (nI i))]) X dX2_bestBehind_68 rfl (by decide) rfl ?_
                  refine vv_iinc (v := nI (i + 1)) (lv' := [(4, .int (nI (i + 1))), (3, .int (nI i)), (0, .ref (g 0)), (1, .int (nI blk)), (2, .int (nI cc))]) X dX2_bestBehind_69 (k := 4) rfl (nI_add _ 1) (by decide) rfl ?_
                  refine vv_goto (tgt := 5) X dX2_bestBehind_72 (by decide) ?_
                  refine vv_sub [2, 3, 4, 1, 0] rfl ?_
                  exact ihi (i + 1) (some i) (by omega) (by show _ = bst al (fun c => J 26 (144 * blk + c)) i (bsf al (fun c => J 26 (144 * blk + c)) i); rw [← hb, hbo]; exact (if_pos ((hal i).mpr c_26)).symm)
                · exact absurd rfl c_31
          | some j =>
            have hji : j < i := bsf_lt _ _ (hb.symm.trans hbo)
            refine vv_sub (lv' := [(0, .ref (g 0)), (1, .int (nI blk)), (2, .int (nI cc)), (3, .int (nI j)), (4, .int (nI i))]) [0, 1, 2, 3, 4] rfl ?_
            refine vv_iload_n X dX2_bestBehind_14 rfl 2 rfl ?_
            refine vv_iconst (v := -1) X dX2_bestBehind_15 (by decide) ?_
            refine vv_icmp_eq (tgt := 29) X dX2_bestBehind_16 (by decide) (fun c_16 => ?_) (fun c_16 => ?_)
            · exact absurd c_16 (nI_nm1 (by omega))
            · refine vv_aload_n X dX2_bestBehind_19 rfl 0 rfl ?_
              refine vv_iload_n X dX2_bestBehind_20 rfl 2 rfl ?_
              refine vv_iload X dX2_bestBehind_21 4 rfl ?_
              refine vv_callVp X (mX2_areNear (kL K) D g x I J (I 10) rfl cc i hC (by omega) (by omega)) q3489 q3491 qs125 q144 q3492 nX2_areNear ⟨(Nat.le_of_ble_eq_true rfl), (Nat.le_of_ble_eq_true rfl)⟩ dX2_bestBehind_23 rfl (Nat.le_of_ble_eq_true rfl) (recv X hM.1 CL_X2) hM ⟨(Nat.le_of_ble_eq_true rfl), (Nat.le_of_ble_eq_true rfl)⟩ ?_
              refine vb_eq (tgt := 69) X dX2_bestBehind_26 (by decide) (fun c_26 => ?_) (fun c_26 => ?_)
              · refine vv_iinc (v := nI (i + 1)) (lv' := [(4, .int (nI (i + 1))), (0, .ref (g 0)), (1, .int (nI blk)), (2, .int (nI cc)), (3, .int (nI j))]) X dX2_bestBehind_69 (k := 4) rfl (nI_add _ 1) (by decide) rfl ?_
                refine vv_goto (tgt := 5) X dX2_bestBehind_72 (by decide) ?_
                refine vv_sub [1, 2, 3, 4, 0] rfl ?_
                exact ihi (i + 1) (some j) (by omega) (by show _ = bst al (fun c => J 26 (144 * blk + c)) i (bsf al (fun c => J 26 (144 * blk + c)) i); rw [← hb, hbo]; exact (if_neg (fun z => c_26 ((hal i).mp z.1))).symm)
              · refine vv_iload_n X dX2_bestBehind_29 rfl 3 rfl ?_
                refine vv_iconst (v := -1) X dX2_bestBehind_30 (by decide) ?_
                refine vv_icmp_eq (tgt := 66) X dX2_bestBehind_31 (by decide) (fun c_31 => ?_) (fun c_31 => ?_)
                · exact absurd c_31 (nI_nm1 (by omega))
                · refine vv_aload_n X dX2_bestBehind_34 rfl 0 rfl ?_
                  refine mg26 X rfl hM dX2_bestBehind_35 ?_
                  refine vv_sipush (v := nI 144) X dX2_bestBehind_38 (by decide) ?_
                  refine vv_iload_n X dX2_bestBehind_41 rfl 1 rfl ?_
                  refine vn_mul X dX2_bestBehind_42 ?_
                  refine vv_iload X dX2_bestBehind_43 4 rfl ?_
                  refine vn_add X dX2_bestBehind_45 ?_
                  refine vv_lald X hM.a26 ((144 * blk) + i) (by omega) (by decide) rfl dX2_bestBehind_46 ?_
                  refine vv_aload_n X dX2_bestBehind_47 rfl 0 rfl ?_
                  refine mg26 X rfl hM dX2_bestBehind_48 ?_
                  refine vv_sipush (v := nI 144) X dX2_bestBehind_51 (by decide) ?_
                  refine vv_iload_n X dX2_bestBehind_54 rfl 1 rfl ?_
                  refine vn_mul X dX2_bestBehind_55 ?_
                  refine vv_iload_n X dX2_bestBehind_56 rfl 3 rfl ?_
                  refine vn_add X dX2_bestBehind_57 ?_
                  refine vv_lald X hM.a26 ((144 * blk) + j) (by omega) (by decide) rfl dX2_bestBehind_58 ?_
                  refine vv_lcmp X dX2_bestBehind_59 ?_
                  refine vz_gt (tgt := 66) X dX2_bestBehind_60 (by decide) (fun c_60 => ?_) (fun c_60 => ?_)
                  · refine vv_iload X dX2_bestBehind_66 4 rfl ?_
                    refine vv_istore_n (lv' := [(3, .int (nI i)), (0, .ref (g 0)), (1, .int (nI blk)), (2, .int (nI cc)), (4, .int (nI i))]) X dX2_bestBehind_68 rfl (by decide) rfl ?_
                    refine vv_iinc (v := nI (i + 1)) (lv' := [(4, .int (nI (i + 1))), (3, .int (nI i)), (0, .ref (g 0)), (1, .int (nI blk)), (2, .int (nI cc))]) X dX2_bestBehind_69 (k := 4) rfl (nI_add _ 1) (by decide) rfl ?_
                    refine vv_goto (tgt := 5) X dX2_bestBehind_72 (by decide) ?_
                    refine vv_sub [2, 3, 4, 1, 0] rfl ?_
                    exact ihi (i + 1) (some i) (by omega) (by show _ = bst al (fun c => J 26 (144 * blk + c)) i (bsf al (fun c => J 26 (144 * blk + c)) i); rw [← hb, hbo]; exact (if_pos ⟨(hal i).mpr c_26, c_60⟩).symm)
                  · refine vv_goto (tgt := 69) X dX2_bestBehind_63 (by decide) ?_
                    refine vv_iinc (v := nI (i + 1)) (lv' := [(4, .int (nI (i + 1))), (0, .ref (g 0)), (1, .int (nI blk)), (2, .int (nI cc)), (3, .int (nI j))]) X dX2_bestBehind_69 (k := 4) rfl (nI_add _ 1) (by decide) rfl ?_
                    refine vv_goto (tgt := 5) X dX2_bestBehind_72 (by decide) ?_
                    refine vv_sub [1, 2, 3, 4, 0] rfl ?_
                    exact ihi (i + 1) (some j) (by omega) (by show _ = bst al (fun c => J 26 (144 * blk + c)) i (bsf al (fun c => J 26 (144 * blk + c)) i); rw [← hb, hbo]; exact (if_neg (fun z => absurd z.2 (Int64.not_lt.mpr c_60))).symm)
  refine vv_sub [2, 3, 4, 1, 0] rfl ?_
  exact hl_2 (nC (I 10)) 0 none (by omega) (rfl)
theorem nX2_blockCount : notMH yX2_blockCount 1 := by decide +kernel
set_option maxHeartbeats 800000 in
theorem mX2_blockCount (l : Launch) (D : DD) (g : Nat → Nat) (x : Nat → Int32) (I : Nat → Nat → Int32) (J : Nat → Nat → Int64) (P : Nat → Int32) (hIP : I 10 = P) (n : Nat) (hP : VP P) (hn : 0 < n) (hn2 : n < 1000) : Cp l yX2_blockCount cX2_blockCount 2 (some .int) { frames := 1, cells := 0, slots := 0, locals := 12 } D [.ref (g 0), .int (nI n)] (fun H => MR D g x I J H) (.int (nI (nT P / n))) := by
  refine Ct.of (by decide +kernel) (Nat.le_of_ble_eq_true rfl) (fun K Qf hkl X hM hQ => ?_)
  subst hkl
  subst hIP
  have l2 := hP.l2
  refine vv_sub (lv' := [(0, .ref (g 0)), (1, .int (nI n))]) [0, 1] rfl ?_
  refine vv_aload_n X dX2_blockCount_0 rfl 0 rfl ?_
  refine mg10 X rfl hM dX2_blockCount_1 ?_
  refine vv_iconst (v := nI 2) X dX2_blockCount_4 (by decide) ?_
  refine vv_iald X hM.a10 (2) (by omega) (by decide) rfl dX2_blockCount_5 ?_
  refine vv_eqi hP.e2 ?_
  refine vv_iload_n X dX2_blockCount_6 rfl 1 rfl ?_
  refine vn_div X (by omega) (by omega) (by omega) dX2_blockCount_7 ?_
  exact vv_iret X hQ dX2_blockCount_8 (Nat.le_refl _) (Nat.le_refl _) (pq (rfl))
theorem nX2_isInZone : notMH yX2_isInZone 2 := by decide +kernel
set_option maxHeartbeats 800000 in
theorem mX2_isInZone (l : Launch) (D : DD) (g : Nat → Nat) (x : Nat → Int32) (I : Nat → Nat → Int32) (J : Nat → Nat → Int64) (P : Nat → Int32) (hIP : I 10 = P) (z c : Nat) (hC : VC P) (hz : z < nZ P) (hc : c < 144) : Cp l yX2_isInZone cX2_isInZone 4 (some .boolean) { frames := 2, cells := 0, slots := 0, locals := 34 } D [.ref (g 0), .int (nI z), .int (nI c)] (fun H => MR D g x I J H) (.int (b2 (inZ P z c))) := by
  refine Ct.of (by decide +kernel) (Nat.le_of_ble_eq_true rfl) (fun K Qf hkl X hM hQ => ?_)
  subst hkl
  subst hIP
  have hP := hC.v
  have l9 := hP.l9
  have l10 := hP.l10
  have l101 := hP.l101
  have x1 := hC.x1
  have m1 := Nat.mod_le c (nX (I 10))
  have d1 := Nat.div_le_self c (nX (I 10))
  have z0 := (hP.zon (4 * z) (by omega)).2
  have z1 := (hP.zon (4 * z + 1) (by omega)).2
  have z2 := (hP.zon (4 * z + 2) (by omega)).2
  have z3 := (hP.zon (4 * z + 3) (by omega)).2
  refine vv_sub (lv' := [(0, .ref (g 0)), (1, .int (nI z)), (2, .int (nI c))]) [0, 1, 2] rfl ?_
  refine vv_bipush (v := nI 102) X dX2_isInZone_0 (by decide) ?_
  refine vv_iconst (v := nI 4) X dX2_isInZone_2 (by decide) ?_
  refine vv_iload_n X dX2_isInZone_3 rfl 1 rfl ?_
  refine vn_mul X dX2_isInZone_4 ?_
  refine vn_add X dX2_isInZone_5 ?_
  refine vv_istore_n (lv' := [(3, .int (nI (102 + (4 * z)))), (0, .ref (g 0)), (1, .int (nI z)), (2, .int (nI c))]) X dX2_isInZone_6 rfl (by decide) rfl ?_
  refine vv_iload_n X dX2_isInZone_7 rfl 3 rfl ?_
  refine vv_aload_n X dX2_isInZone_8 rfl 1 rfl ?_
  refine mg10 X rfl hM dX2_isInZone_9 ?_
  refine vv_bipush (v := nI 9) X dX2_isInZone_12 (by decide) ?_
  refine vv_iald X hM.a10 (9) (by omega) (by decide) rfl dX2_isInZone_14 ?_
  refine vv_eqi hP.e9 ?_
  refine vn_rem X (by omega) (by omega) (by omega) dX2_isInZone_15 ?_
  refine vv_aload_n X dX2_isInZone_16 rfl 1 rfl ?_
  refine mg10 X rfl hM dX2_isInZone_17 ?_
  refine vv_iload_n X dX2_isInZone_20 rfl 0 rfl ?_
  refine vv_iald X hM.a10 (102 + (4 * z)) (by omega) (by decide) rfl dX2_isInZone_21 ?_
  refine vv_eqi (hP.zon (4 * z) (by omega)).1 ?_
  refine vv_aload_n X dX2_isInZone_22 rfl 1 rfl ?_
  refine mg10 X rfl hM dX2_isInZone_23 ?_
  refine vv_iload_n X dX2_isInZone_26 rfl 0 rfl ?_
  refine vv_iconst (v := nI 2) X dX2_isInZone_27 (by decide) ?_
  refine vn_add X dX2_isInZone_28 ?_
  refine vv_iald X hM.a10 ((102 + (4 * z)) + 2) (by omega) (by decide) rfl dX2_isInZone_29 ?_
  refine vv_eqi (show _ = nI (zon (I 10) (4 * z + 2)) from by have h := (hP.zon (4 * z + 2) (by omega)).1; rw [← Nat.add_assoc] at h; exact h) ?_
  refine vv_callSp X (mX2_inN (kL K) D (c % (nX (I 10))) (zon (I 10) (4 * z)) (zon (I 10) (4 * z + 2)) (by omega) (by omega) (by omega)) q3031 q3032 q144 q3033 nX2_in ⟨(Nat.le_of_ble_eq_true rfl), (Nat.le_of_ble_eq_true rfl)⟩ dX2_isInZone_30 rfl (Nat.le_of_ble_eq_true rfl) trivial ⟨(Nat.le_of_ble_eq_true rfl), (Nat.le_of_ble_eq_true rfl)⟩ ?_
  refine vb_eq (tgt := 71) X dX2_isInZone_33 (by decide) (fun c_33 => ?_) (fun c_33 => ?_)
  · refine vv_iconst (v := nI 0) X dX2_isInZone_71 (by decide) ?_
    exact vv_zret X (rfl) hQ dX2_isInZone_72 (Nat.le_refl _) (Nat.le_refl _) (pq (b2_0 (fun z => c_33 z.1)))
  · refine vv_iload_n X dX2_isInZone_36 rfl 3 rfl ?_
    refine vv_aload_n X dX2_isInZone_37 rfl 1 rfl ?_
    refine mg10 X rfl hM dX2_isInZone_38 ?_
    refine vv_bipush (v := nI 9) X dX2_isInZone_41 (by decide) ?_
    refine vv_iald X hM.a10 (9) (by omega) (by decide) rfl dX2_isInZone_43 ?_
    refine vv_eqi hP.e9 ?_
    refine vn_div X (by omega) (by omega) (by omega) dX2_isInZone_44 ?_
    refine vv_aload_n X dX2_isInZone_45 rfl 1 rfl ?_
    refine mg10 X rfl hM dX2_isInZone_46 ?_
    refine vv_iload_n X dX2_isInZone_49 rfl 0 rfl ?_
    refine vv_iconst (v := nI 1) X dX2_isInZone_50 (by decide) ?_
    refine vn_add X dX2_isInZone_51 ?_
    refine vv_iald X hM.a10 ((102 + (4 * z)) + 1) (by omega) (by decide) rfl dX2_isInZone_52 ?_
    refine vv_eqi (show _ = nI (zon (I 10) (4 * z + 1)) from by have h := (hP.zon (4 * z + 1) (by omega)).1; rw [← Nat.add_assoc] at h; exact h) ?_
    refine vv_aload_n X dX2_isInZone_53 rfl 1 rfl ?_
    refine mg10 X rfl hM dX2_isInZone_54 ?_
    refine vv_iload_n X dX2_isInZone_57 rfl 0 rfl ?_
    refine vv_iconst (v := nI 3) X dX2_isInZone_58 (by decide) ?_
    refine vn_add X dX2_isInZone_59 ?_
    refine vv_iald X hM.a10 ((102 + (4 * z)) + 3) (by omega) (by decide) rfl dX2_isInZone_60 ?_
    refine vv_eqi (show _ = nI (zon (I 10) (4 * z + 3)) from by have h := (hP.zon (4 * z + 3) (by omega)).1; rw [← Nat.add_assoc] at h; exact h) ?_
    refine vv_callSp X (mX2_inN (kL K) D (c / (nX (I 10))) (zon (I 10) (4 * z + 1)) (zon (I 10) (4 * z + 3)) (by omega) (by omega) (by omega)) q3031 q3032 q144 q3033 nX2_in ⟨(Nat.le_of_ble_eq_true rfl), (Nat.le_of_ble_eq_true rfl)⟩ dX2_isInZone_61 rfl (Nat.le_of_ble_eq_true rfl) trivial ⟨(Nat.le_of_ble_eq_true rfl), (Nat.le_of_ble_eq_true rfl)⟩ ?_
    refine vb_eq (tgt := 71) X dX2_isInZone_64 (by decide) (fun c_64 => ?_) (fun c_64 => ?_)
    · refine vv_iconst (v := nI 0) X dX2_isInZone_71 (by decide) ?_
      exact vv_zret X (rfl) hQ dX2_isInZone_72 (Nat.le_refl _) (Nat.le_refl _) (pq (b2_0 (fun z => c_64 z.2)))
    · refine vv_iconst (v := nI 1) X dX2_isInZone_67 (by decide) ?_
      refine vv_goto (tgt := 72) X dX2_isInZone_68 (by decide) ?_
      exact vv_zret X (rfl) hQ dX2_isInZone_72 (Nat.le_refl _) (Nat.le_refl _) (pq (b2_1 ⟨c_33, c_64⟩))
