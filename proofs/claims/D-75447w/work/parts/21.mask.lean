/-! the model's helpers of its questions: printed by gen/m4.py -/
set_option maxRecDepth 100000
theorem nX2_mayAsk : notMH yX2_mayAsk 1 := by decide +kernel
set_option maxHeartbeats 800000 in
theorem mX2_mayAsk0 (l : Launch) (D : DD) (g : Nat → Nat) (x : Nat → Int32) (I : Nat → Nat → Int32) (J : Nat → Nat → Int64) (hg : MG g) (p : Prop) [Decidable p] (h20 : x 20 = nI 0) : Ct l yX2_mayAsk cX2_mayAsk 2 (some .boolean) { frames := 1, cells := 0, slots := 0, locals := 12 } D [.ref (g 0), .int (b2 p)] (fun H => MR D g x I J H) (MA g) (fun v H H1 => v = some (.int (b2 False)) ∧ MR D g (va_up x 0 (nI 1)) I J H1) := by
  refine Ct.of (by decide +kernel) (Nat.le_of_ble_eq_true rfl) (fun K Qf hkl X hM hQ => ?_)
  subst hkl
  refine vv_sub (lv' := [(0, .ref (g 0)), (1, .int (b2 p))]) [0, 1] rfl ?_
  refine vv_aload_n X dX2_mayAsk_0 rfl 0 rfl ?_
  refine vv_aload_n X dX2_mayAsk_1 rfl 0 rfl ?_
  refine mg20 X rfl hM dX2_mayAsk_2 ?_
  refine vv_eqi (h20) ?_
  refine vn_if_ne (tgt := 12) X (by omega) dX2_mayAsk_5 (by decide) (fun c_5 => ?_) (fun c_5 => ?_)
  · exact absurd c_5 (by decide)
  · refine vv_iconst (v := nI 1) X dX2_mayAsk_8 (by decide) ?_
    refine vv_goto (tgt := 21) X dX2_mayAsk_9 (by decide) ?_
    refine mp0 X rfl hM hg (Or.inl (MA.in (by decide))) dX2_mayAsk_21 (fun H hM => ?_)
    refine vv_aload_n X dX2_mayAsk_24 rfl 0 rfl ?_
    refine mg0 X rfl hM dX2_mayAsk_25 ?_
    refine vn_if_ne (tgt := 35) X (by omega) dX2_mayAsk_28 (by decide) (fun c_28 => ?_) (fun c_28 => ?_)
    · refine vv_iconst (v := nI 0) X dX2_mayAsk_35 (by decide) ?_
      exact vv_zret X (rfl) hQ dX2_mayAsk_36 (Nat.le_refl _) (Nat.le_refl _) (⟨by rw [← b2_0 (p := False) (fun z => z)]; rfl, hM⟩)
    · exact absurd c_28 (by decide)
set_option maxHeartbeats 800000 in
theorem mX2_mayAsk1 (l : Launch) (D : DD) (g : Nat → Nat) (x : Nat → Int32) (I : Nat → Nat → Int32) (J : Nat → Nat → Int64) (hg : MG g) (p : Prop) [Decidable p] (h20 : x 20 = nI 1) : Ct l yX2_mayAsk cX2_mayAsk 2 (some .boolean) { frames := 1, cells := 0, slots := 0, locals := 12 } D [.ref (g 0), .int (b2 p)] (fun H => MR D g x I J H) (MA g) (fun v H H1 => v = some (.int (b2 p)) ∧ MR D g (va_up x 0 (if p then nI 0 else nI 2)) I J H1) := by
  refine Ct.of (by decide +kernel) (Nat.le_of_ble_eq_true rfl) (fun K Qf hkl X hM hQ => ?_)
  subst hkl
  refine vv_sub (lv' := [(0, .ref (g 0)), (1, .int (b2 p))]) [0, 1] rfl ?_
  refine vv_aload_n X dX2_mayAsk_0 rfl 0 rfl ?_
  refine vv_aload_n X dX2_mayAsk_1 rfl 0 rfl ?_
  refine mg20 X rfl hM dX2_mayAsk_2 ?_
  refine vv_eqi (h20) ?_
  refine vn_if_ne (tgt := 12) X (by omega) dX2_mayAsk_5 (by decide) (fun c_5 => ?_) (fun c_5 => ?_)
  · refine vv_iload_n X dX2_mayAsk_12 rfl 1 rfl ?_
    refine vb_eq (tgt := 20) X dX2_mayAsk_13 (by decide) (fun c_13 => ?_) (fun c_13 => ?_)
    · refine vv_iconst (v := nI 2) X dX2_mayAsk_20 (by decide) ?_
      refine mp0 X rfl hM hg (Or.inl (MA.in (by decide))) dX2_mayAsk_21 (fun H hM => ?_)
      refine vv_aload_n X dX2_mayAsk_24 rfl 0 rfl ?_
      refine mg0 X rfl hM dX2_mayAsk_25 ?_
      refine vn_if_ne (tgt := 35) X (by omega) dX2_mayAsk_28 (by decide) (fun c_28 => ?_) (fun c_28 => ?_)
      · refine vv_iconst (v := nI 0) X dX2_mayAsk_35 (by decide) ?_
        exact vv_zret X (rfl) hQ dX2_mayAsk_36 (Nat.le_refl _) (Nat.le_refl _) (⟨by rw [← b2_0 c_13]; rfl, by rw [if_neg c_13]; exact hM⟩)
      · exact absurd c_28 (by decide)
    · refine vv_iconst (v := nI 0) X dX2_mayAsk_16 (by decide) ?_
      refine vv_goto (tgt := 21) X dX2_mayAsk_17 (by decide) ?_
      refine mp0 X rfl hM hg (Or.inl (MA.in (by decide))) dX2_mayAsk_21 (fun H hM => ?_)
      refine vv_aload_n X dX2_mayAsk_24 rfl 0 rfl ?_
      refine mg0 X rfl hM dX2_mayAsk_25 ?_
      refine vn_if_ne (tgt := 35) X (by omega) dX2_mayAsk_28 (by decide) (fun c_28 => ?_) (fun c_28 => ?_)
      · exact absurd c_28 (by decide)
      · refine vv_iconst (v := nI 1) X dX2_mayAsk_31 (by decide) ?_
        refine vv_goto (tgt := 36) X dX2_mayAsk_32 (by decide) ?_
        exact vv_zret X (rfl) hQ dX2_mayAsk_36 (Nat.le_refl _) (Nat.le_refl _) (⟨by rw [← b2_1 c_13]; rfl, by rw [if_pos c_13]; exact hM⟩)
  · exact absurd c_5 (by decide)
theorem nX2_told : notMH yX2_told 1 := by decide +kernel
set_option maxHeartbeats 800000 in
theorem mX2_told0 (l : Launch) (D : DD) (g : Nat → Nat) (x : Nat → Int32) (I : Nat → Nat → Int32) (J : Nat → Nat → Int64) (hg : MG g) (a : Int32) (h20 : x 20 = nI 0) : Ct l yX2_told cX2_told 2 (some .int) { frames := 1, cells := 0, slots := 0, locals := 12 } D [.ref (g 0), .int (a)] (fun H => MR D g x I J H) (MA g) (fun v H H1 => v = some (.int (nI 0)) ∧ MR D g (va_up x 0 (nI 0)) I J H1) := by
  refine Ct.of (by decide +kernel) (Nat.le_of_ble_eq_true rfl) (fun K Qf hkl X hM hQ => ?_)
  subst hkl
  refine vv_sub (lv' := [(0, .ref (g 0)), (1, .int (a))]) [0, 1] rfl ?_
  refine vv_aload_n X dX2_told_0 rfl 0 rfl ?_
  refine vv_iconst (v := nI 0) X dX2_told_1 (by decide) ?_
  refine mp0 X rfl hM hg (Or.inl (MA.in (by decide))) dX2_told_2 (fun H hM => ?_)
  refine vv_aload_n X dX2_told_5 rfl 0 rfl ?_
  refine mg20 X rfl hM dX2_told_6 ?_
  refine vv_eqi (h20) ?_
  refine vn_if_eq (tgt := 16) X (by omega) dX2_told_9 (by decide) (fun c_9 => ?_) (fun c_9 => ?_)
  · refine vv_iconst (v := nI 0) X dX2_told_16 (by decide) ?_
    exact vv_iret X hQ dX2_told_17 (Nat.le_refl _) (Nat.le_refl _) (⟨rfl, hM⟩)
  · exact absurd c_9 (by decide)
set_option maxHeartbeats 800000 in
theorem mX2_told1 (l : Launch) (D : DD) (g : Nat → Nat) (x : Nat → Int32) (I : Nat → Nat → Int32) (J : Nat → Nat → Int64) (hg : MG g) (a : Int32) (h20 : x 20 = nI 1) : Ct l yX2_told cX2_told 2 (some .int) { frames := 1, cells := 0, slots := 0, locals := 12 } D [.ref (g 0), .int (a)] (fun H => MR D g x I J H) (MA g) (fun v H H1 => v = some (.int a) ∧ MR D g (va_up x 0 (nI 0)) I J H1) := by
  refine Ct.of (by decide +kernel) (Nat.le_of_ble_eq_true rfl) (fun K Qf hkl X hM hQ => ?_)
  subst hkl
  refine vv_sub (lv' := [(0, .ref (g 0)), (1, .int (a))]) [0, 1] rfl ?_
  refine vv_aload_n X dX2_told_0 rfl 0 rfl ?_
  refine vv_iconst (v := nI 0) X dX2_told_1 (by decide) ?_
  refine mp0 X rfl hM hg (Or.inl (MA.in (by decide))) dX2_told_2 (fun H hM => ?_)
  refine vv_aload_n X dX2_told_5 rfl 0 rfl ?_
  refine mg20 X rfl hM dX2_told_6 ?_
  refine vv_eqi (h20) ?_
  refine vn_if_eq (tgt := 16) X (by omega) dX2_told_9 (by decide) (fun c_9 => ?_) (fun c_9 => ?_)
  · exact absurd c_9 (by decide)
  · refine vv_iload_n X dX2_told_12 rfl 1 rfl ?_
    refine vv_goto (tgt := 17) X dX2_told_13 (by decide) ?_
    exact vv_iret X hQ dX2_told_17 (Nat.le_refl _) (Nat.le_refl _) (⟨rfl, hM⟩)
theorem nX2_throwsAt : notMH yX2_throwsAt 1 := by decide +kernel
set_option maxHeartbeats 800000 in
theorem mX2_throwsAt (l : Launch) (D : DD) (g : Nat → Nat) (x : Nat → Int32) (I : Nat → Nat → Int32) (J : Nat → Nat → Int64) (hg : MG g) (a : Int32) : Ct l yX2_throwsAt cX2_throwsAt 2 (some .int) { frames := 1, cells := 0, slots := 0, locals := 12 } D [.ref (g 0), .int (a)] (fun H => MR D g x I J H) (MA g) (fun v H H1 => v = some (.int (nI 0)) ∧ MR D g (va_up x 0 a) I J H1) := by
  refine Ct.of (by decide +kernel) (Nat.le_of_ble_eq_true rfl) (fun K Qf hkl X hM hQ => ?_)
  subst hkl
  refine vv_sub (lv' := [(0, .ref (g 0)), (1, .int (a))]) [0, 1] rfl ?_
  refine vv_aload_n X dX2_throwsAt_0 rfl 0 rfl ?_
  refine vv_iload_n X dX2_throwsAt_1 rfl 1 rfl ?_
  refine mp0 X rfl hM hg (Or.inl (MA.in (by decide))) dX2_throwsAt_2 (fun H hM => ?_)
  refine vv_iconst (v := nI 0) X dX2_throwsAt_5 (by decide) ?_
  exact vv_iret X hQ dX2_throwsAt_6 (Nat.le_refl _) (Nat.le_refl _) (⟨rfl, hM⟩)
theorem arrV_c {cI : ClassId} {n : Nat} {f f' : Nat → Value} (h : ∀ i, i < n → f i = f' i) : arrV cI n f = arrV cI n f' := by
  unfold arrV
  congr 1
  exact congrArg Array.ofFn (funext fun j => h j.val j.isLt)
theorem iA_c {D : DD} {H : Heap} {a n : Nat} {f f' : Nat → Int32} (ha : iA D H a n f) (h : ∀ i, i < n → f i = f' i) : iA D H a n f' := by
  have e : vp_cell (D.2.1 0) (n, .inl f) = vp_cell (D.2.1 0) (n, .inl f') := by
    rw [vp_cell_i, vp_cell_i]
    exact arrV_c (fun i hi => by rw [h i hi])
  have ha : H[a]? = some (vp_cell (D.2.1 0) (n, .inl f)) := ha
  show H[a]? = some (vp_cell (D.2.1 0) (n, .inl f'))
  rw [ha, e]
theorem iA_cp {D : DD} {H : Heap} {a n : Nat} {f g : Nat → Int32} (u : Nat) (hn : n ≤ 2455) (ha : iA D H a n (va_cpy f g u 0 2455)) : iA D H a n (fun i => f (u + i)) :=
  iA_c ha (fun i hi => by unfold va_cpy; rw [if_pos (by omega), Nat.sub_zero])
theorem iA_cp0 {D : DD} {H : Heap} {a n : Nat} {f g : Nat → Int32} (hn : n ≤ 2455) (ha : iA D H a n (va_cpy f g 0 0 2455)) : iA D H a n f :=
  iA_c ha (fun i hi => by unfold va_cpy; rw [if_pos (by omega), Nat.sub_zero, Nat.zero_add])
theorem cnv_lt {P : Nat → Int32} {pw : Nat → Int64} : 0 < nC P → bsN pw (nC P) < nC P := fun h => bsN_lt h
