/-! the model's methods that write scratch cells: printed by gen/m3.py -/
set_option maxRecDepth 100000
theorem nX2_laysCell : notMH yX2_laysCell 1 := by decide +kernel
set_option maxHeartbeats 800000 in
theorem mX2_laysCell (l : Launch) (D : DD) (g : Nat → Nat) (x : Nat → Int32) (I : Nat → Nat → Int32) (J : Nat → Nat → Int64) (P : Nat → Int32) (hIP : I 10 = P) (hg : MG g) (c : Nat) (hP : VP P) (hT : ∀ c, c < nC P → ∀ m, m < nM P → I 17 (12 * c + m) = nI (dc P c m)) (hc : c < nC P) : Ct l yX2_laysCell cX2_laysCell 3 none { frames := 1, cells := 0, slots := 0, locals := 12 } D [.ref (g 0), .int (nI c)] (fun H => MR D g x I J H) (MA g) (fun v H H1 => v = none ∧ ∃ d, MR D g x (va_up I 24 d) J H1 ∧ ∀ m, m < nM P → d m = nI (dc P c m) ∧ dc P c m < 70000) := by
  refine Ct.of (by decide +kernel) (Nat.le_of_ble_eq_true rfl) (fun K Qf hkl X hM hQ => ?_)
  subst hkl
  subst hIP
  have l4 := hP.l4
  have l9 := hP.l9
  have l10 := hP.l10
  have hcc : c < 144 := Nat.lt_of_lt_of_le hc (Nat.mul_le_mul l9 l10)
  refine vv_sub (lv' := [(0, .ref (g 0)), (1, .int (nI c))]) [0, 1] rfl ?_
  refine vv_iconst (v := nI 0) X dX2_laysCell_0 (by decide) ?_
  refine vv_istore_n (lv' := [(2, .int (nI 0)), (0, .ref (g 0)), (1, .int (nI c))]) X dX2_laysCell_1 rfl (by decide) rfl ?_
  have hx_1 : ∀ (H : Heap) (hM : MR D g x (va_up I 24 (rz (I 24) (fun m => nI (dc (I 10) c m)) (nM (I 10)))) J H), V K 3 (MA g) H 0 0 Qf 35 [(0, .ref (g 0)), (1, .int (nI c)), (2, .int (nI (nM (I 10))))] [] := by
    intro H hM
    exact vv_vret X hQ dX2_laysCell_35 (Nat.le_refl _) (Nat.le_refl _) (⟨rfl, _, hM, fun m hm => ⟨rz_in hm, Nat.lt_of_lt_of_le (dN_lt _ _ _ _) (by decide)⟩⟩)
  have hl_2 : ∀ (n_i i : Nat) (H : Heap), i + n_i = nM (I 10) → (MR D g x (va_up I 24 (rz (I 24) (fun m => nI (dc (I 10) c m)) i)) J H) → V K 3 (MA g) H 0 0 Qf 2 [(0, .ref (g 0)), (1, .int (nI c)), (2, .int (nI i))] [] := by
    intro n_i
    induction n_i with
    | zero =>
      intro i H hi hM
      obtain rfl : i = nM (I 10) := by omega
      refine vv_iload_n X dX2_laysCell_2 rfl 2 rfl ?_
      refine vv_aload_n X dX2_laysCell_3 rfl 0 rfl ?_
      refine mg10 X rfl hM dX2_laysCell_4 ?_
      refine vv_iconst (v := nI 4) X dX2_laysCell_7 (by decide) ?_
      refine vv_iald X hM.a10 (4) (by omega) (by decide) rfl dX2_laysCell_8 ?_
      refine vv_eqi hP.e4 ?_
      refine vn_ge (tgt := 35) X (by omega) (by omega) dX2_laysCell_9 (by decide) (fun c_9 => ?_) (fun c_9 => ?_)
      · exact hx_1 H hM
      · exact absurd c_9 (by omega)
    | succ n_i ihi =>
      intro i H hi hM
      refine vv_iload_n X dX2_laysCell_2 rfl 2 rfl ?_
      refine vv_aload_n X dX2_laysCell_3 rfl 0 rfl ?_
      refine mg10 X rfl hM dX2_laysCell_4 ?_
      refine vv_iconst (v := nI 4) X dX2_laysCell_7 (by decide) ?_
      refine vv_iald X hM.a10 (4) (by omega) (by decide) rfl dX2_laysCell_8 ?_
      refine vv_eqi hP.e4 ?_
      refine vn_ge (tgt := 35) X (by omega) (by omega) dX2_laysCell_9 (by decide) (fun c_9 => ?_) (fun c_9 => ?_)
      · exact absurd hi (by omega)
      · refine vv_aload_n X dX2_laysCell_12 rfl 0 rfl ?_
        refine mg24 X rfl hM dX2_laysCell_13 ?_
        refine vv_iload_n X dX2_laysCell_16 rfl 2 rfl ?_
        refine vv_aload_n X dX2_laysCell_17 rfl 0 rfl ?_
        refine mg17 X rfl hM dX2_laysCell_18 ?_
        refine vv_bipush (v := nI 12) X dX2_laysCell_21 (by decide) ?_
        refine vv_iload_n X dX2_laysCell_23 rfl 1 rfl ?_
        refine vn_mul X dX2_laysCell_24 ?_
        refine vv_iload_n X dX2_laysCell_25 rfl 2 rfl ?_
        refine vn_add X dX2_laysCell_26 ?_
        refine vv_iald X hM.a17 ((12 * c) + i) (by omega) (by decide) rfl dX2_laysCell_27 ?_
        refine vv_eqi (hT c hc i (by omega)) ?_
        refine ms24 X hM hg (i) (by omega) rfl (Or.inl (MA.in (by decide))) dX2_laysCell_28 (fun H hM => ?_)
        rw [up_up] at hM
        refine vv_iinc (v := nI (i + 1)) (lv' := [(2, .int (nI (i + 1))), (0, .ref (g 0)), (1, .int (nI c))]) X dX2_laysCell_29 (k := 2) rfl (nI_add _ 1) (by decide) rfl ?_
        refine vv_goto (tgt := 2) X dX2_laysCell_32 (by decide) ?_
        refine vv_sub [1, 2, 0] rfl ?_
        exact ihi (i + 1) H (by omega) (by rw [← rz_s (f := I 24) (g := fun m => nI (dc (I 10) c m)) (n := i) (v := nI (dc (I 10) c i)) rfl]; exact hM)
  refine vv_sub [1, 2, 0] rfl ?_
  exact hl_2 (nM (I 10)) 0 ((kS K).heap) (by omega) (by rw [rz_0, up_same]; exact hM)
theorem nX2_laysPoint : notMH yX2_laysPoint 2 := by decide +kernel
set_option maxHeartbeats 800000 in
theorem mX2_laysPoint (l : Launch) (D : DD) (g : Nat → Nat) (x : Nat → Int32) (I : Nat → Nat → Int32) (J : Nat → Nat → Int64) (P : Nat → Int32) (hIP : I 10 = P) (hg : MG g) (a b : Int32) (hC : VC P) (ha : rg 9999 a) (hb : rg 9999 b) : Ct l yX2_laysPoint cX2_laysPoint 4 none { frames := 3, cells := 0, slots := 0, locals := 62 } D [.ref (g 0), .int (a), .int (b)] (fun H => MR D g x I J H) (MA g) (fun v H H1 => v = none ∧ ∃ d, MR D g x (va_up I 24 d) J H1 ∧ ∀ m, m < nM P → d m = nI (dN P m a b) ∧ dN P m a b < 70000) := by
  refine Ct.of (by decide +kernel) (Nat.le_of_ble_eq_true rfl) (fun K Qf hkl X hM hQ => ?_)
  subst hkl
  subst hIP
  have hP := hC.v
  have l4 := hP.l4
  refine vv_sub (lv' := [(0, .ref (g 0)), (1, .int (a)), (2, .int (b))]) [0, 1, 2] rfl ?_
  refine vv_iconst (v := nI 0) X dX2_laysPoint_0 (by decide) ?_
  refine vv_istore_n (lv' := [(3, .int (nI 0)), (0, .ref (g 0)), (1, .int (a)), (2, .int (b))]) X dX2_laysPoint_1 rfl (by decide) rfl ?_
  have hx_1 : ∀ (H : Heap) (hM : MR D g x (va_up I 24 (rz (I 24) (fun m => nI (dN (I 10) m a b)) (nM (I 10)))) J H), V K 4 (MA g) H 0 0 Qf 31 [(0, .ref (g 0)), (1, .int (a)), (2, .int (b)), (3, .int (nI (nM (I 10))))] [] := by
    intro H hM
    exact vv_vret X hQ dX2_laysPoint_31 (Nat.le_refl _) (Nat.le_refl _) (⟨rfl, _, hM, fun m hm => ⟨rz_in hm, Nat.lt_of_lt_of_le (dN_lt _ _ _ _) (by decide)⟩⟩)
  have hl_2 : ∀ (n_i i : Nat) (H : Heap), i + n_i = nM (I 10) → (MR D g x (va_up I 24 (rz (I 24) (fun m => nI (dN (I 10) m a b)) i)) J H) → V K 4 (MA g) H 0 0 Qf 2 [(0, .ref (g 0)), (1, .int (a)), (2, .int (b)), (3, .int (nI i))] [] := by
    intro n_i
    induction n_i with
    | zero =>
      intro i H hi hM
      obtain rfl : i = nM (I 10) := by omega
      refine vv_iload_n X dX2_laysPoint_2 rfl 3 rfl ?_
      refine vv_aload_n X dX2_laysPoint_3 rfl 0 rfl ?_
      refine mg10 X rfl hM dX2_laysPoint_4 ?_
      refine vv_iconst (v := nI 4) X dX2_laysPoint_7 (by decide) ?_
      refine vv_iald X hM.a10 (4) (by omega) (by decide) rfl dX2_laysPoint_8 ?_
      refine vv_eqi hP.e4 ?_
      refine vn_ge (tgt := 31) X (by omega) (by omega) dX2_laysPoint_9 (by decide) (fun c_9 => ?_) (fun c_9 => ?_)
      · exact hx_1 H hM
      · exact absurd c_9 (by omega)
    | succ n_i ihi =>
      intro i H hi hM
      refine vv_iload_n X dX2_laysPoint_2 rfl 3 rfl ?_
      refine vv_aload_n X dX2_laysPoint_3 rfl 0 rfl ?_
      refine mg10 X rfl hM dX2_laysPoint_4 ?_
      refine vv_iconst (v := nI 4) X dX2_laysPoint_7 (by decide) ?_
      refine vv_iald X hM.a10 (4) (by omega) (by decide) rfl dX2_laysPoint_8 ?_
      refine vv_eqi hP.e4 ?_
      refine vn_ge (tgt := 31) X (by omega) (by omega) dX2_laysPoint_9 (by decide) (fun c_9 => ?_) (fun c_9 => ?_)
      · exact absurd hi (by omega)
      · refine vv_aload_n X dX2_laysPoint_12 rfl 0 rfl ?_
        refine mg24 X rfl hM dX2_laysPoint_13 ?_
        refine vv_iload_n X dX2_laysPoint_16 rfl 3 rfl ?_
        refine vv_aload_n X dX2_laysPoint_17 rfl 0 rfl ?_
        refine vv_iload_n X dX2_laysPoint_18 rfl 3 rfl ?_
        refine vv_iload_n X dX2_laysPoint_19 rfl 1 rfl ?_
        refine vv_iload_n X dX2_laysPoint_20 rfl 2 rfl ?_
        refine vv_callVp X (mX2_delayFrom (kL K) D g x (va_up I 24 (rz (I 24) (fun m => nI (dN (I 10) m a b)) i)) J (I 10) rfl i a b hC (by omega) (ha) (hb)) q3180 q3182 qs86 q144 q3183 nX2_delayFrom ⟨(Nat.le_of_ble_eq_true rfl), (Nat.le_of_ble_eq_true rfl)⟩ dX2_laysPoint_21 rfl (Nat.le_of_ble_eq_true rfl) (recv X hM.1 CL_X2) hM ⟨(Nat.le_of_ble_eq_true rfl), (Nat.le_of_ble_eq_true rfl)⟩ ?_
        refine ms24 X hM hg (i) (by omega) rfl (Or.inl (MA.in (by decide))) dX2_laysPoint_24 (fun H hM => ?_)
        rw [up_up] at hM
        refine vv_iinc (v := nI (i + 1)) (lv' := [(3, .int (nI (i + 1))), (0, .ref (g 0)), (1, .int (a)), (2, .int (b))]) X dX2_laysPoint_25 (k := 3) rfl (nI_add _ 1) (by decide) rfl ?_
        refine vv_goto (tgt := 2) X dX2_laysPoint_28 (by decide) ?_
        refine vv_sub [1, 2, 3, 0] rfl ?_
        exact ihi (i + 1) H (by omega) (by rw [← rz_s (f := I 24) (g := fun m => nI (dN (I 10) m a b)) (n := i) (v := nI (dN (I 10) i a b)) rfl]; exact hM)
  refine vv_sub [1, 2, 3, 0] rfl ?_
  exact hl_2 (nM (I 10)) 0 ((kS K).heap) (by omega) (by rw [rz_0, up_same]; exact hM)
theorem nX2_powerOf : notMH yX2_powerOf 2 := by decide +kernel
set_option maxHeartbeats 800000 in
theorem mX2_powerOf12 (l : Launch) (D : DD) (g : Nat → Nat) (x : Nat → Int32) (I : Nat → Nat → Int32) (J : Nat → Nat → Int64) (P : Nat → Int32) (hIP : I 10 = P) (S : Nat → Int32) (hIS : I 12 = S) (hg : MG g) (c : Nat) (hP : VP P) (hS : VS S) (hT : ∀ c, c < nC P → ∀ m, m < nM P → I 17 (12 * c + m) = nI (dc P c m)) (hc : c < nC P) : Ct l yX2_powerOf cX2_powerOf 3 (some .long) { frames := 5, cells := 0, slots := 0, locals := 108 } D [.ref (g 0), .ref (g 12), .int (nI c)] (fun H => MR D g x I J H) (MA g) (fun v H H1 => v = some (.long (pwc P S c)) ∧ ∃ d, MR D g x (va_up I 24 d) J H1) := by
  refine Ct.of (by decide +kernel) (Nat.le_of_ble_eq_true rfl) (fun K Qf hkl X hM hQ => ?_)
  subst hkl
  subst hIP
  subst hIS
  have l9 := hP.l9
  have l10 := hP.l10
  have hcc : c < 144 := Nat.lt_of_lt_of_le hc (Nat.mul_le_mul l9 l10)
  refine vv_sub (lv' := [(0, .ref (g 0)), (1, .ref (g 12)), (2, .int (nI c))]) [0, 1, 2] rfl ?_
  refine vv_aload_n X dX2_powerOf_0 rfl 0 rfl ?_
  refine vv_iload_n X dX2_powerOf_1 rfl 2 rfl ?_
  refine vv_callV X (mX2_laysCell (kL K) D g x I J (I 10) rfl hg c hP hT (by omega)) q3324 q3326 qs104 q144 q3327 nX2_laysCell ⟨(Nat.le_of_ble_eq_true rfl), (Nat.le_of_ble_eq_true rfl)⟩ dX2_powerOf_2 rfl (Nat.le_of_ble_eq_true rfl) (recv X hM.1 CL_X2) hM  (fun _ z => Or.inl z) ⟨(Nat.le_of_ble_eq_true rfl), (Nat.le_of_ble_eq_true rfl)⟩ (fun v_ H hq hz hk => ?_)
  obtain ⟨rfl, d_1, hM, hd_2⟩ := hq
  clear hz hk
  refine vv_aload_n X dX2_powerOf_5 rfl 0 rfl ?_
  refine vv_aload_n X dX2_powerOf_6 rfl 1 rfl ?_
  refine vv_callVp X (mX2_powerHere (kL K) D g x (va_up I 24 d_1) J 12 (I 10) rfl (I 12) rfl (dc (I 10) c) (fun h => h.a12) hP hS hd_2) q3352 q3354 qs108 q144 q3355 nX2_powerHere ⟨(Nat.le_of_ble_eq_true rfl), (Nat.le_of_ble_eq_true rfl)⟩ dX2_powerOf_7 rfl (Nat.le_of_ble_eq_true rfl) (recv X hM.1 CL_X2) hM ⟨(Nat.le_of_ble_eq_true rfl), (Nat.le_of_ble_eq_true rfl)⟩ ?_
  exact vv_lret X hQ dX2_powerOf_10 (Nat.le_refl _) (Nat.le_refl _) (⟨rfl, _, hM⟩)
theorem nX2_laysPowers : notMH yX2_laysPowers 1 := by decide +kernel
set_option maxHeartbeats 800000 in
theorem mX2_laysPowers12 (l : Launch) (D : DD) (g : Nat → Nat) (x : Nat → Int32) (I : Nat → Nat → Int32) (J : Nat → Nat → Int64) (P : Nat → Int32) (hIP : I 10 = P) (S : Nat → Int32) (hIS : I 12 = S) (hg : MG g)  (hP : VP P) (hS : VS S) (hT : ∀ c, c < nC P → ∀ m, m < nM P → I 17 (12 * c + m) = nI (dc P c m)) : Ct l yX2_laysPowers cX2_laysPowers 3 none { frames := 6, cells := 0, slots := 0, locals := 130 } D [.ref (g 0), .ref (g 12)] (fun H => MR D g x I J H) (MA g) (fun v H H1 => v = none ∧ ∃ d p, MR D g x (va_up I 24 d) (va_up J 25 p) H1 ∧ ∀ c, c < nC P → p c = pwc P S c) := by
  refine Ct.of (by decide +kernel) (Nat.le_of_ble_eq_true rfl) (fun K Qf hkl X hM hQ => ?_)
  subst hkl
  subst hIP
  subst hIS
  have l9 := hP.l9
  have l10 := hP.l10
  have hn : nC (I 10) ≤ 144 := Nat.mul_le_mul l9 l10
  refine vv_sub (lv' := [(0, .ref (g 0)), (1, .ref (g 12))]) [0, 1] rfl ?_
  refine vv_iconst (v := nI 0) X dX2_laysPowers_0 (by decide) ?_
  refine vv_istore_n (lv' := [(2, .int (nI 0)), (0, .ref (g 0)), (1, .ref (g 12))]) X dX2_laysPowers_1 rfl (by decide) rfl ?_
  have hx_1 : ∀ (H : Heap) (d : Nat → Int32) (hM : MR D g x (va_up I 24 d) (va_up J 25 (rz (J 25) (pwc (I 10) (I 12)) (nC (I 10)))) H), V K 3 (MA g) H 0 0 Qf 28 [(0, .ref (g 0)), (1, .ref (g 12)), (2, .int (nI (nC (I 10))))] [] := by
    intro H d hM
    exact vv_vret X hQ dX2_laysPowers_28 (Nat.le_refl _) (Nat.le_refl _) (⟨rfl, _, _, hM, fun c hc => rz_in hc⟩)
  have hl_2 : ∀ (n_i i : Nat) (H : Heap) (d : Nat → Int32), i + n_i = nC (I 10) → (MR D g x (va_up I 24 d) (va_up J 25 (rz (J 25) (pwc (I 10) (I 12)) i)) H) → V K 3 (MA g) H 0 0 Qf 2 [(0, .ref (g 0)), (1, .ref (g 12)), (2, .int (nI i))] [] := by
    intro n_i
    induction n_i with
    | zero =>
      intro i H d hi hM
      obtain rfl : i = nC (I 10) := by omega
      refine vv_iload_n X dX2_laysPowers_2 rfl 2 rfl ?_
      refine vv_aload_n X dX2_laysPowers_3 rfl 0 rfl ?_
      refine vv_callVp X (mX2_cellCount (kL K) D g x (va_up I 24 d) (va_up J 25 (rz (J 25) (pwc (I 10) (I 12)) (nC (I 10)))) (I 10) rfl hP) q3172 q3174 qs84 q144 q3175 nX2_cellCount ⟨(Nat.le_of_ble_eq_true rfl), (Nat.le_of_ble_eq_true rfl)⟩ dX2_laysPowers_4 rfl (Nat.le_of_ble_eq_true rfl) (recv X hM.1 CL_X2) hM ⟨(Nat.le_of_ble_eq_true rfl), (Nat.le_of_ble_eq_true rfl)⟩ ?_
      refine vn_ge (tgt := 28) X (by omega) (by omega) dX2_laysPowers_7 (by decide) (fun c_7 => ?_) (fun c_7 => ?_)
      · exact hx_1 H d hM
      · exact absurd c_7 (by omega)
    | succ n_i ihi =>
      intro i H d hi hM
      refine vv_iload_n X dX2_laysPowers_2 rfl 2 rfl ?_
      refine vv_aload_n X dX2_laysPowers_3 rfl 0 rfl ?_
      refine vv_callVp X (mX2_cellCount (kL K) D g x (va_up I 24 d) (va_up J 25 (rz (J 25) (pwc (I 10) (I 12)) i)) (I 10) rfl hP) q3172 q3174 qs84 q144 q3175 nX2_cellCount ⟨(Nat.le_of_ble_eq_true rfl), (Nat.le_of_ble_eq_true rfl)⟩ dX2_laysPowers_4 rfl (Nat.le_of_ble_eq_true rfl) (recv X hM.1 CL_X2) hM ⟨(Nat.le_of_ble_eq_true rfl), (Nat.le_of_ble_eq_true rfl)⟩ ?_
      refine vn_ge (tgt := 28) X (by omega) (by omega) dX2_laysPowers_7 (by decide) (fun c_7 => ?_) (fun c_7 => ?_)
      · exact absurd hi (by omega)
      · refine vv_aload_n X dX2_laysPowers_10 rfl 0 rfl ?_
        refine mg25 X rfl hM dX2_laysPowers_11 ?_
        refine vv_iload_n X dX2_laysPowers_14 rfl 2 rfl ?_
        refine vv_aload_n X dX2_laysPowers_15 rfl 0 rfl ?_
        refine vv_aload_n X dX2_laysPowers_16 rfl 1 rfl ?_
        refine vv_iload_n X dX2_laysPowers_17 rfl 2 rfl ?_
        refine vv_callV X (mX2_powerOf12 (kL K) D g x (va_up I 24 d) (va_up J 25 (rz (J 25) (pwc (I 10) (I 12)) i)) (I 10) rfl (I 12) rfl hg i hP hS hT (by omega)) q3348 q3350 qs107 q144 q3351 nX2_powerOf ⟨(Nat.le_of_ble_eq_true rfl), (Nat.le_of_ble_eq_true rfl)⟩ dX2_laysPowers_18 rfl (Nat.le_of_ble_eq_true rfl) (recv X hM.1 CL_X2) hM  (fun _ z => Or.inl z) ⟨(Nat.le_of_ble_eq_true rfl), (Nat.le_of_ble_eq_true rfl)⟩ (fun v_ H hq hz hk => ?_)
        obtain ⟨rfl, d_3, hM⟩ := hq
        clear hz hk
        rw [up_up] at hM
        refine vv_last X hM.a25 (i) (by omega) (by decide) rfl (Or.inl (MA.in (by decide))) dX2_laysPowers_21 (fun H1 hc ha => ?_)
        replace hM := hM.setJ25 hg hc ha
        clear hc ha
        rw [up_up] at hM
        refine vv_iinc (v := nI (i + 1)) (lv' := [(2, .int (nI (i + 1))), (0, .ref (g 0)), (1, .ref (g 12))]) X dX2_laysPowers_22 (k := 2) rfl (nI_add _ 1) (by decide) rfl ?_
        refine vv_goto (tgt := 2) X dX2_laysPowers_25 (by decide) ?_
        refine vv_sub [1, 2, 0] rfl ?_
        exact ihi (i + 1) H1 d_3 (by omega) (by rw [← rz_s (f := J 25) (g := (pwc (I 10) (I 12))) (n := i) (v := (pwc (I 10) (I 12)) i) rfl]; exact hM)
  refine vv_sub [1, 2, 0] rfl ?_
  exact hl_2 (nC (I 10)) 0 ((kS K).heap) (I 24) (by omega) (by rw [rz_0, up_same, up_same]; exact hM)
theorem nX2_bestIn : notMH yX2_bestIn 1 := by decide +kernel
set_option maxHeartbeats 800000 in
theorem mX2_bestIn12 (l : Launch) (D : DD) (g : Nat → Nat) (x : Nat → Int32) (I : Nat → Nat → Int32) (J : Nat → Nat → Int64) (P : Nat → Int32) (hIP : I 10 = P) (S : Nat → Int32) (hIS : I 12 = S) (hg : MG g)  (hC : VC P) (hS : VS S) (hT : ∀ c, c < nC P → ∀ m, m < nM P → I 17 (12 * c + m) = nI (dc P c m)) : Ct l yX2_bestIn cX2_bestIn 4 (some .int) { frames := 7, cells := 0, slots := 0, locals := 152 } D [.ref (g 0), .ref (g 12)] (fun H => MR D g x I J H) (MA g) (fun v H H1 => v = some (.int (nI (bsN (pwc P S) (nC P)))) ∧ ∃ d p, MR D g x (va_up I 24 d) (va_up J 25 p) H1 ∧ ∀ c, c < nC P → p c = pwc P S c) := by
  refine Ct.of (by decide +kernel) (Nat.le_of_ble_eq_true rfl) (fun K Qf hkl X hM hQ => ?_)
  subst hkl
  subst hIP
  subst hIS
  have hP := hC.v
  have l9 := hP.l9
  have l10 := hP.l10
  have hn : nC (I 10) ≤ 144 := Nat.mul_le_mul l9 l10
  have hn1 : 0 < nC (I 10) := Nat.mul_pos hC.x1 hC.y1
  refine vv_sub (lv' := [(0, .ref (g 0)), (1, .ref (g 12))]) [0, 1] rfl ?_
  refine vv_aload_n X dX2_bestIn_0 rfl 0 rfl ?_
  refine vv_aload_n X dX2_bestIn_1 rfl 1 rfl ?_
  refine vv_callV X (mX2_laysPowers12 (kL K) D g x I J (I 10) rfl (I 12) rfl hg hP hS hT) q3376 q3378 qs112 q144 q3379 nX2_laysPowers ⟨(Nat.le_of_ble_eq_true rfl), (Nat.le_of_ble_eq_true rfl)⟩ dX2_bestIn_2 rfl (Nat.le_of_ble_eq_true rfl) (recv X hM.1 CL_X2) hM  (fun _ z => Or.inl z) ⟨(Nat.le_of_ble_eq_true rfl), (Nat.le_of_ble_eq_true rfl)⟩ (fun v_ H hq hz hk => ?_)
  obtain ⟨rfl, d_1, p_2, hM, hp_3⟩ := hq
  clear hz hk
  refine vv_iconst (v := nI 0) X dX2_bestIn_5 (by decide) ?_
  refine vv_istore_n (lv' := [(2, .int (nI 0)), (0, .ref (g 0)), (1, .ref (g 12))]) X dX2_bestIn_6 rfl (by decide) rfl ?_
  refine vv_iconst (v := nI 1) X dX2_bestIn_7 (by decide) ?_
  refine vv_istore_n (lv' := [(3, .int (nI 1)), (2, .int (nI 0)), (0, .ref (g 0)), (1, .ref (g 12))]) X dX2_bestIn_8 rfl (by decide) rfl ?_
  have hx_4 : ∀ (b : Nat) (hb : b = fo (bs1 (pwc (I 10) (I 12))) (nC (I 10) - 1) 0) (hbi : b ≤ nC (I 10) - 1), V K 4 (MA g) H 0 0 Qf 45 [(0, .ref (g 0)), (1, .ref (g 12)), (2, .int (nI b)), (3, .int (nI ((nC (I 10) - 1) + 1)))] [] := by
    intro b hb hbi
    refine vv_iload_n X dX2_bestIn_45 rfl 2 rfl ?_
    exact vv_iret X hQ dX2_bestIn_46 (Nat.le_refl _) (Nat.le_refl _) (⟨by rw [hb]; rfl, _, _, hM, hp_3⟩)
  have hl_5 : ∀ (n_i i : Nat) (b : Nat), i + n_i = nC (I 10) - 1 → (b = fo (bs1 (pwc (I 10) (I 12))) i 0) → (b ≤ i) → V K 4 (MA g) H 0 0 Qf 9 [(0, .ref (g 0)), (1, .ref (g 12)), (2, .int (nI b)), (3, .int (nI (i + 1)))] [] := by
    intro n_i
    induction n_i with
    | zero =>
      intro i b hi hb hbi
      obtain rfl : i = nC (I 10) - 1 := by omega
      refine vv_iload_n X dX2_bestIn_9 rfl 3 rfl ?_
      refine vv_aload_n X dX2_bestIn_10 rfl 0 rfl ?_
      refine vv_callVp X (mX2_cellCount (kL K) D g x (va_up I 24 d_1) (va_up J 25 p_2) (I 10) rfl hP) q3172 q3174 qs84 q144 q3175 nX2_cellCount ⟨(Nat.le_of_ble_eq_true rfl), (Nat.le_of_ble_eq_true rfl)⟩ dX2_bestIn_11 rfl (Nat.le_of_ble_eq_true rfl) (recv X hM.1 CL_X2) hM ⟨(Nat.le_of_ble_eq_true rfl), (Nat.le_of_ble_eq_true rfl)⟩ ?_
      refine vn_ge (tgt := 45) X (by omega) (by omega) dX2_bestIn_14 (by decide) (fun c_14 => ?_) (fun c_14 => ?_)
      · exact hx_4 b hb hbi
      · exact absurd c_14 (by omega)
    | succ n_i ihi =>
      intro i b hi hb hbi
      refine vv_iload_n X dX2_bestIn_9 rfl 3 rfl ?_
      refine vv_aload_n X dX2_bestIn_10 rfl 0 rfl ?_
      refine vv_callVp X (mX2_cellCount (kL K) D g x (va_up I 24 d_1) (va_up J 25 p_2) (I 10) rfl hP) q3172 q3174 qs84 q144 q3175 nX2_cellCount ⟨(Nat.le_of_ble_eq_true rfl), (Nat.le_of_ble_eq_true rfl)⟩ dX2_bestIn_11 rfl (Nat.le_of_ble_eq_true rfl) (recv X hM.1 CL_X2) hM ⟨(Nat.le_of_ble_eq_true rfl), (Nat.le_of_ble_eq_true rfl)⟩ ?_
      refine vn_ge (tgt := 45) X (by omega) (by omega) dX2_bestIn_14 (by decide) (fun c_14 => ?_) (fun c_14 => ?_)
      · exact absurd hi (by omega)
      · refine vv_aload_n X dX2_bestIn_17 rfl 0 rfl ?_
        refine mg25 X rfl hM dX2_bestIn_18 ?_
        refine vv_iload_n X dX2_bestIn_21 rfl 3 rfl ?_
        refine vv_lald X hM.a25 (i + 1) (by omega) (by decide) rfl dX2_bestIn_22 ?_
        refine vv_aload_n X dX2_bestIn_23 rfl 0 rfl ?_
        refine mg25 X rfl hM dX2_bestIn_24 ?_
        refine vv_iload_n X dX2_bestIn_27 rfl 2 rfl ?_
        refine vv_lald X hM.a25 (b) (by omega) (by decide) rfl dX2_bestIn_28 ?_
        refine vv_lcmp X dX2_bestIn_29 ?_
        refine vz_le (tgt := 37) X dX2_bestIn_30 (by decide) (fun c_30 => ?_) (fun c_30 => ?_)
        · refine vv_iload_n X dX2_bestIn_37 rfl 2 rfl ?_
          refine vv_istore_n (lv' := [(2, .int (nI b)), (0, .ref (g 0)), (1, .ref (g 12)), (3, .int (nI (i + 1)))]) X dX2_bestIn_38 rfl (by decide) rfl ?_
          refine vv_iinc (v := nI ((i + 1) + 1)) (lv' := [(3, .int (nI ((i + 1) + 1))), (2, .int (nI b)), (0, .ref (g 0)), (1, .ref (g 12))]) X dX2_bestIn_39 (k := 3) rfl (nI_add _ 1) (by decide) rfl ?_
          refine vv_goto (tgt := 9) X dX2_bestIn_42 (by decide) ?_
          refine vv_sub [2, 3, 1, 0] rfl ?_
          exact ihi (i + 1) b (by omega) (by
              have c : p_2 (i + 1) ≤ p_2 b := c_30
              rw [hp_3 (i + 1) (by omega), hp_3 b (by omega)] at c
              subst hb
              exact (if_neg (Int64.not_lt.mpr c)).symm) (by omega)
        · refine vv_iload_n X dX2_bestIn_33 rfl 3 rfl ?_
          refine vv_goto (tgt := 38) X dX2_bestIn_34 (by decide) ?_
          refine vv_istore_n (lv' := [(2, .int (nI (i + 1))), (0, .ref (g 0)), (1, .ref (g 12)), (3, .int (nI (i + 1)))]) X dX2_bestIn_38 rfl (by decide) rfl ?_
          refine vv_iinc (v := nI ((i + 1) + 1)) (lv' := [(3, .int (nI ((i + 1) + 1))), (2, .int (nI (i + 1))), (0, .ref (g 0)), (1, .ref (g 12))]) X dX2_bestIn_39 (k := 3) rfl (nI_add _ 1) (by decide) rfl ?_
          refine vv_goto (tgt := 9) X dX2_bestIn_42 (by decide) ?_
          refine vv_sub [2, 3, 1, 0] rfl ?_
          exact ihi (i + 1) (i + 1) (by omega) (by
              have c : p_2 b < p_2 (i + 1) := c_30
              rw [hp_3 (i + 1) (by omega), hp_3 b (by omega)] at c
              subst hb
              exact (if_pos c).symm) (by omega)
  refine vv_sub [2, 3, 1, 0] rfl ?_
  exact hl_5 (nC (I 10) - 1) 0 0 (by omega) (rfl) (Nat.le_refl _)
set_option maxHeartbeats 800000 in
theorem mX2_powerOf14 (l : Launch) (D : DD) (g : Nat → Nat) (x : Nat → Int32) (I : Nat → Nat → Int32) (J : Nat → Nat → Int64) (P : Nat → Int32) (hIP : I 10 = P) (S : Nat → Int32) (hIS : I 14 = S) (hg : MG g) (c : Nat) (hP : VP P) (hS : VS S) (hT : ∀ c, c < nC P → ∀ m, m < nM P → I 17 (12 * c + m) = nI (dc P c m)) (hc : c < nC P) : Ct l yX2_powerOf cX2_powerOf 3 (some .long) { frames := 5, cells := 0, slots := 0, locals := 108 } D [.ref (g 0), .ref (g 14), .int (nI c)] (fun H => MR D g x I J H) (MA g) (fun v H H1 => v = some (.long (pwc P S c)) ∧ ∃ d, MR D g x (va_up I 24 d) J H1) := by
  refine Ct.of (by decide +kernel) (Nat.le_of_ble_eq_true rfl) (fun K Qf hkl X hM hQ => ?_)
  subst hkl
  subst hIP
  subst hIS
  have l9 := hP.l9
  have l10 := hP.l10
  have hcc : c < 144 := Nat.lt_of_lt_of_le hc (Nat.mul_le_mul l9 l10)
  refine vv_sub (lv' := [(0, .ref (g 0)), (1, .ref (g 14)), (2, .int (nI c))]) [0, 1, 2] rfl ?_
  refine vv_aload_n X dX2_powerOf_0 rfl 0 rfl ?_
  refine vv_iload_n X dX2_powerOf_1 rfl 2 rfl ?_
  refine vv_callV X (mX2_laysCell (kL K) D g x I J (I 10) rfl hg c hP hT (by omega)) q3324 q3326 qs104 q144 q3327 nX2_laysCell ⟨(Nat.le_of_ble_eq_true rfl), (Nat.le_of_ble_eq_true rfl)⟩ dX2_powerOf_2 rfl (Nat.le_of_ble_eq_true rfl) (recv X hM.1 CL_X2) hM  (fun _ z => Or.inl z) ⟨(Nat.le_of_ble_eq_true rfl), (Nat.le_of_ble_eq_true rfl)⟩ (fun v_ H hq hz hk => ?_)
  obtain ⟨rfl, d_1, hM, hd_2⟩ := hq
  clear hz hk
  refine vv_aload_n X dX2_powerOf_5 rfl 0 rfl ?_
  refine vv_aload_n X dX2_powerOf_6 rfl 1 rfl ?_
  refine vv_callVp X (mX2_powerHere (kL K) D g x (va_up I 24 d_1) J 14 (I 10) rfl (I 14) rfl (dc (I 10) c) (fun h => h.a14) hP hS hd_2) q3352 q3354 qs108 q144 q3355 nX2_powerHere ⟨(Nat.le_of_ble_eq_true rfl), (Nat.le_of_ble_eq_true rfl)⟩ dX2_powerOf_7 rfl (Nat.le_of_ble_eq_true rfl) (recv X hM.1 CL_X2) hM ⟨(Nat.le_of_ble_eq_true rfl), (Nat.le_of_ble_eq_true rfl)⟩ ?_
  exact vv_lret X hQ dX2_powerOf_10 (Nat.le_refl _) (Nat.le_refl _) (⟨rfl, _, hM⟩)
set_option maxHeartbeats 800000 in
theorem mX2_laysPowers14 (l : Launch) (D : DD) (g : Nat → Nat) (x : Nat → Int32) (I : Nat → Nat → Int32) (J : Nat → Nat → Int64) (P : Nat → Int32) (hIP : I 10 = P) (S : Nat → Int32) (hIS : I 14 = S) (hg : MG g)  (hP : VP P) (hS : VS S) (hT : ∀ c, c < nC P → ∀ m, m < nM P → I 17 (12 * c + m) = nI (dc P c m)) : Ct l yX2_laysPowers cX2_laysPowers 3 none { frames := 6, cells := 0, slots := 0, locals := 130 } D [.ref (g 0), .ref (g 14)] (fun H => MR D g x I J H) (MA g) (fun v H H1 => v = none ∧ ∃ d p, MR D g x (va_up I 24 d) (va_up J 25 p) H1 ∧ ∀ c, c < nC P → p c = pwc P S c) := by
  refine Ct.of (by decide +kernel) (Nat.le_of_ble_eq_true rfl) (fun K Qf hkl X hM hQ => ?_)
  subst hkl
  subst hIP
  subst hIS
  have l9 := hP.l9
  have l10 := hP.l10
  have hn : nC (I 10) ≤ 144 := Nat.mul_le_mul l9 l10
  refine vv_sub (lv' := [(0, .ref (g 0)), (1, .ref (g 14))]) [0, 1] rfl ?_
  refine vv_iconst (v := nI 0) X dX2_laysPowers_0 (by decide) ?_
  refine vv_istore_n (lv' := [(2, .int (nI 0)), (0, .ref (g 0)), (1, .ref (g 14))]) X dX2_laysPowers_1 rfl (by decide) rfl ?_
  have hx_1 : ∀ (H : Heap) (d : Nat → Int32) (hM : MR D g x (va_up I 24 d) (va_up J 25 (rz (J 25) (pwc (I 10) (I 14)) (nC (I 10)))) H), V K 3 (MA g) H 0 0 Qf 28 [(0, .ref (g 0)), (1, .ref (g 14)), (2, .int (nI (nC (I 10))))] [] := by
    intro H d hM
    exact vv_vret X hQ dX2_laysPowers_28 (Nat.le_refl _) (Nat.le_refl _) (⟨rfl, _, _, hM, fun c hc => rz_in hc⟩)
  have hl_2 : ∀ (n_i i : Nat) (H : Heap) (d : Nat → Int32), i + n_i = nC (I 10) → (MR D g x (va_up I 24 d) (va_up J 25 (rz (J 25) (pwc (I 10) (I 14)) i)) H) → V K 3 (MA g) H 0 0 Qf 2 [(0, .ref (g 0)), (1, .ref (g 14)), (2, .int (nI i))] [] := by
    intro n_i
    induction n_i with
    | zero =>
      intro i H d hi hM
      obtain rfl : i = nC (I 10) := by omega
      refine vv_iload_n X dX2_laysPowers_2 rfl 2 rfl ?_
      refine vv_aload_n X dX2_laysPowers_3 rfl 0 rfl ?_
      refine vv_callVp X (mX2_cellCount (kL K) D g x (va_up I 24 d) (va_up J 25 (rz (J 25) (pwc (I 10) (I 14)) (nC (I 10)))) (I 10) rfl hP) q3172 q3174 qs84 q144 q3175 nX2_cellCount ⟨(Nat.le_of_ble_eq_true rfl), (Nat.le_of_ble_eq_true rfl)⟩ dX2_laysPowers_4 rfl (Nat.le_of_ble_eq_true rfl) (recv X hM.1 CL_X2) hM ⟨(Nat.le_of_ble_eq_true rfl), (Nat.le_of_ble_eq_true rfl)⟩ ?_
      refine vn_ge (tgt := 28) X (by omega) (by omega) dX2_laysPowers_7 (by decide) (fun c_7 => ?_) (fun c_7 => ?_)
      · exact hx_1 H d hM
      · exact absurd c_7 (by omega)
    | succ n_i ihi =>
      intro i H d hi hM
      refine vv_iload_n X dX2_laysPowers_2 rfl 2 rfl ?_
      refine vv_aload_n X dX2_laysPowers_3 rfl 0 rfl ?_
      refine vv_callVp X (mX2_cellCount (kL K) D g x (va_up I 24 d) (va_up J 25 (rz (J 25) (pwc (I 10) (I 14)) i)) (I 10) rfl hP) q3172 q3174 qs84 q144 q3175 nX2_cellCount ⟨(Nat.le_of_ble_eq_true rfl), (Nat.le_of_ble_eq_true rfl)⟩ dX2_laysPowers_4 rfl (Nat.le_of_ble_eq_true rfl) (recv X hM.1 CL_X2) hM ⟨(Nat.le_of_ble_eq_true rfl), (Nat.le_of_ble_eq_true rfl)⟩ ?_
      refine vn_ge (tgt := 28) X (by omega) (by omega) dX2_laysPowers_7 (by decide) (fun c_7 => ?_) (fun c_7 => ?_)
      · exact absurd hi (by omega)
      · refine vv_aload_n X dX2_laysPowers_10 rfl 0 rfl ?_
        refine mg25 X rfl hM dX2_laysPowers_11 ?_
        refine vv_iload_n X dX2_laysPowers_14 rfl 2 rfl ?_
        refine vv_aload_n X dX2_laysPowers_15 rfl 0 rfl ?_
        refine vv_aload_n X dX2_laysPowers_16 rfl 1 rfl ?_
        refine vv_iload_n X dX2_laysPowers_17 rfl 2 rfl ?_
        refine vv_callV X (mX2_powerOf14 (kL K) D g x (va_up I 24 d) (va_up J 25 (rz (J 25) (pwc (I 10) (I 14)) i)) (I 10) rfl (I 14) rfl hg i hP hS hT (by omega)) q3348 q3350 qs107 q144 q3351 nX2_powerOf ⟨(Nat.le_of_ble_eq_true rfl), (Nat.le_of_ble_eq_true rfl)⟩ dX2_laysPowers_18 rfl (Nat.le_of_ble_eq_true rfl) (recv X hM.1 CL_X2) hM  (fun _ z => Or.inl z) ⟨(Nat.le_of_ble_eq_true rfl), (Nat.le_of_ble_eq_true rfl)⟩ (fun v_ H hq hz hk => ?_)
        obtain ⟨rfl, d_3, hM⟩ := hq
        clear hz hk
        rw [up_up] at hM
        refine vv_last X hM.a25 (i) (by omega) (by decide) rfl (Or.inl (MA.in (by decide))) dX2_laysPowers_21 (fun H1 hc ha => ?_)
        replace hM := hM.setJ25 hg hc ha
        clear hc ha
        rw [up_up] at hM
        refine vv_iinc (v := nI (i + 1)) (lv' := [(2, .int (nI (i + 1))), (0, .ref (g 0)), (1, .ref (g 14))]) X dX2_laysPowers_22 (k := 2) rfl (nI_add _ 1) (by decide) rfl ?_
        refine vv_goto (tgt := 2) X dX2_laysPowers_25 (by decide) ?_
        refine vv_sub [1, 2, 0] rfl ?_
        exact ihi (i + 1) H1 d_3 (by omega) (by rw [← rz_s (f := J 25) (g := (pwc (I 10) (I 14))) (n := i) (v := (pwc (I 10) (I 14)) i) rfl]; exact hM)
  refine vv_sub [1, 2, 0] rfl ?_
  exact hl_2 (nC (I 10)) 0 ((kS K).heap) (I 24) (by omega) (by rw [rz_0, up_same, up_same]; exact hM)
set_option maxHeartbeats 800000 in
theorem mX2_bestIn14 (l : Launch) (D : DD) (g : Nat → Nat) (x : Nat → Int32) (I : Nat → Nat → Int32) (J : Nat → Nat → Int64) (P : Nat → Int32) (hIP : I 10 = P) (S : Nat → Int32) (hIS : I 14 = S) (hg : MG g)  (hC : VC P) (hS : VS S) (hT : ∀ c, c < nC P → ∀ m, m < nM P → I 17 (12 * c + m) = nI (dc P c m)) : Ct l yX2_bestIn cX2_bestIn 4 (some .int) { frames := 7, cells := 0, slots := 0, locals := 152 } D [.ref (g 0), .ref (g 14)] (fun H => MR D g x I J H) (MA g) (fun v H H1 => v = some (.int (nI (bsN (pwc P S) (nC P)))) ∧ ∃ d p, MR D g x (va_up I 24 d) (va_up J 25 p) H1 ∧ ∀ c, c < nC P → p c = pwc P S c) := by
  refine Ct.of (by decide +kernel) (Nat.le_of_ble_eq_true rfl) (fun K Qf hkl X hM hQ => ?_)
  subst hkl
  subst hIP
  subst hIS
  have hP := hC.v
  have l9 := hP.l9
  have l10 := hP.l10
  have hn : nC (I 10) ≤ 144 := Nat.mul_le_mul l9 l10
  have hn1 : 0 < nC (I 10) := Nat.mul_pos hC.x1 hC.y1
  refine vv_sub (lv' := [(0, .ref (g 0)), (1, .ref (g 14))]) [0, 1] rfl ?_
  refine vv_aload_n X dX2_bestIn_0 rfl 0 rfl ?_
  refine vv_aload_n X dX2_bestIn_1 rfl 1 rfl ?_
  refine vv_callV X (mX2_laysPowers14 (kL K) D g x I J (I 10) rfl (I 14) rfl hg hP hS hT) q3376 q3378 qs112 q144 q3379 nX2_laysPowers ⟨(Nat.le_of_ble_eq_true rfl), (Nat.le_of_ble_eq_true rfl)⟩ dX2_bestIn_2 rfl (Nat.le_of_ble_eq_true rfl) (recv X hM.1 CL_X2) hM  (fun _ z => Or.inl z) ⟨(Nat.le_of_ble_eq_true rfl), (Nat.le_of_ble_eq_true rfl)⟩ (fun v_ H hq hz hk => ?_)
  obtain ⟨rfl, d_1, p_2, hM, hp_3⟩ := hq
  clear hz hk
  refine vv_iconst (v := nI 0) X dX2_bestIn_5 (by decide) ?_
  refine vv_istore_n (lv' := [(2, .int (nI 0)), (0, .ref (g 0)), (1, .ref (g 14))]) X dX2_bestIn_6 rfl (by decide) rfl ?_
  refine vv_iconst (v := nI 1) X dX2_bestIn_7 (by decide) ?_
  refine vv_istore_n (lv' := [(3, .int (nI 1)), (2, .int (nI 0)), (0, .ref (g 0)), (1, .ref (g 14))]) X dX2_bestIn_8 rfl (by decide) rfl ?_
  have hx_4 : ∀ (b : Nat) (hb : b = fo (bs1 (pwc (I 10) (I 14))) (nC (I 10) - 1) 0) (hbi : b ≤ nC (I 10) - 1), V K 4 (MA g) H 0 0 Qf 45 [(0, .ref (g 0)), (1, .ref (g 14)), (2, .int (nI b)), (3, .int (nI ((nC (I 10) - 1) + 1)))] [] := by
    intro b hb hbi
    refine vv_iload_n X dX2_bestIn_45 rfl 2 rfl ?_
    exact vv_iret X hQ dX2_bestIn_46 (Nat.le_refl _) (Nat.le_refl _) (⟨by rw [hb]; rfl, _, _, hM, hp_3⟩)
  have hl_5 : ∀ (n_i i : Nat) (b : Nat), i + n_i = nC (I 10) - 1 → (b = fo (bs1 (pwc (I 10) (I 14))) i 0) → (b ≤ i) → V K 4 (MA g) H 0 0 Qf 9 [(0, .ref (g 0)), (1, .ref (g 14)), (2, .int (nI b)), (3, .int (nI (i + 1)))] [] := by
    intro n_i
    induction n_i with
    | zero =>
      intro i b hi hb hbi
      obtain rfl : i = nC (I 10) - 1 := by omega
      refine vv_iload_n X dX2_bestIn_9 rfl 3 rfl ?_
      refine vv_aload_n X dX2_bestIn_10 rfl 0 rfl ?_
      refine vv_callVp X (mX2_cellCount (kL K) D g x (va_up I 24 d_1) (va_up J 25 p_2) (I 10) rfl hP) q3172 q3174 qs84 q144 q3175 nX2_cellCount ⟨(Nat.le_of_ble_eq_true rfl), (Nat.le_of_ble_eq_true rfl)⟩ dX2_bestIn_11 rfl (Nat.le_of_ble_eq_true rfl) (recv X hM.1 CL_X2) hM ⟨(Nat.le_of_ble_eq_true rfl), (Nat.le_of_ble_eq_true rfl)⟩ ?_
      refine vn_ge (tgt := 45) X (by omega) (by omega) dX2_bestIn_14 (by decide) (fun c_14 => ?_) (fun c_14 => ?_)
      · exact hx_4 b hb hbi
      · exact absurd c_14 (by omega)
    | succ n_i ihi =>
      intro i b hi hb hbi
      refine vv_iload_n X dX2_bestIn_9 rfl 3 rfl ?_
      refine vv_aload_n X dX2_bestIn_10 rfl 0 rfl ?_
      refine vv_callVp X (mX2_cellCount (kL K) D g x (va_up I 24 d_1) (va_up J 25 p_2) (I 10) rfl hP) q3172 q3174 qs84 q144 q3175 nX2_cellCount ⟨(Nat.le_of_ble_eq_true rfl), (Nat.le_of_ble_eq_true rfl)⟩ dX2_bestIn_11 rfl (Nat.le_of_ble_eq_true rfl) (recv X hM.1 CL_X2) hM ⟨(Nat.le_of_ble_eq_true rfl), (Nat.le_of_ble_eq_true rfl)⟩ ?_
      refine vn_ge (tgt := 45) X (by omega) (by omega) dX2_bestIn_14 (by decide) (fun c_14 => ?_) (fun c_14 => ?_)
      · exact absurd hi (by omega)
      · refine vv_aload_n X dX2_bestIn_17 rfl 0 rfl ?_
        refine mg25 X rfl hM dX2_bestIn_18 ?_
        refine vv_iload_n X dX2_bestIn_21 rfl 3 rfl ?_
        refine vv_lald X hM.a25 (i + 1) (by omega) (by decide) rfl dX2_bestIn_22 ?_
        refine vv_aload_n X dX2_bestIn_23 rfl 0 rfl ?_
        refine mg25 X rfl hM dX2_bestIn_24 ?_
        refine vv_iload_n X dX2_bestIn_27 rfl 2 rfl ?_
        refine vv_lald X hM.a25 (b) (by omega) (by decide) rfl dX2_bestIn_28 ?_
        refine vv_lcmp X dX2_bestIn_29 ?_
        refine vz_le (tgt := 37) X dX2_bestIn_30 (by decide) (fun c_30 => ?_) (fun c_30 => ?_)
        · refine vv_iload_n X dX2_bestIn_37 rfl 2 rfl ?_
          refine vv_istore_n (lv' := [(2, .int (nI b)), (0, .ref (g 0)), (1, .ref (g 14)), (3, .int (nI (i + 1)))]) X dX2_bestIn_38 rfl (by decide) rfl ?_
          refine vv_iinc (v := nI ((i + 1) + 1)) (lv' := [(3, .int (nI ((i + 1) + 1))), (2, .int (nI b)), (0, .ref (g 0)), (1, .ref (g 14))]) X dX2_bestIn_39 (k := 3) rfl (nI_add _ 1) (by decide) rfl ?_
          refine vv_goto (tgt := 9) X dX2_bestIn_42 (by decide) ?_
          refine vv_sub [2, 3, 1, 0] rfl ?_
          exact ihi (i + 1) b (by omega) (by
              have c : p_2 (i + 1) ≤ p_2 b := c_30
              rw [hp_3 (i + 1) (by omega), hp_3 b (by omega)] at c
              subst hb
              exact (if_neg (Int64.not_lt.mpr c)).symm) (by omega)
        · refine vv_iload_n X dX2_bestIn_33 rfl 3 rfl ?_
          refine vv_goto (tgt := 38) X dX2_bestIn_34 (by decide) ?_
          refine vv_istore_n (lv' := [(2, .int (nI (i + 1))), (0, .ref (g 0)), (1, .ref (g 14)), (3, .int (nI (i + 1)))]) X dX2_bestIn_38 rfl (by decide) rfl ?_
          refine vv_iinc (v := nI ((i + 1) + 1)) (lv' := [(3, .int (nI ((i + 1) + 1))), (2, .int (nI (i + 1))), (0, .ref (g 0)), (1, .ref (g 14))]) X dX2_bestIn_39 (k := 3) rfl (nI_add _ 1) (by decide) rfl ?_
          refine vv_goto (tgt := 9) X dX2_bestIn_42 (by decide) ?_
          refine vv_sub [2, 3, 1, 0] rfl ?_
          exact ihi (i + 1) (i + 1) (by omega) (by
              have c : p_2 b < p_2 (i + 1) := c_30
              rw [hp_3 (i + 1) (by omega), hp_3 b (by omega)] at c
              subst hb
              exact (if_pos c).symm) (by omega)
  refine vv_sub [2, 3, 1, 0] rfl ?_
  exact hl_5 (nC (I 10) - 1) 0 0 (by omega) (rfl) (Nat.le_refl _)
theorem nX2_records : notMH yX2_records 1 := by decide +kernel
set_option maxHeartbeats 800000 in
theorem mX2_records12 (l : Launch) (D : DD) (g : Nat → Nat) (x : Nat → Int32) (I : Nat → Nat → Int32) (J : Nat → Nat → Int64) (P : Nat → Int32) (hIP : I 10 = P) (S : Nat → Int32) (hIS : I 12 = S) (hg : MG g) (r : Nat → Nat → Int32) (hC : VC P) (hS : VS S) (hr : (x 21 = -1 ∧ ∀ m t, r m t = rawA P S m t) ∨ ∃ c p, x 21 = nI c ∧ c < nC P ∧ x 22 = nI p ∧ 2 ≤ p ∧ p ≤ 99 ∧ ∀ m t, r m t = rawP P c p m t) : Ct l yX2_records cX2_records 4 none { frames := 6, cells := 0, slots := 0, locals := 147 } D [.ref (g 0), .ref (g 12)] (fun H => MR D g x I J H) (MA g) (fun v H H1 => v = none ∧ ∃ R, MR D g x (va_up (va_up I 12 (rcd P r S)) 23 R) J H1) := by
  refine Ct.of (by decide +kernel) (Nat.le_of_ble_eq_true rfl) (fun K Qf hkl X hM hQ => ?_)
  subst hkl
  subst hIP
  subst hIS
  have hP := hC.v
  have l2 := hP.l2
  have l4 := hP.l4
  refine vv_sub (lv' := [(0, .ref (g 0)), (1, .ref (g 12))]) [0, 1] rfl ?_
  refine vv_aload_n X dX2_records_0 rfl 1 rfl ?_
  refine vv_iconst (v := nI 0) X dX2_records_1 (by decide) ?_
  refine vv_iconst (v := nI 0) X dX2_records_2 (by decide) ?_
  refine ms12 X hM hg (0) (by omega) rfl (Or.inl (MA.in (by decide))) dX2_records_3 (fun H hM => ?_)
  refine vv_iconst (v := nI 0) X dX2_records_4 (by decide) ?_
  refine vv_istore_n (lv' := [(2, .int (nI 0)), (0, .ref (g 0)), (1, .ref (g 12))]) X dX2_records_5 rfl (by decide) rfl ?_
  have hx_1 : ∀ (H : Heap) (R : Nat → Int32) (hM : MR D g x (va_up (va_up I 12 (rcp (I 10) r (I 12) (nM (I 10)) 0)) 23 R) J H), V K 4 (MA g) H 0 0 Qf 92 [(0, .ref (g 0)), (1, .ref (g 12)), (2, .int (nI (nM (I 10))))] [] := by
    intro H R hM
    exact vv_vret X hQ dX2_records_92 (Nat.le_refl _) (Nat.le_refl _) (⟨rfl, _, hM⟩)
  have hl_2 : ∀ (n_m m : Nat) (H : Heap) (R : Nat → Int32), m + n_m = nM (I 10) → (MR D g x (va_up (va_up I 12 (rcp (I 10) r (I 12) m 0)) 23 R) J H) → V K 4 (MA g) H 0 0 Qf 6 [(0, .ref (g 0)), (1, .ref (g 12)), (2, .int (nI m))] [] := by
    intro n_m
    induction n_m with
    | zero =>
      intro m H R hm hM
      obtain rfl : m = nM (I 10) := by omega
      refine vv_iload_n X dX2_records_6 rfl 2 rfl ?_
      refine vv_aload_n X dX2_records_7 rfl 0 rfl ?_
      refine mg10 X rfl hM dX2_records_8 ?_
      refine vv_iconst (v := nI 4) X dX2_records_11 (by decide) ?_
      refine vv_iald X hM.a10 (4) (by omega) (by decide) rfl dX2_records_12 ?_
      refine vv_eqi hP.e4 ?_
      refine vn_ge (tgt := 92) X (by omega) (by omega) dX2_records_13 (by decide) (fun c_13 => ?_) (fun c_13 => ?_)
      · exact hx_1 H R hM
      · exact absurd c_13 (by omega)
    | succ n_m ihm =>
      intro m H R hm hM
      refine vv_iload_n X dX2_records_6 rfl 2 rfl ?_
      refine vv_aload_n X dX2_records_7 rfl 0 rfl ?_
      refine mg10 X rfl hM dX2_records_8 ?_
      refine vv_iconst (v := nI 4) X dX2_records_11 (by decide) ?_
      refine vv_iald X hM.a10 (4) (by omega) (by decide) rfl dX2_records_12 ?_
      refine vv_eqi hP.e4 ?_
      refine vn_ge (tgt := 92) X (by omega) (by omega) dX2_records_13 (by decide) (fun c_13 => ?_) (fun c_13 => ?_)
      · exact absurd hm (by omega)
      · refine vv_iconst (v := nI 0) X dX2_records_16 (by decide) ?_
        refine vv_istore_n (lv' := [(3, .int (nI 0)), (0, .ref (g 0)), (1, .ref (g 12)), (2, .int (nI m))]) X dX2_records_17 rfl (by decide) rfl ?_
        have hx_3 : ∀ (H : Heap) (hM : MR D g x (va_up (va_up I 12 (rcp (I 10) r (I 12) m 0)) 23 (rz R (r m) (nT (I 10)))) J H), V K 4 (MA g) H 0 0 Qf 47 [(0, .ref (g 0)), (1, .ref (g 12)), (2, .int (nI m)), (3, .int (nI (nT (I 10))))] [] := by
          intro H hM
          refine vv_iconst (v := nI 0) X dX2_records_47 (by decide) ?_
          refine vv_istore_n (lv' := [(3, .int (nI 0)), (0, .ref (g 0)), (1, .ref (g 12)), (2, .int (nI m))]) X dX2_records_48 rfl (by decide) rfl ?_
          have hx_4 : ∀ (H : Heap) (hM : MR D g x (va_up (va_up I 12 (rcp (I 10) r (I 12) m (nT (I 10)))) 23 (rz R (r m) (nT (I 10)))) J H), V K 4 (MA g) H 0 0 Qf 86 [(0, .ref (g 0)), (1, .ref (g 12)), (2, .int (nI m)), (3, .int (nI (nT (I 10))))] [] := by
            intro H hM
            refine vv_iinc (v := nI (m + 1)) (lv' := [(2, .int (nI (m + 1))), (0, .ref (g 0)), (1, .ref (g 12)), (3, .int (nI (nT (I 10))))]) X dX2_records_86 (k := 2) rfl (nI_add _ 1) (by decide) rfl ?_
            refine vv_goto (tgt := 6) X dX2_records_89 (by decide) ?_
            refine vv_sub [1, 2, 0] rfl ?_
            exact ihm (m + 1) H (rz R (r m) (nT (I 10))) (by omega) (by rw [← rcp_n]; exact hM)
          have hl_5 : ∀ (n_t t : Nat) (H : Heap), t + n_t = nT (I 10) → (MR D g x (va_up (va_up I 12 (rcp (I 10) r (I 12) m t)) 23 (rz R (r m) (nT (I 10)))) J H) → V K 4 (MA g) H 0 0 Qf 49 [(0, .ref (g 0)), (1, .ref (g 12)), (2, .int (nI m)), (3, .int (nI t))] [] := by
            intro n_t
            induction n_t with
            | zero =>
              intro t H ht hM
              obtain rfl : t = nT (I 10) := by omega
              refine vv_iload_n X dX2_records_49 rfl 3 rfl ?_
              refine vv_aload_n X dX2_records_50 rfl 0 rfl ?_
              refine mg10 X rfl hM dX2_records_51 ?_
              refine vv_iconst (v := nI 2) X dX2_records_54 (by decide) ?_
              refine vv_iald X hM.a10 (2) (by omega) (by decide) rfl dX2_records_55 ?_
              refine vv_eqi hP.e2 ?_
              refine vn_ge (tgt := 86) X (by omega) (by omega) dX2_records_56 (by decide) (fun c_56 => ?_) (fun c_56 => ?_)
              · exact hx_4 H hM
              · exact absurd c_56 (by omega)
            | succ n_t iht =>
              intro t H ht hM
              refine vv_iload_n X dX2_records_49 rfl 3 rfl ?_
              refine vv_aload_n X dX2_records_50 rfl 0 rfl ?_
              refine mg10 X rfl hM dX2_records_51 ?_
              refine vv_iconst (v := nI 2) X dX2_records_54 (by decide) ?_
              refine vv_iald X hM.a10 (2) (by omega) (by decide) rfl dX2_records_55 ?_
              refine vv_eqi hP.e2 ?_
              refine vn_ge (tgt := 86) X (by omega) (by omega) dX2_records_56 (by decide) (fun c_56 => ?_) (fun c_56 => ?_)
              · exact absurd ht (by omega)
              · refine vv_aload_n X dX2_records_59 rfl 1 rfl ?_
                refine vv_bipush (v := nI 55) X dX2_records_60 (by decide) ?_
                refine vv_sipush (v := nI 200) X dX2_records_62 (by decide) ?_
                refine vv_iload_n X dX2_records_65 rfl 2 rfl ?_
                refine vn_mul X dX2_records_66 ?_
                refine vn_add X dX2_records_67 ?_
                refine vv_iload_n X dX2_records_68 rfl 3 rfl ?_
                refine vn_add X dX2_records_69 ?_
                refine vv_aload_n X dX2_records_70 rfl 0 rfl ?_
                refine vv_aload_n X dX2_records_71 rfl 0 rfl ?_
                refine vv_iload_n X dX2_records_72 rfl 3 rfl ?_
                refine vv_callVp X (mX2_filtered (kL K) D g x (va_up (va_up I 12 (rcp (I 10) r (I 12) m t)) 23 (rz R (r m) (nT (I 10)))) J (I 10) rfl t hP (by omega)) q3218 q3220 qs94 q144 q3221 nX2_filtered ⟨(Nat.le_of_ble_eq_true rfl), (Nat.le_of_ble_eq_true rfl)⟩ dX2_records_73 rfl (Nat.le_of_ble_eq_true rfl) (recv X hM.1 CL_X2) hM ⟨(Nat.le_of_ble_eq_true rfl), (Nat.le_of_ble_eq_true rfl)⟩ ?_
                refine vv_callVp X (mX2_bounded (kL K) D g x (va_up (va_up I 12 (rcp (I 10) r (I 12) m t)) 23 (rz R (r m) (nT (I 10)))) J (I 10) rfl (flt (I 10) (rz R (r m) (nT (I 10))) t) hP) q3222 q3224 qs95 q144 q3225 nX2_bounded ⟨(Nat.le_of_ble_eq_true rfl), (Nat.le_of_ble_eq_true rfl)⟩ dX2_records_76 rfl (Nat.le_of_ble_eq_true rfl) (recv X hM.1 CL_X2) hM ⟨(Nat.le_of_ble_eq_true rfl), (Nat.le_of_ble_eq_true rfl)⟩ ?_
                refine ms12 X hM hg ((55 + (200 * m)) + t) (by omega) rfl (Or.inl (MA.in (by decide))) dX2_records_79 (fun H hM => ?_)
                rw [up_sw (by decide)] at hM
                refine vv_iinc (v := nI (t + 1)) (lv' := [(3, .int (nI (t + 1))), (0, .ref (g 0)), (1, .ref (g 12)), (2, .int (nI m))]) X dX2_records_80 (k := 3) rfl (nI_add _ 1) (by decide) rfl ?_
                refine vv_goto (tgt := 49) X dX2_records_83 (by decide) ?_
                refine vv_sub [1, 2, 3, 0] rfl ?_
                exact iht (t + 1) H (by omega) (by rw [← rcp_s (n := t) (by omega) l2 (v := bnd (I 10) (flt (I 10) (rz R (r m) (nT (I 10))) t)) (by rw [flt_congr (fun i hi => rz_in (by omega))])]; exact hM)
          refine vv_sub [1, 2, 3, 0] rfl ?_
          exact hl_5 (nT (I 10)) 0 H (by omega) (hM)
        have hl_6 : ∀ (n_t t : Nat) (H : Heap), t + n_t = nT (I 10) → (MR D g x (va_up (va_up I 12 (rcp (I 10) r (I 12) m 0)) 23 (rz R (r m) t)) J H) → V K 4 (MA g) H 0 0 Qf 18 [(0, .ref (g 0)), (1, .ref (g 12)), (2, .int (nI m)), (3, .int (nI t))] [] := by
          intro n_t
          induction n_t with
          | zero =>
            intro t H ht hM
            obtain rfl : t = nT (I 10) := by omega
            refine vv_iload_n X dX2_records_18 rfl 3 rfl ?_
            refine vv_aload_n X dX2_records_19 rfl 0 rfl ?_
            refine mg10 X rfl hM dX2_records_20 ?_
            refine vv_iconst (v := nI 2) X dX2_records_23 (by decide) ?_
            refine vv_iald X hM.a10 (2) (by omega) (by decide) rfl dX2_records_24 ?_
            refine vv_eqi hP.e2 ?_
            refine vn_ge (tgt := 47) X (by omega) (by omega) dX2_records_25 (by decide) (fun c_25 => ?_) (fun c_25 => ?_)
            · exact hx_3 H hM
            · exact absurd c_25 (by omega)
          | succ n_t iht =>
            intro t H ht hM
            refine vv_iload_n X dX2_records_18 rfl 3 rfl ?_
            refine vv_aload_n X dX2_records_19 rfl 0 rfl ?_
            refine mg10 X rfl hM dX2_records_20 ?_
            refine vv_iconst (v := nI 2) X dX2_records_23 (by decide) ?_
            refine vv_iald X hM.a10 (2) (by omega) (by decide) rfl dX2_records_24 ?_
            refine vv_eqi hP.e2 ?_
            refine vn_ge (tgt := 47) X (by omega) (by omega) dX2_records_25 (by decide) (fun c_25 => ?_) (fun c_25 => ?_)
            · exact absurd ht (by omega)
            · refine vv_aload_n X dX2_records_28 rfl 0 rfl ?_
              refine mg23 X rfl hM dX2_records_29 ?_
              refine vv_iload_n X dX2_records_32 rfl 3 rfl ?_
              refine vv_aload_n X dX2_records_33 rfl 0 rfl ?_
              refine vv_aload_n X dX2_records_34 rfl 1 rfl ?_
              refine vv_iload_n X dX2_records_35 rfl 2 rfl ?_
              refine vv_iload_n X dX2_records_36 rfl 3 rfl ?_
              refine vv_callVp X (mX2_rawAt (kL K) D g x (va_up (va_up I 12 (rcp (I 10) r (I 12) m 0)) 23 (rz R (r m) t)) J 12 (I 10) rfl (rcp (I 10) r (I 12) m 0) rfl m t (r m t) (fun h => h.a12) hC (lowS.rcp.vs hS) (by omega) (by omega) (hr.elim (fun h => Or.inl ⟨h.1, (h.2 m t).trans (lowS.rcp.raw hP m t).symm⟩) (fun ⟨c, p, h1, h2, h3, h4, h5, h6⟩ => Or.inr ⟨c, p, h1, h2, h3, h4, h5, h6 m t⟩))) q3192 q3194 qs88 q144 q3195 nX2_rawAt ⟨(Nat.le_of_ble_eq_true rfl), (Nat.le_of_ble_eq_true rfl)⟩ dX2_records_37 rfl (Nat.le_of_ble_eq_true rfl) (recv X hM.1 CL_X2) hM ⟨(Nat.le_of_ble_eq_true rfl), (Nat.le_of_ble_eq_true rfl)⟩ ?_
              refine ms23 X hM hg (t) (by omega) rfl (Or.inl (MA.in (by decide))) dX2_records_40 (fun H hM => ?_)
              rw [up_up] at hM
              refine vv_iinc (v := nI (t + 1)) (lv' := [(3, .int (nI (t + 1))), (0, .ref (g 0)), (1, .ref (g 12)), (2, .int (nI m))]) X dX2_records_41 (k := 3) rfl (nI_add _ 1) (by decide) rfl ?_
              refine vv_goto (tgt := 18) X dX2_records_44 (by decide) ?_
              refine vv_sub [1, 2, 3, 0] rfl ?_
              exact iht (t + 1) H (by omega) (by rw [← rz_s (f := R) (g := r m) (n := t) (v := r m t) rfl]; exact hM)
        refine vv_sub [1, 2, 3, 0] rfl ?_
        exact hl_6 (nT (I 10)) 0 H (by omega) (by rw [rz_0]; exact hM)
  refine vv_sub [1, 2, 0] rfl ?_
  exact hl_2 (nM (I 10)) 0 H (I 23) (by omega) (by rw [← rcp_0, show va_up (va_up I 12 (va_up (I 12) 0 (nI 0))) 23 (I 23) = va_up I 12 (va_up (I 12) 0 (nI 0)) from up_same (va_up I 12 _) 23]; exact hM)
set_option maxHeartbeats 800000 in
theorem mX2_records14 (l : Launch) (D : DD) (g : Nat → Nat) (x : Nat → Int32) (I : Nat → Nat → Int32) (J : Nat → Nat → Int64) (P : Nat → Int32) (hIP : I 10 = P) (S : Nat → Int32) (hIS : I 14 = S) (hg : MG g) (r : Nat → Nat → Int32) (hC : VC P) (hS : VS S) (hr : (x 21 = -1 ∧ ∀ m t, r m t = rawA P S m t) ∨ ∃ c p, x 21 = nI c ∧ c < nC P ∧ x 22 = nI p ∧ 2 ≤ p ∧ p ≤ 99 ∧ ∀ m t, r m t = rawP P c p m t) : Ct l yX2_records cX2_records 4 none { frames := 6, cells := 0, slots := 0, locals := 147 } D [.ref (g 0), .ref (g 14)] (fun H => MR D g x I J H) (MA g) (fun v H H1 => v = none ∧ ∃ R, MR D g x (va_up (va_up I 14 (rcd P r S)) 23 R) J H1) := by
  refine Ct.of (by decide +kernel) (Nat.le_of_ble_eq_true rfl) (fun K Qf hkl X hM hQ => ?_)
  subst hkl
  subst hIP
  subst hIS
  have hP := hC.v
  have l2 := hP.l2
  have l4 := hP.l4
  refine vv_sub (lv' := [(0, .ref (g 0)), (1, .ref (g 14))]) [0, 1] rfl ?_
  refine vv_aload_n X dX2_records_0 rfl 1 rfl ?_
  refine vv_iconst (v := nI 0) X dX2_records_1 (by decide) ?_
  refine vv_iconst (v := nI 0) X dX2_records_2 (by decide) ?_
  refine ms14 X hM hg (0) (by omega) rfl (Or.inl (MA.in (by decide))) dX2_records_3 (fun H hM => ?_)
  refine vv_iconst (v := nI 0) X dX2_records_4 (by decide) ?_
  refine vv_istore_n (lv' := [(2, .int (nI 0)), (0, .ref (g 0)), (1, .ref (g 14))]) X dX2_records_5 rfl (by decide) rfl ?_
  have hx_1 : ∀ (H : Heap) (R : Nat → Int32) (hM : MR D g x (va_up (va_up I 14 (rcp (I 10) r (I 14) (nM (I 10)) 0)) 23 R) J H), V K 4 (MA g) H 0 0 Qf 92 [(0, .ref (g 0)), (1, .ref (g 14)), (2, .int (nI (nM (I 10))))] [] := by
    intro H R hM
    exact vv_vret X hQ dX2_records_92 (Nat.le_refl _) (Nat.le_refl _) (⟨rfl, _, hM⟩)
  have hl_2 : ∀ (n_m m : Nat) (H : Heap) (R : Nat → Int32), m + n_m = nM (I 10) → (MR D g x (va_up (va_up I 14 (rcp (I 10) r (I 14) m 0)) 23 R) J H) → V K 4 (MA g) H 0 0 Qf 6 [(0, .ref (g 0)), (1, .ref (g 14)), (2, .int (nI m))] [] := by
    intro n_m
    induction n_m with
    | zero =>
      intro m H R hm hM
      obtain rfl : m = nM (I 10) := by omega
      refine vv_iload_n X dX2_records_6 rfl 2 rfl ?_
      refine vv_aload_n X dX2_records_7 rfl 0 rfl ?_
      refine mg10 X rfl hM dX2_records_8 ?_
      refine vv_iconst (v := nI 4) X dX2_records_11 (by decide) ?_
      refine vv_iald X hM.a10 (4) (by omega) (by decide) rfl dX2_records_12 ?_
      refine vv_eqi hP.e4 ?_
      refine vn_ge (tgt := 92) X (by omega) (by omega) dX2_records_13 (by decide) (fun c_13 => ?_) (fun c_13 => ?_)
      · exact hx_1 H R hM
      · exact absurd c_13 (by omega)
    | succ n_m ihm =>
      intro m H R hm hM
      refine vv_iload_n X dX2_records_6 rfl 2 rfl ?_
      refine vv_aload_n X dX2_records_7 rfl 0 rfl ?_
      refine mg10 X rfl hM dX2_records_8 ?_
      refine vv_iconst (v := nI 4) X dX2_records_11 (by decide) ?_
      refine vv_iald X hM.a10 (4) (by omega) (by decide) rfl dX2_records_12 ?_
      refine vv_eqi hP.e4 ?_
      refine vn_ge (tgt := 92) X (by omega) (by omega) dX2_records_13 (by decide) (fun c_13 => ?_) (fun c_13 => ?_)
      · exact absurd hm (by omega)
      · refine vv_iconst (v := nI 0) X dX2_records_16 (by decide) ?_
        refine vv_istore_n (lv' := [(3, .int (nI 0)), (0, .ref (g 0)), (1, .ref (g 14)), (2, .int (nI m))]) X dX2_records_17 rfl (by decide) rfl ?_
        have hx_3 : ∀ (H : Heap) (hM : MR D g x (va_up (va_up I 14 (rcp (I 10) r (I 14) m 0)) 23 (rz R (r m) (nT (I 10)))) J H), V K 4 (MA g) H 0 0 Qf 47 [(0, .ref (g 0)), (1, .ref (g 14)), (2, .int (nI m)), (3, .int (nI (nT (I 10))))] [] := by
          intro H hM
          refine vv_iconst (v := nI 0) X dX2_records_47 (by decide) ?_
          refine vv_istore_n (lv' := [(3, .int (nI 0)), (0, .ref (g 0)), (1, .ref (g 14)), (2, .int (nI m))]) X dX2_records_48 rfl (by decide) rfl ?_
          have hx_4 : ∀ (H : Heap) (hM : MR D g x (va_up (va_up I 14 (rcp (I 10) r (I 14) m (nT (I 10)))) 23 (rz R (r m) (nT (I 10)))) J H), V K 4 (MA g) H 0 0 Qf 86 [(0, .ref (g 0)), (1, .ref (g 14)), (2, .int (nI m)), (3, .int (nI (nT (I 10))))] [] := by
            intro H hM
            refine vv_iinc (v := nI (m + 1)) (lv' := [(2, .int (nI (m + 1))), (0, .ref (g 0)), (1, .ref (g 14)), (3, .int (nI (nT (I 10))))]) X dX2_records_86 (k := 2) rfl (nI_add _ 1) (by decide) rfl ?_
            refine vv_goto (tgt := 6) X dX2_records_89 (by decide) ?_
            refine vv_sub [1, 2, 0] rfl ?_
            exact ihm (m + 1) H (rz R (r m) (nT (I 10))) (by omega) (by rw [← rcp_n]; exact hM)
          have hl_5 : ∀ (n_t t : Nat) (H : Heap), t + n_t = nT (I 10) → (MR D g x (va_up (va_up I 14 (rcp (I 10) r (I 14) m t)) 23 (rz R (r m) (nT (I 10)))) J H) → V K 4 (MA g) H 0 0 Qf 49 [(0, .ref (g 0)), (1, .ref (g 14)), (2, .int (nI m)), (3, .int (nI t))] [] := by
            intro n_t
            induction n_t with
            | zero =>
              intro t H ht hM
              obtain rfl : t = nT (I 10) := by omega
              refine vv_iload_n X dX2_records_49 rfl 3 rfl ?_
              refine vv_aload_n X dX2_records_50 rfl 0 rfl ?_
              refine mg10 X rfl hM dX2_records_51 ?_
              refine vv_iconst (v := nI 2) X dX2_records_54 (by decide) ?_
              refine vv_iald X hM.a10 (2) (by omega) (by decide) rfl dX2_records_55 ?_
              refine vv_eqi hP.e2 ?_
              refine vn_ge (tgt := 86) X (by omega) (by omega) dX2_records_56 (by decide) (fun c_56 => ?_) (fun c_56 => ?_)
              · exact hx_4 H hM
              · exact absurd c_56 (by omega)
            | succ n_t iht =>
              intro t H ht hM
              refine vv_iload_n X dX2_records_49 rfl 3 rfl ?_
              refine vv_aload_n X dX2_records_50 rfl 0 rfl ?_
              refine mg10 X rfl hM dX2_records_51 ?_
              refine vv_iconst (v := nI 2) X dX2_records_54 (by decide) ?_
              refine vv_iald X hM.a10 (2) (by omega) (by decide) rfl dX2_records_55 ?_
              refine vv_eqi hP.e2 ?_
              refine vn_ge (tgt := 86) X (by omega) (by omega) dX2_records_56 (by decide) (fun c_56 => ?_) (fun c_56 => ?_)
              · exact absurd ht (by omega)
              · refine vv_aload_n X dX2_records_59 rfl 1 rfl ?_
                refine vv_bipush (v := nI 55) X dX2_records_60 (by decide) ?_
                refine vv_sipush (v := nI 200) X dX2_records_62 (by decide) ?_
                refine vv_iload_n X dX2_records_65 rfl 2 rfl ?_
                refine vn_mul X dX2_records_66 ?_
                refine vn_add X dX2_records_67 ?_
                refine vv_iload_n X dX2_records_68 rfl 3 rfl ?_
                refine vn_add X dX2_records_69 ?_
                refine vv_aload_n X dX2_records_70 rfl 0 rfl ?_
                refine vv_aload_n X dX2_records_71 rfl 0 rfl ?_
                refine vv_iload_n X dX2_records_72 rfl 3 rfl ?_
                refine vv_callVp X (mX2_filtered (kL K) D g x (va_up (va_up I 14 (rcp (I 10) r (I 14) m t)) 23 (rz R (r m) (nT (I 10)))) J (I 10) rfl t hP (by omega)) q3218 q3220 qs94 q144 q3221 nX2_filtered ⟨(Nat.le_of_ble_eq_true rfl), (Nat.le_of_ble_eq_true rfl)⟩ dX2_records_73 rfl (Nat.le_of_ble_eq_true rfl) (recv X hM.1 CL_X2) hM ⟨(Nat.le_of_ble_eq_true rfl), (Nat.le_of_ble_eq_true rfl)⟩ ?_
                refine vv_callVp X (mX2_bounded (kL K) D g x (va_up (va_up I 14 (rcp (I 10) r (I 14) m t)) 23 (rz R (r m) (nT (I 10)))) J (I 10) rfl (flt (I 10) (rz R (r m) (nT (I 10))) t) hP) q3222 q3224 qs95 q144 q3225 nX2_bounded ⟨(Nat.le_of_ble_eq_true rfl), (Nat.le_of_ble_eq_true rfl)⟩ dX2_records_76 rfl (Nat.le_of_ble_eq_true rfl) (recv X hM.1 CL_X2) hM ⟨(Nat.le_of_ble_eq_true rfl), (Nat.le_of_ble_eq_true rfl)⟩ ?_
                refine ms14 X hM hg ((55 + (200 * m)) + t) (by omega) rfl (Or.inl (MA.in (by decide))) dX2_records_79 (fun H hM => ?_)
                rw [up_sw (by decide)] at hM
                refine vv_iinc (v := nI (t + 1)) (lv' := [(3, .int (nI (t + 1))), (0, .ref (g 0)), (1, .ref (g 14)), (2, .int (nI m))]) X dX2_records_80 (k := 3) rfl (nI_add _ 1) (by decide) rfl ?_
                refine vv_goto (tgt := 49) X dX2_records_83 (by decide) ?_
                refine vv_sub [1, 2, 3, 0] rfl ?_
                exact iht (t + 1) H (by omega) (by rw [← rcp_s (n := t) (by omega) l2 (v := bnd (I 10) (flt (I 10) (rz R (r m) (nT (I 10))) t)) (by rw [flt_congr (fun i hi => rz_in (by omega))])]; exact hM)
          refine vv_sub [1, 2, 3, 0] rfl ?_
          exact hl_5 (nT (I 10)) 0 H (by omega) (hM)
        have hl_6 : ∀ (n_t t : Nat) (H : Heap), t + n_t = nT (I 10) → (MR D g x (va_up (va_up I 14 (rcp (I 10) r (I 14) m 0)) 23 (rz R (r m) t)) J H) → V K 4 (MA g) H 0 0 Qf 18 [(0, .ref (g 0)), (1, .ref (g 14)), (2, .int (nI m)), (3, .int (nI t))] [] := by
          intro n_t
          induction n_t with
          | zero =>
            intro t H ht hM
            obtain rfl : t = nT (I 10) := by omega
            refine vv_iload_n X dX2_records_18 rfl 3 rfl ?_
            refine vv_aload_n X dX2_records_19 rfl 0 rfl ?_
            refine mg10 X rfl hM dX2_records_20 ?_
            refine vv_iconst (v := nI 2) X dX2_records_23 (by decide) ?_
            refine vv_iald X hM.a10 (2) (by omega) (by decide) rfl dX2_records_24 ?_
            refine vv_eqi hP.e2 ?_
            refine vn_ge (tgt := 47) X (by omega) (by omega) dX2_records_25 (by decide) (fun c_25 => ?_) (fun c_25 => ?_)
            · exact hx_3 H hM
            · exact absurd c_25 (by omega)
          | succ n_t iht =>
            intro t H ht hM
            refine vv_iload_n X dX2_records_18 rfl 3 rfl ?_
            refine vv_aload_n X dX2_records_19 rfl 0 rfl ?_
            refine mg10 X rfl hM dX2_records_20 ?_
            refine vv_iconst (v := nI 2) X dX2_records_23 (by decide) ?_
            refine vv_iald X hM.a10 (2) (by omega) (by decide) rfl dX2_records_24 ?_
            refine vv_eqi hP.e2 ?_
            refine vn_ge (tgt := 47) X (by omega) (by omega) dX2_records_25 (by decide) (fun c_25 => ?_) (fun c_25 => ?_)
            · exact absurd ht (by omega)
            · refine vv_aload_n X dX2_records_28 rfl 0 rfl ?_
              refine mg23 X rfl hM dX2_records_29 ?_
              refine vv_iload_n X dX2_records_32 rfl 3 rfl ?_
              refine vv_aload_n X dX2_records_33 rfl 0 rfl ?_
              refine vv_aload_n X dX2_records_34 rfl 1 rfl ?_
              refine vv_iload_n X dX2_records_35 rfl 2 rfl ?_
              refine vv_iload_n X dX2_records_36 rfl 3 rfl ?_
              refine vv_callVp X (mX2_rawAt (kL K) D g x (va_up (va_up I 14 (rcp (I 10) r (I 14) m 0)) 23 (rz R (r m) t)) J 14 (I 10) rfl (rcp (I 10) r (I 14) m 0) rfl m t (r m t) (fun h => h.a14) hC (lowS.rcp.vs hS) (by omega) (by omega) (hr.elim (fun h => Or.inl ⟨h.1, (h.2 m t).trans (lowS.rcp.raw hP m t).symm⟩) (fun ⟨c, p, h1, h2, h3, h4, h5, h6⟩ => Or.inr ⟨c, p, h1, h2, h3, h4, h5, h6 m t⟩))) q3192 q3194 qs88 q144 q3195 nX2_rawAt ⟨(Nat.le_of_ble_eq_true rfl), (Nat.le_of_ble_eq_true rfl)⟩ dX2_records_37 rfl (Nat.le_of_ble_eq_true rfl) (recv X hM.1 CL_X2) hM ⟨(Nat.le_of_ble_eq_true rfl), (Nat.le_of_ble_eq_true rfl)⟩ ?_
              refine ms23 X hM hg (t) (by omega) rfl (Or.inl (MA.in (by decide))) dX2_records_40 (fun H hM => ?_)
              rw [up_up] at hM
              refine vv_iinc (v := nI (t + 1)) (lv' := [(3, .int (nI (t + 1))), (0, .ref (g 0)), (1, .ref (g 14)), (2, .int (nI m))]) X dX2_records_41 (k := 3) rfl (nI_add _ 1) (by decide) rfl ?_
              refine vv_goto (tgt := 18) X dX2_records_44 (by decide) ?_
              refine vv_sub [1, 2, 3, 0] rfl ?_
              exact iht (t + 1) H (by omega) (by rw [← rz_s (f := R) (g := r m) (n := t) (v := r m t) rfl]; exact hM)
        refine vv_sub [1, 2, 3, 0] rfl ?_
        exact hl_6 (nT (I 10)) 0 H (by omega) (by rw [rz_0]; exact hM)
  refine vv_sub [1, 2, 0] rfl ?_
  exact hl_2 (nM (I 10)) 0 H (I 23) (by omega) (by rw [← rcp_0, show va_up (va_up I 14 (va_up (I 14) 0 (nI 0))) 23 (I 23) = va_up I 14 (va_up (I 14) 0 (nI 0)) from up_same (va_up I 14 _) 23]; exact hM)
theorem nX2_recordsPoint : notMH yX2_recordsPoint 3 := by decide +kernel
set_option maxHeartbeats 800000 in
theorem mX2_recordsPoint (l : Launch) (D : DD) (g : Nat → Nat) (x : Nat → Int32) (I : Nat → Nat → Int32) (J : Nat → Nat → Int64) (P : Nat → Int32) (hIP : I 10 = P) (S : Nat → Int32) (hIS : I 14 = S) (hg : MG g) (c p : Nat) (hC : VC P) (hS : VS S) (h21 : x 21 = -1) (hc : c < nC P) (hp : 2 ≤ p ∧ p ≤ 99) : Ct l yX2_recordsPoint cX2_recordsPoint 4 none { frames := 7, cells := 0, slots := 0, locals := 170 } D [.ref (g 0), .ref (g 14), .int (nI c), .int (nI p)] (fun H => MR D g x I J H) (MA g) (fun v H H1 => v = none ∧ ∃ R, MR D g (va_up x 22 (nI p)) (va_up (va_up I 14 (rcd P (rawP P c p) S)) 23 R) J H1) := by
  refine Ct.of (by decide +kernel) (Nat.le_of_ble_eq_true rfl) (fun K Qf hkl X hM hQ => ?_)
  subst hkl
  subst hIP
  subst hIS
  have hx21 : va_up x 21 (-1) = x := by rw [← h21]; exact up_same x 21
  refine vv_sub (lv' := [(0, .ref (g 0)), (1, .ref (g 14)), (2, .int (nI c)), (3, .int (nI p))]) [0, 1, 2, 3] rfl ?_
  refine vv_aload_n X dX2_recordsPoint_0 rfl 0 rfl ?_
  refine vv_iload_n X dX2_recordsPoint_1 rfl 2 rfl ?_
  refine mp21 X rfl hM hg (Or.inl (MA.in (by decide))) dX2_recordsPoint_2 (fun H hM => ?_)
  refine vv_aload_n X dX2_recordsPoint_5 rfl 0 rfl ?_
  refine vv_iload_n X dX2_recordsPoint_6 rfl 3 rfl ?_
  refine mp22 X rfl hM hg (Or.inl (MA.in (by decide))) dX2_recordsPoint_7 (fun H hM => ?_)
  refine vv_aload_n X dX2_recordsPoint_10 rfl 0 rfl ?_
  refine vv_aload_n X dX2_recordsPoint_11 rfl 1 rfl ?_
  refine vv_callV X (mX2_records14 (kL K) D g (va_up (va_up x 21 (nI c)) 22 (nI p)) I J (I 10) rfl (I 14) rfl hg (rawP (I 10) c p) hC hS (Or.inr ⟨c, p, rfl, hc, rfl, hp.1, hp.2, fun _ _ => rfl⟩)) q3188 q3190 qs87 q144 q3191 nX2_records ⟨(Nat.le_of_ble_eq_true rfl), (Nat.le_of_ble_eq_true rfl)⟩ dX2_recordsPoint_12 rfl (Nat.le_of_ble_eq_true rfl) (recv X hM.1 CL_X2) hM  (fun _ z => Or.inl z) ⟨(Nat.le_of_ble_eq_true rfl), (Nat.le_of_ble_eq_true rfl)⟩ (fun v_ H hq hz hk => ?_)
  obtain ⟨rfl, R_1, hM⟩ := hq
  clear hz hk
  refine vv_aload_n X dX2_recordsPoint_15 rfl 0 rfl ?_
  refine vv_iconst (v := -1) X dX2_recordsPoint_16 (by decide) ?_
  refine mp21 X rfl hM hg (Or.inl (MA.in (by decide))) dX2_recordsPoint_17 (fun H hM => ?_)
  rw [up_sw (by decide)] at hM
  exact vv_vret X hQ dX2_recordsPoint_20 (Nat.le_refl _) (Nat.le_refl _) (by rw [hx21] at hM; exact ⟨rfl, _, hM⟩)
theorem nX2_copy : notMH yX2_copy 4 := by decide +kernel
set_option maxHeartbeats 800000 in
theorem mX2_copy (l : Launch) (D : DD) (pa pb n m u w : Nat) (fa fb : Nat → Int32) (hne : pa ≠ pb) (hn : n < 2 ^ 31) (hm : m < 2 ^ 31) (hu : u + 2455 ≤ n) (hw : w + 2455 ≤ m) : Ct l yX2_copy cX2_copy 5 none { frames := 1, cells := 0, slots := 0, locals := 12 } D [.ref pa, .int (nI u), .ref pb, .int (nI w)] (fun H => iA D H pa n fa ∧ iA D H pb m fb) (fun q => q = pb) (fun v H H1 => v = none ∧ H1.size = H.size ∧ iA D H1 pb m (va_cpy fa fb u w 2455)) := by
  refine Ct.of (by decide +kernel) (Nat.le_of_ble_eq_true rfl) (fun K Qf hkl X hM hQ => ?_)
  subst hkl
  obtain ⟨ha, hb⟩ := hM
  refine vv_sub (lv' := [(0, .ref pa), (1, .int (nI u)), (2, .ref pb), (3, .int (nI w))]) [0, 1, 2, 3] rfl ?_
  refine vv_iconst (v := nI 0) X dX2_copy_0 (by decide) ?_
  refine vv_istore (lv' := [(4, .int (nI 0)), (0, .ref pa), (1, .int (nI u)), (2, .ref pb), (3, .int (nI w))]) X dX2_copy_1 (by decide) rfl ?_
  have hl : ∀ (k i : Nat) (H : Heap), i + k = 2455 → H.size = (kS K).heap.size → iA D H pa n fa → iA D H pb m (va_cpy fa fb u w i) → V K 5 (fun q => q = pb) H 0 0 Qf 3 [(4, .int (nI i)), (0, .ref pa), (1, .int (nI u)), (2, .ref pb), (3, .int (nI w))] [] := by
    intro k
    induction k with
    | zero =>
      intro i H hi hz ha hb
      obtain rfl : i = 2455 := by omega
      refine vv_iload X dX2_copy_3 0 rfl ?_
      refine vv_sipush (v := nI 2455) X dX2_copy_5 (by decide) ?_
      refine vn_ge (tgt := 29) X (by omega) (by omega) dX2_copy_8 (by decide) (fun c => ?_) (fun c => ?_)
      · exact vv_vret X hQ dX2_copy_29 (Nat.le_refl _) (Nat.le_refl _) ⟨rfl, hz, hb⟩
      · exact absurd c (by omega)
    | succ k ih =>
      intro i H hi hz ha hb
      refine vv_iload X dX2_copy_3 0 rfl ?_
      refine vv_sipush (v := nI 2455) X dX2_copy_5 (by decide) ?_
      refine vn_ge (tgt := 29) X (by omega) (by omega) dX2_copy_8 (by decide) (fun c => ?_) (fun c => ?_)
      · exact absurd hi (by omega)
      · refine vv_aload_n X dX2_copy_11 rfl 3 rfl ?_
        refine vv_iload_n X dX2_copy_12 rfl 4 rfl ?_
        refine vv_iload X dX2_copy_13 0 rfl ?_
        refine vn_add X dX2_copy_15 ?_
        refine vv_aload_n X dX2_copy_16 rfl 1 rfl ?_
        refine vv_iload_n X dX2_copy_17 rfl 2 rfl ?_
        refine vv_iload X dX2_copy_18 0 rfl ?_
        refine vn_add X dX2_copy_20 ?_
        refine vv_iald X ha (u + i) (by omega) hn rfl dX2_copy_21 ?_
        refine vv_iast X hb (w + i) (by omega) hm rfl (Or.inl rfl) dX2_copy_22 (fun H1 hc hb1 => ?_)
        rw [cpy_s rfl] at hb1
        refine vv_iinc (v := nI (i + 1)) (lv' := [(4, .int (nI (i + 1))), (0, .ref pa), (1, .int (nI u)), (2, .ref pb), (3, .int (nI w))]) X dX2_copy_23 (k := 0) rfl (nI_add _ 1) (by decide) rfl ?_
        refine vv_goto (tgt := 3) X dX2_copy_26 (by decide) ?_
        exact ih (i + 1) H1 (by omega) (hc.1.trans hz) (hc.keep ha hne) hb1
  exact hl 2455 0 _ (by omega) rfl ha (by rw [cpy_0]; exact hb)
theorem nX2_remember : notMH yX2_remember 0 := by decide +kernel
set_option maxHeartbeats 800000 in
theorem mX2_remember (l : Launch) (D : DD) (g : Nat → Nat) (x : Nat → Int32) (I : Nat → Nat → Int32) (J : Nat → Nat → Int64) (S : Nat → Int32) (hIS : I 12 = S) (hg : MG g) (u : Nat) (hu : x 19 = nI u) (hu6 : u ≤ 6) : Ct l yX2_remember cX2_remember 2 none { frames := 2, cells := 0, slots := 0, locals := 36 } D [.ref (g 0)] (fun H => MR D g x I J H) (MA g) (fun v H H1 => v = none ∧ MR D g (va_up x 19 (nI (rmU u + 1))) (va_up I 15 (rmH u (I 15) S)) J H1) := by
  refine Ct.of (by decide +kernel) (Nat.le_of_ble_eq_true rfl) (fun K Qf hkl X hM hQ => ?_)
  subst hkl
  subst hIS
  refine vv_sub (lv' := [(0, .ref (g 0))]) [0] rfl ?_
  refine vv_aload_n X dX2_remember_0 rfl 0 rfl ?_
  refine mg19 X rfl hM dX2_remember_1 ?_
  refine vv_eqi (hu) ?_
  refine vv_bipush (v := nI 6) X dX2_remember_4 (by decide) ?_
  refine vn_ne (tgt := 54) X (by omega) (by omega) dX2_remember_6 (by decide) (fun c_6 => ?_) (fun c_6 => ?_)
  · refine vv_aload_n X dX2_remember_54 rfl 0 rfl ?_
    refine mg12 X rfl hM dX2_remember_55 ?_
    refine vv_iconst (v := nI 0) X dX2_remember_58 (by decide) ?_
    refine vv_aload_n X dX2_remember_59 rfl 0 rfl ?_
    refine mg15 X rfl hM dX2_remember_60 ?_
    refine vv_sipush (v := nI 2455) X dX2_remember_63 (by decide) ?_
    refine vv_aload_n X dX2_remember_66 rfl 0 rfl ?_
    refine mg19 X rfl hM dX2_remember_67 ?_
    refine vv_eqi (hu) ?_
    refine vn_mul X dX2_remember_70 ?_
    refine vv_callS X (mX2_copy (kL K) D (g 12) (g 15) 2455 14730 0 (2455 * u) (I 12) (I 15) (hg.ne (by decide) (by decide) (by decide)) (by decide) (by decide) (by omega) (by omega)) q3169 q3170 q144 q3171 nX2_copy ⟨(Nat.le_of_ble_eq_true rfl), (Nat.le_of_ble_eq_true rfl)⟩ dX2_remember_71 rfl (Nat.le_of_ble_eq_true rfl) ⟨hM.a12, hM.a15⟩  (fun _ z => Or.inl (z ▸ MA.in (by decide))) ⟨(Nat.le_of_ble_eq_true rfl), (Nat.le_of_ble_eq_true rfl)⟩ (fun v_ H hq hz hk => ?_)
    obtain ⟨rfl, hz1, ha⟩ := hq
    replace hM := hM.setI hg (k := 15) (n := 14730) (by decide) (Ch_of hz1 hk) ha
    clear hz hk hz1 ha
    refine vv_aload_n X dX2_remember_74 rfl 0 rfl ?_
    refine vv_dup X dX2_remember_75 rfl ?_
    refine mg19 X rfl hM dX2_remember_76 ?_
    refine vv_eqi (hu) ?_
    refine vv_iconst (v := nI 1) X dX2_remember_79 (by decide) ?_
    refine vn_add X dX2_remember_80 ?_
    refine mp19 X rfl hM hg (Or.inl (MA.in (by decide))) dX2_remember_81 (fun H hM => ?_)
    exact vv_vret X hQ dX2_remember_84 (Nat.le_refl _) (Nat.le_refl _) (by have e : rmU u = u := if_neg c_6; unfold rmH; rw [e, if_neg c_6]; exact ⟨rfl, hM⟩)
  · refine vv_sipush (v := nI 2455) X dX2_remember_9 (by decide) ?_
    refine vv_istore_n (lv' := [(1, .int (nI 2455)), (0, .ref (g 0))]) X dX2_remember_12 rfl (by decide) rfl ?_
    have hx_1 : ∀ (H : Heap) (hM : MR D g x (va_up I 15 (rmS (I 15) 12275)) J H), V K 2 (MA g) H 0 0 Qf 44 [(0, .ref (g 0)), (1, .int (nI (2455 + 12275)))] [] := by
      intro H hM
      refine vv_aload_n X dX2_remember_44 rfl 0 rfl ?_
      refine vv_dup X dX2_remember_45 rfl ?_
      refine mg19 X rfl hM dX2_remember_46 ?_
      refine vv_eqi (hu) ?_
      refine vv_iconst (v := nI 1) X dX2_remember_49 (by decide) ?_
      refine vn_sub X (by omega) dX2_remember_50 ?_
      refine mp19 X rfl hM hg (Or.inl (MA.in (by decide))) dX2_remember_51 (fun H hM => ?_)
      refine vv_aload_n X dX2_remember_54 rfl 0 rfl ?_
      refine mg12 X rfl hM dX2_remember_55 ?_
      refine vv_iconst (v := nI 0) X dX2_remember_58 (by decide) ?_
      refine vv_aload_n X dX2_remember_59 rfl 0 rfl ?_
      refine mg15 X rfl hM dX2_remember_60 ?_
      refine vv_sipush (v := nI 2455) X dX2_remember_63 (by decide) ?_
      refine vv_aload_n X dX2_remember_66 rfl 0 rfl ?_
      refine mg19 X rfl hM dX2_remember_67 ?_
      refine vn_mul X dX2_remember_70 ?_
      refine vv_callS X (mX2_copy (kL K) D (g 12) (g 15) 2455 14730 0 (2455 * (u - 1)) (I 12) (rmS (I 15) 12275) (hg.ne (by decide) (by decide) (by decide)) (by decide) (by decide) (by omega) (by omega)) q3169 q3170 q144 q3171 nX2_copy ⟨(Nat.le_of_ble_eq_true rfl), (Nat.le_of_ble_eq_true rfl)⟩ dX2_remember_71 rfl (Nat.le_of_ble_eq_true rfl) ⟨hM.a12, hM.a15⟩  (fun _ z => Or.inl (z ▸ MA.in (by decide))) ⟨(Nat.le_of_ble_eq_true rfl), (Nat.le_of_ble_eq_true rfl)⟩ (fun v_ H hq hz hk => ?_)
      obtain ⟨rfl, hz1, ha⟩ := hq
      replace hM := hM.setI hg (k := 15) (n := 14730) (by decide) (Ch_of hz1 hk) ha
      clear hz hk hz1 ha
      rw [up_up] at hM
      refine vv_aload_n X dX2_remember_74 rfl 0 rfl ?_
      refine vv_dup X dX2_remember_75 rfl ?_
      refine mg19 X rfl hM dX2_remember_76 ?_
      refine vv_iconst (v := nI 1) X dX2_remember_79 (by decide) ?_
      refine vn_add X dX2_remember_80 ?_
      refine mp19 X rfl hM hg (Or.inl (MA.in (by decide))) dX2_remember_81 (fun H hM => ?_)
      rw [up_up] at hM
      exact vv_vret X hQ dX2_remember_84 (Nat.le_refl _) (Nat.le_refl _) (by subst c_6; exact ⟨rfl, hM⟩)
    have hl_2 : ∀ (n_i i : Nat) (H : Heap), i + n_i = 12275 → (MR D g x (va_up I 15 (rmS (I 15) i)) J H) → V K 2 (MA g) H 0 0 Qf 13 [(0, .ref (g 0)), (1, .int (nI (2455 + i)))] [] := by
      intro n_i
      induction n_i with
      | zero =>
        intro i H hi hM
        obtain rfl : i = 12275 := by omega
        refine vv_iload_n X dX2_remember_13 rfl 1 rfl ?_
        refine vv_aload_n X dX2_remember_14 rfl 0 rfl ?_
        refine mg15 X rfl hM dX2_remember_15 ?_
        refine vv_alen (ty := 0) X hM.a15 rfl dX2_remember_18 ?_
        refine vn_ge (tgt := 44) X (by omega) (by omega) dX2_remember_19 (by decide) (fun c_19 => ?_) (fun c_19 => ?_)
        · exact hx_1 H hM
        · exact absurd c_19 (by omega)
      | succ n_i ihi =>
        intro i H hi hM
        refine vv_iload_n X dX2_remember_13 rfl 1 rfl ?_
        refine vv_aload_n X dX2_remember_14 rfl 0 rfl ?_
        refine mg15 X rfl hM dX2_remember_15 ?_
        refine vv_alen (ty := 0) X hM.a15 rfl dX2_remember_18 ?_
        refine vn_ge (tgt := 44) X (by omega) (by omega) dX2_remember_19 (by decide) (fun c_19 => ?_) (fun c_19 => ?_)
        · exact absurd hi (by omega)
        · refine vv_aload_n X dX2_remember_22 rfl 0 rfl ?_
          refine mg15 X rfl hM dX2_remember_23 ?_
          refine vv_iload_n X dX2_remember_26 rfl 1 rfl ?_
          refine vv_sipush (v := nI 2455) X dX2_remember_27 (by decide) ?_
          refine vn_sub X (by omega) dX2_remember_30 ?_
          refine vv_eqi (show _ = nI i from congrArg nI (by omega)) ?_
          refine vv_aload_n X dX2_remember_31 rfl 0 rfl ?_
          refine mg15 X rfl hM dX2_remember_32 ?_
          refine vv_iload_n X dX2_remember_35 rfl 1 rfl ?_
          refine vv_iald X hM.a15 (2455 + i) (by omega) (by decide) rfl dX2_remember_36 ?_
          refine ms15 X hM hg (i) (by omega) rfl (Or.inl (MA.in (by decide))) dX2_remember_37 (fun H hM => ?_)
          rw [up_up] at hM
          refine vv_iinc (v := nI ((2455 + i) + 1)) (lv' := [(1, .int (nI ((2455 + i) + 1))), (0, .ref (g 0))]) X dX2_remember_38 (k := 1) rfl (nI_add _ 1) (by decide) rfl ?_
          refine vv_goto (tgt := 13) X dX2_remember_41 (by decide) ?_
          refine vv_sub [1, 0] rfl ?_
          exact ihi (i + 1) H (by omega) (by rw [← rmS_s (h := I 15) (n := i) (v := rmS (I 15) i (2455 + i)) (by unfold rmS; rw [if_neg (by omega)]; congr 1; omega)]; exact hM)
    refine vv_sub [1, 0] rfl ?_
    exact hl_2 (12275) 0 ((kS K).heap) (by omega) (by rw [show rmS (I 15) 0 = I 15 from by funext i; unfold rmS; rw [if_neg (by omega)], up_same]; exact hM)
theorem nX2_sets : notMH yX2_sets 2 := by decide +kernel
set_option maxHeartbeats 800000 in
theorem mX2_sets (l : Launch) (D : DD) (g : Nat → Nat) (x : Nat → Int32) (I : Nat → Nat → Int32) (J : Nat → Nat → Int64) (S : Nat → Int32) (hIS : I 12 = S) (hg : MG g) (u a : Nat) (b : Int32) (hu : x 19 = nI u) (hu6 : u ≤ 6) (ha : a < 2455) : Ct l yX2_sets cX2_sets 4 (some .int) { frames := 3, cells := 0, slots := 0, locals := 57 } D [.ref (g 0), .int (nI a), .int (b)] (fun H => MR D g x I J H) (MA g) (fun v H H1 => v = some (.int (S a)) ∧ MR D g (va_up x 19 (nI (rmU u + 1))) (va_up (va_up I 15 (rmH u (I 15) S)) 12 (va_up S a b)) J H1) := by
  refine Ct.of (by decide +kernel) (Nat.le_of_ble_eq_true rfl) (fun K Qf hkl X hM hQ => ?_)
  subst hkl
  subst hIS
  refine vv_sub (lv' := [(0, .ref (g 0)), (1, .int (nI a)), (2, .int (b))]) [0, 1, 2] rfl ?_
  refine vv_aload_n X dX2_sets_0 rfl 0 rfl ?_
  refine vv_callV X (mX2_remember (kL K) D g x I J (I 12) rfl hg u hu hu6) q3589 q3591 qs133 q144 q3592 nX2_remember ⟨(Nat.le_of_ble_eq_true rfl), (Nat.le_of_ble_eq_true rfl)⟩ dX2_sets_1 rfl (Nat.le_of_ble_eq_true rfl) (recv X hM.1 CL_X2) hM  (fun _ z => Or.inl z) ⟨(Nat.le_of_ble_eq_true rfl), (Nat.le_of_ble_eq_true rfl)⟩ (fun v_ H hq hz hk => ?_)
  obtain ⟨rfl, hM⟩ := hq
  clear hz hk
  refine vv_aload_n X dX2_sets_4 rfl 0 rfl ?_
  refine mg12 X rfl hM dX2_sets_5 ?_
  refine vv_iload_n X dX2_sets_8 rfl 1 rfl ?_
  refine vv_iald X hM.a12 (a) (by omega) (by decide) rfl dX2_sets_9 ?_
  refine vv_istore_n (lv' := [(3, .int (I 12 a)), (0, .ref (g 0)), (1, .int (nI a)), (2, .int (b))]) X dX2_sets_10 rfl (by decide) rfl ?_
  refine vv_aload_n X dX2_sets_11 rfl 1 rfl ?_
  refine mg12 X rfl hM dX2_sets_12 ?_
  refine vv_iload_n X dX2_sets_15 rfl 2 rfl ?_
  refine vv_iload_n X dX2_sets_16 rfl 3 rfl ?_
  refine ms12 X hM hg (a) (by omega) rfl (Or.inl (MA.in (by decide))) dX2_sets_17 (fun H hM => ?_)
  refine vv_iload_n X dX2_sets_18 rfl 0 rfl ?_
  exact vv_iret X hQ dX2_sets_19 (Nat.le_refl _) (Nat.le_refl _) (⟨rfl, hM⟩)
theorem nX2_blockOf : notMH yX2_blockOf 3 := by decide +kernel
set_option maxHeartbeats 800000 in
theorem mX2_blockOf (l : Launch) (D : DD) (g : Nat → Nat) (x : Nat → Int32) (I : Nat → Nat → Int32) (J : Nat → Nat → Int64) (P : Nat → Int32) (hIP : I 10 = P) (S : Nat → Int32) (hIS : I 12 = S) (hg : MG g) (c a n : Nat) (hP : VP P) (hS : VS S) (hT : ∀ c, c < nC P → ∀ m, m < nM P → I 17 (12 * c + m) = nI (dc P c m)) (hc : c < nC P) (ha : a < 1000) (hn : 1 ≤ n ∧ n < 1000) : Ct l yX2_blockOf cX2_blockOf 4 (some .long) { frames := 4, cells := 0, slots := 0, locals := 86 } D [.ref (g 0), .int (nI c), .int (nI a), .int (nI n)] (fun H => MR D g x I J H) (MA g) (fun v H H1 => v = some (.long (blk P S c a n)) ∧ ∃ d, MR D g x (va_up I 24 d) J H1) := by
  refine Ct.of (by decide +kernel) (Nat.le_of_ble_eq_true rfl) (fun K Qf hkl X hM hQ => ?_)
  subst hkl
  subst hIP
  subst hIS
  have l2 := hP.l2
  have hw : win (I 10) (I 12) (dc (I 10) c) ≤ 200 := Nat.le_trans (Nat.sub_le _ _) l2
  refine vv_sub (lv' := [(0, .ref (g 0)), (1, .int (nI c)), (2, .int (nI a)), (3, .int (nI n))]) [0, 1, 2, 3] rfl ?_
  refine vv_aload_n X dX2_blockOf_0 rfl 0 rfl ?_
  refine vv_iload_n X dX2_blockOf_1 rfl 1 rfl ?_
  refine vv_callV X (mX2_laysCell (kL K) D g x I J (I 10) rfl hg c hP hT (by omega)) q3324 q3326 qs104 q144 q3327 nX2_laysCell ⟨(Nat.le_of_ble_eq_true rfl), (Nat.le_of_ble_eq_true rfl)⟩ dX2_blockOf_2 rfl (Nat.le_of_ble_eq_true rfl) (recv X hM.1 CL_X2) hM  (fun _ z => Or.inl z) ⟨(Nat.le_of_ble_eq_true rfl), (Nat.le_of_ble_eq_true rfl)⟩ (fun v_ H hq hz hk => ?_)
  obtain ⟨rfl, d_1, hM, hd_2⟩ := hq
  clear hz hk
  refine vv_aload_n X dX2_blockOf_5 rfl 0 rfl ?_
  refine vv_aload_n X dX2_blockOf_6 rfl 0 rfl ?_
  refine mg12 X rfl hM dX2_blockOf_7 ?_
  refine vv_iload_n X dX2_blockOf_10 rfl 2 rfl ?_
  refine vv_aload_n X dX2_blockOf_11 rfl 0 rfl ?_
  refine vv_aload_n X dX2_blockOf_12 rfl 0 rfl ?_
  refine mg12 X rfl hM dX2_blockOf_13 ?_
  refine vv_callVp X (mX2_windowOf (kL K) D g x (va_up I 24 d_1) J 12 (I 10) rfl (I 12) rfl (dc (I 10) c) (fun h => h.a12) hP hd_2) q3328 q3330 qs105 q144 q3331 nX2_windowOf ⟨(Nat.le_of_ble_eq_true rfl), (Nat.le_of_ble_eq_true rfl)⟩ dX2_blockOf_16 rfl (Nat.le_of_ble_eq_true rfl) (recv X hM.1 CL_X2) hM ⟨(Nat.le_of_ble_eq_true rfl), (Nat.le_of_ble_eq_true rfl)⟩ ?_
  refine vv_iload_n X dX2_blockOf_19 rfl 2 rfl ?_
  refine vv_iload_n X dX2_blockOf_20 rfl 3 rfl ?_
  refine vn_add X dX2_blockOf_21 ?_
  refine vn_min X q3226 (Nat.le_of_ble_eq_true rfl) (Nat.le_of_ble_eq_true rfl) (Nat.le_of_ble_eq_true rfl) (Nat.le_of_ble_eq_true rfl) (by omega) (by omega) dX2_blockOf_22 ?_
  refine vv_callVp X (mX2_energy (kL K) D g x (va_up I 24 d_1) J 12 (I 10) rfl (I 12) rfl a (min (win (I 10) (I 12) (dc (I 10) c)) (a + n)) (min (win (I 10) (I 12) (dc (I 10) c)) (a + n) - a) (dc (I 10) c) (fun h => h.a12) hP hS hd_2 (by omega) (by omega) (rfl)) q3356 q3358 qs109 q144 q3359 nX2_energy ⟨(Nat.le_of_ble_eq_true rfl), (Nat.le_of_ble_eq_true rfl)⟩ dX2_blockOf_25 rfl (Nat.le_of_ble_eq_true rfl) (recv X hM.1 CL_X2) hM ⟨(Nat.le_of_ble_eq_true rfl), (Nat.le_of_ble_eq_true rfl)⟩ ?_
  refine vv_iload_n X dX2_blockOf_28 rfl 3 rfl ?_
  refine vv_i2l (v := lN n) X dX2_blockOf_29 (nI_l (by omega)) ?_
  refine vv_ldiv X dX2_blockOf_30 (lN_ne0 (by omega) (by omega)) ?_
  exact vv_lret X hQ dX2_blockOf_31 (Nat.le_refl _) (Nat.le_refl _) (⟨rfl, _, hM⟩)
theorem nX2_bestOfBlock : notMH yX2_bestOfBlock 2 := by decide +kernel
set_option maxHeartbeats 800000 in
theorem mX2_bestOfBlock (l : Launch) (D : DD) (g : Nat → Nat) (x : Nat → Int32) (I : Nat → Nat → Int32) (J : Nat → Nat → Int64) (P : Nat → Int32) (hIP : I 10 = P) (S : Nat → Int32) (hIS : I 12 = S) (hg : MG g) (a n : Nat) (hC : VC P) (hS : VS S) (hT : ∀ c, c < nC P → ∀ m, m < nM P → I 17 (12 * c + m) = nI (dc P c m)) (ha : a < 1000) (hn : 1 ≤ n ∧ n < 1000) : Ct l yX2_bestOfBlock cX2_bestOfBlock 9 (some .int) { frames := 5, cells := 0, slots := 0, locals := 109 } D [.ref (g 0), .int (nI a), .int (nI n)] (fun H => MR D g x I J H) (MA g) (fun v H H1 => v = some (.int (nI (bsN (fun c => blk P S c a n) (nC P)))) ∧ ∃ d, MR D g x (va_up I 24 d) J H1) := by
  refine Ct.of (by decide +kernel) (Nat.le_of_ble_eq_true rfl) (fun K Qf hkl X hM hQ => ?_)
  subst hkl
  subst hIP
  subst hIS
  have hP := hC.v
  have l9 := hP.l9
  have l10 := hP.l10
  have hn4 : nC (I 10) ≤ 144 := Nat.mul_le_mul l9 l10
  have hn1 : 0 < nC (I 10) := Nat.mul_pos hC.x1 hC.y1
  refine vv_sub (lv' := [(0, .ref (g 0)), (1, .int (nI a)), (2, .int (nI n))]) [0, 1, 2] rfl ?_
  refine vv_iconst (v := nI 0) X dX2_bestOfBlock_0 (by decide) ?_
  refine vv_istore_n (lv' := [(3, .int (nI 0)), (0, .ref (g 0)), (1, .int (nI a)), (2, .int (nI n))]) X dX2_bestOfBlock_1 rfl (by decide) rfl ?_
  refine vv_aload_n X dX2_bestOfBlock_2 rfl 1 rfl ?_
  refine vv_iconst (v := nI 0) X dX2_bestOfBlock_3 (by decide) ?_
  refine vv_iload_n X dX2_bestOfBlock_4 rfl 2 rfl ?_
  refine vv_iload_n X dX2_bestOfBlock_5 rfl 3 rfl ?_
  refine vv_callV X (mX2_blockOf (kL K) D g x I J (I 10) rfl (I 12) rfl hg 0 a n hP hS hT (by omega) (by omega) (by omega)) q3453 q3455 qs119 q144 q3456 nX2_blockOf ⟨(Nat.le_of_ble_eq_true rfl), (Nat.le_of_ble_eq_true rfl)⟩ dX2_bestOfBlock_6 rfl (Nat.le_of_ble_eq_true rfl) (recv X hM.1 CL_X2) hM  (fun _ z => Or.inl z) ⟨(Nat.le_of_ble_eq_true rfl), (Nat.le_of_ble_eq_true rfl)⟩ (fun v_ H hq hz hk => ?_)
  obtain ⟨rfl, d_1, hM⟩ := hq
  clear hz hk
  refine vv_lstore (lv' := [(4, .long (blk (I 10) (I 12) 0 a n)), (3, .int (nI 0)), (0, .ref (g 0)), (1, .int (nI a)), (2, .int (nI n))]) X dX2_bestOfBlock_9 (by decide) rfl ?_
  refine vv_iconst (v := nI 1) X dX2_bestOfBlock_11 (by decide) ?_
  refine vv_istore (lv' := [(6, .int (nI 1)), (4, .long (blk (I 10) (I 12) 0 a n)), (3, .int (nI 0)), (0, .ref (g 0)), (1, .int (nI a)), (2, .int (nI n))]) X dX2_bestOfBlock_12 (by decide) rfl ?_
  have hx_2 : ∀ (H : Heap) (d : Nat → Int32) (b : Nat) (hM : MR D g x (va_up I 24 d) J H) (hb : b = fo (bs1 (fun c => blk (I 10) (I 12) c a n)) (nC (I 10) - 1) 0), V K 9 (MA g) H 0 0 Qf 57 [(0, .ref (g 0)), (1, .int (nI a)), (2, .int (nI n)), (3, .int (nI b)), (4, .long (blk (I 10) (I 12) b a n)), (6, .int (nI ((nC (I 10) - 1) + 1)))] [] := by
    intro H d b hM hb
    refine vv_iload_n X dX2_bestOfBlock_57 rfl 3 rfl ?_
    exact vv_iret X hQ dX2_bestOfBlock_58 (Nat.le_refl _) (Nat.le_refl _) (⟨by rw [hb]; rfl, _, hM⟩)
  have hl_3 : ∀ (n_i i : Nat) (H : Heap) (d : Nat → Int32) (b : Nat), i + n_i = nC (I 10) - 1 → (MR D g x (va_up I 24 d) J H) → (b = fo (bs1 (fun c => blk (I 10) (I 12) c a n)) i 0) → V K 9 (MA g) H 0 0 Qf 14 [(0, .ref (g 0)), (1, .int (nI a)), (2, .int (nI n)), (3, .int (nI b)), (4, .long (blk (I 10) (I 12) b a n)), (6, .int (nI (i + 1)))] [] := by
    intro n_i
    induction n_i with
    | zero =>
      intro i H d b hi hM hb
      obtain rfl : i = nC (I 10) - 1 := by omega
      refine vv_iload X dX2_bestOfBlock_14 5 rfl ?_
      refine vv_aload_n X dX2_bestOfBlock_16 rfl 0 rfl ?_
      refine vv_callVp X (mX2_cellCount (kL K) D g x (va_up I 24 d) J (I 10) rfl hP) q3172 q3174 qs84 q144 q3175 nX2_cellCount ⟨(Nat.le_of_ble_eq_true rfl), (Nat.le_of_ble_eq_true rfl)⟩ dX2_bestOfBlock_17 rfl (Nat.le_of_ble_eq_true rfl) (recv X hM.1 CL_X2) hM ⟨(Nat.le_of_ble_eq_true rfl), (Nat.le_of_ble_eq_true rfl)⟩ ?_
      refine vn_ge (tgt := 57) X (by omega) (by omega) dX2_bestOfBlock_20 (by decide) (fun c_20 => ?_) (fun c_20 => ?_)
      · exact hx_2 H d b hM hb
      · exact absurd c_20 (by omega)
    | succ n_i ihi =>
      intro i H d b hi hM hb
      refine vv_iload X dX2_bestOfBlock_14 5 rfl ?_
      refine vv_aload_n X dX2_bestOfBlock_16 rfl 0 rfl ?_
      refine vv_callVp X (mX2_cellCount (kL K) D g x (va_up I 24 d) J (I 10) rfl hP) q3172 q3174 qs84 q144 q3175 nX2_cellCount ⟨(Nat.le_of_ble_eq_true rfl), (Nat.le_of_ble_eq_true rfl)⟩ dX2_bestOfBlock_17 rfl (Nat.le_of_ble_eq_true rfl) (recv X hM.1 CL_X2) hM ⟨(Nat.le_of_ble_eq_true rfl), (Nat.le_of_ble_eq_true rfl)⟩ ?_
      refine vn_ge (tgt := 57) X (by omega) (by omega) dX2_bestOfBlock_20 (by decide) (fun c_20 => ?_) (fun c_20 => ?_)
      · exact absurd hi (by omega)
      · refine vv_aload_n X dX2_bestOfBlock_23 rfl 0 rfl ?_
        refine vv_iload X dX2_bestOfBlock_24 5 rfl ?_
        refine vv_iload_n X dX2_bestOfBlock_26 rfl 1 rfl ?_
        refine vv_iload_n X dX2_bestOfBlock_27 rfl 2 rfl ?_
        refine vv_callV X (mX2_blockOf (kL K) D g x (va_up I 24 d) J (I 10) rfl (I 12) rfl hg (i + 1) a n hP hS hT (by omega) (by omega) (by omega)) q3453 q3455 qs119 q144 q3456 nX2_blockOf ⟨(Nat.le_of_ble_eq_true rfl), (Nat.le_of_ble_eq_true rfl)⟩ dX2_bestOfBlock_28 rfl (Nat.le_of_ble_eq_true rfl) (recv X hM.1 CL_X2) hM  (fun _ z => Or.inl z) ⟨(Nat.le_of_ble_eq_true rfl), (Nat.le_of_ble_eq_true rfl)⟩ (fun v_ H hq hz hk => ?_)
        obtain ⟨rfl, d_4, hM⟩ := hq
        clear hz hk
        rw [up_up] at hM
        refine vv_lstore (lv' := [(7, .long (blk (I 10) (I 12) (i + 1) a n)), (0, .ref (g 0)), (1, .int (nI a)), (2, .int (nI n)), (3, .int (nI b)), (4, .long (blk (I 10) (I 12) b a n)), (6, .int (nI (i + 1)))]) X dX2_bestOfBlock_31 (by decide) rfl ?_
        refine vv_lload X dX2_bestOfBlock_33 0 rfl ?_
        refine vv_lload X dX2_bestOfBlock_35 5 rfl ?_
        refine vv_lcmp X dX2_bestOfBlock_37 ?_
        refine vz_gt (tgt := 44) X dX2_bestOfBlock_38 (by decide) (fun c_38 => ?_) (fun c_38 => ?_)
        · refine vv_iload X dX2_bestOfBlock_44 6 rfl ?_
          refine vv_istore_n (lv' := [(3, .int (nI (i + 1))), (7, .long (blk (I 10) (I 12) (i + 1) a n)), (0, .ref (g 0)), (1, .int (nI a)), (2, .int (nI n)), (4, .long (blk (I 10) (I 12) b a n)), (6, .int (nI (i + 1)))]) X dX2_bestOfBlock_46 rfl (by decide) rfl ?_
          refine vv_lload X dX2_bestOfBlock_47 1 rfl ?_
          refine vv_lstore (lv' := [(4, .long (blk (I 10) (I 12) (i + 1) a n)), (3, .int (nI (i + 1))), (7, .long (blk (I 10) (I 12) (i + 1) a n)), (0, .ref (g 0)), (1, .int (nI a)), (2, .int (nI n)), (6, .int (nI (i + 1)))]) X dX2_bestOfBlock_49 (by decide) rfl ?_
          refine vv_iinc (v := nI ((i + 1) + 1)) (lv' := [(6, .int (nI ((i + 1) + 1))), (4, .long (blk (I 10) (I 12) (i + 1) a n)), (3, .int (nI (i + 1))), (7, .long (blk (I 10) (I 12) (i + 1) a n)), (0, .ref (g 0)), (1, .int (nI a)), (2, .int (nI n))]) X dX2_bestOfBlock_51 (k := 6) rfl (nI_add _ 1) (by decide) rfl ?_
          refine vv_goto (tgt := 14) X dX2_bestOfBlock_54 (by decide) ?_
          refine vv_sub [4, 5, 6, 2, 1, 0] rfl ?_
          exact ihi (i + 1) H d_4 (i + 1) (by omega) (hM) (by subst hb; exact (if_pos c_38).symm)
        · refine vv_goto (tgt := 51) X dX2_bestOfBlock_41 (by decide) ?_
          refine vv_iinc (v := nI ((i + 1) + 1)) (lv' := [(6, .int (nI ((i + 1) + 1))), (7, .long (blk (I 10) (I 12) (i + 1) a n)), (0, .ref (g 0)), (1, .int (nI a)), (2, .int (nI n)), (3, .int (nI b)), (4, .long (blk (I 10) (I 12) b a n))]) X dX2_bestOfBlock_51 (k := 6) rfl (nI_add _ 1) (by decide) rfl ?_
          refine vv_goto (tgt := 14) X dX2_bestOfBlock_54 (by decide) ?_
          refine vv_sub [2, 3, 4, 5, 6, 0] rfl ?_
          exact ihi (i + 1) H d_4 b (by omega) (hM) (by subst hb; exact (if_neg (Int64.not_lt.mpr c_38)).symm)
  refine vv_sub [3, 4, 5, 2, 1, 0] rfl ?_
  exact hl_3 (nC (I 10) - 1) 0 H d_1 0 (by omega) (hM) (rfl)
theorem nX2_movingOf : notMH yX2_movingOf 3 := by decide +kernel
set_option maxHeartbeats 800000 in
theorem mX2_movingOf (l : Launch) (D : DD) (g : Nat → Nat) (x : Nat → Int32) (I : Nat → Nat → Int32) (J : Nat → Nat → Int64) (P : Nat → Int32) (hIP : I 10 = P) (S : Nat → Int32) (hIS : I 12 = S) (hg : MG g) (c : Nat) (u w : Int32) (hC : VC P) (hS : VS S) (hc : c < nC P) (hu : rg 999 u) (hw : rg 999 w) : Ct l yX2_movingOf cX2_movingOf 9 (some .long) { frames := 4, cells := 0, slots := 0, locals := 85 } D [.ref (g 0), .int (nI c), .int (u), .int (w)] (fun H => MR D g x I J H) (MA g) (fun v H H1 => v = some (.long (mov P S c u w)) ∧ ∃ d, MR D g x (va_up I 24 d) J H1) := by
  refine Ct.of (by decide +kernel) (Nat.le_of_ble_eq_true rfl) (fun K Qf hkl X hM hQ => ?_)
  subst hkl
  subst hIP
  subst hIS
  have hP := hC.v
  have l2 := hP.l2
  have t1 := hC.t1
  refine vv_sub (lv' := [(0, .ref (g 0)), (1, .int (nI c)), (2, .int (u)), (3, .int (w))]) [0, 1, 2, 3] rfl ?_
  refine vv_lconst (v := 0) X dX2_movingOf_0 (by decide) ?_
  refine vv_lstore (lv' := [(4, .long (0)), (0, .ref (g 0)), (1, .int (nI c)), (2, .int (u)), (3, .int (w))]) X dX2_movingOf_1 (by decide) rfl ?_
  refine vv_iconst (v := nI 0) X dX2_movingOf_3 (by decide) ?_
  refine vv_istore (lv' := [(6, .int (nI 0)), (4, .long (0)), (0, .ref (g 0)), (1, .int (nI c)), (2, .int (u)), (3, .int (w))]) X dX2_movingOf_4 (by decide) rfl ?_
  have hx_1 : ∀ (H : Heap) (d : Nat → Int32) (e : Int64) (hM : MR D g x (va_up I 24 d) J H) (he : e = mvs (I 10) (I 12) c u w (nT (I 10))), V K 9 (MA g) H 0 0 Qf 78 [(0, .ref (g 0)), (1, .int (nI c)), (2, .int (u)), (3, .int (w)), (4, .long (e)), (6, .int (nI (nT (I 10))))] [] := by
    intro H d e hM he
    refine vv_lload X dX2_movingOf_78 4 rfl ?_
    refine vv_aload_n X dX2_movingOf_80 rfl 0 rfl ?_
    refine mg10 X rfl hM dX2_movingOf_81 ?_
    refine vv_iconst (v := nI 2) X dX2_movingOf_84 (by decide) ?_
    refine vv_iald X hM.a10 (2) (by omega) (by decide) rfl dX2_movingOf_85 ?_
    refine vv_eqi hP.e2 ?_
    refine vv_i2l (v := lN (nT (I 10))) X dX2_movingOf_86 (nI_l (by omega)) ?_
    refine vv_ldiv X dX2_movingOf_87 (lN_ne0 (by omega) (by omega)) ?_
    exact vv_lret X hQ dX2_movingOf_88 (Nat.le_refl _) (Nat.le_refl _) (⟨by rw [he]; rfl, _, hM⟩)
  have hl_2 : ∀ (n_t t : Nat) (H : Heap) (d : Nat → Int32) (e : Int64), t + n_t = nT (I 10) → (MR D g x (va_up I 24 d) J H) → (e = mvs (I 10) (I 12) c u w t) → V K 9 (MA g) H 0 0 Qf 6 [(0, .ref (g 0)), (1, .int (nI c)), (2, .int (u)), (3, .int (w)), (4, .long (e)), (6, .int (nI t))] [] := by
    intro n_t
    induction n_t with
    | zero =>
      intro t H d e ht hM he
      obtain rfl : t = nT (I 10) := by omega
      refine vv_iload X dX2_movingOf_6 5 rfl ?_
      refine vv_aload_n X dX2_movingOf_8 rfl 0 rfl ?_
      refine mg10 X rfl hM dX2_movingOf_9 ?_
      refine vv_iconst (v := nI 2) X dX2_movingOf_12 (by decide) ?_
      refine vv_iald X hM.a10 (2) (by omega) (by decide) rfl dX2_movingOf_13 ?_
      refine vv_eqi hP.e2 ?_
      refine vn_ge (tgt := 78) X (by omega) (by omega) dX2_movingOf_14 (by decide) (fun c_14 => ?_) (fun c_14 => ?_)
      · exact hx_1 H d e hM he
      · exact absurd c_14 (by omega)
    | succ n_t iht =>
      intro t H d e ht hM he
      refine vv_iload X dX2_movingOf_6 5 rfl ?_
      refine vv_aload_n X dX2_movingOf_8 rfl 0 rfl ?_
      refine mg10 X rfl hM dX2_movingOf_9 ?_
      refine vv_iconst (v := nI 2) X dX2_movingOf_12 (by decide) ?_
      refine vv_iald X hM.a10 (2) (by omega) (by decide) rfl dX2_movingOf_13 ?_
      refine vv_eqi hP.e2 ?_
      refine vn_ge (tgt := 78) X (by omega) (by omega) dX2_movingOf_14 (by decide) (fun c_14 => ?_) (fun c_14 => ?_)
      · exact absurd ht (by omega)
      · refine vv_aload_n X dX2_movingOf_17 rfl 0 rfl ?_
        refine vv_aload_n X dX2_movingOf_18 rfl 0 rfl ?_
        refine vv_iload_n X dX2_movingOf_19 rfl 1 rfl ?_
        refine vv_iconst (v := nI 0) X dX2_movingOf_20 (by decide) ?_
        refine vv_callVp X (mX2_centre (kL K) D g x (va_up I 24 d) J (I 10) rfl c (nI 0) (cx (I 10) c) hC (by omega) ((if_pos rfl).symm)) q3176 q3178 qs85 q144 q3179 nX2_centre ⟨(Nat.le_of_ble_eq_true rfl), (Nat.le_of_ble_eq_true rfl)⟩ dX2_movingOf_21 rfl (Nat.le_of_ble_eq_true rfl) (recv X hM.1 CL_X2) hM ⟨(Nat.le_of_ble_eq_true rfl), (Nat.le_of_ble_eq_true rfl)⟩ ?_
        refine vv_iload_n X dX2_movingOf_24 rfl 2 rfl ?_
        refine vv_iload X dX2_movingOf_25 5 rfl ?_
        refine vv_imul X dX2_movingOf_27 ?_
        refine vv_bipush (v := nI 100) X dX2_movingOf_28 (by decide) ?_
        refine vv_idiv X dX2_movingOf_30 (by decide) ?_
        refine vv_iadd X dX2_movingOf_31 ?_
        refine vv_aload_n X dX2_movingOf_32 rfl 0 rfl ?_
        refine vv_iload_n X dX2_movingOf_33 rfl 1 rfl ?_
        refine vv_iconst (v := nI 1) X dX2_movingOf_34 (by decide) ?_
        refine vv_callVp X (mX2_centre (kL K) D g x (va_up I 24 d) J (I 10) rfl c (nI 1) (cy (I 10) c) hC (by omega) ((if_neg (by decide)).symm)) q3176 q3178 qs85 q144 q3179 nX2_centre ⟨(Nat.le_of_ble_eq_true rfl), (Nat.le_of_ble_eq_true rfl)⟩ dX2_movingOf_35 rfl (Nat.le_of_ble_eq_true rfl) (recv X hM.1 CL_X2) hM ⟨(Nat.le_of_ble_eq_true rfl), (Nat.le_of_ble_eq_true rfl)⟩ ?_
        refine vv_iload_n X dX2_movingOf_38 rfl 3 rfl ?_
        refine vv_iload X dX2_movingOf_39 5 rfl ?_
        refine vv_imul X dX2_movingOf_41 ?_
        refine vv_bipush (v := nI 100) X dX2_movingOf_42 (by decide) ?_
        refine vv_idiv X dX2_movingOf_44 (by decide) ?_
        refine vv_iadd X dX2_movingOf_45 ?_
        refine vv_callV X (mX2_laysPoint (kL K) D g x (va_up I 24 d) J (I 10) rfl hg ((cx (I 10) c) + ((u * (nI t)) / (nI 100))) ((cy (I 10) c) + ((w * (nI t)) / (nI 100))) hC (mv_rg (cx_rg hC c) hu (by omega)) (mv_rg (cy_rg hC hc) hw (by omega))) q3364 q3366 qs110 q144 q3367 nX2_laysPoint ⟨(Nat.le_of_ble_eq_true rfl), (Nat.le_of_ble_eq_true rfl)⟩ dX2_movingOf_46 rfl (Nat.le_of_ble_eq_true rfl) (recv X hM.1 CL_X2) hM  (fun _ z => Or.inl z) ⟨(Nat.le_of_ble_eq_true rfl), (Nat.le_of_ble_eq_true rfl)⟩ (fun v_ H hq hz hk => ?_)
        obtain ⟨rfl, d_3, hM, hd_4⟩ := hq
        clear hz hk
        rw [up_up] at hM
        refine vv_aload_n X dX2_movingOf_49 rfl 0 rfl ?_
        refine vv_aload_n X dX2_movingOf_50 rfl 0 rfl ?_
        refine mg12 X rfl hM dX2_movingOf_51 ?_
        refine vv_iload X dX2_movingOf_54 5 rfl ?_
        refine vv_callVp X (mX2_beamAt (kL K) D g x (va_up I 24 d_3) J 12 (I 10) rfl (I 12) rfl t (mvP (I 10) (I 12) c u w t) (fun h => h.a12) hP hS hd_4 (by omega)) q3340 q3342 qs106 q144 q3343 nX2_beamAt ⟨(Nat.le_of_ble_eq_true rfl), (Nat.le_of_ble_eq_true rfl)⟩ dX2_movingOf_56 rfl (Nat.le_of_ble_eq_true rfl) (recv X hM.1 CL_X2) hM ⟨(Nat.le_of_ble_eq_true rfl), (Nat.le_of_ble_eq_true rfl)⟩ ?_
        refine vv_i2l (v := (bm (I 10) (I 12) (mvP (I 10) (I 12) c u w t) t).toInt64) X dX2_movingOf_59 rfl ?_
        refine vv_lstore (lv' := [(7, .long ((bm (I 10) (I 12) (mvP (I 10) (I 12) c u w t) t).toInt64)), (0, .ref (g 0)), (1, .int (nI c)), (2, .int (u)), (3, .int (w)), (4, .long (e)), (6, .int (nI t))]) X dX2_movingOf_60 (by decide) rfl ?_
        refine vv_lload X dX2_movingOf_62 5 rfl ?_
        refine vv_lload X dX2_movingOf_64 0 rfl ?_
        refine vv_lload X dX2_movingOf_66 0 rfl ?_
        refine vv_lmul X dX2_movingOf_68 ?_
        refine vv_ladd X dX2_movingOf_69 ?_
        refine vv_lstore (lv' := [(4, .long (e + (((bm (I 10) (I 12) (mvP (I 10) (I 12) c u w t) t).toInt64) * ((bm (I 10) (I 12) (mvP (I 10) (I 12) c u w t) t).toInt64)))), (7, .long ((bm (I 10) (I 12) (mvP (I 10) (I 12) c u w t) t).toInt64)), (0, .ref (g 0)), (1, .int (nI c)), (2, .int (u)), (3, .int (w)), (6, .int (nI t))]) X dX2_movingOf_70 (by decide) rfl ?_
        refine vv_iinc (v := nI (t + 1)) (lv' := [(6, .int (nI (t + 1))), (4, .long (e + (((bm (I 10) (I 12) (mvP (I 10) (I 12) c u w t) t).toInt64) * ((bm (I 10) (I 12) (mvP (I 10) (I 12) c u w t) t).toInt64)))), (7, .long ((bm (I 10) (I 12) (mvP (I 10) (I 12) c u w t) t).toInt64)), (0, .ref (g 0)), (1, .int (nI c)), (2, .int (u)), (3, .int (w))]) X dX2_movingOf_72 (k := 6) rfl (nI_add _ 1) (by decide) rfl ?_
        refine vv_goto (tgt := 6) X dX2_movingOf_75 (by decide) ?_
        refine vv_sub [3, 4, 5, 6, 1, 0] rfl ?_
        exact iht (t + 1) H d_3 (e + (((bm (I 10) (I 12) (mvP (I 10) (I 12) c u w t) t).toInt64) * ((bm (I 10) (I 12) (mvP (I 10) (I 12) c u w t) t).toInt64))) (by omega) (hM) (by rw [he]; rfl)
  refine vv_sub [2, 3, 4, 5, 1, 0] rfl ?_
  exact hl_2 (nT (I 10)) 0 ((kS K).heap) (I 24) 0 (by omega) (by rw [up_same]; exact hM) (rfl)
