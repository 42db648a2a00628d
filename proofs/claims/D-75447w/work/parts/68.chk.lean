/-! checks that throw: printed by gen/s15.py -/
set_option maxRecDepth 100000
theorem hat_of (ws : List Cond) (ps : List Nat) (hp : ws = ps.filterMap (fun i => lw_tbl[i]?)) (hg : ws.all (fun w => goodWord w || nwq w) = true) : ∀ w ∈ ws, w ∈ lw_all ∨ (w ∈ lw_tbl ∧ nwq w = true) := by
  intro w hw
  have h1 : w ∈ lw_tbl := by
    rw [hp, List.mem_filterMap] at hw
    obtain ⟨i, -, h⟩ := hw
    exact List.mem_of_getElem? h
  have h2 := List.all_eq_true.mp hg w hw
  rw [Bool.or_eq_true] at h2
  exact h2.imp (fun g => lw_g h1 g) (fun g => ⟨h1, g⟩)
theorem thr_X1_94 : ∀ w ∈ vx_at0 "AcousticCamera" 94 "java/lang/IllegalStateException" ["java/lang/RuntimeException", "java/lang/Exception"], w ∈ lw_all ∨ (w ∈ lw_tbl ∧ nwq w = true) := hat_of _ [145, 432, 383, 392, 395, 397, 433, 434, 197, 198, 377, 382, 393, 400, 426, 401, 427, 402, 428, 378, 380, 429, 1814, 1815, 1816, 465, 419, 465, 466, 467, 468, 421, 468, 469, 470, 433, 423, 1813, 1805, 1806, 1807, 388, 1808, 1809, 1810, 1811, 398, 430, 1812] (by decide +kernel) (by decide +kernel)
theorem thg_X1_94 : ∀ w ∈ Cond.classLink "AcousticCamera" 92 "java/lang/IllegalStateException" :: Cond.initialized "java/lang/IllegalStateException" :: vx_at0 "AcousticCamera" 94 "java/lang/IllegalStateException" ["java/lang/RuntimeException", "java/lang/Exception"], vx_ot w = true := List.all_eq_true.mp (show List.all _ vx_ot = true by decide +kernel)
theorem thr_X1_91 : ∀ w ∈ vx_at0 "AcousticCamera" 91 "java/lang/IndexOutOfBoundsException" ["java/lang/RuntimeException", "java/lang/Exception"], w ∈ lw_all ∨ (w ∈ lw_tbl ∧ nwq w = true) := hat_of _ [145, 432, 383, 392, 395, 397, 433, 434, 197, 198, 377, 382, 393, 400, 426, 401, 427, 402, 428, 378, 380, 429, 462, 463, 464, 465, 419, 465, 466, 467, 468, 421, 468, 469, 470, 433, 423, 461, 453, 454, 455, 389, 456, 457, 458, 459, 398, 430, 460] (by decide +kernel) (by decide +kernel)
theorem thg_X1_91 : ∀ w ∈ Cond.classLink "AcousticCamera" 89 "java/lang/IndexOutOfBoundsException" :: Cond.initialized "java/lang/IndexOutOfBoundsException" :: vx_at0 "AcousticCamera" 91 "java/lang/IndexOutOfBoundsException" ["java/lang/RuntimeException", "java/lang/Exception"], vx_ot w = true := List.all_eq_true.mp (show List.all _ vx_ot = true by decide +kernel)
theorem thr_X1_84 : ∀ w ∈ vx_at0 "AcousticCamera" 84 "java/lang/IllegalArgumentException" ["java/lang/RuntimeException", "java/lang/Exception"], w ∈ lw_all ∨ (w ∈ lw_tbl ∧ nwq w = true) := hat_of _ [145, 432, 383, 392, 395, 397, 433, 434, 197, 198, 377, 382, 393, 400, 426, 401, 427, 402, 428, 378, 380, 429, 1782, 1783, 1784, 465, 419, 465, 466, 467, 468, 421, 468, 469, 470, 433, 423, 1781, 500, 501, 502, 387, 503, 504, 505, 506, 398, 430, 507] (by decide +kernel) (by decide +kernel)
theorem thg_X1_84 : ∀ w ∈ Cond.classLink "AcousticCamera" 82 "java/lang/IllegalArgumentException" :: Cond.initialized "java/lang/IllegalArgumentException" :: vx_at0 "AcousticCamera" 84 "java/lang/IllegalArgumentException" ["java/lang/RuntimeException", "java/lang/Exception"], vx_ot w = true := List.all_eq_true.mp (show List.all _ vx_ot = true by decide +kernel)
theorem nX1_checkState : notMH yX1_checkState 1 := by decide +kernel
set_option maxHeartbeats 800000 in
theorem mX1_checkState (l : Launch) (D : DD) (p : Prop) [Decidable p] (hp : p) : Cv l yX1_checkState cX1_checkState 1 { frames := 1, cells := 0, slots := 0, locals := 12 } D [.int (b2 p)] (fun H => True) := by
  refine Ct.of (by decide +kernel) (Nat.le_of_ble_eq_true rfl) (fun K Qf hkl X hM hQ => ?_)
  subst hkl
  refine vv_sub (lv' := [(0, .int (b2 p))]) [0] rfl ?_
  refine vv_iload_n X dX1_checkState_0 rfl 0 rfl ?_
  refine vb_ne (tgt := 12) X dX1_checkState_1 (by decide) (fun c_1 => ?_) (fun c_1 => ?_)
  · exact vv_vret X hQ dX1_checkState_12 (Nat.le_of_ble_eq_true rfl) (Nat.le_of_ble_eq_true rfl) (⟨rfl, rfl⟩)
  · exact absurd hp c_1
set_option maxHeartbeats 800000 in
theorem xX1_checkState (l : Launch) (D : DD) (hl : l.stackTraces = false) (p : Prop) [Decidable p] (hp : ¬ p) : Cx l yX1_checkState cX1_checkState 1 none { frames := 6, cells := 1, slots := 6, locals := 89 } D [.int (b2 p)] (fun H => KH D H) (fun _ => False) (fun r H H1 => False) (fun Xn q H H1 => Xn = "java/lang/IllegalStateException") := by
  refine Cx.of (by decide +kernel) (Nat.le_of_ble_eq_true rfl) (fun K Qf hkl X ht hM hQ => ?_)
  subst hkl
  have hK := hM
  have hz : (kS K).heap.size ≤ (kS K).heap.size := Nat.le_refl _
  refine vv_sub (lv' := [(0, .int (b2 p))]) [0] rfl ?_
  refine vv_iload_n X dX1_checkState_0 rfl 0 rfl ?_
  refine vb_ne (tgt := 12) X dX1_checkState_1 (by decide) (fun c_1 => ?_) (fun c_1 => ?_)
  · exact absurd c_1 hp
  · refine vv_throw0 X hK hl (cls := "java/lang/IllegalStateException") (names := ["java/lang/RuntimeException", "java/lang/Exception"]) (by decide +kernel) (by decide +kernel) q1804 q180 thr_X1_94 thg_X1_94 dX1_checkState_4 dX1_checkState_7 dX1_checkState_8 dX1_checkState_11 (Nat.le_of_ble_eq_true rfl) (Nat.le_of_ble_eq_true rfl) (Nat.le_of_ble_eq_true rfl) (Nat.le_of_ble_eq_true rfl) (fun H h1 h2 hXO => ?_)
    exact vt_out X (fun x hx => (ht x hx).elim) hQ hXO (Nat.le_of_ble_eq_true rfl) (Nat.le_of_ble_eq_true rfl) (rfl)
theorem nX1_checkArgument : notMH yX1_checkArgument 1 := by decide +kernel
set_option maxHeartbeats 800000 in
theorem mX1_checkArgument (l : Launch) (D : DD) (p : Prop) [Decidable p] (hp : p) : Cv l yX1_checkArgument cX1_checkArgument 1 { frames := 1, cells := 0, slots := 0, locals := 12 } D [.int (b2 p)] (fun H => True) := by
  refine Ct.of (by decide +kernel) (Nat.le_of_ble_eq_true rfl) (fun K Qf hkl X hM hQ => ?_)
  subst hkl
  refine vv_sub (lv' := [(0, .int (b2 p))]) [0] rfl ?_
  refine vv_iload_n X dX1_checkArgument_0 rfl 0 rfl ?_
  refine vb_ne (tgt := 12) X dX1_checkArgument_1 (by decide) (fun c_1 => ?_) (fun c_1 => ?_)
  · exact vv_vret X hQ dX1_checkArgument_12 (Nat.le_of_ble_eq_true rfl) (Nat.le_of_ble_eq_true rfl) (⟨rfl, rfl⟩)
  · exact absurd hp c_1
set_option maxHeartbeats 800000 in
theorem xX1_checkArgument (l : Launch) (D : DD) (hl : l.stackTraces = false) (p : Prop) [Decidable p] (hp : ¬ p) : Cx l yX1_checkArgument cX1_checkArgument 1 none { frames := 6, cells := 1, slots := 6, locals := 89 } D [.int (b2 p)] (fun H => KH D H) (fun _ => False) (fun r H H1 => False) (fun Xn q H H1 => Xn = "java/lang/IllegalArgumentException") := by
  refine Cx.of (by decide +kernel) (Nat.le_of_ble_eq_true rfl) (fun K Qf hkl X ht hM hQ => ?_)
  subst hkl
  have hK := hM
  have hz : (kS K).heap.size ≤ (kS K).heap.size := Nat.le_refl _
  refine vv_sub (lv' := [(0, .int (b2 p))]) [0] rfl ?_
  refine vv_iload_n X dX1_checkArgument_0 rfl 0 rfl ?_
  refine vb_ne (tgt := 12) X dX1_checkArgument_1 (by decide) (fun c_1 => ?_) (fun c_1 => ?_)
  · exact absurd c_1 hp
  · refine vv_throw0 X hK hl (cls := "java/lang/IllegalArgumentException") (names := ["java/lang/RuntimeException", "java/lang/Exception"]) (by decide +kernel) (by decide +kernel) q1780 q155 thr_X1_84 thg_X1_84 dX1_checkArgument_4 dX1_checkArgument_7 dX1_checkArgument_8 dX1_checkArgument_11 (Nat.le_of_ble_eq_true rfl) (Nat.le_of_ble_eq_true rfl) (Nat.le_of_ble_eq_true rfl) (Nat.le_of_ble_eq_true rfl) (fun H h1 h2 hXO => ?_)
    exact vt_out X (fun x hx => (ht x hx).elim) hQ hXO (Nat.le_of_ble_eq_true rfl) (Nat.le_of_ble_eq_true rfl) (rfl)
theorem nX1_checkIndex : notMH yX1_checkIndex 2 := by decide +kernel
set_option maxHeartbeats 800000 in
theorem mX1_checkIndex (l : Launch) (D : DD) (i : Int32) (n : Nat) (hp : ix n i) : Cv l yX1_checkIndex cX1_checkIndex 2 { frames := 2, cells := 0, slots := 0, locals := 37 } D [.int (i), .int (nI n)] (fun H => True) := by
  refine Ct.of (by decide +kernel) (Nat.le_of_ble_eq_true rfl) (fun K Qf hkl X hM hQ => ?_)
  subst hkl
  refine vv_sub (lv' := [(0, .int (i)), (1, .int (nI n))]) [0, 1] rfl ?_
  refine vv_iload_n X dX1_checkIndex_0 rfl 0 rfl ?_
  refine vv_i2l (v := (i).toInt64) X dX1_checkIndex_1 rfl ?_
  refine vv_lconst (v := 0) X dX1_checkIndex_2 (by decide) ?_
  refine vv_eql (show (0 : Int64) = (nI 0).toInt64 from by decide) ?_
  refine vv_iload_n X dX1_checkIndex_3 rfl 1 rfl ?_
  refine vv_iconst (v := nI 1) X dX1_checkIndex_4 (by decide) ?_
  refine vv_isub X dX1_checkIndex_5 ?_
  refine vv_i2l (v := ((nI n) - (nI 1)).toInt64) X dX1_checkIndex_6 rfl ?_
  refine vv_callSp X (mX1_in (kL K) D ((i).toInt64) ((nI 0).toInt64) (((nI n) - (nI 1)).toInt64)) q449 q450 q137 q451 nX1_in ⟨(Nat.le_of_ble_eq_true rfl), (Nat.le_of_ble_eq_true rfl)⟩ dX1_checkIndex_7 rfl (Nat.le_of_ble_eq_true rfl) trivial ⟨(Nat.le_of_ble_eq_true rfl), (Nat.le_of_ble_eq_true rfl)⟩ ?_
  refine vv_eqi (b2_eq (in_I)) ?_
  refine vb_ne (tgt := 21) X dX1_checkIndex_10 (by decide) (fun c_10 => ?_) (fun c_10 => ?_)
  · exact vv_vret X hQ dX1_checkIndex_21 (Nat.le_of_ble_eq_true rfl) (Nat.le_of_ble_eq_true rfl) (⟨rfl, rfl⟩)
  · exact absurd ⟨hp.1, hp.2⟩ c_10
theorem ix_N {m n : Nat} (h : m < n) (hn : n < 2 ^ 31) : ix n (nI m) := ⟨(nI_leI (by decide) (by omega)).mpr (Nat.zero_le _), by rw [pk_sub (by omega)]; exact (nI_leI (by omega) (by omega)).mpr (by omega)⟩
set_option maxHeartbeats 800000 in
theorem xX1_checkIndex (l : Launch) (D : DD) (hl : l.stackTraces = false) (i : Int32) (n : Nat) (hp : ¬ ix n i) : Cx l yX1_checkIndex cX1_checkIndex 2 none { frames := 6, cells := 1, slots := 6, locals := 89 } D [.int (i), .int (nI n)] (fun H => KH D H) (fun _ => False) (fun r H H1 => False) (fun Xn q H H1 => Xn = "java/lang/IndexOutOfBoundsException") := by
  refine Cx.of (by decide +kernel) (Nat.le_of_ble_eq_true rfl) (fun K Qf hkl X ht hM hQ => ?_)
  subst hkl
  have hK := hM
  have hz : (kS K).heap.size ≤ (kS K).heap.size := Nat.le_refl _
  refine vv_sub (lv' := [(0, .int (i)), (1, .int (nI n))]) [0, 1] rfl ?_
  refine vv_iload_n X dX1_checkIndex_0 rfl 0 rfl ?_
  refine vv_i2l (v := (i).toInt64) X dX1_checkIndex_1 rfl ?_
  refine vv_lconst (v := 0) X dX1_checkIndex_2 (by decide) ?_
  refine vv_eql (show (0 : Int64) = (nI 0).toInt64 from by decide) ?_
  refine vv_iload_n X dX1_checkIndex_3 rfl 1 rfl ?_
  refine vv_iconst (v := nI 1) X dX1_checkIndex_4 (by decide) ?_
  refine vv_isub X dX1_checkIndex_5 ?_
  refine vv_i2l (v := ((nI n) - (nI 1)).toInt64) X dX1_checkIndex_6 rfl ?_
  refine vv_callSp X (mX1_in (kL K) D ((i).toInt64) ((nI 0).toInt64) (((nI n) - (nI 1)).toInt64)) q449 q450 q137 q451 nX1_in ⟨(Nat.le_of_ble_eq_true rfl), (Nat.le_of_ble_eq_true rfl)⟩ dX1_checkIndex_7 rfl (Nat.le_of_ble_eq_true rfl) trivial ⟨(Nat.le_of_ble_eq_true rfl), (Nat.le_of_ble_eq_true rfl)⟩ ?_
  refine vv_eqi (b2_eq (in_I)) ?_
  refine vb_ne (tgt := 21) X dX1_checkIndex_10 (by decide) (fun c_10 => ?_) (fun c_10 => ?_)
  · exact absurd c_10 hp
  · refine vv_throw0 X hK hl (cls := "java/lang/IndexOutOfBoundsException") (names := ["java/lang/RuntimeException", "java/lang/Exception"]) (by decide +kernel) (by decide +kernel) q452 q148 thr_X1_91 thg_X1_91 dX1_checkIndex_13 dX1_checkIndex_16 dX1_checkIndex_17 dX1_checkIndex_20 (Nat.le_of_ble_eq_true rfl) (Nat.le_of_ble_eq_true rfl) (Nat.le_of_ble_eq_true rfl) (Nat.le_of_ble_eq_true rfl) (fun H h1 h2 hXO => ?_)
    exact vt_out X (fun x hx => (ht x hx).elim) hQ hXO (Nat.le_of_ble_eq_true rfl) (Nat.le_of_ble_eq_true rfl) (rfl)
