/-! AcousticCamera: complaints about arguments: printed by gen/s26.py -/
set_option maxRecDepth 100000
set_option maxHeartbeats 800000 in
theorem w2X1_micAt (l : Launch) (D : DD) (hl : l.stackTraces = false) (u : Nat → Nat) (P T : Nat → Int32) (o : Nat) (g : Nat → Nat) (S : Nat → Int32) (pw : Option Nat) (c : Nat) (v0 v1 v2 v3 v5 v6 v7 : Value) (m : Nat) (b : Int32) (hC : VC P) (hV : VS S) (hm : m < nM P) (hp : ¬ (nI 0 ≤ b ∧ b ≤ nI 3)) : Cx l yX1_micAt cX1_micAt 4 (some .int) { frames := 7, cells := 1, slots := 6, locals := 109 } D [.ref c, .int (nI m), .int (b)] (fun H => KH D H ∧ oB D H c 0 [v0, v1, v2, v3, .ref (g 0), v5, v6, v7] ∧ UR D u P T o H ∧ SR D g u P S pw H) (fun _ => False) (fun r H H1 => False) (fun Xn q H H1 => Xn = "java/lang/IllegalArgumentException") := by
  refine Cx.of (by decide +kernel) (Nat.le_of_ble_eq_true rfl) (fun K Qf hkl X ht hM hQ => ?_)
  subst hkl
  obtain ⟨hK, hc, hU, hR⟩ := hM
  have hz : (kS K).heap.size ≤ (kS K).heap.size := Nat.le_refl _
  have hP := hC.v
  have l0 := hP.l0
  have l1 := hP.l1
  have l2 := hP.l2
  have l4 := hP.l4
  have l5 := hP.l5
  have l8 := hP.l8
  have l9 := hP.l9
  have l10 := hP.l10
  have l71 := hP.l71
  have l76 := hP.l76
  have l77 := hP.l77
  have hx1 := hC.x1
  have hy1 := hC.y1
  have ht1 := hC.t1
  have he1 := hC.e1
  have hm1 := hC.m1
  have hcc : nC P ≤ 144 := Nat.mul_le_mul l9 l10
  refine vv_sub (lv' := [(0, .ref c), (1, .int (nI m)), (2, .int (b))]) [0, 1, 2] rfl ?_
  refine vv_aload_n X dX1_micAt_0 rfl 0 rfl ?_
  refine vv_iload_n X dX1_micAt_1 rfl 1 rfl ?_
  refine vv_callVp X (mX1_withMic (kL K) D u P T o g S pw c v0 v1 v2 v3 v5 v6 v7 m hC hV (by omega)) q1793 q1795 qs35 q137 q1796 nX1_withMic ⟨(Nat.le_of_ble_eq_true rfl), (Nat.le_of_ble_eq_true rfl)⟩ dX1_micAt_2 rfl (Nat.le_of_ble_eq_true rfl) (recv X hc CL_X1) ⟨hK, hc, hU, hR⟩ ⟨(Nat.le_of_ble_eq_true rfl), (Nat.le_of_ble_eq_true rfl)⟩ ?_
  refine vv_pop X dX1_micAt_5 rfl ?_
  refine vv_iload_n X dX1_micAt_6 rfl 2 rfl ?_
  refine vv_i2l (v := (b).toInt64) X dX1_micAt_7 rfl ?_
  refine vv_lconst (v := 0) X dX1_micAt_8 (by decide) ?_
  refine vv_eql (show (0 : Int64) = (nI 0).toInt64 from by decide) ?_
  refine vv_ldc2 (v := 3) X q1819 dX1_micAt_9 ?_
  refine vv_eql (show _ = (nI 3 : Int32).toInt64 from by decide) ?_
  refine vv_callSp X (mX1_in (kL K) D ((b).toInt64) ((nI 0).toInt64) ((nI 3 : Int32).toInt64)) q449 q450 q137 q451 nX1_in ⟨(Nat.le_of_ble_eq_true rfl), (Nat.le_of_ble_eq_true rfl)⟩ dX1_micAt_12 rfl (Nat.le_of_ble_eq_true rfl) trivial ⟨(Nat.le_of_ble_eq_true rfl), (Nat.le_of_ble_eq_true rfl)⟩ ?_
  refine vv_eqi (b2_eq (in_I)) ?_
  refine vx_cS X (xX1_checkArgument (kL K) D hl ((nI 0) ≤ (b) ∧ (b) ≤ (nI 3 : Int32)) (hp)) q1820 q1821 q137 q1822 nX1_checkArgument ⟨(Nat.le_of_ble_eq_true rfl), (Nat.le_of_ble_eq_true rfl)⟩ dX1_micAt_15 rfl (Nat.le_of_ble_eq_true rfl) hK (fun _ z => z.elim) ⟨(Nat.le_of_ble_eq_true rfl), (Nat.le_of_ble_eq_true rfl)⟩ (fun Xn q H hq hz_ hk hXO => ?_) (fun v_ H hq hz_ hk => hq.elim)
  obtain rfl := hq
  exact vt_out X (fun x hx => (ht x hx).elim) hQ hXO (Nat.le_of_ble_eq_true rfl) (Nat.le_of_ble_eq_true rfl) rfl
set_option maxHeartbeats 800000 in
theorem w2X1_setWeight (l : Launch) (D : DD) (hl : l.stackTraces = false) (u : Nat → Nat) (P T : Nat → Int32) (o : Nat) (g : Nat → Nat) (S : Nat → Int32) (pw : Option Nat) (c : Nat) (v0 v1 v2 v3 v5 v6 v7 : Value) (m : Nat) (b : Int32) (hC : VC P) (hV : VS S) (hm : m < nM P) (hp : ¬ (nI 0 ≤ b ∧ b ≤ nI 9)) : Cx l yX1_setWeight cX1_setWeight 4 (some .int) { frames := 7, cells := 1, slots := 6, locals := 109 } D [.ref c, .int (nI m), .int (b)] (fun H => KH D H ∧ oB D H c 0 [v0, v1, v2, v3, .ref (g 0), v5, v6, v7] ∧ UR D u P T o H ∧ SR D g u P S pw H) (fun _ => False) (fun r H H1 => False) (fun Xn q H H1 => Xn = "java/lang/IllegalArgumentException") := by
  refine Cx.of (by decide +kernel) (Nat.le_of_ble_eq_true rfl) (fun K Qf hkl X ht hM hQ => ?_)
  subst hkl
  obtain ⟨hK, hc, hU, hR⟩ := hM
  have hz : (kS K).heap.size ≤ (kS K).heap.size := Nat.le_refl _
  have hP := hC.v
  have l0 := hP.l0
  have l1 := hP.l1
  have l2 := hP.l2
  have l4 := hP.l4
  have l5 := hP.l5
  have l8 := hP.l8
  have l9 := hP.l9
  have l10 := hP.l10
  have l71 := hP.l71
  have l76 := hP.l76
  have l77 := hP.l77
  have hx1 := hC.x1
  have hy1 := hC.y1
  have ht1 := hC.t1
  have he1 := hC.e1
  have hm1 := hC.m1
  have hcc : nC P ≤ 144 := Nat.mul_le_mul l9 l10
  refine vv_sub (lv' := [(0, .ref c), (1, .int (nI m)), (2, .int (b))]) [0, 1, 2] rfl ?_
  refine vv_aload_n X dX1_setWeight_0 rfl 0 rfl ?_
  refine vv_iload_n X dX1_setWeight_1 rfl 1 rfl ?_
  refine vv_callVp X (mX1_withMic (kL K) D u P T o g S pw c v0 v1 v2 v3 v5 v6 v7 m hC hV (by omega)) q1793 q1795 qs35 q137 q1796 nX1_withMic ⟨(Nat.le_of_ble_eq_true rfl), (Nat.le_of_ble_eq_true rfl)⟩ dX1_setWeight_2 rfl (Nat.le_of_ble_eq_true rfl) (recv X hc CL_X1) ⟨hK, hc, hU, hR⟩ ⟨(Nat.le_of_ble_eq_true rfl), (Nat.le_of_ble_eq_true rfl)⟩ ?_
  refine vv_getfN (C := RX3) (T := TX3) (N := 8) (ref := "AcousticCamera$State") X hR.ob in_X3 CL_X3 4 (by decide) q1696 rfl rfl dX1_setWeight_5 ?_
  refine vv_iload_n X dX1_setWeight_8 rfl 1 rfl ?_
  refine vv_iald X hR.wt (m) (by omega) (by omega) rfl dX1_setWeight_9 ?_
  refine vv_istore_n (lv' := [(3, .int (nI (wgt S m))), (0, .ref c), (1, .int (nI m)), (2, .int (b))]) X dX1_setWeight_10 rfl (by decide) rfl ?_
  refine vv_iload_n X dX1_setWeight_11 rfl 3 rfl ?_
  refine vv_i2l (v := (b).toInt64) X dX1_setWeight_12 rfl ?_
  refine vv_lconst (v := 0) X dX1_setWeight_13 (by decide) ?_
  refine vv_eql (show (0 : Int64) = (nI 0).toInt64 from by decide) ?_
  refine vv_ldc2 (v := 9) X q2649 dX1_setWeight_14 ?_
  refine vv_eql (show _ = (nI 9 : Int32).toInt64 from by decide) ?_
  refine vv_callSp X (mX1_in (kL K) D ((b).toInt64) ((nI 0).toInt64) ((nI 9 : Int32).toInt64)) q449 q450 q137 q451 nX1_in ⟨(Nat.le_of_ble_eq_true rfl), (Nat.le_of_ble_eq_true rfl)⟩ dX1_setWeight_17 rfl (Nat.le_of_ble_eq_true rfl) trivial ⟨(Nat.le_of_ble_eq_true rfl), (Nat.le_of_ble_eq_true rfl)⟩ ?_
  refine vv_eqi (b2_eq (in_I)) ?_
  refine vx_cS X (xX1_checkArgument (kL K) D hl ((nI 0) ≤ (b) ∧ (b) ≤ (nI 9 : Int32)) (hp)) q1820 q1821 q137 q1822 nX1_checkArgument ⟨(Nat.le_of_ble_eq_true rfl), (Nat.le_of_ble_eq_true rfl)⟩ dX1_setWeight_20 rfl (Nat.le_of_ble_eq_true rfl) hK (fun _ z => z.elim) ⟨(Nat.le_of_ble_eq_true rfl), (Nat.le_of_ble_eq_true rfl)⟩ (fun Xn q H hq hz_ hk hXO => ?_) (fun v_ H hq hz_ hk => hq.elim)
  obtain rfl := hq
  exact vt_out X (fun x hx => (ht x hx).elim) hQ hXO (Nat.le_of_ble_eq_true rfl) (Nat.le_of_ble_eq_true rfl) rfl
set_option maxHeartbeats 800000 in
theorem w2X1_moveSource (l : Launch) (D : DD) (hl : l.stackTraces = false) (u : Nat → Nat) (P T : Nat → Int32) (o : Nat) (g : Nat → Nat) (S : Nat → Int32) (pw : Option Nat) (c : Nat) (v0 v1 v2 v3 v5 v6 v7 : Value) (m : Nat) (x y : Int32) (hC : VC P) (hV : VS S) (hm : m < nS P) (hp : ¬ ((-2000 ≤ x ∧ x ≤ 2000) ∧ -2000 ≤ y ∧ y ≤ 2000)) : Cx l yX1_moveSource cX1_moveSource 5 (some .int) { frames := 7, cells := 1, slots := 6, locals := 109 } D [.ref c, .int (nI m), .int (x), .int (y)] (fun H => KH D H ∧ oB D H c 0 [v0, v1, v2, v3, .ref (g 0), v5, v6, v7] ∧ UR D u P T o H ∧ SR D g u P S pw H) (fun _ => False) (fun r H H1 => False) (fun Xn q H H1 => Xn = "java/lang/IllegalArgumentException") := by
  refine Cx.of (by decide +kernel) (Nat.le_of_ble_eq_true rfl) (fun K Qf hkl X ht hM hQ => ?_)
  subst hkl
  obtain ⟨hK, hc, hU, hR⟩ := hM
  have hz : (kS K).heap.size ≤ (kS K).heap.size := Nat.le_refl _
  have hP := hC.v
  have l0 := hP.l0
  have l1 := hP.l1
  have l2 := hP.l2
  have l4 := hP.l4
  have l5 := hP.l5
  have l8 := hP.l8
  have l9 := hP.l9
  have l10 := hP.l10
  have l71 := hP.l71
  have l76 := hP.l76
  have l77 := hP.l77
  have hx1 := hC.x1
  have hy1 := hC.y1
  have ht1 := hC.t1
  have he1 := hC.e1
  have hm1 := hC.m1
  have hcc : nC P ≤ 144 := Nat.mul_le_mul l9 l10
  refine vv_sub (lv' := [(0, .ref c), (1, .int (nI m)), (2, .int (x)), (3, .int (y))]) [0, 1, 2, 3] rfl ?_
  refine vv_aload_n X dX1_moveSource_0 rfl 0 rfl ?_
  refine vv_iload_n X dX1_moveSource_1 rfl 1 rfl ?_
  refine vv_callVp X (mX1_withSource (kL K) D u P T o g S pw c v0 v1 v2 v3 v5 v6 v7 m hC hV (by omega)) q1858 q1860 qs38 q137 q1861 nX1_withSource ⟨(Nat.le_of_ble_eq_true rfl), (Nat.le_of_ble_eq_true rfl)⟩ dX1_moveSource_2 rfl (Nat.le_of_ble_eq_true rfl) (recv X hc CL_X1) ⟨hK, hc, hU, hR⟩ ⟨(Nat.le_of_ble_eq_true rfl), (Nat.le_of_ble_eq_true rfl)⟩ ?_
  refine vv_getfN (C := RX3) (T := TX3) (N := 8) (ref := "AcousticCamera$State") X hR.ob in_X3 CL_X3 3 (by decide) q1694 rfl rfl dX1_moveSource_5 ?_
  refine vv_iload_n X dX1_moveSource_8 rfl 1 rfl ?_
  refine vv_aald (ty := 8) X hR.sa rfl rfl (m) (by omega) (by omega) rfl dX1_moveSource_9 (v := .ref (g (30 + m))) rfl ?_
  refine vv_astore (lv' := [(4, .ref (g (30 + m))), (0, .ref c), (1, .int (nI m)), (2, .int (x)), (3, .int (y))]) X dX1_moveSource_10 (by decide) rfl ?_
  refine vv_iload_n X dX1_moveSource_12 rfl 3 rfl ?_
  refine vv_i2l (v := (x).toInt64) X dX1_moveSource_13 rfl ?_
  refine vv_ldc2 (v := -2000) X q2833 dX1_moveSource_14 ?_
  refine vv_eql (show _ = (-2000 : Int32).toInt64 from by decide) ?_
  refine vv_ldc2 (v := 2000) X q2834 dX1_moveSource_17 ?_
  refine vv_eql (show _ = (2000 : Int32).toInt64 from by decide) ?_
  refine vv_callSp X (mX1_in (kL K) D ((x).toInt64) ((-2000 : Int32).toInt64) ((2000 : Int32).toInt64)) q449 q450 q137 q451 nX1_in ⟨(Nat.le_of_ble_eq_true rfl), (Nat.le_of_ble_eq_true rfl)⟩ dX1_moveSource_20 rfl (Nat.le_of_ble_eq_true rfl) trivial ⟨(Nat.le_of_ble_eq_true rfl), (Nat.le_of_ble_eq_true rfl)⟩ ?_
  refine vv_eqi (b2_eq (in_I)) ?_
  refine vb_eq (tgt := 44) X dX1_moveSource_23 (by decide) (fun c_23 => ?_) (fun c_23 => ?_)
  · refine vv_iconst (v := nI 0) X dX1_moveSource_44 (by decide) ?_
    refine vx_cS X (xX1_checkArgument (kL K) D hl False (fun z => z)) q1820 q1821 q137 q1822 nX1_checkArgument ⟨(Nat.le_of_ble_eq_true rfl), (Nat.le_of_ble_eq_true rfl)⟩ dX1_moveSource_45 rfl (Nat.le_of_ble_eq_true rfl) hK (fun _ z => z.elim) ⟨(Nat.le_of_ble_eq_true rfl), (Nat.le_of_ble_eq_true rfl)⟩ (fun Xn q H hq hz_ hk hXO => ?_) (fun v_ H hq hz_ hk => hq.elim)
    obtain rfl := hq
    exact vt_out X (fun x hx => (ht x hx).elim) hQ hXO (Nat.le_of_ble_eq_true rfl) (Nat.le_of_ble_eq_true rfl) rfl
  · refine vv_iload_n X dX1_moveSource_26 rfl 4 rfl ?_
    refine vv_i2l (v := (y).toInt64) X dX1_moveSource_27 rfl ?_
    refine vv_ldc2 (v := -2000) X q2833 dX1_moveSource_28 ?_
    refine vv_eql (show _ = (-2000 : Int32).toInt64 from by decide) ?_
    refine vv_ldc2 (v := 2000) X q2834 dX1_moveSource_31 ?_
    refine vv_eql (show _ = (2000 : Int32).toInt64 from by decide) ?_
    refine vv_callSp X (mX1_in (kL K) D ((y).toInt64) ((-2000 : Int32).toInt64) ((2000 : Int32).toInt64)) q449 q450 q137 q451 nX1_in ⟨(Nat.le_of_ble_eq_true rfl), (Nat.le_of_ble_eq_true rfl)⟩ dX1_moveSource_34 rfl (Nat.le_of_ble_eq_true rfl) trivial ⟨(Nat.le_of_ble_eq_true rfl), (Nat.le_of_ble_eq_true rfl)⟩ ?_
    refine vv_eqi (b2_eq (in_I)) ?_
    refine vb_eq (tgt := 44) X dX1_moveSource_37 (by decide) (fun c_37 => ?_) (fun c_37 => ?_)
    · refine vv_iconst (v := nI 0) X dX1_moveSource_44 (by decide) ?_
      refine vx_cS X (xX1_checkArgument (kL K) D hl False (fun z => z)) q1820 q1821 q137 q1822 nX1_checkArgument ⟨(Nat.le_of_ble_eq_true rfl), (Nat.le_of_ble_eq_true rfl)⟩ dX1_moveSource_45 rfl (Nat.le_of_ble_eq_true rfl) hK (fun _ z => z.elim) ⟨(Nat.le_of_ble_eq_true rfl), (Nat.le_of_ble_eq_true rfl)⟩ (fun Xn q H hq hz_ hk hXO => ?_) (fun v_ H hq hz_ hk => hq.elim)
      obtain rfl := hq
      exact vt_out X (fun x hx => (ht x hx).elim) hQ hXO (Nat.le_of_ble_eq_true rfl) (Nat.le_of_ble_eq_true rfl) rfl
    · exact absurd ⟨c_23, c_37⟩ hp
set_option maxHeartbeats 800000 in
theorem w2X1_setVelocity (l : Launch) (D : DD) (hl : l.stackTraces = false) (u : Nat → Nat) (P T : Nat → Int32) (o : Nat) (g : Nat → Nat) (S : Nat → Int32) (pw : Option Nat) (c : Nat) (v0 v1 v2 v3 v5 v6 v7 : Value) (m : Nat) (x y : Int32) (hC : VC P) (hV : VS S) (hm : m < nS P) (hp : ¬ ((-999 ≤ x ∧ x ≤ 999) ∧ -999 ≤ y ∧ y ≤ 999)) : Cx l yX1_setVelocity cX1_setVelocity 5 (some .int) { frames := 7, cells := 1, slots := 6, locals := 109 } D [.ref c, .int (nI m), .int (x), .int (y)] (fun H => KH D H ∧ oB D H c 0 [v0, v1, v2, v3, .ref (g 0), v5, v6, v7] ∧ UR D u P T o H ∧ SR D g u P S pw H) (fun _ => False) (fun r H H1 => False) (fun Xn q H H1 => Xn = "java/lang/IllegalArgumentException") := by
  refine Cx.of (by decide +kernel) (Nat.le_of_ble_eq_true rfl) (fun K Qf hkl X ht hM hQ => ?_)
  subst hkl
  obtain ⟨hK, hc, hU, hR⟩ := hM
  have hz : (kS K).heap.size ≤ (kS K).heap.size := Nat.le_refl _
  have hP := hC.v
  have l0 := hP.l0
  have l1 := hP.l1
  have l2 := hP.l2
  have l4 := hP.l4
  have l5 := hP.l5
  have l8 := hP.l8
  have l9 := hP.l9
  have l10 := hP.l10
  have l71 := hP.l71
  have l76 := hP.l76
  have l77 := hP.l77
  have hx1 := hC.x1
  have hy1 := hC.y1
  have ht1 := hC.t1
  have he1 := hC.e1
  have hm1 := hC.m1
  have hcc : nC P ≤ 144 := Nat.mul_le_mul l9 l10
  refine vv_sub (lv' := [(0, .ref c), (1, .int (nI m)), (2, .int (x)), (3, .int (y))]) [0, 1, 2, 3] rfl ?_
  refine vv_aload_n X dX1_setVelocity_0 rfl 0 rfl ?_
  refine vv_iload_n X dX1_setVelocity_1 rfl 1 rfl ?_
  refine vv_callVp X (mX1_withSource (kL K) D u P T o g S pw c v0 v1 v2 v3 v5 v6 v7 m hC hV (by omega)) q1858 q1860 qs38 q137 q1861 nX1_withSource ⟨(Nat.le_of_ble_eq_true rfl), (Nat.le_of_ble_eq_true rfl)⟩ dX1_setVelocity_2 rfl (Nat.le_of_ble_eq_true rfl) (recv X hc CL_X1) ⟨hK, hc, hU, hR⟩ ⟨(Nat.le_of_ble_eq_true rfl), (Nat.le_of_ble_eq_true rfl)⟩ ?_
  refine vv_getfN (C := RX3) (T := TX3) (N := 8) (ref := "AcousticCamera$State") X hR.ob in_X3 CL_X3 3 (by decide) q1694 rfl rfl dX1_setVelocity_5 ?_
  refine vv_iload_n X dX1_setVelocity_8 rfl 1 rfl ?_
  refine vv_aald (ty := 8) X hR.sa rfl rfl (m) (by omega) (by omega) rfl dX1_setVelocity_9 (v := .ref (g (30 + m))) rfl ?_
  refine vv_astore (lv' := [(4, .ref (g (30 + m))), (0, .ref c), (1, .int (nI m)), (2, .int (x)), (3, .int (y))]) X dX1_setVelocity_10 (by decide) rfl ?_
  refine vv_iload_n X dX1_setVelocity_12 rfl 3 rfl ?_
  refine vv_i2l (v := (x).toInt64) X dX1_setVelocity_13 rfl ?_
  refine vv_ldc2 (v := -999) X q2525 dX1_setVelocity_14 ?_
  refine vv_eql (show _ = (-999 : Int32).toInt64 from by decide) ?_
  refine vv_ldc2 (v := 999) X q2526 dX1_setVelocity_17 ?_
  refine vv_eql (show _ = (999 : Int32).toInt64 from by decide) ?_
  refine vv_callSp X (mX1_in (kL K) D ((x).toInt64) ((-999 : Int32).toInt64) ((999 : Int32).toInt64)) q449 q450 q137 q451 nX1_in ⟨(Nat.le_of_ble_eq_true rfl), (Nat.le_of_ble_eq_true rfl)⟩ dX1_setVelocity_20 rfl (Nat.le_of_ble_eq_true rfl) trivial ⟨(Nat.le_of_ble_eq_true rfl), (Nat.le_of_ble_eq_true rfl)⟩ ?_
  refine vv_eqi (b2_eq (in_I)) ?_
  refine vb_eq (tgt := 44) X dX1_setVelocity_23 (by decide) (fun c_23 => ?_) (fun c_23 => ?_)
  · refine vv_iconst (v := nI 0) X dX1_setVelocity_44 (by decide) ?_
    refine vx_cS X (xX1_checkArgument (kL K) D hl False (fun z => z)) q1820 q1821 q137 q1822 nX1_checkArgument ⟨(Nat.le_of_ble_eq_true rfl), (Nat.le_of_ble_eq_true rfl)⟩ dX1_setVelocity_45 rfl (Nat.le_of_ble_eq_true rfl) hK (fun _ z => z.elim) ⟨(Nat.le_of_ble_eq_true rfl), (Nat.le_of_ble_eq_true rfl)⟩ (fun Xn q H hq hz_ hk hXO => ?_) (fun v_ H hq hz_ hk => hq.elim)
    obtain rfl := hq
    exact vt_out X (fun x hx => (ht x hx).elim) hQ hXO (Nat.le_of_ble_eq_true rfl) (Nat.le_of_ble_eq_true rfl) rfl
  · refine vv_iload_n X dX1_setVelocity_26 rfl 4 rfl ?_
    refine vv_i2l (v := (y).toInt64) X dX1_setVelocity_27 rfl ?_
    refine vv_ldc2 (v := -999) X q2525 dX1_setVelocity_28 ?_
    refine vv_eql (show _ = (-999 : Int32).toInt64 from by decide) ?_
    refine vv_ldc2 (v := 999) X q2526 dX1_setVelocity_31 ?_
    refine vv_eql (show _ = (999 : Int32).toInt64 from by decide) ?_
    refine vv_callSp X (mX1_in (kL K) D ((y).toInt64) ((-999 : Int32).toInt64) ((999 : Int32).toInt64)) q449 q450 q137 q451 nX1_in ⟨(Nat.le_of_ble_eq_true rfl), (Nat.le_of_ble_eq_true rfl)⟩ dX1_setVelocity_34 rfl (Nat.le_of_ble_eq_true rfl) trivial ⟨(Nat.le_of_ble_eq_true rfl), (Nat.le_of_ble_eq_true rfl)⟩ ?_
    refine vv_eqi (b2_eq (in_I)) ?_
    refine vb_eq (tgt := 44) X dX1_setVelocity_37 (by decide) (fun c_37 => ?_) (fun c_37 => ?_)
    · refine vv_iconst (v := nI 0) X dX1_setVelocity_44 (by decide) ?_
      refine vx_cS X (xX1_checkArgument (kL K) D hl False (fun z => z)) q1820 q1821 q137 q1822 nX1_checkArgument ⟨(Nat.le_of_ble_eq_true rfl), (Nat.le_of_ble_eq_true rfl)⟩ dX1_setVelocity_45 rfl (Nat.le_of_ble_eq_true rfl) hK (fun _ z => z.elim) ⟨(Nat.le_of_ble_eq_true rfl), (Nat.le_of_ble_eq_true rfl)⟩ (fun Xn q H hq hz_ hk hXO => ?_) (fun v_ H hq hz_ hk => hq.elim)
      obtain rfl := hq
      exact vt_out X (fun x hx => (ht x hx).elim) hQ hXO (Nat.le_of_ble_eq_true rfl) (Nat.le_of_ble_eq_true rfl) rfl
    · exact absurd ⟨c_23, c_37⟩ hp
set_option maxHeartbeats 800000 in
theorem xX1_path (l : Launch) (D : DD) (hl : l.stackTraces = false) (u : Nat → Nat) (P T : Nat → Int32) (o : Nat) (g : Nat → Nat) (S : Nat → Int32) (pw : Option Nat) (c : Nat) (v0 v1 v2 v3 v5 v6 v7 : Value) (q : Int32) (hC : VC P) (hV : VS S) (hp : ¬ (nI 4 ≤ q ∧ q ≤ nI (nT P))) : Cx l yX1_path cX1_path 6 (some .int) { frames := 7, cells := 1, slots := 6, locals := 109 } D [.ref c, .int (q)] (fun H => KH D H ∧ oB D H c 0 [v0, v1, v2, v3, .ref (g 0), v5, v6, v7] ∧ UR D u P T o H ∧ SR D g u P S pw H) (fun _ => False) (fun r H H1 => False) (fun Xn q H H1 => Xn = "java/lang/IllegalArgumentException") := by
  refine Cx.of (by decide +kernel) (Nat.le_of_ble_eq_true rfl) (fun K Qf hkl X ht hM hQ => ?_)
  subst hkl
  obtain ⟨hK, hc, hU, hR⟩ := hM
  have hz : (kS K).heap.size ≤ (kS K).heap.size := Nat.le_refl _
  have hP := hC.v
  have l0 := hP.l0
  have l1 := hP.l1
  have l2 := hP.l2
  have l4 := hP.l4
  have l5 := hP.l5
  have l8 := hP.l8
  have l9 := hP.l9
  have l10 := hP.l10
  have l71 := hP.l71
  have l76 := hP.l76
  have l77 := hP.l77
  have hx1 := hC.x1
  have hy1 := hC.y1
  have ht1 := hC.t1
  have he1 := hC.e1
  have hm1 := hC.m1
  have hcc : nC P ≤ 144 := Nat.mul_le_mul l9 l10
  refine vv_sub (lv' := [(0, .ref c), (1, .int (q))]) [0, 1] rfl ?_
  refine vv_aload_n X dX1_path_0 rfl 0 rfl ?_
  refine vv_callVp X (mX1_there (kL K) D u P T o g S pw c v0 v1 v2 v3 v5 v6 v7  hC hV ) q1797 q1799 qs36 q137 q1800 nX1_there ⟨(Nat.le_of_ble_eq_true rfl), (Nat.le_of_ble_eq_true rfl)⟩ dX1_path_1 rfl (Nat.le_of_ble_eq_true rfl) (recv X hc CL_X1) ⟨hK, hc, hU, hR⟩ ⟨(Nat.le_of_ble_eq_true rfl), (Nat.le_of_ble_eq_true rfl)⟩ ?_
  refine vv_pop X dX1_path_4 rfl ?_
  refine vv_iload_n X dX1_path_5 rfl 1 rfl ?_
  refine vv_i2l (v := (q).toInt64) X dX1_path_6 rfl ?_
  refine vv_ldc2 (v := 4) X q2479 dX1_path_7 ?_
  refine vv_eql (show _ = (nI 4 : Int32).toInt64 from by decide) ?_
  refine vv_aload_n X dX1_path_10 rfl 0 rfl ?_
  refine vv_getf (C := RX1) (T := TX1) (N := 8) (ref := "AcousticCamera") X hc in_X1 CL_X1 4 (by decide) q259 rfl rfl dX1_path_11 ?_
  refine vv_getfN (C := RX3) (T := TX3) (N := 8) (ref := "AcousticCamera$State") X hR.ob in_X3 CL_X3 0 (by decide) q1688 rfl rfl dX1_path_14 ?_
  refine vv_getfN (C := RX5) (T := TX5) (N := 19) (ref := "AcousticCamera$Setup") X hU.ob in_X5 CL_X5 10 (by decide) q804 rfl rfl dX1_path_17 ?_
  refine vv_i2l (v := (nI (nT P)).toInt64) X dX1_path_20 rfl ?_
  refine vv_callSp X (mX1_in (kL K) D ((q).toInt64) ((nI 4 : Int32).toInt64) ((nI (nT P)).toInt64)) q449 q450 q137 q451 nX1_in ⟨(Nat.le_of_ble_eq_true rfl), (Nat.le_of_ble_eq_true rfl)⟩ dX1_path_21 rfl (Nat.le_of_ble_eq_true rfl) trivial ⟨(Nat.le_of_ble_eq_true rfl), (Nat.le_of_ble_eq_true rfl)⟩ ?_
  refine vv_eqi (b2_eq (in_I)) ?_
  refine vx_cS X (xX1_checkArgument (kL K) D hl ((nI 4 : Int32) ≤ (q) ∧ (q) ≤ (nI (nT P))) (hp)) q1820 q1821 q137 q1822 nX1_checkArgument ⟨(Nat.le_of_ble_eq_true rfl), (Nat.le_of_ble_eq_true rfl)⟩ dX1_path_24 rfl (Nat.le_of_ble_eq_true rfl) hK (fun _ z => z.elim) ⟨(Nat.le_of_ble_eq_true rfl), (Nat.le_of_ble_eq_true rfl)⟩ (fun Xn q H hq hz_ hk hXO => ?_) (fun v_ H hq hz_ hk => hq.elim)
  obtain rfl := hq
  exact vt_out X (fun x hx => (ht x hx).elim) hQ hXO (Nat.le_of_ble_eq_true rfl) (Nat.le_of_ble_eq_true rfl) rfl
set_option maxHeartbeats 800000 in
theorem w2X1_bestVelocity (l : Launch) (D : DD) (hl : l.stackTraces = false) (u : Nat → Nat) (P T : Nat → Int32) (o : Nat) (g : Nat → Nat) (S : Nat → Int32) (pw : Option Nat) (c : Nat) (v0 v1 v2 v3 v5 v6 v7 : Value) (k : Nat) (s m : Int32) (hC : VC P) (hV : VS S) (hk : k < nC P) (hp : ¬ ((nI 1 ≤ s ∧ s ≤ nI 99) ∧ nI 0 ≤ m ∧ m ≤ nI 4)) : Cx l yX1_bestVelocity cX1_bestVelocity 7 (some .int) { frames := 7, cells := 1, slots := 6, locals := 109 } D [.ref c, .int (nI k), .int (s), .int (m)] (fun H => KH D H ∧ oB D H c 0 [v0, v1, v2, v3, .ref (g 0), v5, v6, v7] ∧ UR D u P T o H ∧ SR D g u P S pw H) (fun _ => False) (fun r H H1 => False) (fun Xn q H H1 => Xn = "java/lang/IllegalArgumentException") := by
  refine Cx.of (by decide +kernel) (Nat.le_of_ble_eq_true rfl) (fun K Qf hkl X ht hM hQ => ?_)
  subst hkl
  obtain ⟨hK, hc, hU, hR⟩ := hM
  have hz : (kS K).heap.size ≤ (kS K).heap.size := Nat.le_refl _
  have hP := hC.v
  have l0 := hP.l0
  have l1 := hP.l1
  have l2 := hP.l2
  have l4 := hP.l4
  have l5 := hP.l5
  have l8 := hP.l8
  have l9 := hP.l9
  have l10 := hP.l10
  have l71 := hP.l71
  have l76 := hP.l76
  have l77 := hP.l77
  have hx1 := hC.x1
  have hy1 := hC.y1
  have ht1 := hC.t1
  have he1 := hC.e1
  have hm1 := hC.m1
  have hcc : nC P ≤ 144 := Nat.mul_le_mul l9 l10
  refine vv_sub (lv' := [(0, .ref c), (1, .int (nI k)), (2, .int (s)), (3, .int (m))]) [0, 1, 2, 3] rfl ?_
  refine vv_aload_n X dX1_bestVelocity_0 rfl 0 rfl ?_
  refine vv_iload_n X dX1_bestVelocity_1 rfl 1 rfl ?_
  refine vv_callVp X (mX1_withCell (kL K) D u P T o g S pw c v0 v1 v2 v3 v5 v6 v7 k hC hV (by omega)) q1845 q1847 qs37 q137 q1848 nX1_withCell ⟨(Nat.le_of_ble_eq_true rfl), (Nat.le_of_ble_eq_true rfl)⟩ dX1_bestVelocity_2 rfl (Nat.le_of_ble_eq_true rfl) (recv X hc CL_X1) ⟨hK, hc, hU, hR⟩ ⟨(Nat.le_of_ble_eq_true rfl), (Nat.le_of_ble_eq_true rfl)⟩ ?_
  refine vv_astore (lv' := [(4, .ref (g 0)), (0, .ref c), (1, .int (nI k)), (2, .int (s)), (3, .int (m))]) X dX1_bestVelocity_5 (by decide) rfl ?_
  refine vv_iload_n X dX1_bestVelocity_7 rfl 3 rfl ?_
  refine vv_i2l (v := (s).toInt64) X dX1_bestVelocity_8 rfl ?_
  refine vv_lconst (v := 1) X dX1_bestVelocity_9 (by decide) ?_
  refine vv_eql (show _ = (nI 1 : Int32).toInt64 from by decide) ?_
  refine vv_ldc2 (v := 99) X q2394 dX1_bestVelocity_10 ?_
  refine vv_eql (show _ = (nI 99 : Int32).toInt64 from by decide) ?_
  refine vv_callSp X (mX1_in (kL K) D ((s).toInt64) ((nI 1 : Int32).toInt64) ((nI 99 : Int32).toInt64)) q449 q450 q137 q451 nX1_in ⟨(Nat.le_of_ble_eq_true rfl), (Nat.le_of_ble_eq_true rfl)⟩ dX1_bestVelocity_13 rfl (Nat.le_of_ble_eq_true rfl) trivial ⟨(Nat.le_of_ble_eq_true rfl), (Nat.le_of_ble_eq_true rfl)⟩ ?_
  refine vv_eqi (b2_eq (in_I)) ?_
  refine vb_eq (tgt := 35) X dX1_bestVelocity_16 (by decide) (fun c_16 => ?_) (fun c_16 => ?_)
  · refine vv_iconst (v := nI 0) X dX1_bestVelocity_35 (by decide) ?_
    refine vx_cS X (xX1_checkArgument (kL K) D hl False (fun z => z)) q1820 q1821 q137 q1822 nX1_checkArgument ⟨(Nat.le_of_ble_eq_true rfl), (Nat.le_of_ble_eq_true rfl)⟩ dX1_bestVelocity_36 rfl (Nat.le_of_ble_eq_true rfl) hK (fun _ z => z.elim) ⟨(Nat.le_of_ble_eq_true rfl), (Nat.le_of_ble_eq_true rfl)⟩ (fun Xn q H hq hz_ hk hXO => ?_) (fun v_ H hq hz_ hk => hq.elim)
    obtain rfl := hq
    exact vt_out X (fun x hx => (ht x hx).elim) hQ hXO (Nat.le_of_ble_eq_true rfl) (Nat.le_of_ble_eq_true rfl) rfl
  · refine vv_iload_n X dX1_bestVelocity_19 rfl 4 rfl ?_
    refine vv_i2l (v := (m).toInt64) X dX1_bestVelocity_20 rfl ?_
    refine vv_lconst (v := 0) X dX1_bestVelocity_21 (by decide) ?_
    refine vv_eql (show (0 : Int64) = (nI 0).toInt64 from by decide) ?_
    refine vv_ldc2 (v := 4) X q2479 dX1_bestVelocity_22 ?_
    refine vv_eql (show _ = (nI 4 : Int32).toInt64 from by decide) ?_
    refine vv_callSp X (mX1_in (kL K) D ((m).toInt64) ((nI 0).toInt64) ((nI 4 : Int32).toInt64)) q449 q450 q137 q451 nX1_in ⟨(Nat.le_of_ble_eq_true rfl), (Nat.le_of_ble_eq_true rfl)⟩ dX1_bestVelocity_25 rfl (Nat.le_of_ble_eq_true rfl) trivial ⟨(Nat.le_of_ble_eq_true rfl), (Nat.le_of_ble_eq_true rfl)⟩ ?_
    refine vv_eqi (b2_eq (in_I)) ?_
    refine vb_eq (tgt := 35) X dX1_bestVelocity_28 (by decide) (fun c_28 => ?_) (fun c_28 => ?_)
    · refine vv_iconst (v := nI 0) X dX1_bestVelocity_35 (by decide) ?_
      refine vx_cS X (xX1_checkArgument (kL K) D hl False (fun z => z)) q1820 q1821 q137 q1822 nX1_checkArgument ⟨(Nat.le_of_ble_eq_true rfl), (Nat.le_of_ble_eq_true rfl)⟩ dX1_bestVelocity_36 rfl (Nat.le_of_ble_eq_true rfl) hK (fun _ z => z.elim) ⟨(Nat.le_of_ble_eq_true rfl), (Nat.le_of_ble_eq_true rfl)⟩ (fun Xn q H hq hz_ hk hXO => ?_) (fun v_ H hq hz_ hk => hq.elim)
      obtain rfl := hq
      exact vt_out X (fun x hx => (ht x hx).elim) hQ hXO (Nat.le_of_ble_eq_true rfl) (Nat.le_of_ble_eq_true rfl) rfl
    · exact absurd ⟨c_16, c_28⟩ hp
