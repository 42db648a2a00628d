/-! AcousticCamera: questions that only read: printed by gen/s17.py -/
set_option maxRecDepth 100000
theorem nX1_isSample : notMH yX1_isSample 1 := by decide +kernel
set_option maxHeartbeats 800000 in
theorem mX1_isSample (l : Launch) (D : DD) (u : Nat → Nat) (P T : Nat → Int32) (o : Nat) (g : Nat → Nat) (S : Nat → Int32) (pw : Option Nat) (c : Nat) (v0 v1 v2 v3 v5 v6 v7 : Value) (q : Int32) (hC : VC P) (hV : VS S) : Cp l yX1_isSample cX1_isSample 2 (some .boolean) { frames := 2, cells := 0, slots := 0, locals := 37 } D [.ref c, .int (q)] (fun H => KH D H ∧ oB D H c 0 [v0, v1, v2, v3, .ref (g 0), v5, v6, v7] ∧ UR D u P T o H ∧ SR D g u P S pw H) (.int (b2 (ix (nT P) q))) := by
  refine Ct.of (by decide +kernel) (Nat.le_of_ble_eq_true rfl) (fun K Qf hkl X hM hQ => ?_)
  subst hkl
  obtain ⟨hK, hc, hU, hR⟩ := hM
  have hP := hC.v
  have l0 := hP.l0
  have l1 := hP.l1
  have l2 := hP.l2
  have l4 := hP.l4
  have l5 := hP.l5
  have l8 := hP.l8
  have l9 := hP.l9
  have l10 := hP.l10
  have l71 := hP.l71
  have l76 := hP.l76
  have l77 := hP.l77
  have hx1 := hC.x1
  have hy1 := hC.y1
  have ht1 := hC.t1
  have he1 := hC.e1
  have hm1 := hC.m1
  have hcc : nC P ≤ 144 := Nat.mul_le_mul l9 l10
  refine vv_sub (lv' := [(0, .ref c), (1, .int (q))]) [0, 1] rfl ?_
  refine vv_iload_n X dX1_isSample_0 rfl 1 rfl ?_
  refine vv_i2l (v := (q).toInt64) X dX1_isSample_1 rfl ?_
  refine vv_lconst (v := 0) X dX1_isSample_2 (by decide) ?_
  refine vv_eql (show (0 : Int64) = (nI 0).toInt64 from by decide) ?_
  refine vv_aload_n X dX1_isSample_3 rfl 0 rfl ?_
  refine vv_getf (C := RX1) (T := TX1) (N := 8) (ref := "AcousticCamera") X hc in_X1 CL_X1 4 (by decide) q259 rfl rfl dX1_isSample_4 ?_
  refine vv_getfN (C := RX3) (T := TX3) (N := 8) (ref := "AcousticCamera$State") X hR.ob in_X3 CL_X3 0 (by decide) q1688 rfl rfl dX1_isSample_7 ?_
  refine vv_getfN (C := RX5) (T := TX5) (N := 19) (ref := "AcousticCamera$Setup") X hU.ob in_X5 CL_X5 10 (by decide) q804 rfl rfl dX1_isSample_10 ?_
  refine vv_iconst (v := nI 1) X dX1_isSample_13 (by decide) ?_
  refine vv_isub X dX1_isSample_14 ?_
  refine vv_i2l (v := ((nI (nT P)) - (nI 1)).toInt64) X dX1_isSample_15 rfl ?_
  refine vv_callSp X (mX1_in (kL K) D ((q).toInt64) ((nI 0).toInt64) (((nI (nT P)) - (nI 1)).toInt64)) q449 q450 q137 q451 nX1_in ⟨(Nat.le_of_ble_eq_true rfl), (Nat.le_of_ble_eq_true rfl)⟩ dX1_isSample_16 rfl (Nat.le_of_ble_eq_true rfl) trivial ⟨(Nat.le_of_ble_eq_true rfl), (Nat.le_of_ble_eq_true rfl)⟩ ?_
  refine vv_eqi (b2_eq (in_I)) ?_
  exact vv_zret X (b2_nar _) hQ dX1_isSample_19 (Nat.le_of_ble_eq_true rfl) (Nat.le_of_ble_eq_true rfl) (pq (rfl))
theorem nX1_isPoint : notMH yX1_isPoint 2 := by decide +kernel
set_option maxHeartbeats 800000 in
theorem mX1_isPoint (l : Launch) (D : DD) (x y : Int32)  : Cp l yX1_isPoint cX1_isPoint 2 (some .boolean) { frames := 2, cells := 0, slots := 0, locals := 37 } D [.int (x), .int (y)] (fun H => True) (.int (b2 ((-9999 ≤ x ∧ x ≤ 9999) ∧ -9999 ≤ y ∧ y ≤ 9999))) := by
  refine Ct.of (by decide +kernel) (Nat.le_of_ble_eq_true rfl) (fun K Qf hkl X hM hQ => ?_)
  subst hkl
  refine vv_sub (lv' := [(0, .int (x)), (1, .int (y))]) [0, 1] rfl ?_
  refine vv_iload_n X dX1_isPoint_0 rfl 0 rfl ?_
  refine vv_i2l (v := (x).toInt64) X dX1_isPoint_1 rfl ?_
  refine vv_ldc2 (v := -9999) X q1901 dX1_isPoint_2 ?_
  refine vv_eql (show _ = (-9999 : Int32).toInt64 from by decide) ?_
  refine vv_ldc2 (v := 9999) X q1902 dX1_isPoint_5 ?_
  refine vv_eql (show _ = (9999 : Int32).toInt64 from by decide) ?_
  refine vv_callSp X (mX1_in (kL K) D ((x).toInt64) ((-9999 : Int32).toInt64) ((9999 : Int32).toInt64)) q449 q450 q137 q451 nX1_in ⟨(Nat.le_of_ble_eq_true rfl), (Nat.le_of_ble_eq_true rfl)⟩ dX1_isPoint_8 rfl (Nat.le_of_ble_eq_true rfl) trivial ⟨(Nat.le_of_ble_eq_true rfl), (Nat.le_of_ble_eq_true rfl)⟩ ?_
  refine vv_eqi (b2_eq (in_I)) ?_
  refine vb_eq (tgt := 32) X dX1_isPoint_11 (by decide) (fun c_11 => ?_) (fun c_11 => ?_)
  · refine vv_iconst (v := nI 0) X dX1_isPoint_32 (by decide) ?_
    exact vv_zret X (rfl) hQ dX1_isPoint_33 (Nat.le_of_ble_eq_true rfl) (Nat.le_of_ble_eq_true rfl) (pq (b2_0 (fun z => c_11 z.1)))
  · refine vv_iload_n X dX1_isPoint_14 rfl 1 rfl ?_
    refine vv_i2l (v := (y).toInt64) X dX1_isPoint_15 rfl ?_
    refine vv_ldc2 (v := -9999) X q1901 dX1_isPoint_16 ?_
    refine vv_eql (show _ = (-9999 : Int32).toInt64 from by decide) ?_
    refine vv_ldc2 (v := 9999) X q1902 dX1_isPoint_19 ?_
    refine vv_eql (show _ = (9999 : Int32).toInt64 from by decide) ?_
    refine vv_callSp X (mX1_in (kL K) D ((y).toInt64) ((-9999 : Int32).toInt64) ((9999 : Int32).toInt64)) q449 q450 q137 q451 nX1_in ⟨(Nat.le_of_ble_eq_true rfl), (Nat.le_of_ble_eq_true rfl)⟩ dX1_isPoint_22 rfl (Nat.le_of_ble_eq_true rfl) trivial ⟨(Nat.le_of_ble_eq_true rfl), (Nat.le_of_ble_eq_true rfl)⟩ ?_
    refine vv_eqi (b2_eq (in_I)) ?_
    refine vb_eq (tgt := 32) X dX1_isPoint_25 (by decide) (fun c_25 => ?_) (fun c_25 => ?_)
    · refine vv_iconst (v := nI 0) X dX1_isPoint_32 (by decide) ?_
      exact vv_zret X (rfl) hQ dX1_isPoint_33 (Nat.le_of_ble_eq_true rfl) (Nat.le_of_ble_eq_true rfl) (pq (b2_0 (fun z => c_25 z.2)))
    · refine vv_iconst (v := nI 1) X dX1_isPoint_28 (by decide) ?_
      refine vv_goto (tgt := 33) X dX1_isPoint_29 (by decide) ?_
      exact vv_zret X (rfl) hQ dX1_isPoint_33 (Nat.le_of_ble_eq_true rfl) (Nat.le_of_ble_eq_true rfl) (pq (b2_1 ⟨c_11, c_25⟩))
theorem nX1_isPeriod : notMH yX1_isPeriod 1 := by decide +kernel
set_option maxHeartbeats 800000 in
theorem mX1_isPeriod (l : Launch) (D : DD) (x : Int32)  : Cp l yX1_isPeriod cX1_isPeriod 1 (some .boolean) { frames := 2, cells := 0, slots := 0, locals := 37 } D [.int (x)] (fun H => True) (.int (b2 (nI 2 ≤ x ∧ x ≤ nI 99))) := by
  refine Ct.of (by decide +kernel) (Nat.le_of_ble_eq_true rfl) (fun K Qf hkl X hM hQ => ?_)
  subst hkl
  refine vv_sub (lv' := [(0, .int (x))]) [0] rfl ?_
  refine vv_iload_n X dX1_isPeriod_0 rfl 0 rfl ?_
  refine vv_i2l (v := (x).toInt64) X dX1_isPeriod_1 rfl ?_
  refine vv_ldc2 (v := 2) X q2393 dX1_isPeriod_2 ?_
  refine vv_eql (show _ = (nI 2 : Int32).toInt64 from by decide) ?_
  refine vv_ldc2 (v := 99) X q2394 dX1_isPeriod_5 ?_
  refine vv_eql (show _ = (nI 99 : Int32).toInt64 from by decide) ?_
  refine vv_callSp X (mX1_in (kL K) D ((x).toInt64) ((nI 2 : Int32).toInt64) ((nI 99 : Int32).toInt64)) q449 q450 q137 q451 nX1_in ⟨(Nat.le_of_ble_eq_true rfl), (Nat.le_of_ble_eq_true rfl)⟩ dX1_isPeriod_8 rfl (Nat.le_of_ble_eq_true rfl) trivial ⟨(Nat.le_of_ble_eq_true rfl), (Nat.le_of_ble_eq_true rfl)⟩ ?_
  refine vv_eqi (b2_eq (in_I)) ?_
  exact vv_zret X (b2_nar _) hQ dX1_isPeriod_11 (Nat.le_of_ble_eq_true rfl) (Nat.le_of_ble_eq_true rfl) (pq (rfl))
theorem nX1_isMuted : notMH yX1_isMuted 1 := by decide +kernel
set_option maxHeartbeats 800000 in
theorem mX1_isMuted (l : Launch) (D : DD) (u : Nat → Nat) (P T : Nat → Int32) (o : Nat) (g : Nat → Nat) (S : Nat → Int32) (pw : Option Nat) (c : Nat) (v0 v1 v2 v3 v5 v6 v7 : Value) (m : Nat) (hC : VC P) (hV : VS S) (hm : m < nM P) : Cp l yX1_isMuted cX1_isMuted 2 (some .boolean) { frames := 4, cells := 0, slots := 0, locals := 79 } D [.ref c, .int (nI m)] (fun H => KH D H ∧ oB D H c 0 [v0, v1, v2, v3, .ref (g 0), v5, v6, v7] ∧ UR D u P T o H ∧ SR D g u P S pw H) (.int (b2 (¬ S (1 + m) = 0))) := by
  refine Ct.of (by decide +kernel) (Nat.le_of_ble_eq_true rfl) (fun K Qf hkl X hM hQ => ?_)
  subst hkl
  obtain ⟨hK, hc, hU, hR⟩ := hM
  have hP := hC.v
  have l0 := hP.l0
  have l1 := hP.l1
  have l2 := hP.l2
  have l4 := hP.l4
  have l5 := hP.l5
  have l8 := hP.l8
  have l9 := hP.l9
  have l10 := hP.l10
  have l71 := hP.l71
  have l76 := hP.l76
  have l77 := hP.l77
  have hx1 := hC.x1
  have hy1 := hC.y1
  have ht1 := hC.t1
  have he1 := hC.e1
  have hm1 := hC.m1
  have hcc : nC P ≤ 144 := Nat.mul_le_mul l9 l10
  refine vv_sub (lv' := [(0, .ref c), (1, .int (nI m))]) [0, 1] rfl ?_
  refine vv_aload_n X dX1_isMuted_0 rfl 0 rfl ?_
  refine vv_iload_n X dX1_isMuted_1 rfl 1 rfl ?_
  refine vv_callVp X (mX1_withMic (kL K) D u P T o g S pw c v0 v1 v2 v3 v5 v6 v7 m hC hV (by omega)) q1793 q1795 qs35 q137 q1796 nX1_withMic ⟨(Nat.le_of_ble_eq_true rfl), (Nat.le_of_ble_eq_true rfl)⟩ dX1_isMuted_2 rfl (Nat.le_of_ble_eq_true rfl) (recv X hc CL_X1) ⟨hK, hc, hU, hR⟩ ⟨(Nat.le_of_ble_eq_true rfl), (Nat.le_of_ble_eq_true rfl)⟩ ?_
  refine vv_iload_n X dX1_isMuted_5 rfl 1 rfl ?_
  refine vv_callVp X (mX3_isActive (kL K) D u P T o g S pw m hC hV (by omega)) q1833 q1834 q1835 q150 q1836 nX3_isActive ⟨(Nat.le_of_ble_eq_true rfl), (Nat.le_of_ble_eq_true rfl)⟩ dX1_isMuted_6 rfl (Nat.le_of_ble_eq_true rfl) (recv X hR.ob CL_X3) ⟨hK, hU, hR⟩ ⟨(Nat.le_of_ble_eq_true rfl), (Nat.le_of_ble_eq_true rfl)⟩ ?_
  refine vb_ne (tgt := 16) X dX1_isMuted_9 (by decide) (fun c_9 => ?_) (fun c_9 => ?_)
  · refine vv_iconst (v := nI 0) X dX1_isMuted_16 (by decide) ?_
    exact vv_zret X (rfl) hQ dX1_isMuted_17 (Nat.le_of_ble_eq_true rfl) (Nat.le_of_ble_eq_true rfl) (pq (b2_0 (fun z => z c_9)))
  · refine vv_iconst (v := nI 1) X dX1_isMuted_12 (by decide) ?_
    refine vv_goto (tgt := 17) X dX1_isMuted_13 (by decide) ?_
    exact vv_zret X (rfl) hQ dX1_isMuted_17 (Nat.le_of_ble_eq_true rfl) (Nat.le_of_ble_eq_true rfl) (pq (b2_1 c_9))
set_option maxHeartbeats 800000 in
theorem xX1_isMuted (l : Launch) (D : DD) (hl : l.stackTraces = false) (u : Nat → Nat) (P T : Nat → Int32) (o : Nat) (g : Nat → Nat) (S : Nat → Int32) (pw : Option Nat) (c : Nat) (v0 v1 v2 v3 v5 v6 v7 : Value) (q : Int32) (hC : VC P) (hV : VS S) (hq : ¬ ix (nM P) q) : Cx l yX1_isMuted cX1_isMuted 2 (some .boolean) { frames := 8, cells := 1, slots := 6, locals := 131 } D [.ref c, .int (q)] (fun H => KH D H ∧ oB D H c 0 [v0, v1, v2, v3, .ref (g 0), v5, v6, v7] ∧ UR D u P T o H ∧ SR D g u P S pw H) (fun _ => False) (fun r H H1 => False) (fun Xn q H H1 => Xn = "java/lang/IndexOutOfBoundsException") := by
  refine Cx.of (by decide +kernel) (Nat.le_of_ble_eq_true rfl) (fun K Qf hkl X ht hM hQ => ?_)
  subst hkl
  obtain ⟨hK, hc, hU, hR⟩ := hM
  have hz : (kS K).heap.size ≤ (kS K).heap.size := Nat.le_refl _
  have hP := hC.v
  have l0 := hP.l0
  have l1 := hP.l1
  have l2 := hP.l2
  have l4 := hP.l4
  have l5 := hP.l5
  have l8 := hP.l8
  have l9 := hP.l9
  have l10 := hP.l10
  have l71 := hP.l71
  have l76 := hP.l76
  have l77 := hP.l77
  have hx1 := hC.x1
  have hy1 := hC.y1
  have ht1 := hC.t1
  have he1 := hC.e1
  have hm1 := hC.m1
  have hcc : nC P ≤ 144 := Nat.mul_le_mul l9 l10
  refine vv_sub (lv' := [(0, .ref c), (1, .int (q))]) [0, 1] rfl ?_
  refine vv_aload_n X dX1_isMuted_0 rfl 0 rfl ?_
  refine vv_iload_n X dX1_isMuted_1 rfl 1 rfl ?_
  refine vx_cV X (xX1_withMic (kL K) D hl u P T o g S pw c v0 v1 v2 v3 v5 v6 v7 q hC hV (hq)) q1793 q1795 qs35 q137 q1796 nX1_withMic ⟨(Nat.le_of_ble_eq_true rfl), (Nat.le_of_ble_eq_true rfl)⟩ dX1_isMuted_2 rfl (Nat.le_of_ble_eq_true rfl) (recv X hc CL_X1) ⟨hK, hc, hU, hR⟩ (fun _ z => z.elim) ⟨(Nat.le_of_ble_eq_true rfl), (Nat.le_of_ble_eq_true rfl)⟩ (fun Xn q H hq hz_ hk hXO => ?_) (fun v_ H hq hz_ hk => hq.elim)
  obtain rfl := hq
  exact vt_out X (fun x hx => (ht x hx).elim) hQ hXO (Nat.le_of_ble_eq_true rfl) (Nat.le_of_ble_eq_true rfl) rfl
theorem nX1_spread : notMH yX1_spread 1 := by decide +kernel
set_option maxHeartbeats 800000 in
theorem mX1_spread (l : Launch) (D : DD) (u : Nat → Nat) (P T : Nat → Int32) (o : Nat) (g : Nat → Nat) (S : Nat → Int32) (pw : Option Nat) (c : Nat) (v0 v1 v2 v3 v5 v6 v7 : Value) (k : Nat) (hC : VC P) (hV : VS S) (hk : k < nC P) : Cp l yX1_spread cX1_spread 2 (some .int) { frames := 6, cells := 0, slots := 0, locals := 121 } D [.ref c, .int (nI k)] (fun H => KH D H ∧ oB D H c 0 [v0, v1, v2, v3, .ref (g 0), v5, v6, v7] ∧ UR D u P T o H ∧ SR D g u P S pw H) (.int (nI (mxd S (dc P k) (nM P) - fo (fun m a => if S (1 + m) = 0 then min a (dc P k m) else a) (nM P) (mxd S (dc P k) (nM P))))) := by
  refine Ct.of (by decide +kernel) (Nat.le_of_ble_eq_true rfl) (fun K Qf hkl X hM hQ => ?_)
  subst hkl
  obtain ⟨hK, hc, hU, hR⟩ := hM
  have hP := hC.v
  have l0 := hP.l0
  have l1 := hP.l1
  have l2 := hP.l2
  have l4 := hP.l4
  have l5 := hP.l5
  have l8 := hP.l8
  have l9 := hP.l9
  have l10 := hP.l10
  have l71 := hP.l71
  have l76 := hP.l76
  have l77 := hP.l77
  have hx1 := hC.x1
  have hy1 := hC.y1
  have ht1 := hC.t1
  have he1 := hC.e1
  have hm1 := hC.m1
  have hcc : nC P ≤ 144 := Nat.mul_le_mul l9 l10
  refine vv_sub (lv' := [(0, .ref c), (1, .int (nI k))]) [0, 1] rfl ?_
  refine vv_aload_n X dX1_spread_0 rfl 0 rfl ?_
  refine vv_iload_n X dX1_spread_1 rfl 1 rfl ?_
  refine vv_callVp X (mX1_withCell (kL K) D u P T o g S pw c v0 v1 v2 v3 v5 v6 v7 k hC hV (by omega)) q1845 q1847 qs37 q137 q1848 nX1_withCell ⟨(Nat.le_of_ble_eq_true rfl), (Nat.le_of_ble_eq_true rfl)⟩ dX1_spread_2 rfl (Nat.le_of_ble_eq_true rfl) (recv X hc CL_X1) ⟨hK, hc, hU, hR⟩ ⟨(Nat.le_of_ble_eq_true rfl), (Nat.le_of_ble_eq_true rfl)⟩ ?_
  refine vv_iload_n X dX1_spread_5 rfl 1 rfl ?_
  refine vv_callVp X (mX3_spread (kL K) D u P T o g S pw k hC hV (by omega)) q1911 q1912 q1913 q150 q1914 nX3_spread ⟨(Nat.le_of_ble_eq_true rfl), (Nat.le_of_ble_eq_true rfl)⟩ dX1_spread_6 rfl (Nat.le_of_ble_eq_true rfl) (recv X hR.ob CL_X3) ⟨hK, hU, hR⟩ ⟨(Nat.le_of_ble_eq_true rfl), (Nat.le_of_ble_eq_true rfl)⟩ ?_
  exact vv_iret X hQ dX1_spread_9 (Nat.le_of_ble_eq_true rfl) (Nat.le_of_ble_eq_true rfl) (pq (rfl))
set_option maxHeartbeats 800000 in
theorem xX1_spread (l : Launch) (D : DD) (hl : l.stackTraces = false) (u : Nat → Nat) (P T : Nat → Int32) (o : Nat) (g : Nat → Nat) (S : Nat → Int32) (pw : Option Nat) (c : Nat) (v0 v1 v2 v3 v5 v6 v7 : Value) (q : Int32) (hC : VC P) (hV : VS S) (hq : ¬ ix (nC P) q) : Cx l yX1_spread cX1_spread 2 (some .int) { frames := 8, cells := 1, slots := 6, locals := 131 } D [.ref c, .int (q)] (fun H => KH D H ∧ oB D H c 0 [v0, v1, v2, v3, .ref (g 0), v5, v6, v7] ∧ UR D u P T o H ∧ SR D g u P S pw H) (fun _ => False) (fun r H H1 => False) (fun Xn q H H1 => Xn = "java/lang/IndexOutOfBoundsException") := by
  refine Cx.of (by decide +kernel) (Nat.le_of_ble_eq_true rfl) (fun K Qf hkl X ht hM hQ => ?_)
  subst hkl
  obtain ⟨hK, hc, hU, hR⟩ := hM
  have hz : (kS K).heap.size ≤ (kS K).heap.size := Nat.le_refl _
  have hP := hC.v
  have l0 := hP.l0
  have l1 := hP.l1
  have l2 := hP.l2
  have l4 := hP.l4
  have l5 := hP.l5
  have l8 := hP.l8
  have l9 := hP.l9
  have l10 := hP.l10
  have l71 := hP.l71
  have l76 := hP.l76
  have l77 := hP.l77
  have hx1 := hC.x1
  have hy1 := hC.y1
  have ht1 := hC.t1
  have he1 := hC.e1
  have hm1 := hC.m1
  have hcc : nC P ≤ 144 := Nat.mul_le_mul l9 l10
  refine vv_sub (lv' := [(0, .ref c), (1, .int (q))]) [0, 1] rfl ?_
  refine vv_aload_n X dX1_spread_0 rfl 0 rfl ?_
  refine vv_iload_n X dX1_spread_1 rfl 1 rfl ?_
  refine vx_cV X (xX1_withCell (kL K) D hl u P T o g S pw c v0 v1 v2 v3 v5 v6 v7 q hC hV (hq)) q1845 q1847 qs37 q137 q1848 nX1_withCell ⟨(Nat.le_of_ble_eq_true rfl), (Nat.le_of_ble_eq_true rfl)⟩ dX1_spread_2 rfl (Nat.le_of_ble_eq_true rfl) (recv X hc CL_X1) ⟨hK, hc, hU, hR⟩ (fun _ z => z.elim) ⟨(Nat.le_of_ble_eq_true rfl), (Nat.le_of_ble_eq_true rfl)⟩ (fun Xn q H hq hz_ hk hXO => ?_) (fun v_ H hq hz_ hk => hq.elim)
  obtain rfl := hq
  exact vt_out X (fun x hx => (ht x hx).elim) hQ hXO (Nat.le_of_ble_eq_true rfl) (Nat.le_of_ble_eq_true rfl) rfl
theorem nX1_window : notMH yX1_window 1 := by decide +kernel
set_option maxHeartbeats 800000 in
theorem mX1_window (l : Launch) (D : DD) (u : Nat → Nat) (P T : Nat → Int32) (o : Nat) (g : Nat → Nat) (S : Nat → Int32) (pw : Option Nat) (c : Nat) (v0 v1 v2 v3 v5 v6 v7 : Value) (k : Nat) (hC : VC P) (hV : VS S) (hk : k < nC P) : Cp l yX1_window cX1_window 2 (some .int) { frames := 6, cells := 0, slots := 0, locals := 119 } D [.ref c, .int (nI k)] (fun H => KH D H ∧ oB D H c 0 [v0, v1, v2, v3, .ref (g 0), v5, v6, v7] ∧ UR D u P T o H ∧ SR D g u P S pw H) (.int (nI (win P S (dc P k)))) := by
  refine Ct.of (by decide +kernel) (Nat.le_of_ble_eq_true rfl) (fun K Qf hkl X hM hQ => ?_)
  subst hkl
  obtain ⟨hK, hc, hU, hR⟩ := hM
  have hP := hC.v
  have l0 := hP.l0
  have l1 := hP.l1
  have l2 := hP.l2
  have l4 := hP.l4
  have l5 := hP.l5
  have l8 := hP.l8
  have l9 := hP.l9
  have l10 := hP.l10
  have l71 := hP.l71
  have l76 := hP.l76
  have l77 := hP.l77
  have hx1 := hC.x1
  have hy1 := hC.y1
  have ht1 := hC.t1
  have he1 := hC.e1
  have hm1 := hC.m1
  have hcc : nC P ≤ 144 := Nat.mul_le_mul l9 l10
  refine vv_sub (lv' := [(0, .ref c), (1, .int (nI k))]) [0, 1] rfl ?_
  refine vv_aload_n X dX1_window_0 rfl 0 rfl ?_
  refine vv_iload_n X dX1_window_1 rfl 1 rfl ?_
  refine vv_callVp X (mX1_withCell (kL K) D u P T o g S pw c v0 v1 v2 v3 v5 v6 v7 k hC hV (by omega)) q1845 q1847 qs37 q137 q1848 nX1_withCell ⟨(Nat.le_of_ble_eq_true rfl), (Nat.le_of_ble_eq_true rfl)⟩ dX1_window_2 rfl (Nat.le_of_ble_eq_true rfl) (recv X hc CL_X1) ⟨hK, hc, hU, hR⟩ ⟨(Nat.le_of_ble_eq_true rfl), (Nat.le_of_ble_eq_true rfl)⟩ ?_
  refine vv_iload_n X dX1_window_5 rfl 1 rfl ?_
  refine vv_callVp X (mX3_window (kL K) D u P T o g S pw k hC hV (by omega)) q1927 q1928 q1929 q150 q1930 nX3_window ⟨(Nat.le_of_ble_eq_true rfl), (Nat.le_of_ble_eq_true rfl)⟩ dX1_window_6 rfl (Nat.le_of_ble_eq_true rfl) (recv X hR.ob CL_X3) ⟨hK, hU, hR⟩ ⟨(Nat.le_of_ble_eq_true rfl), (Nat.le_of_ble_eq_true rfl)⟩ ?_
  exact vv_iret X hQ dX1_window_9 (Nat.le_of_ble_eq_true rfl) (Nat.le_of_ble_eq_true rfl) (pq (rfl))
set_option maxHeartbeats 800000 in
theorem xX1_window (l : Launch) (D : DD) (hl : l.stackTraces = false) (u : Nat → Nat) (P T : Nat → Int32) (o : Nat) (g : Nat → Nat) (S : Nat → Int32) (pw : Option Nat) (c : Nat) (v0 v1 v2 v3 v5 v6 v7 : Value) (q : Int32) (hC : VC P) (hV : VS S) (hq : ¬ ix (nC P) q) : Cx l yX1_window cX1_window 2 (some .int) { frames := 8, cells := 1, slots := 6, locals := 131 } D [.ref c, .int (q)] (fun H => KH D H ∧ oB D H c 0 [v0, v1, v2, v3, .ref (g 0), v5, v6, v7] ∧ UR D u P T o H ∧ SR D g u P S pw H) (fun _ => False) (fun r H H1 => False) (fun Xn q H H1 => Xn = "java/lang/IndexOutOfBoundsException") := by
  refine Cx.of (by decide +kernel) (Nat.le_of_ble_eq_true rfl) (fun K Qf hkl X ht hM hQ => ?_)
  subst hkl
  obtain ⟨hK, hc, hU, hR⟩ := hM
  have hz : (kS K).heap.size ≤ (kS K).heap.size := Nat.le_refl _
  have hP := hC.v
  have l0 := hP.l0
  have l1 := hP.l1
  have l2 := hP.l2
  have l4 := hP.l4
  have l5 := hP.l5
  have l8 := hP.l8
  have l9 := hP.l9
  have l10 := hP.l10
  have l71 := hP.l71
  have l76 := hP.l76
  have l77 := hP.l77
  have hx1 := hC.x1
  have hy1 := hC.y1
  have ht1 := hC.t1
  have he1 := hC.e1
  have hm1 := hC.m1
  have hcc : nC P ≤ 144 := Nat.mul_le_mul l9 l10
  refine vv_sub (lv' := [(0, .ref c), (1, .int (q))]) [0, 1] rfl ?_
  refine vv_aload_n X dX1_window_0 rfl 0 rfl ?_
  refine vv_iload_n X dX1_window_1 rfl 1 rfl ?_
  refine vx_cV X (xX1_withCell (kL K) D hl u P T o g S pw c v0 v1 v2 v3 v5 v6 v7 q hC hV (hq)) q1845 q1847 qs37 q137 q1848 nX1_withCell ⟨(Nat.le_of_ble_eq_true rfl), (Nat.le_of_ble_eq_true rfl)⟩ dX1_window_2 rfl (Nat.le_of_ble_eq_true rfl) (recv X hc CL_X1) ⟨hK, hc, hU, hR⟩ (fun _ z => z.elim) ⟨(Nat.le_of_ble_eq_true rfl), (Nat.le_of_ble_eq_true rfl)⟩ (fun Xn q H hq hz_ hk hXO => ?_) (fun v_ H hq hz_ hk => hq.elim)
  obtain rfl := hq
  exact vt_out X (fun x hx => (ht x hx).elim) hQ hXO (Nat.le_of_ble_eq_true rfl) (Nat.le_of_ble_eq_true rfl) rfl
theorem nX1_level : notMH yX1_level 1 := by decide +kernel
set_option maxHeartbeats 800000 in
theorem mX1_level (l : Launch) (D : DD) (u : Nat → Nat) (P T : Nat → Int32) (o : Nat) (g : Nat → Nat) (S : Nat → Int32) (pw : Option Nat) (c : Nat) (v0 v1 v2 v3 v5 v6 v7 : Value) (k : Nat) (hC : VC P) (hV : VS S) (hk : k < nM P) : Cp l yX1_level cX1_level 2 (some .long) { frames := 4, cells := 0, slots := 0, locals := 79 } D [.ref c, .int (nI k)] (fun H => KH D H ∧ oB D H c 0 [v0, v1, v2, v3, .ref (g 0), v5, v6, v7] ∧ UR D u P T o H ∧ SR D g u P S pw H) (.long (lev P S k)) := by
  refine Ct.of (by decide +kernel) (Nat.le_of_ble_eq_true rfl) (fun K Qf hkl X hM hQ => ?_)
  subst hkl
  obtain ⟨hK, hc, hU, hR⟩ := hM
  have hP := hC.v
  have l0 := hP.l0
  have l1 := hP.l1
  have l2 := hP.l2
  have l4 := hP.l4
  have l5 := hP.l5
  have l8 := hP.l8
  have l9 := hP.l9
  have l10 := hP.l10
  have l71 := hP.l71
  have l76 := hP.l76
  have l77 := hP.l77
  have hx1 := hC.x1
  have hy1 := hC.y1
  have ht1 := hC.t1
  have he1 := hC.e1
  have hm1 := hC.m1
  have hcc : nC P ≤ 144 := Nat.mul_le_mul l9 l10
  refine vv_sub (lv' := [(0, .ref c), (1, .int (nI k))]) [0, 1] rfl ?_
  refine vv_aload_n X dX1_level_0 rfl 0 rfl ?_
  refine vv_iload_n X dX1_level_1 rfl 1 rfl ?_
  refine vv_callVp X (mX1_withMic (kL K) D u P T o g S pw c v0 v1 v2 v3 v5 v6 v7 k hC hV (by omega)) q1793 q1795 qs35 q137 q1796 nX1_withMic ⟨(Nat.le_of_ble_eq_true rfl), (Nat.le_of_ble_eq_true rfl)⟩ dX1_level_2 rfl (Nat.le_of_ble_eq_true rfl) (recv X hc CL_X1) ⟨hK, hc, hU, hR⟩ ⟨(Nat.le_of_ble_eq_true rfl), (Nat.le_of_ble_eq_true rfl)⟩ ?_
  refine vv_iload_n X dX1_level_5 rfl 1 rfl ?_
  refine vv_callVp X (mX3_level (kL K) D u P T o g S pw k hC hV (by omega)) q2573 q2574 q2575 q150 q2576 nX3_level ⟨(Nat.le_of_ble_eq_true rfl), (Nat.le_of_ble_eq_true rfl)⟩ dX1_level_6 rfl (Nat.le_of_ble_eq_true rfl) (recv X hR.ob CL_X3) ⟨hK, hU, hR⟩ ⟨(Nat.le_of_ble_eq_true rfl), (Nat.le_of_ble_eq_true rfl)⟩ ?_
  exact vv_lret X hQ dX1_level_9 (Nat.le_of_ble_eq_true rfl) (Nat.le_of_ble_eq_true rfl) (pql (rfl))
set_option maxHeartbeats 800000 in
theorem xX1_level (l : Launch) (D : DD) (hl : l.stackTraces = false) (u : Nat → Nat) (P T : Nat → Int32) (o : Nat) (g : Nat → Nat) (S : Nat → Int32) (pw : Option Nat) (c : Nat) (v0 v1 v2 v3 v5 v6 v7 : Value) (q : Int32) (hC : VC P) (hV : VS S) (hq : ¬ ix (nM P) q) : Cx l yX1_level cX1_level 2 (some .long) { frames := 8, cells := 1, slots := 6, locals := 131 } D [.ref c, .int (q)] (fun H => KH D H ∧ oB D H c 0 [v0, v1, v2, v3, .ref (g 0), v5, v6, v7] ∧ UR D u P T o H ∧ SR D g u P S pw H) (fun _ => False) (fun r H H1 => False) (fun Xn q H H1 => Xn = "java/lang/IndexOutOfBoundsException") := by
  refine Cx.of (by decide +kernel) (Nat.le_of_ble_eq_true rfl) (fun K Qf hkl X ht hM hQ => ?_)
  subst hkl
  obtain ⟨hK, hc, hU, hR⟩ := hM
  have hz : (kS K).heap.size ≤ (kS K).heap.size := Nat.le_refl _
  have hP := hC.v
  have l0 := hP.l0
  have l1 := hP.l1
  have l2 := hP.l2
  have l4 := hP.l4
  have l5 := hP.l5
  have l8 := hP.l8
  have l9 := hP.l9
  have l10 := hP.l10
  have l71 := hP.l71
  have l76 := hP.l76
  have l77 := hP.l77
  have hx1 := hC.x1
  have hy1 := hC.y1
  have ht1 := hC.t1
  have he1 := hC.e1
  have hm1 := hC.m1
  have hcc : nC P ≤ 144 := Nat.mul_le_mul l9 l10
  refine vv_sub (lv' := [(0, .ref c), (1, .int (q))]) [0, 1] rfl ?_
  refine vv_aload_n X dX1_level_0 rfl 0 rfl ?_
  refine vv_iload_n X dX1_level_1 rfl 1 rfl ?_
  refine vx_cV X (xX1_withMic (kL K) D hl u P T o g S pw c v0 v1 v2 v3 v5 v6 v7 q hC hV (hq)) q1793 q1795 qs35 q137 q1796 nX1_withMic ⟨(Nat.le_of_ble_eq_true rfl), (Nat.le_of_ble_eq_true rfl)⟩ dX1_level_2 rfl (Nat.le_of_ble_eq_true rfl) (recv X hc CL_X1) ⟨hK, hc, hU, hR⟩ (fun _ z => z.elim) ⟨(Nat.le_of_ble_eq_true rfl), (Nat.le_of_ble_eq_true rfl)⟩ (fun Xn q H hq hz_ hk hXO => ?_) (fun v_ H hq hz_ hk => hq.elim)
  obtain rfl := hq
  exact vt_out X (fun x hx => (ht x hx).elim) hQ hXO (Nat.le_of_ble_eq_true rfl) (Nat.le_of_ble_eq_true rfl) rfl
theorem nX1_isOn : notMH yX1_isOn 1 := by decide +kernel
set_option maxHeartbeats 800000 in
theorem mX1_isOn (l : Launch) (D : DD) (u : Nat → Nat) (P T : Nat → Int32) (o : Nat) (g : Nat → Nat) (S : Nat → Int32) (pw : Option Nat) (c : Nat) (v0 v1 v2 v3 v5 v6 v7 : Value) (m : Nat) (hC : VC P) (hV : VS S) (hm : m < nS P) : Cp l yX1_isOn cX1_isOn 2 (some .boolean) { frames := 4, cells := 0, slots := 0, locals := 79 } D [.ref c, .int (nI m)] (fun H => KH D H ∧ oB D H c 0 [v0, v1, v2, v3, .ref (g 0), v5, v6, v7] ∧ UR D u P T o H ∧ SR D g u P S pw H) (.int (b2 (¬ S (25 + m) = 0))) := by
  refine Ct.of (by decide +kernel) (Nat.le_of_ble_eq_true rfl) (fun K Qf hkl X hM hQ => ?_)
  subst hkl
  obtain ⟨hK, hc, hU, hR⟩ := hM
  have hP := hC.v
  have l0 := hP.l0
  have l1 := hP.l1
  have l2 := hP.l2
  have l4 := hP.l4
  have l5 := hP.l5
  have l8 := hP.l8
  have l9 := hP.l9
  have l10 := hP.l10
  have l71 := hP.l71
  have l76 := hP.l76
  have l77 := hP.l77
  have hx1 := hC.x1
  have hy1 := hC.y1
  have ht1 := hC.t1
  have he1 := hC.e1
  have hm1 := hC.m1
  have hcc : nC P ≤ 144 := Nat.mul_le_mul l9 l10
  refine vv_sub (lv' := [(0, .ref c), (1, .int (nI m))]) [0, 1] rfl ?_
  refine vv_aload_n X dX1_isOn_0 rfl 0 rfl ?_
  refine vv_iload_n X dX1_isOn_1 rfl 1 rfl ?_
  refine vv_callVp X (mX1_withSource (kL K) D u P T o g S pw c v0 v1 v2 v3 v5 v6 v7 m hC hV (by omega)) q1858 q1860 qs38 q137 q1861 nX1_withSource ⟨(Nat.le_of_ble_eq_true rfl), (Nat.le_of_ble_eq_true rfl)⟩ dX1_isOn_2 rfl (Nat.le_of_ble_eq_true rfl) (recv X hc CL_X1) ⟨hK, hc, hU, hR⟩ ⟨(Nat.le_of_ble_eq_true rfl), (Nat.le_of_ble_eq_true rfl)⟩ ?_
  refine vv_getfN (C := RX3) (T := TX3) (N := 8) (ref := "AcousticCamera$State") X hR.ob in_X3 CL_X3 2 (by decide) q1692 rfl rfl dX1_isOn_5 ?_
  refine vv_iload_n X dX1_isOn_8 rfl 1 rfl ?_
  refine vv_callVp X (mJ21_get (kL K) D (g 3) (g 4) (onm P S) m  (by exact on_lt hP S) (by omega)) q1875 q1455 q1456 q164 q1457 nJ21_get ⟨(Nat.le_of_ble_eq_true rfl), (Nat.le_of_ble_eq_true rfl)⟩ dX1_isOn_9 rfl (Nat.le_of_ble_eq_true rfl) (recv X hR.on.1 CL_J21) ⟨hK, hR.on⟩ ⟨(Nat.le_of_ble_eq_true rfl), (Nat.le_of_ble_eq_true rfl)⟩ ?_
  refine vv_eqi (b2_eq (on_bit (by omega))) ?_
  exact vv_zret X (b2_nar _) hQ dX1_isOn_12 (Nat.le_of_ble_eq_true rfl) (Nat.le_of_ble_eq_true rfl) (pq (rfl))
set_option maxHeartbeats 800000 in
theorem xX1_isOn (l : Launch) (D : DD) (hl : l.stackTraces = false) (u : Nat → Nat) (P T : Nat → Int32) (o : Nat) (g : Nat → Nat) (S : Nat → Int32) (pw : Option Nat) (c : Nat) (v0 v1 v2 v3 v5 v6 v7 : Value) (q : Int32) (hC : VC P) (hV : VS S) (hq : ¬ ix (nS P) q) : Cx l yX1_isOn cX1_isOn 2 (some .boolean) { frames := 8, cells := 1, slots := 6, locals := 131 } D [.ref c, .int (q)] (fun H => KH D H ∧ oB D H c 0 [v0, v1, v2, v3, .ref (g 0), v5, v6, v7] ∧ UR D u P T o H ∧ SR D g u P S pw H) (fun _ => False) (fun r H H1 => False) (fun Xn q H H1 => Xn = "java/lang/IndexOutOfBoundsException") := by
  refine Cx.of (by decide +kernel) (Nat.le_of_ble_eq_true rfl) (fun K Qf hkl X ht hM hQ => ?_)
  subst hkl
  obtain ⟨hK, hc, hU, hR⟩ := hM
  have hz : (kS K).heap.size ≤ (kS K).heap.size := Nat.le_refl _
  have hP := hC.v
  have l0 := hP.l0
  have l1 := hP.l1
  have l2 := hP.l2
  have l4 := hP.l4
  have l5 := hP.l5
  have l8 := hP.l8
  have l9 := hP.l9
  have l10 := hP.l10
  have l71 := hP.l71
  have l76 := hP.l76
  have l77 := hP.l77
  have hx1 := hC.x1
  have hy1 := hC.y1
  have ht1 := hC.t1
  have he1 := hC.e1
  have hm1 := hC.m1
  have hcc : nC P ≤ 144 := Nat.mul_le_mul l9 l10
  refine vv_sub (lv' := [(0, .ref c), (1, .int (q))]) [0, 1] rfl ?_
  refine vv_aload_n X dX1_isOn_0 rfl 0 rfl ?_
  refine vv_iload_n X dX1_isOn_1 rfl 1 rfl ?_
  refine vx_cV X (xX1_withSource (kL K) D hl u P T o g S pw c v0 v1 v2 v3 v5 v6 v7 q hC hV (hq)) q1858 q1860 qs38 q137 q1861 nX1_withSource ⟨(Nat.le_of_ble_eq_true rfl), (Nat.le_of_ble_eq_true rfl)⟩ dX1_isOn_2 rfl (Nat.le_of_ble_eq_true rfl) (recv X hc CL_X1) ⟨hK, hc, hU, hR⟩ (fun _ z => z.elim) ⟨(Nat.le_of_ble_eq_true rfl), (Nat.le_of_ble_eq_true rfl)⟩ (fun Xn q H hq hz_ hk hXO => ?_) (fun v_ H hq hz_ hk => hq.elim)
  obtain rfl := hq
  exact vt_out X (fun x hx => (ht x hx).elim) hQ hXO (Nat.le_of_ble_eq_true rfl) (Nat.le_of_ble_eq_true rfl) rfl
theorem nX1_cleaned : notMH yX1_cleaned 0 := by decide +kernel
set_option maxHeartbeats 800000 in
theorem mX1_cleaned (l : Launch) (D : DD) (u : Nat → Nat) (P T : Nat → Int32) (o : Nat) (g : Nat → Nat) (S : Nat → Int32) (pw : Option Nat) (c : Nat) (v0 v1 v2 v3 v5 v6 v7 : Value)  (hC : VC P) (hV : VS S) : Cp l yX1_cleaned cX1_cleaned 1 (some .int) { frames := 3, cells := 0, slots := 0, locals := 52 } D [.ref c] (fun H => KH D H ∧ oB D H c 0 [v0, v1, v2, v3, .ref (g 0), v5, v6, v7] ∧ UR D u P T o H ∧ SR D g u P S pw H) (.int (S 0)) := by
  refine Ct.of (by decide +kernel) (Nat.le_of_ble_eq_true rfl) (fun K Qf hkl X hM hQ => ?_)
  subst hkl
  obtain ⟨hK, hc, hU, hR⟩ := hM
  have hP := hC.v
  have l0 := hP.l0
  have l1 := hP.l1
  have l2 := hP.l2
  have l4 := hP.l4
  have l5 := hP.l5
  have l8 := hP.l8
  have l9 := hP.l9
  have l10 := hP.l10
  have l71 := hP.l71
  have l76 := hP.l76
  have l77 := hP.l77
  have hx1 := hC.x1
  have hy1 := hC.y1
  have ht1 := hC.t1
  have he1 := hC.e1
  have hm1 := hC.m1
  have hcc : nC P ≤ 144 := Nat.mul_le_mul l9 l10
  refine vv_sub (lv' := [(0, .ref c)]) [0] rfl ?_
  refine vv_aload_n X dX1_cleaned_0 rfl 0 rfl ?_
  refine vv_callVp X (mX1_there (kL K) D u P T o g S pw c v0 v1 v2 v3 v5 v6 v7  hC hV ) q1797 q1799 qs36 q137 q1800 nX1_there ⟨(Nat.le_of_ble_eq_true rfl), (Nat.le_of_ble_eq_true rfl)⟩ dX1_cleaned_1 rfl (Nat.le_of_ble_eq_true rfl) (recv X hc CL_X1) ⟨hK, hc, hU, hR⟩ ⟨(Nat.le_of_ble_eq_true rfl), (Nat.le_of_ble_eq_true rfl)⟩ ?_
  refine vv_getfN (C := RX3) (T := TX3) (N := 8) (ref := "AcousticCamera$State") X hR.ob in_X3 CL_X3 6 (by decide) q1700 rfl rfl dX1_cleaned_4 ?_
  exact vv_iret X hQ dX1_cleaned_7 (Nat.le_of_ble_eq_true rfl) (Nat.le_of_ble_eq_true rfl) (pq (rfl))
theorem nX1_withMics : notMH yX1_withMics 2 := by decide +kernel
set_option maxHeartbeats 800000 in
theorem mX1_withMics (l : Launch) (D : DD) (u : Nat → Nat) (P T : Nat → Int32) (o : Nat) (g : Nat → Nat) (S : Nat → Int32) (pw : Option Nat) (c : Nat) (v0 v1 v2 v3 v5 v6 v7 : Value) (m k : Nat) (hC : VC P) (hV : VS S) (hm : m < nM P) (hk : k < nM P) : Cp l yX1_withMics cX1_withMics 3 (some (.object "AcousticCamera$State")) { frames := 4, cells := 0, slots := 0, locals := 79 } D [.ref c, .int (nI m), .int (nI k)] (fun H => KH D H ∧ oB D H c 0 [v0, v1, v2, v3, .ref (g 0), v5, v6, v7] ∧ UR D u P T o H ∧ SR D g u P S pw H) (.ref (g 0)) := by
  refine Ct.of (by decide +kernel) (Nat.le_of_ble_eq_true rfl) (fun K Qf hkl X hM hQ => ?_)
  subst hkl
  obtain ⟨hK, hc, hU, hR⟩ := hM
  have hP := hC.v
  have l0 := hP.l0
  have l1 := hP.l1
  have l2 := hP.l2
  have l4 := hP.l4
  have l5 := hP.l5
  have l8 := hP.l8
  have l9 := hP.l9
  have l10 := hP.l10
  have l71 := hP.l71
  have l76 := hP.l76
  have l77 := hP.l77
  have hx1 := hC.x1
  have hy1 := hC.y1
  have ht1 := hC.t1
  have he1 := hC.e1
  have hm1 := hC.m1
  have hcc : nC P ≤ 144 := Nat.mul_le_mul l9 l10
  refine vv_sub (lv' := [(0, .ref c), (1, .int (nI m)), (2, .int (nI k))]) [0, 1, 2] rfl ?_
  refine vv_aload_n X dX1_withMics_0 rfl 0 rfl ?_
  refine vv_iload_n X dX1_withMics_1 rfl 1 rfl ?_
  refine vv_callVp X (mX1_withMic (kL K) D u P T o g S pw c v0 v1 v2 v3 v5 v6 v7 m hC hV (by omega)) q1793 q1795 qs35 q137 q1796 nX1_withMic ⟨(Nat.le_of_ble_eq_true rfl), (Nat.le_of_ble_eq_true rfl)⟩ dX1_withMics_2 rfl (Nat.le_of_ble_eq_true rfl) (recv X hc CL_X1) ⟨hK, hc, hU, hR⟩ ⟨(Nat.le_of_ble_eq_true rfl), (Nat.le_of_ble_eq_true rfl)⟩ ?_
  refine vv_pop X dX1_withMics_5 rfl ?_
  refine vv_aload_n X dX1_withMics_6 rfl 0 rfl ?_
  refine vv_iload_n X dX1_withMics_7 rfl 2 rfl ?_
  refine vv_callVp X (mX1_withMic (kL K) D u P T o g S pw c v0 v1 v2 v3 v5 v6 v7 k hC hV (by omega)) q1793 q1795 qs35 q137 q1796 nX1_withMic ⟨(Nat.le_of_ble_eq_true rfl), (Nat.le_of_ble_eq_true rfl)⟩ dX1_withMics_8 rfl (Nat.le_of_ble_eq_true rfl) (recv X hc CL_X1) ⟨hK, hc, hU, hR⟩ ⟨(Nat.le_of_ble_eq_true rfl), (Nat.le_of_ble_eq_true rfl)⟩ ?_
  exact vv_aret X (Or.inl ⟨_, rfl⟩) (Or.inr ⟨_, rfl⟩) hQ dX1_withMics_11 (Nat.le_of_ble_eq_true rfl) (Nat.le_of_ble_eq_true rfl) (pqa (rfl))
set_option maxHeartbeats 800000 in
theorem xX1_withMics (l : Launch) (D : DD) (hl : l.stackTraces = false) (u : Nat → Nat) (P T : Nat → Int32) (o : Nat) (g : Nat → Nat) (S : Nat → Int32) (pw : Option Nat) (c : Nat) (v0 v1 v2 v3 v5 v6 v7 : Value) (q k : Int32) (hC : VC P) (hV : VS S) (hq : ¬ ix (nM P) q) : Cx l yX1_withMics cX1_withMics 3 (some (.object "AcousticCamera$State")) { frames := 8, cells := 1, slots := 6, locals := 131 } D [.ref c, .int (q), .int (k)] (fun H => KH D H ∧ oB D H c 0 [v0, v1, v2, v3, .ref (g 0), v5, v6, v7] ∧ UR D u P T o H ∧ SR D g u P S pw H) (fun _ => False) (fun r H H1 => False) (fun Xn q H H1 => Xn = "java/lang/IndexOutOfBoundsException") := by
  refine Cx.of (by decide +kernel) (Nat.le_of_ble_eq_true rfl) (fun K Qf hkl X ht hM hQ => ?_)
  subst hkl
  obtain ⟨hK, hc, hU, hR⟩ := hM
  have hz : (kS K).heap.size ≤ (kS K).heap.size := Nat.le_refl _
  have hP := hC.v
  have l0 := hP.l0
  have l1 := hP.l1
  have l2 := hP.l2
  have l4 := hP.l4
  have l5 := hP.l5
  have l8 := hP.l8
  have l9 := hP.l9
  have l10 := hP.l10
  have l71 := hP.l71
  have l76 := hP.l76
  have l77 := hP.l77
  have hx1 := hC.x1
  have hy1 := hC.y1
  have ht1 := hC.t1
  have he1 := hC.e1
  have hm1 := hC.m1
  have hcc : nC P ≤ 144 := Nat.mul_le_mul l9 l10
  refine vv_sub (lv' := [(0, .ref c), (1, .int (q)), (2, .int (k))]) [0, 1, 2] rfl ?_
  refine vv_aload_n X dX1_withMics_0 rfl 0 rfl ?_
  refine vv_iload_n X dX1_withMics_1 rfl 1 rfl ?_
  refine vx_cV X (xX1_withMic (kL K) D hl u P T o g S pw c v0 v1 v2 v3 v5 v6 v7 q hC hV (hq)) q1793 q1795 qs35 q137 q1796 nX1_withMic ⟨(Nat.le_of_ble_eq_true rfl), (Nat.le_of_ble_eq_true rfl)⟩ dX1_withMics_2 rfl (Nat.le_of_ble_eq_true rfl) (recv X hc CL_X1) ⟨hK, hc, hU, hR⟩ (fun _ z => z.elim) ⟨(Nat.le_of_ble_eq_true rfl), (Nat.le_of_ble_eq_true rfl)⟩ (fun Xn q H hq hz_ hk hXO => ?_) (fun v_ H hq hz_ hk => hq.elim)
  obtain rfl := hq
  exact vt_out X (fun x hx => (ht x hx).elim) hQ hXO (Nat.le_of_ble_eq_true rfl) (Nat.le_of_ble_eq_true rfl) rfl
theorem nX1_delay : notMH yX1_delay 2 := by decide +kernel
set_option maxHeartbeats 800000 in
theorem mX1_delay (l : Launch) (D : DD) (u : Nat → Nat) (P T : Nat → Int32) (o : Nat) (g : Nat → Nat) (S : Nat → Int32) (pw : Option Nat) (c : Nat) (v0 v1 v2 v3 v5 v6 v7 : Value) (m k : Nat) (hC : VC P) (hV : VS S) (hm : m < nM P) (hk : k < nC P) : Cp l yX1_delay cX1_delay 3 (some .int) { frames := 4, cells := 0, slots := 0, locals := 79 } D [.ref c, .int (nI m), .int (nI k)] (fun H => KH D H ∧ oB D H c 0 [v0, v1, v2, v3, .ref (g 0), v5, v6, v7] ∧ UR D u P T o H ∧ SR D g u P S pw H) (.int (nI (dc P k m))) := by
  refine Ct.of (by decide +kernel) (Nat.le_of_ble_eq_true rfl) (fun K Qf hkl X hM hQ => ?_)
  subst hkl
  obtain ⟨hK, hc, hU, hR⟩ := hM
  have hP := hC.v
  have l0 := hP.l0
  have l1 := hP.l1
  have l2 := hP.l2
  have l4 := hP.l4
  have l5 := hP.l5
  have l8 := hP.l8
  have l9 := hP.l9
  have l10 := hP.l10
  have l71 := hP.l71
  have l76 := hP.l76
  have l77 := hP.l77
  have hx1 := hC.x1
  have hy1 := hC.y1
  have ht1 := hC.t1
  have he1 := hC.e1
  have hm1 := hC.m1
  have hcc : nC P ≤ 144 := Nat.mul_le_mul l9 l10
  refine vv_sub (lv' := [(0, .ref c), (1, .int (nI m)), (2, .int (nI k))]) [0, 1, 2] rfl ?_
  refine vv_aload_n X dX1_delay_0 rfl 0 rfl ?_
  refine vv_iload_n X dX1_delay_1 rfl 1 rfl ?_
  refine vv_callVp X (mX1_withMic (kL K) D u P T o g S pw c v0 v1 v2 v3 v5 v6 v7 m hC hV (by omega)) q1793 q1795 qs35 q137 q1796 nX1_withMic ⟨(Nat.le_of_ble_eq_true rfl), (Nat.le_of_ble_eq_true rfl)⟩ dX1_delay_2 rfl (Nat.le_of_ble_eq_true rfl) (recv X hc CL_X1) ⟨hK, hc, hU, hR⟩ ⟨(Nat.le_of_ble_eq_true rfl), (Nat.le_of_ble_eq_true rfl)⟩ ?_
  refine vv_pop X dX1_delay_5 rfl ?_
  refine vv_aload_n X dX1_delay_6 rfl 0 rfl ?_
  refine vv_iload_n X dX1_delay_7 rfl 2 rfl ?_
  refine vv_callVp X (mX1_withCell (kL K) D u P T o g S pw c v0 v1 v2 v3 v5 v6 v7 k hC hV (by omega)) q1845 q1847 qs37 q137 q1848 nX1_withCell ⟨(Nat.le_of_ble_eq_true rfl), (Nat.le_of_ble_eq_true rfl)⟩ dX1_delay_8 rfl (Nat.le_of_ble_eq_true rfl) (recv X hc CL_X1) ⟨hK, hc, hU, hR⟩ ⟨(Nat.le_of_ble_eq_true rfl), (Nat.le_of_ble_eq_true rfl)⟩ ?_
  refine vv_getfN (C := RX3) (T := TX3) (N := 8) (ref := "AcousticCamera$State") X hR.ob in_X3 CL_X3 0 (by decide) q1688 rfl rfl dX1_delay_11 ?_
  refine vv_getfN (C := RX5) (T := TX5) (N := 19) (ref := "AcousticCamera$Setup") X hU.ob in_X5 CL_X5 18 (by decide) q825 rfl rfl dX1_delay_14 ?_
  refine vv_iload_n X dX1_delay_17 rfl 1 rfl ?_
  refine vv_aald (ty := 5) X hU.de rfl rfl (m) (by omega) (by omega) rfl dX1_delay_18 (v := .ref (u (20 + m))) rfl ?_
  refine vv_iload_n X dX1_delay_19 rfl 2 rfl ?_
  refine vv_iald X (hU.row m (by omega)) (k) (by omega) (by omega) rfl dX1_delay_20 ?_
  exact vv_iret X hQ dX1_delay_21 (Nat.le_of_ble_eq_true rfl) (Nat.le_of_ble_eq_true rfl) (pq (rfl))
set_option maxHeartbeats 800000 in
theorem xX1_delay (l : Launch) (D : DD) (hl : l.stackTraces = false) (u : Nat → Nat) (P T : Nat → Int32) (o : Nat) (g : Nat → Nat) (S : Nat → Int32) (pw : Option Nat) (c : Nat) (v0 v1 v2 v3 v5 v6 v7 : Value) (q k : Int32) (hC : VC P) (hV : VS S) (hq : ¬ ix (nM P) q) : Cx l yX1_delay cX1_delay 3 (some .int) { frames := 8, cells := 1, slots := 6, locals := 131 } D [.ref c, .int (q), .int (k)] (fun H => KH D H ∧ oB D H c 0 [v0, v1, v2, v3, .ref (g 0), v5, v6, v7] ∧ UR D u P T o H ∧ SR D g u P S pw H) (fun _ => False) (fun r H H1 => False) (fun Xn q H H1 => Xn = "java/lang/IndexOutOfBoundsException") := by
  refine Cx.of (by decide +kernel) (Nat.le_of_ble_eq_true rfl) (fun K Qf hkl X ht hM hQ => ?_)
  subst hkl
  obtain ⟨hK, hc, hU, hR⟩ := hM
  have hz : (kS K).heap.size ≤ (kS K).heap.size := Nat.le_refl _
  have hP := hC.v
  have l0 := hP.l0
  have l1 := hP.l1
  have l2 := hP.l2
  have l4 := hP.l4
  have l5 := hP.l5
  have l8 := hP.l8
  have l9 := hP.l9
  have l10 := hP.l10
  have l71 := hP.l71
  have l76 := hP.l76
  have l77 := hP.l77
  have hx1 := hC.x1
  have hy1 := hC.y1
  have ht1 := hC.t1
  have he1 := hC.e1
  have hm1 := hC.m1
  have hcc : nC P ≤ 144 := Nat.mul_le_mul l9 l10
  refine vv_sub (lv' := [(0, .ref c), (1, .int (q)), (2, .int (k))]) [0, 1, 2] rfl ?_
  refine vv_aload_n X dX1_delay_0 rfl 0 rfl ?_
  refine vv_iload_n X dX1_delay_1 rfl 1 rfl ?_
  refine vx_cV X (xX1_withMic (kL K) D hl u P T o g S pw c v0 v1 v2 v3 v5 v6 v7 q hC hV (hq)) q1793 q1795 qs35 q137 q1796 nX1_withMic ⟨(Nat.le_of_ble_eq_true rfl), (Nat.le_of_ble_eq_true rfl)⟩ dX1_delay_2 rfl (Nat.le_of_ble_eq_true rfl) (recv X hc CL_X1) ⟨hK, hc, hU, hR⟩ (fun _ z => z.elim) ⟨(Nat.le_of_ble_eq_true rfl), (Nat.le_of_ble_eq_true rfl)⟩ (fun Xn q H hq hz_ hk hXO => ?_) (fun v_ H hq hz_ hk => hq.elim)
  obtain rfl := hq
  exact vt_out X (fun x hx => (ht x hx).elim) hQ hXO (Nat.le_of_ble_eq_true rfl) (Nat.le_of_ble_eq_true rfl) rfl
set_option maxHeartbeats 800000 in
theorem w2X1_delay (l : Launch) (D : DD) (hl : l.stackTraces = false) (u : Nat → Nat) (P T : Nat → Int32) (o : Nat) (g : Nat → Nat) (S : Nat → Int32) (pw : Option Nat) (c : Nat) (v0 v1 v2 v3 v5 v6 v7 : Value) (m : Nat) (k : Int32) (hC : VC P) (hV : VS S) (hm : m < nM P) (hk : ¬ ix (nC P) k) : Cx l yX1_delay cX1_delay 3 (some .int) { frames := 8, cells := 1, slots := 6, locals := 131 } D [.ref c, .int (nI m), .int (k)] (fun H => KH D H ∧ oB D H c 0 [v0, v1, v2, v3, .ref (g 0), v5, v6, v7] ∧ UR D u P T o H ∧ SR D g u P S pw H) (fun _ => False) (fun r H H1 => False) (fun Xn q H H1 => Xn = "java/lang/IndexOutOfBoundsException") := by
  refine Cx.of (by decide +kernel) (Nat.le_of_ble_eq_true rfl) (fun K Qf hkl X ht hM hQ => ?_)
  subst hkl
  obtain ⟨hK, hc, hU, hR⟩ := hM
  have hz : (kS K).heap.size ≤ (kS K).heap.size := Nat.le_refl _
  have hP := hC.v
  have l0 := hP.l0
  have l1 := hP.l1
  have l2 := hP.l2
  have l4 := hP.l4
  have l5 := hP.l5
  have l8 := hP.l8
  have l9 := hP.l9
  have l10 := hP.l10
  have l71 := hP.l71
  have l76 := hP.l76
  have l77 := hP.l77
  have hx1 := hC.x1
  have hy1 := hC.y1
  have ht1 := hC.t1
  have he1 := hC.e1
  have hm1 := hC.m1
  have hcc : nC P ≤ 144 := Nat.mul_le_mul l9 l10
  refine vv_sub (lv' := [(0, .ref c), (1, .int (nI m)), (2, .int (k))]) [0, 1, 2] rfl ?_
  refine vv_aload_n X dX1_delay_0 rfl 0 rfl ?_
  refine vv_iload_n X dX1_delay_1 rfl 1 rfl ?_
  refine vv_callVp X (mX1_withMic (kL K) D u P T o g S pw c v0 v1 v2 v3 v5 v6 v7 m hC hV (by omega)) q1793 q1795 qs35 q137 q1796 nX1_withMic ⟨(Nat.le_of_ble_eq_true rfl), (Nat.le_of_ble_eq_true rfl)⟩ dX1_delay_2 rfl (Nat.le_of_ble_eq_true rfl) (recv X hc CL_X1) ⟨hK, hc, hU, hR⟩ ⟨(Nat.le_of_ble_eq_true rfl), (Nat.le_of_ble_eq_true rfl)⟩ ?_
  refine vv_pop X dX1_delay_5 rfl ?_
  refine vv_aload_n X dX1_delay_6 rfl 0 rfl ?_
  refine vv_iload_n X dX1_delay_7 rfl 2 rfl ?_
  refine vx_cV X (xX1_withCell (kL K) D hl u P T o g S pw c v0 v1 v2 v3 v5 v6 v7 k hC hV (hk)) q1845 q1847 qs37 q137 q1848 nX1_withCell ⟨(Nat.le_of_ble_eq_true rfl), (Nat.le_of_ble_eq_true rfl)⟩ dX1_delay_8 rfl (Nat.le_of_ble_eq_true rfl) (recv X hc CL_X1) ⟨hK, hc, hU, hR⟩ (fun _ z => z.elim) ⟨(Nat.le_of_ble_eq_true rfl), (Nat.le_of_ble_eq_true rfl)⟩ (fun Xn q H hq hz_ hk hXO => ?_) (fun v_ H hq hz_ hk => hq.elim)
  obtain rfl := hq
  exact vt_out X (fun x hx => (ht x hx).elim) hQ hXO (Nat.le_of_ble_eq_true rfl) (Nat.le_of_ble_eq_true rfl) rfl
theorem nX1_sample : notMH yX1_sample 2 := by decide +kernel
set_option maxHeartbeats 800000 in
theorem mX1_sample (l : Launch) (D : DD) (u : Nat → Nat) (P T : Nat → Int32) (o : Nat) (g : Nat → Nat) (S : Nat → Int32) (pw : Option Nat) (c : Nat) (v0 v1 v2 v3 v5 v6 v7 : Value) (m t : Nat) (hC : VC P) (hV : VS S) (hm : m < nM P) (ht : t < nT P) : Cp l yX1_sample cX1_sample 3 (some .int) { frames := 4, cells := 0, slots := 0, locals := 79 } D [.ref c, .int (nI m), .int (nI t)] (fun H => KH D H ∧ oB D H c 0 [v0, v1, v2, v3, .ref (g 0), v5, v6, v7] ∧ UR D u P T o H ∧ SR D g u P S pw H) (.int (S (55 + 200 * m + t))) := by
  refine Ct.of (by decide +kernel) (Nat.le_of_ble_eq_true rfl) (fun K Qf hkl X hM hQ => ?_)
  subst hkl
  obtain ⟨hK, hc, hU, hR⟩ := hM
  have hP := hC.v
  have l0 := hP.l0
  have l1 := hP.l1
  have l2 := hP.l2
  have l4 := hP.l4
  have l5 := hP.l5
  have l8 := hP.l8
  have l9 := hP.l9
  have l10 := hP.l10
  have l71 := hP.l71
  have l76 := hP.l76
  have l77 := hP.l77
  have hx1 := hC.x1
  have hy1 := hC.y1
  have ht1 := hC.t1
  have he1 := hC.e1
  have hm1 := hC.m1
  have hcc : nC P ≤ 144 := Nat.mul_le_mul l9 l10
  refine vv_sub (lv' := [(0, .ref c), (1, .int (nI m)), (2, .int (nI t))]) [0, 1, 2] rfl ?_
  refine vv_aload_n X dX1_sample_0 rfl 0 rfl ?_
  refine vv_iload_n X dX1_sample_1 rfl 1 rfl ?_
  refine vv_callVp X (mX1_withMic (kL K) D u P T o g S pw c v0 v1 v2 v3 v5 v6 v7 m hC hV (by omega)) q1793 q1795 qs35 q137 q1796 nX1_withMic ⟨(Nat.le_of_ble_eq_true rfl), (Nat.le_of_ble_eq_true rfl)⟩ dX1_sample_2 rfl (Nat.le_of_ble_eq_true rfl) (recv X hc CL_X1) ⟨hK, hc, hU, hR⟩ ⟨(Nat.le_of_ble_eq_true rfl), (Nat.le_of_ble_eq_true rfl)⟩ ?_
  refine vv_pop X dX1_sample_5 rfl ?_
  refine vv_aload_n X dX1_sample_6 rfl 0 rfl ?_
  refine vv_iload_n X dX1_sample_7 rfl 2 rfl ?_
  refine vv_callVp X (mX1_isSample (kL K) D u P T o g S pw c v0 v1 v2 v3 v5 v6 v7 (nI t) hC hV ) q1862 q1864 qs39 q137 q1865 nX1_isSample ⟨(Nat.le_of_ble_eq_true rfl), (Nat.le_of_ble_eq_true rfl)⟩ dX1_sample_8 rfl (Nat.le_of_ble_eq_true rfl) (recv X hc CL_X1) ⟨hK, hc, hU, hR⟩ ⟨(Nat.le_of_ble_eq_true rfl), (Nat.le_of_ble_eq_true rfl)⟩ ?_
  refine vv_callSv X (mX1_checkArgument (kL K) D (ix (nT P) (nI t)) (ix_N ht (by omega))) q1820 q1821 q137 q1822 nX1_checkArgument ⟨(Nat.le_of_ble_eq_true rfl), (Nat.le_of_ble_eq_true rfl)⟩ dX1_sample_11 rfl (Nat.le_of_ble_eq_true rfl) trivial ⟨(Nat.le_of_ble_eq_true rfl), (Nat.le_of_ble_eq_true rfl)⟩ ?_
  refine vv_aload_n X dX1_sample_14 rfl 0 rfl ?_
  refine vv_getf (C := RX1) (T := TX1) (N := 8) (ref := "AcousticCamera") X hc in_X1 CL_X1 4 (by decide) q259 rfl rfl dX1_sample_15 ?_
  refine vv_getfN (C := RX3) (T := TX3) (N := 8) (ref := "AcousticCamera$State") X hR.ob in_X3 CL_X3 5 (by decide) q1698 rfl rfl dX1_sample_18 ?_
  refine vv_iload_n X dX1_sample_21 rfl 1 rfl ?_
  refine vv_aald (ty := 5) X hR.ra rfl rfl (m) (by omega) (by omega) rfl dX1_sample_22 (v := .ref (g (10 + m))) rfl ?_
  refine vv_iload_n X dX1_sample_23 rfl 2 rfl ?_
  refine vv_iald X (hR.row m (by omega)) (t) (by omega) (by omega) rfl dX1_sample_24 ?_
  exact vv_iret X hQ dX1_sample_25 (Nat.le_of_ble_eq_true rfl) (Nat.le_of_ble_eq_true rfl) (pq (rfl))
set_option maxHeartbeats 800000 in
theorem xX1_sample (l : Launch) (D : DD) (hl : l.stackTraces = false) (u : Nat → Nat) (P T : Nat → Int32) (o : Nat) (g : Nat → Nat) (S : Nat → Int32) (pw : Option Nat) (c : Nat) (v0 v1 v2 v3 v5 v6 v7 : Value) (q k : Int32) (hC : VC P) (hV : VS S) (hq : ¬ ix (nM P) q) : Cx l yX1_sample cX1_sample 3 (some .int) { frames := 8, cells := 1, slots := 6, locals := 131 } D [.ref c, .int (q), .int (k)] (fun H => KH D H ∧ oB D H c 0 [v0, v1, v2, v3, .ref (g 0), v5, v6, v7] ∧ UR D u P T o H ∧ SR D g u P S pw H) (fun _ => False) (fun r H H1 => False) (fun Xn q H H1 => Xn = "java/lang/IndexOutOfBoundsException") := by
  refine Cx.of (by decide +kernel) (Nat.le_of_ble_eq_true rfl) (fun K Qf hkl X ht hM hQ => ?_)
  subst hkl
  obtain ⟨hK, hc, hU, hR⟩ := hM
  have hz : (kS K).heap.size ≤ (kS K).heap.size := Nat.le_refl _
  have hP := hC.v
  have l0 := hP.l0
  have l1 := hP.l1
  have l2 := hP.l2
  have l4 := hP.l4
  have l5 := hP.l5
  have l8 := hP.l8
  have l9 := hP.l9
  have l10 := hP.l10
  have l71 := hP.l71
  have l76 := hP.l76
  have l77 := hP.l77
  have hx1 := hC.x1
  have hy1 := hC.y1
  have ht1 := hC.t1
  have he1 := hC.e1
  have hm1 := hC.m1
  have hcc : nC P ≤ 144 := Nat.mul_le_mul l9 l10
  refine vv_sub (lv' := [(0, .ref c), (1, .int (q)), (2, .int (k))]) [0, 1, 2] rfl ?_
  refine vv_aload_n X dX1_sample_0 rfl 0 rfl ?_
  refine vv_iload_n X dX1_sample_1 rfl 1 rfl ?_
  refine vx_cV X (xX1_withMic (kL K) D hl u P T o g S pw c v0 v1 v2 v3 v5 v6 v7 q hC hV (hq)) q1793 q1795 qs35 q137 q1796 nX1_withMic ⟨(Nat.le_of_ble_eq_true rfl), (Nat.le_of_ble_eq_true rfl)⟩ dX1_sample_2 rfl (Nat.le_of_ble_eq_true rfl) (recv X hc CL_X1) ⟨hK, hc, hU, hR⟩ (fun _ z => z.elim) ⟨(Nat.le_of_ble_eq_true rfl), (Nat.le_of_ble_eq_true rfl)⟩ (fun Xn q H hq hz_ hk hXO => ?_) (fun v_ H hq hz_ hk => hq.elim)
  obtain rfl := hq
  exact vt_out X (fun x hx => (ht x hx).elim) hQ hXO (Nat.le_of_ble_eq_true rfl) (Nat.le_of_ble_eq_true rfl) rfl
set_option maxHeartbeats 800000 in
theorem w2X1_sample (l : Launch) (D : DD) (hl : l.stackTraces = false) (u : Nat → Nat) (P T : Nat → Int32) (o : Nat) (g : Nat → Nat) (S : Nat → Int32) (pw : Option Nat) (c : Nat) (v0 v1 v2 v3 v5 v6 v7 : Value) (m : Nat) (k : Int32) (hC : VC P) (hV : VS S) (hm : m < nM P) (hk : ¬ ix (nT P) k) : Cx l yX1_sample cX1_sample 3 (some .int) { frames := 7, cells := 1, slots := 6, locals := 109 } D [.ref c, .int (nI m), .int (k)] (fun H => KH D H ∧ oB D H c 0 [v0, v1, v2, v3, .ref (g 0), v5, v6, v7] ∧ UR D u P T o H ∧ SR D g u P S pw H) (fun _ => False) (fun r H H1 => False) (fun Xn q H H1 => Xn = "java/lang/IllegalArgumentException") := by
  refine Cx.of (by decide +kernel) (Nat.le_of_ble_eq_true rfl) (fun K Qf hkl X ht hM hQ => ?_)
  subst hkl
  obtain ⟨hK, hc, hU, hR⟩ := hM
  have hz : (kS K).heap.size ≤ (kS K).heap.size := Nat.le_refl _
  have hP := hC.v
  have l0 := hP.l0
  have l1 := hP.l1
  have l2 := hP.l2
  have l4 := hP.l4
  have l5 := hP.l5
  have l8 := hP.l8
  have l9 := hP.l9
  have l10 := hP.l10
  have l71 := hP.l71
  have l76 := hP.l76
  have l77 := hP.l77
  have hx1 := hC.x1
  have hy1 := hC.y1
  have ht1 := hC.t1
  have he1 := hC.e1
  have hm1 := hC.m1
  have hcc : nC P ≤ 144 := Nat.mul_le_mul l9 l10
  refine vv_sub (lv' := [(0, .ref c), (1, .int (nI m)), (2, .int (k))]) [0, 1, 2] rfl ?_
  refine vv_aload_n X dX1_sample_0 rfl 0 rfl ?_
  refine vv_iload_n X dX1_sample_1 rfl 1 rfl ?_
  refine vv_callVp X (mX1_withMic (kL K) D u P T o g S pw c v0 v1 v2 v3 v5 v6 v7 m hC hV (by omega)) q1793 q1795 qs35 q137 q1796 nX1_withMic ⟨(Nat.le_of_ble_eq_true rfl), (Nat.le_of_ble_eq_true rfl)⟩ dX1_sample_2 rfl (Nat.le_of_ble_eq_true rfl) (recv X hc CL_X1) ⟨hK, hc, hU, hR⟩ ⟨(Nat.le_of_ble_eq_true rfl), (Nat.le_of_ble_eq_true rfl)⟩ ?_
  refine vv_pop X dX1_sample_5 rfl ?_
  refine vv_aload_n X dX1_sample_6 rfl 0 rfl ?_
  refine vv_iload_n X dX1_sample_7 rfl 2 rfl ?_
  refine vv_callVp X (mX1_isSample (kL K) D u P T o g S pw c v0 v1 v2 v3 v5 v6 v7 k hC hV ) q1862 q1864 qs39 q137 q1865 nX1_isSample ⟨(Nat.le_of_ble_eq_true rfl), (Nat.le_of_ble_eq_true rfl)⟩ dX1_sample_8 rfl (Nat.le_of_ble_eq_true rfl) (recv X hc CL_X1) ⟨hK, hc, hU, hR⟩ ⟨(Nat.le_of_ble_eq_true rfl), (Nat.le_of_ble_eq_true rfl)⟩ ?_
  refine vx_cS X (xX1_checkArgument (kL K) D hl (ix (nT P) k) (hk)) q1820 q1821 q137 q1822 nX1_checkArgument ⟨(Nat.le_of_ble_eq_true rfl), (Nat.le_of_ble_eq_true rfl)⟩ dX1_sample_11 rfl (Nat.le_of_ble_eq_true rfl) hK (fun _ z => z.elim) ⟨(Nat.le_of_ble_eq_true rfl), (Nat.le_of_ble_eq_true rfl)⟩ (fun Xn q H hq hz_ hk hXO => ?_) (fun v_ H hq hz_ hk => hq.elim)
  obtain rfl := hq
  exact vt_out X (fun x hx => (ht x hx).elim) hQ hXO (Nat.le_of_ble_eq_true rfl) (Nat.le_of_ble_eq_true rfl) rfl
theorem nX1_waveAt : notMH yX1_waveAt 2 := by decide +kernel
set_option maxHeartbeats 800000 in
theorem mX1_waveAt (l : Launch) (D : DD) (u : Nat → Nat) (P T : Nat → Int32) (o : Nat) (g : Nat → Nat) (S : Nat → Int32) (pw : Option Nat) (c : Nat) (v0 v1 v2 v3 v5 v6 v7 : Value) (m t : Nat) (hC : VC P) (hV : VS S) (hm : m < nS P) (ht : t < nT P) : Cp l yX1_waveAt cX1_waveAt 3 (some .int) { frames := 4, cells := 0, slots := 0, locals := 91 } D [.ref c, .int (nI m), .int (nI t)] (fun H => KH D H ∧ oB D H c 0 [v0, v1, v2, v3, .ref (g 0), v5, v6, v7] ∧ UR D u P T o H ∧ SR D g u P S pw H) (.int (wav P m t)) := by
  refine Ct.of (by decide +kernel) (Nat.le_of_ble_eq_true rfl) (fun K Qf hkl X hM hQ => ?_)
  subst hkl
  obtain ⟨hK, hc, hU, hR⟩ := hM
  have hP := hC.v
  have l0 := hP.l0
  have l1 := hP.l1
  have l2 := hP.l2
  have l4 := hP.l4
  have l5 := hP.l5
  have l8 := hP.l8
  have l9 := hP.l9
  have l10 := hP.l10
  have l71 := hP.l71
  have l76 := hP.l76
  have l77 := hP.l77
  have hx1 := hC.x1
  have hy1 := hC.y1
  have ht1 := hC.t1
  have he1 := hC.e1
  have hm1 := hC.m1
  have hcc : nC P ≤ 144 := Nat.mul_le_mul l9 l10
  refine vv_sub (lv' := [(0, .ref c), (1, .int (nI m)), (2, .int (nI t))]) [0, 1, 2] rfl ?_
  refine vv_aload_n X dX1_waveAt_0 rfl 0 rfl ?_
  refine vv_iload_n X dX1_waveAt_1 rfl 1 rfl ?_
  refine vv_callVp X (mX1_withSource (kL K) D u P T o g S pw c v0 v1 v2 v3 v5 v6 v7 m hC hV (by omega)) q1858 q1860 qs38 q137 q1861 nX1_withSource ⟨(Nat.le_of_ble_eq_true rfl), (Nat.le_of_ble_eq_true rfl)⟩ dX1_waveAt_2 rfl (Nat.le_of_ble_eq_true rfl) (recv X hc CL_X1) ⟨hK, hc, hU, hR⟩ ⟨(Nat.le_of_ble_eq_true rfl), (Nat.le_of_ble_eq_true rfl)⟩ ?_
  refine vv_pop X dX1_waveAt_5 rfl ?_
  refine vv_aload_n X dX1_waveAt_6 rfl 0 rfl ?_
  refine vv_iload_n X dX1_waveAt_7 rfl 2 rfl ?_
  refine vv_callVp X (mX1_isSample (kL K) D u P T o g S pw c v0 v1 v2 v3 v5 v6 v7 (nI t) hC hV ) q1862 q1864 qs39 q137 q1865 nX1_isSample ⟨(Nat.le_of_ble_eq_true rfl), (Nat.le_of_ble_eq_true rfl)⟩ dX1_waveAt_8 rfl (Nat.le_of_ble_eq_true rfl) (recv X hc CL_X1) ⟨hK, hc, hU, hR⟩ ⟨(Nat.le_of_ble_eq_true rfl), (Nat.le_of_ble_eq_true rfl)⟩ ?_
  refine vv_callSv X (mX1_checkArgument (kL K) D (ix (nT P) (nI t)) (ix_N ht (by omega))) q1820 q1821 q137 q1822 nX1_checkArgument ⟨(Nat.le_of_ble_eq_true rfl), (Nat.le_of_ble_eq_true rfl)⟩ dX1_waveAt_11 rfl (Nat.le_of_ble_eq_true rfl) trivial ⟨(Nat.le_of_ble_eq_true rfl), (Nat.le_of_ble_eq_true rfl)⟩ ?_
  refine vv_aload_n X dX1_waveAt_14 rfl 0 rfl ?_
  refine vv_getf (C := RX1) (T := TX1) (N := 8) (ref := "AcousticCamera") X hc in_X1 CL_X1 4 (by decide) q259 rfl rfl dX1_waveAt_15 ?_
  refine vv_getfN (C := RX3) (T := TX3) (N := 8) (ref := "AcousticCamera$State") X hR.ob in_X3 CL_X3 3 (by decide) q1694 rfl rfl dX1_waveAt_18 ?_
  refine vv_iload_n X dX1_waveAt_21 rfl 1 rfl ?_
  refine vv_aald (ty := 8) X hR.sa rfl rfl (m) (by omega) (by omega) rfl dX1_waveAt_22 (v := .ref (g (30 + m))) rfl ?_
  refine vv_iload_n X dX1_waveAt_23 rfl 2 rfl ?_
  refine vv_callVp X (mX8_at (kL K) D _ _ _ _ _ _ _ _ _ _ _ t (hP.frm m (by omega)).2 (hP.amp m (by omega)).2 (hC.per1 m (by omega)).1 (hP.per m (by omega)).2 (hP.pha m (by omega)).2 (by omega)) q1883 q1757 q1758 q175 q1759 nX8_at ⟨(Nat.le_of_ble_eq_true rfl), (Nat.le_of_ble_eq_true rfl)⟩ dX1_waveAt_24 rfl (Nat.le_of_ble_eq_true rfl) (recv X (hR.src m (by omega)).1 CL_X8) (hR.src m (by omega)) ⟨(Nat.le_of_ble_eq_true rfl), (Nat.le_of_ble_eq_true rfl)⟩ ?_
  exact vv_iret X hQ dX1_waveAt_27 (Nat.le_of_ble_eq_true rfl) (Nat.le_of_ble_eq_true rfl) (pq (rfl))
set_option maxHeartbeats 800000 in
theorem xX1_waveAt (l : Launch) (D : DD) (hl : l.stackTraces = false) (u : Nat → Nat) (P T : Nat → Int32) (o : Nat) (g : Nat → Nat) (S : Nat → Int32) (pw : Option Nat) (c : Nat) (v0 v1 v2 v3 v5 v6 v7 : Value) (q k : Int32) (hC : VC P) (hV : VS S) (hq : ¬ ix (nS P) q) : Cx l yX1_waveAt cX1_waveAt 3 (some .int) { frames := 8, cells := 1, slots := 6, locals := 131 } D [.ref c, .int (q), .int (k)] (fun H => KH D H ∧ oB D H c 0 [v0, v1, v2, v3, .ref (g 0), v5, v6, v7] ∧ UR D u P T o H ∧ SR D g u P S pw H) (fun _ => False) (fun r H H1 => False) (fun Xn q H H1 => Xn = "java/lang/IndexOutOfBoundsException") := by
  refine Cx.of (by decide +kernel) (Nat.le_of_ble_eq_true rfl) (fun K Qf hkl X ht hM hQ => ?_)
  subst hkl
  obtain ⟨hK, hc, hU, hR⟩ := hM
  have hz : (kS K).heap.size ≤ (kS K).heap.size := Nat.le_refl _
  have hP := hC.v
  have l0 := hP.l0
  have l1 := hP.l1
  have l2 := hP.l2
  have l4 := hP.l4
  have l5 := hP.l5
  have l8 := hP.l8
  have l9 := hP.l9
  have l10 := hP.l10
  have l71 := hP.l71
  have l76 := hP.l76
  have l77 := hP.l77
  have hx1 := hC.x1
  have hy1 := hC.y1
  have ht1 := hC.t1
  have he1 := hC.e1
  have hm1 := hC.m1
  have hcc : nC P ≤ 144 := Nat.mul_le_mul l9 l10
  refine vv_sub (lv' := [(0, .ref c), (1, .int (q)), (2, .int (k))]) [0, 1, 2] rfl ?_
  refine vv_aload_n X dX1_waveAt_0 rfl 0 rfl ?_
  refine vv_iload_n X dX1_waveAt_1 rfl 1 rfl ?_
  refine vx_cV X (xX1_withSource (kL K) D hl u P T o g S pw c v0 v1 v2 v3 v5 v6 v7 q hC hV (hq)) q1858 q1860 qs38 q137 q1861 nX1_withSource ⟨(Nat.le_of_ble_eq_true rfl), (Nat.le_of_ble_eq_true rfl)⟩ dX1_waveAt_2 rfl (Nat.le_of_ble_eq_true rfl) (recv X hc CL_X1) ⟨hK, hc, hU, hR⟩ (fun _ z => z.elim) ⟨(Nat.le_of_ble_eq_true rfl), (Nat.le_of_ble_eq_true rfl)⟩ (fun Xn q H hq hz_ hk hXO => ?_) (fun v_ H hq hz_ hk => hq.elim)
  obtain rfl := hq
  exact vt_out X (fun x hx => (ht x hx).elim) hQ hXO (Nat.le_of_ble_eq_true rfl) (Nat.le_of_ble_eq_true rfl) rfl
set_option maxHeartbeats 800000 in
theorem w2X1_waveAt (l : Launch) (D : DD) (hl : l.stackTraces = false) (u : Nat → Nat) (P T : Nat → Int32) (o : Nat) (g : Nat → Nat) (S : Nat → Int32) (pw : Option Nat) (c : Nat) (v0 v1 v2 v3 v5 v6 v7 : Value) (m : Nat) (k : Int32) (hC : VC P) (hV : VS S) (hm : m < nS P) (hk : ¬ ix (nT P) k) : Cx l yX1_waveAt cX1_waveAt 3 (some .int) { frames := 7, cells := 1, slots := 6, locals := 109 } D [.ref c, .int (nI m), .int (k)] (fun H => KH D H ∧ oB D H c 0 [v0, v1, v2, v3, .ref (g 0), v5, v6, v7] ∧ UR D u P T o H ∧ SR D g u P S pw H) (fun _ => False) (fun r H H1 => False) (fun Xn q H H1 => Xn = "java/lang/IllegalArgumentException") := by
  refine Cx.of (by decide +kernel) (Nat.le_of_ble_eq_true rfl) (fun K Qf hkl X ht hM hQ => ?_)
  subst hkl
  obtain ⟨hK, hc, hU, hR⟩ := hM
  have hz : (kS K).heap.size ≤ (kS K).heap.size := Nat.le_refl _
  have hP := hC.v
  have l0 := hP.l0
  have l1 := hP.l1
  have l2 := hP.l2
  have l4 := hP.l4
  have l5 := hP.l5
  have l8 := hP.l8
  have l9 := hP.l9
  have l10 := hP.l10
  have l71 := hP.l71
  have l76 := hP.l76
  have l77 := hP.l77
  have hx1 := hC.x1
  have hy1 := hC.y1
  have ht1 := hC.t1
  have he1 := hC.e1
  have hm1 := hC.m1
  have hcc : nC P ≤ 144 := Nat.mul_le_mul l9 l10
  refine vv_sub (lv' := [(0, .ref c), (1, .int (nI m)), (2, .int (k))]) [0, 1, 2] rfl ?_
  refine vv_aload_n X dX1_waveAt_0 rfl 0 rfl ?_
  refine vv_iload_n X dX1_waveAt_1 rfl 1 rfl ?_
  refine vv_callVp X (mX1_withSource (kL K) D u P T o g S pw c v0 v1 v2 v3 v5 v6 v7 m hC hV (by omega)) q1858 q1860 qs38 q137 q1861 nX1_withSource ⟨(Nat.le_of_ble_eq_true rfl), (Nat.le_of_ble_eq_true rfl)⟩ dX1_waveAt_2 rfl (Nat.le_of_ble_eq_true rfl) (recv X hc CL_X1) ⟨hK, hc, hU, hR⟩ ⟨(Nat.le_of_ble_eq_true rfl), (Nat.le_of_ble_eq_true rfl)⟩ ?_
  refine vv_pop X dX1_waveAt_5 rfl ?_
  refine vv_aload_n X dX1_waveAt_6 rfl 0 rfl ?_
  refine vv_iload_n X dX1_waveAt_7 rfl 2 rfl ?_
  refine vv_callVp X (mX1_isSample (kL K) D u P T o g S pw c v0 v1 v2 v3 v5 v6 v7 k hC hV ) q1862 q1864 qs39 q137 q1865 nX1_isSample ⟨(Nat.le_of_ble_eq_true rfl), (Nat.le_of_ble_eq_true rfl)⟩ dX1_waveAt_8 rfl (Nat.le_of_ble_eq_true rfl) (recv X hc CL_X1) ⟨hK, hc, hU, hR⟩ ⟨(Nat.le_of_ble_eq_true rfl), (Nat.le_of_ble_eq_true rfl)⟩ ?_
  refine vx_cS X (xX1_checkArgument (kL K) D hl (ix (nT P) k) (hk)) q1820 q1821 q137 q1822 nX1_checkArgument ⟨(Nat.le_of_ble_eq_true rfl), (Nat.le_of_ble_eq_true rfl)⟩ dX1_waveAt_11 rfl (Nat.le_of_ble_eq_true rfl) hK (fun _ z => z.elim) ⟨(Nat.le_of_ble_eq_true rfl), (Nat.le_of_ble_eq_true rfl)⟩ (fun Xn q H hq hz_ hk hXO => ?_) (fun v_ H hq hz_ hk => hq.elim)
  obtain rfl := hq
  exact vt_out X (fun x hx => (ht x hx).elim) hQ hXO (Nat.le_of_ble_eq_true rfl) (Nat.le_of_ble_eq_true rfl) rfl
theorem nX1_delayTo : notMH yX1_delayTo 3 := by decide +kernel
set_option maxHeartbeats 800000 in
theorem mX1_delayTo (l : Launch) (D : DD) (u : Nat → Nat) (P T : Nat → Int32) (o : Nat) (g : Nat → Nat) (S : Nat → Int32) (pw : Option Nat) (c : Nat) (v0 v1 v2 v3 v5 v6 v7 : Value) (m : Nat) (x y : Int32) (hC : VC P) (hV : VS S) (hm : m < nM P) (hx : rg 9999 x) (hy : rg 9999 y) (hp : (-9999 ≤ x ∧ x ≤ 9999) ∧ -9999 ≤ y ∧ y ≤ 9999) : Cp l yX1_delayTo cX1_delayTo 4 (some .int) { frames := 5, cells := 0, slots := 0, locals := 103 } D [.ref c, .int (nI m), .int (x), .int (y)] (fun H => KH D H ∧ oB D H c 0 [v0, v1, v2, v3, .ref (g 0), v5, v6, v7] ∧ UR D u P T o H ∧ SR D g u P S pw H) (.int (nI (dN P m x y))) := by
  refine Ct.of (by decide +kernel) (Nat.le_of_ble_eq_true rfl) (fun K Qf hkl X hM hQ => ?_)
  subst hkl
  obtain ⟨hK, hc, hU, hR⟩ := hM
  have hP := hC.v
  have l0 := hP.l0
  have l1 := hP.l1
  have l2 := hP.l2
  have l4 := hP.l4
  have l5 := hP.l5
  have l8 := hP.l8
  have l9 := hP.l9
  have l10 := hP.l10
  have l71 := hP.l71
  have l76 := hP.l76
  have l77 := hP.l77
  have hx1 := hC.x1
  have hy1 := hC.y1
  have ht1 := hC.t1
  have he1 := hC.e1
  have hm1 := hC.m1
  have hcc : nC P ≤ 144 := Nat.mul_le_mul l9 l10
  refine vv_sub (lv' := [(0, .ref c), (1, .int (nI m)), (2, .int (x)), (3, .int (y))]) [0, 1, 2, 3] rfl ?_
  refine vv_aload_n X dX1_delayTo_0 rfl 0 rfl ?_
  refine vv_iload_n X dX1_delayTo_1 rfl 1 rfl ?_
  refine vv_callVp X (mX1_withMic (kL K) D u P T o g S pw c v0 v1 v2 v3 v5 v6 v7 m hC hV (by omega)) q1793 q1795 qs35 q137 q1796 nX1_withMic ⟨(Nat.le_of_ble_eq_true rfl), (Nat.le_of_ble_eq_true rfl)⟩ dX1_delayTo_2 rfl (Nat.le_of_ble_eq_true rfl) (recv X hc CL_X1) ⟨hK, hc, hU, hR⟩ ⟨(Nat.le_of_ble_eq_true rfl), (Nat.le_of_ble_eq_true rfl)⟩ ?_
  refine vv_pop X dX1_delayTo_5 rfl ?_
  refine vv_iload_n X dX1_delayTo_6 rfl 2 rfl ?_
  refine vv_iload_n X dX1_delayTo_7 rfl 3 rfl ?_
  refine vv_callSp X (mX1_isPoint (kL K) D x y) q1898 q1899 q137 q1900 nX1_isPoint ⟨(Nat.le_of_ble_eq_true rfl), (Nat.le_of_ble_eq_true rfl)⟩ dX1_delayTo_8 rfl (Nat.le_of_ble_eq_true rfl) trivial ⟨(Nat.le_of_ble_eq_true rfl), (Nat.le_of_ble_eq_true rfl)⟩ ?_
  refine vv_callSv X (mX1_checkArgument (kL K) D ((-9999 ≤ x ∧ x ≤ 9999) ∧ -9999 ≤ y ∧ y ≤ 9999) (hp)) q1820 q1821 q137 q1822 nX1_checkArgument ⟨(Nat.le_of_ble_eq_true rfl), (Nat.le_of_ble_eq_true rfl)⟩ dX1_delayTo_11 rfl (Nat.le_of_ble_eq_true rfl) trivial ⟨(Nat.le_of_ble_eq_true rfl), (Nat.le_of_ble_eq_true rfl)⟩ ?_
  refine vv_aload_n X dX1_delayTo_14 rfl 0 rfl ?_
  refine vv_getf (C := RX1) (T := TX1) (N := 8) (ref := "AcousticCamera") X hc in_X1 CL_X1 4 (by decide) q259 rfl rfl dX1_delayTo_15 ?_
  refine vv_getfN (C := RX3) (T := TX3) (N := 8) (ref := "AcousticCamera$State") X hR.ob in_X3 CL_X3 0 (by decide) q1688 rfl rfl dX1_delayTo_18 ?_
  refine vv_iload_n X dX1_delayTo_21 rfl 1 rfl ?_
  refine vv_iload_n X dX1_delayTo_22 rfl 2 rfl ?_
  refine vv_iload_n X dX1_delayTo_23 rfl 3 rfl ?_
  refine vv_callVp X (mX5_delay (kL K) D u P T o m x y hC (by omega) (hx) (hy)) q1903 q1568 q1569 q152 q1570 nX5_delay ⟨(Nat.le_of_ble_eq_true rfl), (Nat.le_of_ble_eq_true rfl)⟩ dX1_delayTo_24 rfl (Nat.le_of_ble_eq_true rfl) (recv X hU.ob CL_X5) hU ⟨(Nat.le_of_ble_eq_true rfl), (Nat.le_of_ble_eq_true rfl)⟩ ?_
  exact vv_iret X hQ dX1_delayTo_27 (Nat.le_of_ble_eq_true rfl) (Nat.le_of_ble_eq_true rfl) (pq (rfl))
set_option maxHeartbeats 800000 in
theorem xX1_delayTo (l : Launch) (D : DD) (hl : l.stackTraces = false) (u : Nat → Nat) (P T : Nat → Int32) (o : Nat) (g : Nat → Nat) (S : Nat → Int32) (pw : Option Nat) (c : Nat) (v0 v1 v2 v3 v5 v6 v7 : Value) (q x y : Int32) (hC : VC P) (hV : VS S) (hq : ¬ ix (nM P) q) : Cx l yX1_delayTo cX1_delayTo 4 (some .int) { frames := 8, cells := 1, slots := 6, locals := 131 } D [.ref c, .int (q), .int (x), .int (y)] (fun H => KH D H ∧ oB D H c 0 [v0, v1, v2, v3, .ref (g 0), v5, v6, v7] ∧ UR D u P T o H ∧ SR D g u P S pw H) (fun _ => False) (fun r H H1 => False) (fun Xn q H H1 => Xn = "java/lang/IndexOutOfBoundsException") := by
  refine Cx.of (by decide +kernel) (Nat.le_of_ble_eq_true rfl) (fun K Qf hkl X ht hM hQ => ?_)
  subst hkl
  obtain ⟨hK, hc, hU, hR⟩ := hM
  have hz : (kS K).heap.size ≤ (kS K).heap.size := Nat.le_refl _
  have hP := hC.v
  have l0 := hP.l0
  have l1 := hP.l1
  have l2 := hP.l2
  have l4 := hP.l4
  have l5 := hP.l5
  have l8 := hP.l8
  have l9 := hP.l9
  have l10 := hP.l10
  have l71 := hP.l71
  have l76 := hP.l76
  have l77 := hP.l77
  have hx1 := hC.x1
  have hy1 := hC.y1
  have ht1 := hC.t1
  have he1 := hC.e1
  have hm1 := hC.m1
  have hcc : nC P ≤ 144 := Nat.mul_le_mul l9 l10
  refine vv_sub (lv' := [(0, .ref c), (1, .int (q)), (2, .int (x)), (3, .int (y))]) [0, 1, 2, 3] rfl ?_
  refine vv_aload_n X dX1_delayTo_0 rfl 0 rfl ?_
  refine vv_iload_n X dX1_delayTo_1 rfl 1 rfl ?_
  refine vx_cV X (xX1_withMic (kL K) D hl u P T o g S pw c v0 v1 v2 v3 v5 v6 v7 q hC hV (hq)) q1793 q1795 qs35 q137 q1796 nX1_withMic ⟨(Nat.le_of_ble_eq_true rfl), (Nat.le_of_ble_eq_true rfl)⟩ dX1_delayTo_2 rfl (Nat.le_of_ble_eq_true rfl) (recv X hc CL_X1) ⟨hK, hc, hU, hR⟩ (fun _ z => z.elim) ⟨(Nat.le_of_ble_eq_true rfl), (Nat.le_of_ble_eq_true rfl)⟩ (fun Xn q H hq hz_ hk hXO => ?_) (fun v_ H hq hz_ hk => hq.elim)
  obtain rfl := hq
  exact vt_out X (fun x hx => (ht x hx).elim) hQ hXO (Nat.le_of_ble_eq_true rfl) (Nat.le_of_ble_eq_true rfl) rfl
set_option maxHeartbeats 800000 in
theorem w2X1_delayTo (l : Launch) (D : DD) (hl : l.stackTraces = false) (u : Nat → Nat) (P T : Nat → Int32) (o : Nat) (g : Nat → Nat) (S : Nat → Int32) (pw : Option Nat) (c : Nat) (v0 v1 v2 v3 v5 v6 v7 : Value) (m : Nat) (x y : Int32) (hC : VC P) (hV : VS S) (hm : m < nM P) (hp : ¬ ((-9999 ≤ x ∧ x ≤ 9999) ∧ -9999 ≤ y ∧ y ≤ 9999)) : Cx l yX1_delayTo cX1_delayTo 4 (some .int) { frames := 7, cells := 1, slots := 6, locals := 109 } D [.ref c, .int (nI m), .int (x), .int (y)] (fun H => KH D H ∧ oB D H c 0 [v0, v1, v2, v3, .ref (g 0), v5, v6, v7] ∧ UR D u P T o H ∧ SR D g u P S pw H) (fun _ => False) (fun r H H1 => False) (fun Xn q H H1 => Xn = "java/lang/IllegalArgumentException") := by
  refine Cx.of (by decide +kernel) (Nat.le_of_ble_eq_true rfl) (fun K Qf hkl X ht hM hQ => ?_)
  subst hkl
  obtain ⟨hK, hc, hU, hR⟩ := hM
  have hz : (kS K).heap.size ≤ (kS K).heap.size := Nat.le_refl _
  have hP := hC.v
  have l0 := hP.l0
  have l1 := hP.l1
  have l2 := hP.l2
  have l4 := hP.l4
  have l5 := hP.l5
  have l8 := hP.l8
  have l9 := hP.l9
  have l10 := hP.l10
  have l71 := hP.l71
  have l76 := hP.l76
  have l77 := hP.l77
  have hx1 := hC.x1
  have hy1 := hC.y1
  have ht1 := hC.t1
  have he1 := hC.e1
  have hm1 := hC.m1
  have hcc : nC P ≤ 144 := Nat.mul_le_mul l9 l10
  refine vv_sub (lv' := [(0, .ref c), (1, .int (nI m)), (2, .int (x)), (3, .int (y))]) [0, 1, 2, 3] rfl ?_
  refine vv_aload_n X dX1_delayTo_0 rfl 0 rfl ?_
  refine vv_iload_n X dX1_delayTo_1 rfl 1 rfl ?_
  refine vv_callVp X (mX1_withMic (kL K) D u P T o g S pw c v0 v1 v2 v3 v5 v6 v7 m hC hV (by omega)) q1793 q1795 qs35 q137 q1796 nX1_withMic ⟨(Nat.le_of_ble_eq_true rfl), (Nat.le_of_ble_eq_true rfl)⟩ dX1_delayTo_2 rfl (Nat.le_of_ble_eq_true rfl) (recv X hc CL_X1) ⟨hK, hc, hU, hR⟩ ⟨(Nat.le_of_ble_eq_true rfl), (Nat.le_of_ble_eq_true rfl)⟩ ?_
  refine vv_pop X dX1_delayTo_5 rfl ?_
  refine vv_iload_n X dX1_delayTo_6 rfl 2 rfl ?_
  refine vv_iload_n X dX1_delayTo_7 rfl 3 rfl ?_
  refine vv_callSp X (mX1_isPoint (kL K) D x y) q1898 q1899 q137 q1900 nX1_isPoint ⟨(Nat.le_of_ble_eq_true rfl), (Nat.le_of_ble_eq_true rfl)⟩ dX1_delayTo_8 rfl (Nat.le_of_ble_eq_true rfl) trivial ⟨(Nat.le_of_ble_eq_true rfl), (Nat.le_of_ble_eq_true rfl)⟩ ?_
  refine vx_cS X (xX1_checkArgument (kL K) D hl ((-9999 ≤ x ∧ x ≤ 9999) ∧ -9999 ≤ y ∧ y ≤ 9999) (hp)) q1820 q1821 q137 q1822 nX1_checkArgument ⟨(Nat.le_of_ble_eq_true rfl), (Nat.le_of_ble_eq_true rfl)⟩ dX1_delayTo_11 rfl (Nat.le_of_ble_eq_true rfl) hK (fun _ z => z.elim) ⟨(Nat.le_of_ble_eq_true rfl), (Nat.le_of_ble_eq_true rfl)⟩ (fun Xn q H hq hz_ hk hXO => ?_) (fun v_ H hq hz_ hk => hq.elim)
  obtain rfl := hq
  exact vt_out X (fun x hx => (ht x hx).elim) hQ hXO (Nat.le_of_ble_eq_true rfl) (Nat.le_of_ble_eq_true rfl) rfl
theorem nX1_correlation : notMH yX1_correlation 3 := by decide +kernel
set_option maxHeartbeats 800000 in
theorem mX1_correlation (l : Launch) (D : DD) (u : Nat → Nat) (P T : Nat → Int32) (o : Nat) (g : Nat → Nat) (S : Nat → Int32) (pw : Option Nat) (c : Nat) (v0 v1 v2 v3 v5 v6 v7 : Value) (m k t : Nat) (hC : VC P) (hV : VS S) (hm : m < nM P) (hk : k < nM P) (ht : t < nT P) : Cp l yX1_correlation cX1_correlation 4 (some .long) { frames := 5, cells := 0, slots := 0, locals := 101 } D [.ref c, .int (nI m), .int (nI k), .int (nI t)] (fun H => KH D H ∧ oB D H c 0 [v0, v1, v2, v3, .ref (g 0), v5, v6, v7] ∧ UR D u P T o H ∧ SR D g u P S pw H) (.long (tog P S m k t)) := by
  refine Ct.of (by decide +kernel) (Nat.le_of_ble_eq_true rfl) (fun K Qf hkl X hM hQ => ?_)
  subst hkl
  obtain ⟨hK, hc, hU, hR⟩ := hM
  have hP := hC.v
  have l0 := hP.l0
  have l1 := hP.l1
  have l2 := hP.l2
  have l4 := hP.l4
  have l5 := hP.l5
  have l8 := hP.l8
  have l9 := hP.l9
  have l10 := hP.l10
  have l71 := hP.l71
  have l76 := hP.l76
  have l77 := hP.l77
  have hx1 := hC.x1
  have hy1 := hC.y1
  have ht1 := hC.t1
  have he1 := hC.e1
  have hm1 := hC.m1
  have hcc : nC P ≤ 144 := Nat.mul_le_mul l9 l10
  refine vv_sub (lv' := [(0, .ref c), (1, .int (nI m)), (2, .int (nI k)), (3, .int (nI t))]) [0, 1, 2, 3] rfl ?_
  refine vv_aload_n X dX1_correlation_0 rfl 0 rfl ?_
  refine vv_iload_n X dX1_correlation_1 rfl 1 rfl ?_
  refine vv_iload_n X dX1_correlation_2 rfl 2 rfl ?_
  refine vv_callVp X (mX1_withMics (kL K) D u P T o g S pw c v0 v1 v2 v3 v5 v6 v7 m k hC hV (by omega) (by omega)) q2549 q2551 qs52 q137 q2552 nX1_withMics ⟨(Nat.le_of_ble_eq_true rfl), (Nat.le_of_ble_eq_true rfl)⟩ dX1_correlation_3 rfl (Nat.le_of_ble_eq_true rfl) (recv X hc CL_X1) ⟨hK, hc, hU, hR⟩ ⟨(Nat.le_of_ble_eq_true rfl), (Nat.le_of_ble_eq_true rfl)⟩ ?_
  refine vv_pop X dX1_correlation_6 rfl ?_
  refine vv_aload_n X dX1_correlation_7 rfl 0 rfl ?_
  refine vv_iload_n X dX1_correlation_8 rfl 3 rfl ?_
  refine vv_callVp X (mX1_isSample (kL K) D u P T o g S pw c v0 v1 v2 v3 v5 v6 v7 (nI t) hC hV ) q1862 q1864 qs39 q137 q1865 nX1_isSample ⟨(Nat.le_of_ble_eq_true rfl), (Nat.le_of_ble_eq_true rfl)⟩ dX1_correlation_9 rfl (Nat.le_of_ble_eq_true rfl) (recv X hc CL_X1) ⟨hK, hc, hU, hR⟩ ⟨(Nat.le_of_ble_eq_true rfl), (Nat.le_of_ble_eq_true rfl)⟩ ?_
  refine vv_callSv X (mX1_checkArgument (kL K) D (ix (nT P) (nI t)) (ix_N ht (by omega))) q1820 q1821 q137 q1822 nX1_checkArgument ⟨(Nat.le_of_ble_eq_true rfl), (Nat.le_of_ble_eq_true rfl)⟩ dX1_correlation_12 rfl (Nat.le_of_ble_eq_true rfl) trivial ⟨(Nat.le_of_ble_eq_true rfl), (Nat.le_of_ble_eq_true rfl)⟩ ?_
  refine vv_aload_n X dX1_correlation_15 rfl 0 rfl ?_
  refine vv_getf (C := RX1) (T := TX1) (N := 8) (ref := "AcousticCamera") X hc in_X1 CL_X1 4 (by decide) q259 rfl rfl dX1_correlation_16 ?_
  refine vv_iload_n X dX1_correlation_19 rfl 1 rfl ?_
  refine vv_iload_n X dX1_correlation_20 rfl 2 rfl ?_
  refine vv_iload_n X dX1_correlation_21 rfl 3 rfl ?_
  refine vv_callVp X (mX3_correlation (kL K) D u P T o g S pw m k t hC hV (by omega) (by omega) (by omega)) q2553 q2554 q2555 q150 q2556 nX3_correlation ⟨(Nat.le_of_ble_eq_true rfl), (Nat.le_of_ble_eq_true rfl)⟩ dX1_correlation_22 rfl (Nat.le_of_ble_eq_true rfl) (recv X hR.ob CL_X3) ⟨hK, hU, hR⟩ ⟨(Nat.le_of_ble_eq_true rfl), (Nat.le_of_ble_eq_true rfl)⟩ ?_
  exact vv_lret X hQ dX1_correlation_25 (Nat.le_of_ble_eq_true rfl) (Nat.le_of_ble_eq_true rfl) (pql (rfl))
theorem nX1_powerAt : notMH yX1_powerAt 2 := by decide +kernel
set_option maxHeartbeats 800000 in
theorem mX1_powerAt (l : Launch) (D : DD) (u : Nat → Nat) (P T : Nat → Int32) (o : Nat) (g : Nat → Nat) (S : Nat → Int32) (pw : Option Nat) (c : Nat) (v0 v1 v2 v3 v5 v6 v7 : Value) (x y : Int32) (hC : VC P) (hV : VS S) (hx : rg 9999 x) (hy : rg 9999 y) (hp : (-9999 ≤ x ∧ x ≤ 9999) ∧ -9999 ≤ y ∧ y ≤ 9999) : Cp l yX1_powerAt cX1_powerAt 3 (some .long) { frames := 7, cells := 0, slots := 0, locals := 159 } D [.ref c, .int (x), .int (y)] (fun H => KH D H ∧ oB D H c 0 [v0, v1, v2, v3, .ref (g 0), v5, v6, v7] ∧ UR D u P T o H ∧ SR D g u P S pw H) (.long (fcp P S (fun _ m => dN P m x y) (win P S (fun m => dN P m x y)))) := by
  refine Ct.of (by decide +kernel) (Nat.le_of_ble_eq_true rfl) (fun K Qf hkl X hM hQ => ?_)
  subst hkl
  obtain ⟨hK, hc, hU, hR⟩ := hM
  have hP := hC.v
  have l0 := hP.l0
  have l1 := hP.l1
  have l2 := hP.l2
  have l4 := hP.l4
  have l5 := hP.l5
  have l8 := hP.l8
  have l9 := hP.l9
  have l10 := hP.l10
  have l71 := hP.l71
  have l76 := hP.l76
  have l77 := hP.l77
  have hx1 := hC.x1
  have hy1 := hC.y1
  have ht1 := hC.t1
  have he1 := hC.e1
  have hm1 := hC.m1
  have hcc : nC P ≤ 144 := Nat.mul_le_mul l9 l10
  refine vv_sub (lv' := [(0, .ref c), (1, .int (x)), (2, .int (y))]) [0, 1, 2] rfl ?_
  refine vv_aload_n X dX1_powerAt_0 rfl 0 rfl ?_
  refine vv_callVp X (mX1_there (kL K) D u P T o g S pw c v0 v1 v2 v3 v5 v6 v7  hC hV ) q1797 q1799 qs36 q137 q1800 nX1_there ⟨(Nat.le_of_ble_eq_true rfl), (Nat.le_of_ble_eq_true rfl)⟩ dX1_powerAt_1 rfl (Nat.le_of_ble_eq_true rfl) (recv X hc CL_X1) ⟨hK, hc, hU, hR⟩ ⟨(Nat.le_of_ble_eq_true rfl), (Nat.le_of_ble_eq_true rfl)⟩ ?_
  refine vv_pop X dX1_powerAt_4 rfl ?_
  refine vv_iload_n X dX1_powerAt_5 rfl 1 rfl ?_
  refine vv_iload_n X dX1_powerAt_6 rfl 2 rfl ?_
  refine vv_callSp X (mX1_isPoint (kL K) D x y) q1898 q1899 q137 q1900 nX1_isPoint ⟨(Nat.le_of_ble_eq_true rfl), (Nat.le_of_ble_eq_true rfl)⟩ dX1_powerAt_7 rfl (Nat.le_of_ble_eq_true rfl) trivial ⟨(Nat.le_of_ble_eq_true rfl), (Nat.le_of_ble_eq_true rfl)⟩ ?_
  refine vv_callSv X (mX1_checkArgument (kL K) D ((-9999 ≤ x ∧ x ≤ 9999) ∧ -9999 ≤ y ∧ y ≤ 9999) (hp)) q1820 q1821 q137 q1822 nX1_checkArgument ⟨(Nat.le_of_ble_eq_true rfl), (Nat.le_of_ble_eq_true rfl)⟩ dX1_powerAt_10 rfl (Nat.le_of_ble_eq_true rfl) trivial ⟨(Nat.le_of_ble_eq_true rfl), (Nat.le_of_ble_eq_true rfl)⟩ ?_
  refine vv_aload_n X dX1_powerAt_13 rfl 0 rfl ?_
  refine vv_getf (C := RX1) (T := TX1) (N := 8) (ref := "AcousticCamera") X hc in_X1 CL_X1 4 (by decide) q259 rfl rfl dX1_powerAt_14 ?_
  refine vv_iload_n X dX1_powerAt_17 rfl 1 rfl ?_
  refine vv_iload_n X dX1_powerAt_18 rfl 2 rfl ?_
  refine vv_callVp X (mX3_powerAt (kL K) D u P T o g S pw x y hC hV (hx) (hy)) q1978 q1979 q1980 q150 q1981 nX3_powerAt ⟨(Nat.le_of_ble_eq_true rfl), (Nat.le_of_ble_eq_true rfl)⟩ dX1_powerAt_19 rfl (Nat.le_of_ble_eq_true rfl) (recv X hR.ob CL_X3) ⟨hK, hU, hR⟩ ⟨(Nat.le_of_ble_eq_true rfl), (Nat.le_of_ble_eq_true rfl)⟩ ?_
  exact vv_lret X hQ dX1_powerAt_22 (Nat.le_of_ble_eq_true rfl) (Nat.le_of_ble_eq_true rfl) (pql (rfl))
set_option maxHeartbeats 800000 in
theorem xX1_powerAt (l : Launch) (D : DD) (hl : l.stackTraces = false) (u : Nat → Nat) (P T : Nat → Int32) (o : Nat) (g : Nat → Nat) (S : Nat → Int32) (pw : Option Nat) (c : Nat) (v0 v1 v2 v3 v5 v6 v7 : Value) (x y : Int32) (hC : VC P) (hV : VS S) (hp : ¬ ((-9999 ≤ x ∧ x ≤ 9999) ∧ -9999 ≤ y ∧ y ≤ 9999)) : Cx l yX1_powerAt cX1_powerAt 3 (some .long) { frames := 7, cells := 1, slots := 6, locals := 109 } D [.ref c, .int (x), .int (y)] (fun H => KH D H ∧ oB D H c 0 [v0, v1, v2, v3, .ref (g 0), v5, v6, v7] ∧ UR D u P T o H ∧ SR D g u P S pw H) (fun _ => False) (fun r H H1 => False) (fun Xn q H H1 => Xn = "java/lang/IllegalArgumentException") := by
  refine Cx.of (by decide +kernel) (Nat.le_of_ble_eq_true rfl) (fun K Qf hkl X ht hM hQ => ?_)
  subst hkl
  obtain ⟨hK, hc, hU, hR⟩ := hM
  have hz : (kS K).heap.size ≤ (kS K).heap.size := Nat.le_refl _
  have hP := hC.v
  have l0 := hP.l0
  have l1 := hP.l1
  have l2 := hP.l2
  have l4 := hP.l4
  have l5 := hP.l5
  have l8 := hP.l8
  have l9 := hP.l9
  have l10 := hP.l10
  have l71 := hP.l71
  have l76 := hP.l76
  have l77 := hP.l77
  have hx1 := hC.x1
  have hy1 := hC.y1
  have ht1 := hC.t1
  have he1 := hC.e1
  have hm1 := hC.m1
  have hcc : nC P ≤ 144 := Nat.mul_le_mul l9 l10
  refine vv_sub (lv' := [(0, .ref c), (1, .int (x)), (2, .int (y))]) [0, 1, 2] rfl ?_
  refine vv_aload_n X dX1_powerAt_0 rfl 0 rfl ?_
  refine vv_callVp X (mX1_there (kL K) D u P T o g S pw c v0 v1 v2 v3 v5 v6 v7  hC hV ) q1797 q1799 qs36 q137 q1800 nX1_there ⟨(Nat.le_of_ble_eq_true rfl), (Nat.le_of_ble_eq_true rfl)⟩ dX1_powerAt_1 rfl (Nat.le_of_ble_eq_true rfl) (recv X hc CL_X1) ⟨hK, hc, hU, hR⟩ ⟨(Nat.le_of_ble_eq_true rfl), (Nat.le_of_ble_eq_true rfl)⟩ ?_
  refine vv_pop X dX1_powerAt_4 rfl ?_
  refine vv_iload_n X dX1_powerAt_5 rfl 1 rfl ?_
  refine vv_iload_n X dX1_powerAt_6 rfl 2 rfl ?_
  refine vv_callSp X (mX1_isPoint (kL K) D x y) q1898 q1899 q137 q1900 nX1_isPoint ⟨(Nat.le_of_ble_eq_true rfl), (Nat.le_of_ble_eq_true rfl)⟩ dX1_powerAt_7 rfl (Nat.le_of_ble_eq_true rfl) trivial ⟨(Nat.le_of_ble_eq_true rfl), (Nat.le_of_ble_eq_true rfl)⟩ ?_
  refine vx_cS X (xX1_checkArgument (kL K) D hl ((-9999 ≤ x ∧ x ≤ 9999) ∧ -9999 ≤ y ∧ y ≤ 9999) (hp)) q1820 q1821 q137 q1822 nX1_checkArgument ⟨(Nat.le_of_ble_eq_true rfl), (Nat.le_of_ble_eq_true rfl)⟩ dX1_powerAt_10 rfl (Nat.le_of_ble_eq_true rfl) hK (fun _ z => z.elim) ⟨(Nat.le_of_ble_eq_true rfl), (Nat.le_of_ble_eq_true rfl)⟩ (fun Xn q H hq hz_ hk hXO => ?_) (fun v_ H hq hz_ hk => hq.elim)
  obtain rfl := hq
  exact vt_out X (fun x hx => (ht x hx).elim) hQ hXO (Nat.le_of_ble_eq_true rfl) (Nat.le_of_ble_eq_true rfl) rfl
