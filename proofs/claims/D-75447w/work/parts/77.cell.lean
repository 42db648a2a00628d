/-! AcousticCamera: cellAt, correlation: printed by gen/s24.py -/
set_option maxRecDepth 100000
set_option maxHeartbeats 800000 in
theorem mX1_cellAt (l : Launch) (D : DD) (u : Nat → Nat) (P T : Nat → Int32) (o : Nat) (g : Nat → Nat) (S : Nat → Int32) (pw : Option Nat) (c : Nat) (v0 v1 v2 v3 v5 v6 v7 : Value) (k : Nat) (hC : VC P) (hV : VS S) (hk : k < nC P) : Cp l yX1_cellAt cX1_cellAt 3 (some .int) { frames := 4, cells := 0, slots := 0, locals := 79 } D [.ref c, .int (nI k), .int (nI 0)] (fun H => KH D H ∧ oB D H c 0 [v0, v1, v2, v3, .ref (g 0), v5, v6, v7] ∧ UR D u P T o H ∧ SR D g u P S pw H) (.int (cx P k)) := by
  refine Ct.of (by decide +kernel) (Nat.le_of_ble_eq_true rfl) (fun K Qf hkl X hM hQ => ?_)
  subst hkl
  obtain ⟨hK, hc, hU, hR⟩ := hM
  have hP := hC.v
  have l0 := hP.l0
  have l1 := hP.l1
  have l2 := hP.l2
  have l4 := hP.l4
  have l5 := hP.l5
  have l8 := hP.l8
  have l9 := hP.l9
  have l10 := hP.l10
  have l71 := hP.l71
  have l76 := hP.l76
  have l77 := hP.l77
  have hx1 := hC.x1
  have hy1 := hC.y1
  have ht1 := hC.t1
  have he1 := hC.e1
  have hm1 := hC.m1
  have hcc : nC P ≤ 144 := Nat.mul_le_mul l9 l10
  refine vv_sub (lv' := [(0, .ref c), (1, .int (nI k)), (2, .int (nI 0))]) [0, 1, 2] rfl ?_
  refine vv_aload_n X dX1_cellAt_0 rfl 0 rfl ?_
  refine vv_iload_n X dX1_cellAt_1 rfl 1 rfl ?_
  refine vv_callVp X (mX1_withCell (kL K) D u P T o g S pw c v0 v1 v2 v3 v5 v6 v7 k hC hV (by omega)) q1845 q1847 qs37 q137 q1848 nX1_withCell ⟨(Nat.le_of_ble_eq_true rfl), (Nat.le_of_ble_eq_true rfl)⟩ dX1_cellAt_2 rfl (Nat.le_of_ble_eq_true rfl) (recv X hc CL_X1) ⟨hK, hc, hU, hR⟩ ⟨(Nat.le_of_ble_eq_true rfl), (Nat.le_of_ble_eq_true rfl)⟩ ?_
  refine vv_pop X dX1_cellAt_5 rfl ?_
  refine vv_iload_n X dX1_cellAt_6 rfl 2 rfl ?_
  refine vn_if_eq (tgt := 15) X (by omega) dX1_cellAt_7 (by decide) (fun c_7 => ?_) (fun c_7 => ?_)
  · refine vv_iconst (v := nI 1) X dX1_cellAt_15 (by decide) ?_
    refine vv_goto (tgt := 20) X dX1_cellAt_16 (by decide) ?_
    refine vv_callSv X (mX1_checkArgument (kL K) D True trivial) q1820 q1821 q137 q1822 nX1_checkArgument ⟨(Nat.le_of_ble_eq_true rfl), (Nat.le_of_ble_eq_true rfl)⟩ dX1_cellAt_20 rfl (Nat.le_of_ble_eq_true rfl) trivial ⟨(Nat.le_of_ble_eq_true rfl), (Nat.le_of_ble_eq_true rfl)⟩ ?_
    refine vv_iload_n X dX1_cellAt_23 rfl 2 rfl ?_
    refine vn_if_ne (tgt := 41) X (by omega) dX1_cellAt_24 (by decide) (fun c_24 => ?_) (fun c_24 => ?_)
    · exact absurd c_24 (by decide)
    · refine vv_aload_n X dX1_cellAt_27 rfl 0 rfl ?_
      refine vv_getf (C := RX1) (T := TX1) (N := 8) (ref := "AcousticCamera") X hc in_X1 CL_X1 4 (by decide) q259 rfl rfl dX1_cellAt_28 ?_
      refine vv_getfN (C := RX3) (T := TX3) (N := 8) (ref := "AcousticCamera$State") X hR.ob in_X3 CL_X3 0 (by decide) q1688 rfl rfl dX1_cellAt_31 ?_
      refine vv_iload_n X dX1_cellAt_34 rfl 1 rfl ?_
      refine vv_callVp X (mX5_xOf (kL K) D u P T o k hC (by omega)) q1849 q1560 q1561 q152 q1562 nX5_xOf ⟨(Nat.le_of_ble_eq_true rfl), (Nat.le_of_ble_eq_true rfl)⟩ dX1_cellAt_35 rfl (Nat.le_of_ble_eq_true rfl) (recv X hU.ob CL_X5) hU ⟨(Nat.le_of_ble_eq_true rfl), (Nat.le_of_ble_eq_true rfl)⟩ ?_
      refine vv_goto (tgt := 52) X dX1_cellAt_38 (by decide) ?_
      exact vv_iret X hQ dX1_cellAt_52 (Nat.le_of_ble_eq_true rfl) (Nat.le_of_ble_eq_true rfl) (pq (rfl))
  · exact absurd c_7 (by decide)
set_option maxHeartbeats 800000 in
theorem m2X1_cellAt (l : Launch) (D : DD) (u : Nat → Nat) (P T : Nat → Int32) (o : Nat) (g : Nat → Nat) (S : Nat → Int32) (pw : Option Nat) (c : Nat) (v0 v1 v2 v3 v5 v6 v7 : Value) (k : Nat) (hC : VC P) (hV : VS S) (hk : k < nC P) : Cp l yX1_cellAt cX1_cellAt 3 (some .int) { frames := 4, cells := 0, slots := 0, locals := 79 } D [.ref c, .int (nI k), .int (nI 1)] (fun H => KH D H ∧ oB D H c 0 [v0, v1, v2, v3, .ref (g 0), v5, v6, v7] ∧ UR D u P T o H ∧ SR D g u P S pw H) (.int (cy P k)) := by
  refine Ct.of (by decide +kernel) (Nat.le_of_ble_eq_true rfl) (fun K Qf hkl X hM hQ => ?_)
  subst hkl
  obtain ⟨hK, hc, hU, hR⟩ := hM
  have hP := hC.v
  have l0 := hP.l0
  have l1 := hP.l1
  have l2 := hP.l2
  have l4 := hP.l4
  have l5 := hP.l5
  have l8 := hP.l8
  have l9 := hP.l9
  have l10 := hP.l10
  have l71 := hP.l71
  have l76 := hP.l76
  have l77 := hP.l77
  have hx1 := hC.x1
  have hy1 := hC.y1
  have ht1 := hC.t1
  have he1 := hC.e1
  have hm1 := hC.m1
  have hcc : nC P ≤ 144 := Nat.mul_le_mul l9 l10
  refine vv_sub (lv' := [(0, .ref c), (1, .int (nI k)), (2, .int (nI 1))]) [0, 1, 2] rfl ?_
  refine vv_aload_n X dX1_cellAt_0 rfl 0 rfl ?_
  refine vv_iload_n X dX1_cellAt_1 rfl 1 rfl ?_
  refine vv_callVp X (mX1_withCell (kL K) D u P T o g S pw c v0 v1 v2 v3 v5 v6 v7 k hC hV (by omega)) q1845 q1847 qs37 q137 q1848 nX1_withCell ⟨(Nat.le_of_ble_eq_true rfl), (Nat.le_of_ble_eq_true rfl)⟩ dX1_cellAt_2 rfl (Nat.le_of_ble_eq_true rfl) (recv X hc CL_X1) ⟨hK, hc, hU, hR⟩ ⟨(Nat.le_of_ble_eq_true rfl), (Nat.le_of_ble_eq_true rfl)⟩ ?_
  refine vv_pop X dX1_cellAt_5 rfl ?_
  refine vv_iload_n X dX1_cellAt_6 rfl 2 rfl ?_
  refine vn_if_eq (tgt := 15) X (by omega) dX1_cellAt_7 (by decide) (fun c_7 => ?_) (fun c_7 => ?_)
  · exact absurd c_7 (by decide)
  · refine vv_iload_n X dX1_cellAt_10 rfl 2 rfl ?_
    refine vv_iconst (v := nI 1) X dX1_cellAt_11 (by decide) ?_
    refine vn_ne (tgt := 19) X (by omega) (by omega) dX1_cellAt_12 (by decide) (fun c_12 => ?_) (fun c_12 => ?_)
    · exact absurd c_12 (by decide)
    · refine vv_iconst (v := nI 1) X dX1_cellAt_15 (by decide) ?_
      refine vv_goto (tgt := 20) X dX1_cellAt_16 (by decide) ?_
      refine vv_callSv X (mX1_checkArgument (kL K) D True trivial) q1820 q1821 q137 q1822 nX1_checkArgument ⟨(Nat.le_of_ble_eq_true rfl), (Nat.le_of_ble_eq_true rfl)⟩ dX1_cellAt_20 rfl (Nat.le_of_ble_eq_true rfl) trivial ⟨(Nat.le_of_ble_eq_true rfl), (Nat.le_of_ble_eq_true rfl)⟩ ?_
      refine vv_iload_n X dX1_cellAt_23 rfl 2 rfl ?_
      refine vn_if_ne (tgt := 41) X (by omega) dX1_cellAt_24 (by decide) (fun c_24 => ?_) (fun c_24 => ?_)
      · refine vv_aload_n X dX1_cellAt_41 rfl 0 rfl ?_
        refine vv_getf (C := RX1) (T := TX1) (N := 8) (ref := "AcousticCamera") X hc in_X1 CL_X1 4 (by decide) q259 rfl rfl dX1_cellAt_42 ?_
        refine vv_getfN (C := RX3) (T := TX3) (N := 8) (ref := "AcousticCamera$State") X hR.ob in_X3 CL_X3 0 (by decide) q1688 rfl rfl dX1_cellAt_45 ?_
        refine vv_iload_n X dX1_cellAt_48 rfl 1 rfl ?_
        refine vv_callVp X (mX5_yOf (kL K) D u P T o k hC (by omega)) q1850 q1564 q1565 q152 q1566 nX5_yOf ⟨(Nat.le_of_ble_eq_true rfl), (Nat.le_of_ble_eq_true rfl)⟩ dX1_cellAt_49 rfl (Nat.le_of_ble_eq_true rfl) (recv X hU.ob CL_X5) hU ⟨(Nat.le_of_ble_eq_true rfl), (Nat.le_of_ble_eq_true rfl)⟩ ?_
        exact vv_iret X hQ dX1_cellAt_52 (Nat.le_of_ble_eq_true rfl) (Nat.le_of_ble_eq_true rfl) (pq (rfl))
      · exact absurd c_24 (by decide)
set_option maxHeartbeats 800000 in
theorem xX1_cellAt (l : Launch) (D : DD) (hl : l.stackTraces = false) (u : Nat → Nat) (P T : Nat → Int32) (o : Nat) (g : Nat → Nat) (S : Nat → Int32) (pw : Option Nat) (c : Nat) (v0 v1 v2 v3 v5 v6 v7 : Value) (q b : Int32) (hC : VC P) (hV : VS S) (hq : ¬ ix (nC P) q) : Cx l yX1_cellAt cX1_cellAt 3 (some .int) { frames := 8, cells := 1, slots := 6, locals := 131 } D [.ref c, .int (q), .int (b)] (fun H => KH D H ∧ oB D H c 0 [v0, v1, v2, v3, .ref (g 0), v5, v6, v7] ∧ UR D u P T o H ∧ SR D g u P S pw H) (fun _ => False) (fun r H H1 => False) (fun Xn q H H1 => Xn = "java/lang/IndexOutOfBoundsException") := by
  refine Cx.of (by decide +kernel) (Nat.le_of_ble_eq_true rfl) (fun K Qf hkl X ht hM hQ => ?_)
  subst hkl
  obtain ⟨hK, hc, hU, hR⟩ := hM
  have hz : (kS K).heap.size ≤ (kS K).heap.size := Nat.le_refl _
  have hP := hC.v
  have l0 := hP.l0
  have l1 := hP.l1
  have l2 := hP.l2
  have l4 := hP.l4
  have l5 := hP.l5
  have l8 := hP.l8
  have l9 := hP.l9
  have l10 := hP.l10
  have l71 := hP.l71
  have l76 := hP.l76
  have l77 := hP.l77
  have hx1 := hC.x1
  have hy1 := hC.y1
  have ht1 := hC.t1
  have he1 := hC.e1
  have hm1 := hC.m1
  have hcc : nC P ≤ 144 := Nat.mul_le_mul l9 l10
  refine vv_sub (lv' := [(0, .ref c), (1, .int (q)), (2, .int (b))]) [0, 1, 2] rfl ?_
  refine vv_aload_n X dX1_cellAt_0 rfl 0 rfl ?_
  refine vv_iload_n X dX1_cellAt_1 rfl 1 rfl ?_
  refine vx_cV X (xX1_withCell (kL K) D hl u P T o g S pw c v0 v1 v2 v3 v5 v6 v7 q hC hV (hq)) q1845 q1847 qs37 q137 q1848 nX1_withCell ⟨(Nat.le_of_ble_eq_true rfl), (Nat.le_of_ble_eq_true rfl)⟩ dX1_cellAt_2 rfl (Nat.le_of_ble_eq_true rfl) (recv X hc CL_X1) ⟨hK, hc, hU, hR⟩ (fun _ z => z.elim) ⟨(Nat.le_of_ble_eq_true rfl), (Nat.le_of_ble_eq_true rfl)⟩ (fun Xn q H hq hz_ hk hXO => ?_) (fun v_ H hq hz_ hk => hq.elim)
  obtain rfl := hq
  exact vt_out X (fun x hx => (ht x hx).elim) hQ hXO (Nat.le_of_ble_eq_true rfl) (Nat.le_of_ble_eq_true rfl) rfl
set_option maxHeartbeats 800000 in
theorem w2X1_cellAt (l : Launch) (D : DD) (hl : l.stackTraces = false) (u : Nat → Nat) (P T : Nat → Int32) (o : Nat) (g : Nat → Nat) (S : Nat → Int32) (pw : Option Nat) (c : Nat) (v0 v1 v2 v3 v5 v6 v7 : Value) (k : Nat) (b : Int32) (hC : VC P) (hV : VS S) (hk : k < nC P) (hp : ¬ (b = 0 ∨ b = nI 1)) : Cx l yX1_cellAt cX1_cellAt 3 (some .int) { frames := 7, cells := 1, slots := 6, locals := 109 } D [.ref c, .int (nI k), .int (b)] (fun H => KH D H ∧ oB D H c 0 [v0, v1, v2, v3, .ref (g 0), v5, v6, v7] ∧ UR D u P T o H ∧ SR D g u P S pw H) (fun _ => False) (fun r H H1 => False) (fun Xn q H H1 => Xn = "java/lang/IllegalArgumentException") := by
  refine Cx.of (by decide +kernel) (Nat.le_of_ble_eq_true rfl) (fun K Qf hkl X ht hM hQ => ?_)
  subst hkl
  obtain ⟨hK, hc, hU, hR⟩ := hM
  have hz : (kS K).heap.size ≤ (kS K).heap.size := Nat.le_refl _
  have hP := hC.v
  have l0 := hP.l0
  have l1 := hP.l1
  have l2 := hP.l2
  have l4 := hP.l4
  have l5 := hP.l5
  have l8 := hP.l8
  have l9 := hP.l9
  have l10 := hP.l10
  have l71 := hP.l71
  have l76 := hP.l76
  have l77 := hP.l77
  have hx1 := hC.x1
  have hy1 := hC.y1
  have ht1 := hC.t1
  have he1 := hC.e1
  have hm1 := hC.m1
  have hcc : nC P ≤ 144 := Nat.mul_le_mul l9 l10
  refine vv_sub (lv' := [(0, .ref c), (1, .int (nI k)), (2, .int (b))]) [0, 1, 2] rfl ?_
  refine vv_aload_n X dX1_cellAt_0 rfl 0 rfl ?_
  refine vv_iload_n X dX1_cellAt_1 rfl 1 rfl ?_
  refine vv_callVp X (mX1_withCell (kL K) D u P T o g S pw c v0 v1 v2 v3 v5 v6 v7 k hC hV (by omega)) q1845 q1847 qs37 q137 q1848 nX1_withCell ⟨(Nat.le_of_ble_eq_true rfl), (Nat.le_of_ble_eq_true rfl)⟩ dX1_cellAt_2 rfl (Nat.le_of_ble_eq_true rfl) (recv X hc CL_X1) ⟨hK, hc, hU, hR⟩ ⟨(Nat.le_of_ble_eq_true rfl), (Nat.le_of_ble_eq_true rfl)⟩ ?_
  refine vv_pop X dX1_cellAt_5 rfl ?_
  refine vv_iload_n X dX1_cellAt_6 rfl 2 rfl ?_
  refine vv_if_eq (tgt := 15) X dX1_cellAt_7 (by decide) (fun c_7 => ?_) (fun c_7 => ?_)
  · exact absurd (Or.inl c_7) hp
  · refine vv_iload_n X dX1_cellAt_10 rfl 2 rfl ?_
    refine vv_iconst (v := nI 1) X dX1_cellAt_11 (by decide) ?_
    refine vv_icmp_ne (tgt := 19) X dX1_cellAt_12 (by decide) (fun c_12 => ?_) (fun c_12 => ?_)
    · refine vv_iconst (v := nI 0) X dX1_cellAt_19 (by decide) ?_
      refine vx_cS X (xX1_checkArgument (kL K) D hl False (fun z => z)) q1820 q1821 q137 q1822 nX1_checkArgument ⟨(Nat.le_of_ble_eq_true rfl), (Nat.le_of_ble_eq_true rfl)⟩ dX1_cellAt_20 rfl (Nat.le_of_ble_eq_true rfl) hK (fun _ z => z.elim) ⟨(Nat.le_of_ble_eq_true rfl), (Nat.le_of_ble_eq_true rfl)⟩ (fun Xn q H hq hz_ hk hXO => ?_) (fun v_ H hq hz_ hk => hq.elim)
      obtain rfl := hq
      exact vt_out X (fun x hx => (ht x hx).elim) hQ hXO (Nat.le_of_ble_eq_true rfl) (Nat.le_of_ble_eq_true rfl) rfl
    · exact absurd (Or.inr c_12) hp
set_option maxHeartbeats 800000 in
theorem xX1_correlation (l : Launch) (D : DD) (hl : l.stackTraces = false) (u : Nat → Nat) (P T : Nat → Int32) (o : Nat) (g : Nat → Nat) (S : Nat → Int32) (pw : Option Nat) (c : Nat) (v0 v1 v2 v3 v5 v6 v7 : Value) (q k t : Int32) (hC : VC P) (hV : VS S) (hq : ¬ ix (nM P) q) : Cx l yX1_correlation cX1_correlation 4 (some .long) { frames := 9, cells := 1, slots := 6, locals := 153 } D [.ref c, .int (q), .int (k), .int (t)] (fun H => KH D H ∧ oB D H c 0 [v0, v1, v2, v3, .ref (g 0), v5, v6, v7] ∧ UR D u P T o H ∧ SR D g u P S pw H) (fun _ => False) (fun r H H1 => False) (fun Xn q H H1 => Xn = "java/lang/IndexOutOfBoundsException") := by
  refine Cx.of (by decide +kernel) (Nat.le_of_ble_eq_true rfl) (fun K Qf hkl X ht hM hQ => ?_)
  subst hkl
  obtain ⟨hK, hc, hU, hR⟩ := hM
  have hz : (kS K).heap.size ≤ (kS K).heap.size := Nat.le_refl _
  have hP := hC.v
  have l0 := hP.l0
  have l1 := hP.l1
  have l2 := hP.l2
  have l4 := hP.l4
  have l5 := hP.l5
  have l8 := hP.l8
  have l9 := hP.l9
  have l10 := hP.l10
  have l71 := hP.l71
  have l76 := hP.l76
  have l77 := hP.l77
  have hx1 := hC.x1
  have hy1 := hC.y1
  have ht1 := hC.t1
  have he1 := hC.e1
  have hm1 := hC.m1
  have hcc : nC P ≤ 144 := Nat.mul_le_mul l9 l10
  refine vv_sub (lv' := [(0, .ref c), (1, .int (q)), (2, .int (k)), (3, .int (t))]) [0, 1, 2, 3] rfl ?_
  refine vv_aload_n X dX1_correlation_0 rfl 0 rfl ?_
  refine vv_iload_n X dX1_correlation_1 rfl 1 rfl ?_
  refine vv_iload_n X dX1_correlation_2 rfl 2 rfl ?_
  refine vx_cV X (xX1_withMics (kL K) D hl u P T o g S pw c v0 v1 v2 v3 v5 v6 v7 q k hC hV (hq)) q2549 q2551 qs52 q137 q2552 nX1_withMics ⟨(Nat.le_of_ble_eq_true rfl), (Nat.le_of_ble_eq_true rfl)⟩ dX1_correlation_3 rfl (Nat.le_of_ble_eq_true rfl) (recv X hc CL_X1) ⟨hK, hc, hU, hR⟩ (fun _ z => z.elim) ⟨(Nat.le_of_ble_eq_true rfl), (Nat.le_of_ble_eq_true rfl)⟩ (fun Xn q H hq hz_ hk hXO => ?_) (fun v_ H hq hz_ hk => hq.elim)
  obtain rfl := hq
  exact vt_out X (fun x hx => (ht x hx).elim) hQ hXO (Nat.le_of_ble_eq_true rfl) (Nat.le_of_ble_eq_true rfl) rfl
set_option maxHeartbeats 800000 in
theorem w3X1_correlation (l : Launch) (D : DD) (hl : l.stackTraces = false) (u : Nat → Nat) (P T : Nat → Int32) (o : Nat) (g : Nat → Nat) (S : Nat → Int32) (pw : Option Nat) (c : Nat) (v0 v1 v2 v3 v5 v6 v7 : Value) (m j : Nat) (t : Int32) (hC : VC P) (hV : VS S) (hm : m < nM P) (hj : j < nM P) (hv : ¬ ix (nT P) t) : Cx l yX1_correlation cX1_correlation 4 (some .long) { frames := 7, cells := 1, slots := 6, locals := 109 } D [.ref c, .int (nI m), .int (nI j), .int (t)] (fun H => KH D H ∧ oB D H c 0 [v0, v1, v2, v3, .ref (g 0), v5, v6, v7] ∧ UR D u P T o H ∧ SR D g u P S pw H) (fun _ => False) (fun r H H1 => False) (fun Xn q H H1 => Xn = "java/lang/IllegalArgumentException") := by
  refine Cx.of (by decide +kernel) (Nat.le_of_ble_eq_true rfl) (fun K Qf hkl X ht hM hQ => ?_)
  subst hkl
  obtain ⟨hK, hc, hU, hR⟩ := hM
  have hz : (kS K).heap.size ≤ (kS K).heap.size := Nat.le_refl _
  have hP := hC.v
  have l0 := hP.l0
  have l1 := hP.l1
  have l2 := hP.l2
  have l4 := hP.l4
  have l5 := hP.l5
  have l8 := hP.l8
  have l9 := hP.l9
  have l10 := hP.l10
  have l71 := hP.l71
  have l76 := hP.l76
  have l77 := hP.l77
  have hx1 := hC.x1
  have hy1 := hC.y1
  have ht1 := hC.t1
  have he1 := hC.e1
  have hm1 := hC.m1
  have hcc : nC P ≤ 144 := Nat.mul_le_mul l9 l10
  refine vv_sub (lv' := [(0, .ref c), (1, .int (nI m)), (2, .int (nI j)), (3, .int (t))]) [0, 1, 2, 3] rfl ?_
  refine vv_aload_n X dX1_correlation_0 rfl 0 rfl ?_
  refine vv_iload_n X dX1_correlation_1 rfl 1 rfl ?_
  refine vv_iload_n X dX1_correlation_2 rfl 2 rfl ?_
  refine vv_callVp X (mX1_withMics (kL K) D u P T o g S pw c v0 v1 v2 v3 v5 v6 v7 m j hC hV (by omega) (by omega)) q2549 q2551 qs52 q137 q2552 nX1_withMics ⟨(Nat.le_of_ble_eq_true rfl), (Nat.le_of_ble_eq_true rfl)⟩ dX1_correlation_3 rfl (Nat.le_of_ble_eq_true rfl) (recv X hc CL_X1) ⟨hK, hc, hU, hR⟩ ⟨(Nat.le_of_ble_eq_true rfl), (Nat.le_of_ble_eq_true rfl)⟩ ?_
  refine vv_pop X dX1_correlation_6 rfl ?_
  refine vv_aload_n X dX1_correlation_7 rfl 0 rfl ?_
  refine vv_iload_n X dX1_correlation_8 rfl 3 rfl ?_
  refine vv_callVp X (mX1_isSample (kL K) D u P T o g S pw c v0 v1 v2 v3 v5 v6 v7 t hC hV ) q1862 q1864 qs39 q137 q1865 nX1_isSample ⟨(Nat.le_of_ble_eq_true rfl), (Nat.le_of_ble_eq_true rfl)⟩ dX1_correlation_9 rfl (Nat.le_of_ble_eq_true rfl) (recv X hc CL_X1) ⟨hK, hc, hU, hR⟩ ⟨(Nat.le_of_ble_eq_true rfl), (Nat.le_of_ble_eq_true rfl)⟩ ?_
  refine vx_cS X (xX1_checkArgument (kL K) D hl (ix (nT P) t) (hv)) q1820 q1821 q137 q1822 nX1_checkArgument ⟨(Nat.le_of_ble_eq_true rfl), (Nat.le_of_ble_eq_true rfl)⟩ dX1_correlation_12 rfl (Nat.le_of_ble_eq_true rfl) hK (fun _ z => z.elim) ⟨(Nat.le_of_ble_eq_true rfl), (Nat.le_of_ble_eq_true rfl)⟩ (fun Xn q H hq hz_ hk hXO => ?_) (fun v_ H hq hz_ hk => hq.elim)
  obtain rfl := hq
  exact vt_out X (fun x hx => (ht x hx).elim) hQ hXO (Nat.le_of_ble_eq_true rfl) (Nat.le_of_ble_eq_true rfl) rfl
