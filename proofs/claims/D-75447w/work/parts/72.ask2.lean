/-! AcousticCamera: more questions that only read: printed by gen/s19.py -/
set_option maxRecDepth 100000
set_option maxHeartbeats 800000 in
theorem mX1_withCells (l : Launch) (D : DD) (u : Nat → Nat) (P T : Nat → Int32) (o : Nat) (g : Nat → Nat) (S : Nat → Int32) (pw : Option Nat) (c : Nat) (v0 v1 v2 v3 v5 v6 v7 : Value) (k j : Nat) (hC : VC P) (hV : VS S) (hk : k < nC P) (hj : j < nC P) : Cp l yX1_withCells cX1_withCells 3 (some (.object "AcousticCamera$State")) { frames := 4, cells := 0, slots := 0, locals := 79 } D [.ref c, .int (nI k), .int (nI j)] (fun H => KH D H ∧ oB D H c 0 [v0, v1, v2, v3, .ref (g 0), v5, v6, v7] ∧ UR D u P T o H ∧ SR D g u P S pw H) (.ref (g 0)) := by
  refine Ct.of (by decide +kernel) (Nat.le_of_ble_eq_true rfl) (fun K Qf hkl X hM hQ => ?_)
  subst hkl
  obtain ⟨hK, hc, hU, hR⟩ := hM
  have hP := hC.v
  have l0 := hP.l0
  have l1 := hP.l1
  have l2 := hP.l2
  have l4 := hP.l4
  have l5 := hP.l5
  have l8 := hP.l8
  have l9 := hP.l9
  have l10 := hP.l10
  have l71 := hP.l71
  have l76 := hP.l76
  have l77 := hP.l77
  have hx1 := hC.x1
  have hy1 := hC.y1
  have ht1 := hC.t1
  have he1 := hC.e1
  have hm1 := hC.m1
  have hcc : nC P ≤ 144 := Nat.mul_le_mul l9 l10
  refine vv_sub (lv' := [(0, .ref c), (1, .int (nI k)), (2, .int (nI j))]) [0, 1, 2] rfl ?_
  refine vv_aload_n X dX1_withCells_0 rfl 0 rfl ?_
  refine vv_iload_n X dX1_withCells_1 rfl 1 rfl ?_
  refine vv_callVp X (mX1_withCell (kL K) D u P T o g S pw c v0 v1 v2 v3 v5 v6 v7 k hC hV (by omega)) q1845 q1847 qs37 q137 q1848 nX1_withCell ⟨(Nat.le_of_ble_eq_true rfl), (Nat.le_of_ble_eq_true rfl)⟩ dX1_withCells_2 rfl (Nat.le_of_ble_eq_true rfl) (recv X hc CL_X1) ⟨hK, hc, hU, hR⟩ ⟨(Nat.le_of_ble_eq_true rfl), (Nat.le_of_ble_eq_true rfl)⟩ ?_
  refine vv_pop X dX1_withCells_5 rfl ?_
  refine vv_aload_n X dX1_withCells_6 rfl 0 rfl ?_
  refine vv_iload_n X dX1_withCells_7 rfl 2 rfl ?_
  refine vv_callVp X (mX1_withCell (kL K) D u P T o g S pw c v0 v1 v2 v3 v5 v6 v7 j hC hV (by omega)) q1845 q1847 qs37 q137 q1848 nX1_withCell ⟨(Nat.le_of_ble_eq_true rfl), (Nat.le_of_ble_eq_true rfl)⟩ dX1_withCells_8 rfl (Nat.le_of_ble_eq_true rfl) (recv X hc CL_X1) ⟨hK, hc, hU, hR⟩ ⟨(Nat.le_of_ble_eq_true rfl), (Nat.le_of_ble_eq_true rfl)⟩ ?_
  exact vv_aret X (Or.inl ⟨_, rfl⟩) (Or.inr ⟨_, rfl⟩) hQ dX1_withCells_11 (Nat.le_of_ble_eq_true rfl) (Nat.le_of_ble_eq_true rfl) (pqa (rfl))
set_option maxHeartbeats 800000 in
theorem xX1_withCells (l : Launch) (D : DD) (hl : l.stackTraces = false) (u : Nat → Nat) (P T : Nat → Int32) (o : Nat) (g : Nat → Nat) (S : Nat → Int32) (pw : Option Nat) (c : Nat) (v0 v1 v2 v3 v5 v6 v7 : Value) (q k : Int32) (hC : VC P) (hV : VS S) (hq : ¬ ix (nC P) q) : Cx l yX1_withCells cX1_withCells 3 (some (.object "AcousticCamera$State")) { frames := 8, cells := 1, slots := 6, locals := 131 } D [.ref c, .int (q), .int (k)] (fun H => KH D H ∧ oB D H c 0 [v0, v1, v2, v3, .ref (g 0), v5, v6, v7] ∧ UR D u P T o H ∧ SR D g u P S pw H) (fun _ => False) (fun r H H1 => False) (fun Xn q H H1 => Xn = "java/lang/IndexOutOfBoundsException") := by
  refine Cx.of (by decide +kernel) (Nat.le_of_ble_eq_true rfl) (fun K Qf hkl X ht hM hQ => ?_)
  subst hkl
  obtain ⟨hK, hc, hU, hR⟩ := hM
  have hz : (kS K).heap.size ≤ (kS K).heap.size := Nat.le_refl _
  have hP := hC.v
  have l0 := hP.l0
  have l1 := hP.l1
  have l2 := hP.l2
  have l4 := hP.l4
  have l5 := hP.l5
  have l8 := hP.l8
  have l9 := hP.l9
  have l10 := hP.l10
  have l71 := hP.l71
  have l76 := hP.l76
  have l77 := hP.l77
  have hx1 := hC.x1
  have hy1 := hC.y1
  have ht1 := hC.t1
  have he1 := hC.e1
  have hm1 := hC.m1
  have hcc : nC P ≤ 144 := Nat.mul_le_mul l9 l10
  refine vv_sub (lv' := [(0, .ref c), (1, .int (q)), (2, .int (k))]) [0, 1, 2] rfl ?_
  refine vv_aload_n X dX1_withCells_0 rfl 0 rfl ?_
  refine vv_iload_n X dX1_withCells_1 rfl 1 rfl ?_
  refine vx_cV X (xX1_withCell (kL K) D hl u P T o g S pw c v0 v1 v2 v3 v5 v6 v7 q hC hV (hq)) q1845 q1847 qs37 q137 q1848 nX1_withCell ⟨(Nat.le_of_ble_eq_true rfl), (Nat.le_of_ble_eq_true rfl)⟩ dX1_withCells_2 rfl (Nat.le_of_ble_eq_true rfl) (recv X hc CL_X1) ⟨hK, hc, hU, hR⟩ (fun _ z => z.elim) ⟨(Nat.le_of_ble_eq_true rfl), (Nat.le_of_ble_eq_true rfl)⟩ (fun Xn q H hq hz_ hk hXO => ?_) (fun v_ H hq hz_ hk => hq.elim)
  obtain rfl := hq
  exact vt_out X (fun x hx => (ht x hx).elim) hQ hXO (Nat.le_of_ble_eq_true rfl) (Nat.le_of_ble_eq_true rfl) rfl
set_option maxHeartbeats 800000 in
theorem w2X1_withCells (l : Launch) (D : DD) (hl : l.stackTraces = false) (u : Nat → Nat) (P T : Nat → Int32) (o : Nat) (g : Nat → Nat) (S : Nat → Int32) (pw : Option Nat) (c : Nat) (v0 v1 v2 v3 v5 v6 v7 : Value) (m : Nat) (k : Int32) (hC : VC P) (hV : VS S) (hm : m < nC P) (hk : ¬ ix (nC P) k) : Cx l yX1_withCells cX1_withCells 3 (some (.object "AcousticCamera$State")) { frames := 8, cells := 1, slots := 6, locals := 131 } D [.ref c, .int (nI m), .int (k)] (fun H => KH D H ∧ oB D H c 0 [v0, v1, v2, v3, .ref (g 0), v5, v6, v7] ∧ UR D u P T o H ∧ SR D g u P S pw H) (fun _ => False) (fun r H H1 => False) (fun Xn q H H1 => Xn = "java/lang/IndexOutOfBoundsException") := by
  refine Cx.of (by decide +kernel) (Nat.le_of_ble_eq_true rfl) (fun K Qf hkl X ht hM hQ => ?_)
  subst hkl
  obtain ⟨hK, hc, hU, hR⟩ := hM
  have hz : (kS K).heap.size ≤ (kS K).heap.size := Nat.le_refl _
  have hP := hC.v
  have l0 := hP.l0
  have l1 := hP.l1
  have l2 := hP.l2
  have l4 := hP.l4
  have l5 := hP.l5
  have l8 := hP.l8
  have l9 := hP.l9
  have l10 := hP.l10
  have l71 := hP.l71
  have l76 := hP.l76
  have l77 := hP.l77
  have hx1 := hC.x1
  have hy1 := hC.y1
  have ht1 := hC.t1
  have he1 := hC.e1
  have hm1 := hC.m1
  have hcc : nC P ≤ 144 := Nat.mul_le_mul l9 l10
  refine vv_sub (lv' := [(0, .ref c), (1, .int (nI m)), (2, .int (k))]) [0, 1, 2] rfl ?_
  refine vv_aload_n X dX1_withCells_0 rfl 0 rfl ?_
  refine vv_iload_n X dX1_withCells_1 rfl 1 rfl ?_
  refine vv_callVp X (mX1_withCell (kL K) D u P T o g S pw c v0 v1 v2 v3 v5 v6 v7 m hC hV (by omega)) q1845 q1847 qs37 q137 q1848 nX1_withCell ⟨(Nat.le_of_ble_eq_true rfl), (Nat.le_of_ble_eq_true rfl)⟩ dX1_withCells_2 rfl (Nat.le_of_ble_eq_true rfl) (recv X hc CL_X1) ⟨hK, hc, hU, hR⟩ ⟨(Nat.le_of_ble_eq_true rfl), (Nat.le_of_ble_eq_true rfl)⟩ ?_
  refine vv_pop X dX1_withCells_5 rfl ?_
  refine vv_aload_n X dX1_withCells_6 rfl 0 rfl ?_
  refine vv_iload_n X dX1_withCells_7 rfl 2 rfl ?_
  refine vx_cV X (xX1_withCell (kL K) D hl u P T o g S pw c v0 v1 v2 v3 v5 v6 v7 k hC hV (hk)) q1845 q1847 qs37 q137 q1848 nX1_withCell ⟨(Nat.le_of_ble_eq_true rfl), (Nat.le_of_ble_eq_true rfl)⟩ dX1_withCells_8 rfl (Nat.le_of_ble_eq_true rfl) (recv X hc CL_X1) ⟨hK, hc, hU, hR⟩ (fun _ z => z.elim) ⟨(Nat.le_of_ble_eq_true rfl), (Nat.le_of_ble_eq_true rfl)⟩ (fun Xn q H hq hz_ hk hXO => ?_) (fun v_ H hq hz_ hk => hq.elim)
  obtain rfl := hq
  exact vt_out X (fun x hx => (ht x hx).elim) hQ hXO (Nat.le_of_ble_eq_true rfl) (Nat.le_of_ble_eq_true rfl) rfl
set_option maxHeartbeats 800000 in
theorem mX1_withZone (l : Launch) (D : DD) (u : Nat → Nat) (P T : Nat → Int32) (o : Nat) (g : Nat → Nat) (S : Nat → Int32) (pw : Option Nat) (c : Nat) (v0 v1 v2 v3 v5 v6 v7 : Value) (m : Nat) (hC : VC P) (hV : VS S) (hm : m < nZ P) : Cp l yX1_withZone cX1_withZone 2 (some (.object "AcousticCamera$State")) { frames := 3, cells := 0, slots := 0, locals := 58 } D [.ref c, .int (nI m)] (fun H => KH D H ∧ oB D H c 0 [v0, v1, v2, v3, .ref (g 0), v5, v6, v7] ∧ UR D u P T o H ∧ SR D g u P S pw H) (.ref (g 0)) := by
  refine Ct.of (by decide +kernel) (Nat.le_of_ble_eq_true rfl) (fun K Qf hkl X hM hQ => ?_)
  subst hkl
  obtain ⟨hK, hc, hU, hR⟩ := hM
  have hP := hC.v
  have l0 := hP.l0
  have l1 := hP.l1
  have l2 := hP.l2
  have l4 := hP.l4
  have l5 := hP.l5
  have l8 := hP.l8
  have l9 := hP.l9
  have l10 := hP.l10
  have l71 := hP.l71
  have l76 := hP.l76
  have l77 := hP.l77
  have hx1 := hC.x1
  have hy1 := hC.y1
  have ht1 := hC.t1
  have he1 := hC.e1
  have hm1 := hC.m1
  have hcc : nC P ≤ 144 := Nat.mul_le_mul l9 l10
  have hzz := hP.l101
  refine vv_sub (lv' := [(0, .ref c), (1, .int (nI m))]) [0, 1] rfl ?_
  refine vv_iload_n X dX1_withZone_0 rfl 1 rfl ?_
  refine vv_aload_n X dX1_withZone_1 rfl 0 rfl ?_
  refine vv_callVp X (mX1_there (kL K) D u P T o g S pw c v0 v1 v2 v3 v5 v6 v7  hC hV ) q1797 q1799 qs36 q137 q1800 nX1_there ⟨(Nat.le_of_ble_eq_true rfl), (Nat.le_of_ble_eq_true rfl)⟩ dX1_withZone_2 rfl (Nat.le_of_ble_eq_true rfl) (recv X hc CL_X1) ⟨hK, hc, hU, hR⟩ ⟨(Nat.le_of_ble_eq_true rfl), (Nat.le_of_ble_eq_true rfl)⟩ ?_
  refine vv_getfN (C := RX3) (T := TX3) (N := 8) (ref := "AcousticCamera$State") X hR.ob in_X3 CL_X3 0 (by decide) q1688 rfl rfl dX1_withZone_5 ?_
  refine vv_getfN (C := RX5) (T := TX5) (N := 19) (ref := "AcousticCamera$Setup") X hU.ob in_X5 CL_X5 2 (by decide) q782 rfl rfl dX1_withZone_8 ?_
  refine vv_callFp X (mJ12_size (kL K) D (u 3) _ _ (nZ P)) (by decide) q302 q308 q306 q154 q310 (show notMH ⟨"java/util/List", "size", "()I"⟩ 0 by decide +kernel) ⟨(Nat.le_of_ble_eq_true rfl), (Nat.le_of_ble_eq_true rfl)⟩ dX1_withZone_11 rfl (Nat.le_of_ble_eq_true rfl) hU.lz.1 CL_J12 hU.lz.1 ⟨(Nat.le_of_ble_eq_true rfl), (Nat.le_of_ble_eq_true rfl)⟩ ?_
  refine vv_callSv X (mX1_checkIndex (kL K) D (nI m) (nZ P) (ix_N (by omega) (by omega))) q446 q447 q137 q448 nX1_checkIndex ⟨(Nat.le_of_ble_eq_true rfl), (Nat.le_of_ble_eq_true rfl)⟩ dX1_withZone_16 rfl (Nat.le_of_ble_eq_true rfl) trivial ⟨(Nat.le_of_ble_eq_true rfl), (Nat.le_of_ble_eq_true rfl)⟩ ?_
  refine vv_aload_n X dX1_withZone_19 rfl 0 rfl ?_
  refine vv_getf (C := RX1) (T := TX1) (N := 8) (ref := "AcousticCamera") X hc in_X1 CL_X1 4 (by decide) q259 rfl rfl dX1_withZone_20 ?_
  exact vv_aret X (Or.inl ⟨_, rfl⟩) (Or.inr ⟨_, rfl⟩) hQ dX1_withZone_23 (Nat.le_of_ble_eq_true rfl) (Nat.le_of_ble_eq_true rfl) (pqa (rfl))
set_option maxHeartbeats 800000 in
theorem xX1_withZone (l : Launch) (D : DD) (hl : l.stackTraces = false) (u : Nat → Nat) (P T : Nat → Int32) (o : Nat) (g : Nat → Nat) (S : Nat → Int32) (pw : Option Nat) (c : Nat) (v0 v1 v2 v3 v5 v6 v7 : Value) (q : Int32) (hC : VC P) (hV : VS S) (hq : ¬ ix (nZ P) q) : Cx l yX1_withZone cX1_withZone 2 (some (.object "AcousticCamera$State")) { frames := 7, cells := 1, slots := 6, locals := 110 } D [.ref c, .int (q)] (fun H => KH D H ∧ oB D H c 0 [v0, v1, v2, v3, .ref (g 0), v5, v6, v7] ∧ UR D u P T o H ∧ SR D g u P S pw H) (fun _ => False) (fun r H H1 => False) (fun Xn q H H1 => Xn = "java/lang/IndexOutOfBoundsException") := by
  refine Cx.of (by decide +kernel) (Nat.le_of_ble_eq_true rfl) (fun K Qf hkl X ht hM hQ => ?_)
  subst hkl
  obtain ⟨hK, hc, hU, hR⟩ := hM
  have hz : (kS K).heap.size ≤ (kS K).heap.size := Nat.le_refl _
  have hP := hC.v
  have l0 := hP.l0
  have l1 := hP.l1
  have l2 := hP.l2
  have l4 := hP.l4
  have l5 := hP.l5
  have l8 := hP.l8
  have l9 := hP.l9
  have l10 := hP.l10
  have l71 := hP.l71
  have l76 := hP.l76
  have l77 := hP.l77
  have hx1 := hC.x1
  have hy1 := hC.y1
  have ht1 := hC.t1
  have he1 := hC.e1
  have hm1 := hC.m1
  have hcc : nC P ≤ 144 := Nat.mul_le_mul l9 l10
  refine vv_sub (lv' := [(0, .ref c), (1, .int (q))]) [0, 1] rfl ?_
  refine vv_iload_n X dX1_withZone_0 rfl 1 rfl ?_
  refine vv_aload_n X dX1_withZone_1 rfl 0 rfl ?_
  refine vv_callVp X (mX1_there (kL K) D u P T o g S pw c v0 v1 v2 v3 v5 v6 v7  hC hV ) q1797 q1799 qs36 q137 q1800 nX1_there ⟨(Nat.le_of_ble_eq_true rfl), (Nat.le_of_ble_eq_true rfl)⟩ dX1_withZone_2 rfl (Nat.le_of_ble_eq_true rfl) (recv X hc CL_X1) ⟨hK, hc, hU, hR⟩ ⟨(Nat.le_of_ble_eq_true rfl), (Nat.le_of_ble_eq_true rfl)⟩ ?_
  refine vv_getfN (C := RX3) (T := TX3) (N := 8) (ref := "AcousticCamera$State") X hR.ob in_X3 CL_X3 0 (by decide) q1688 rfl rfl dX1_withZone_5 ?_
  refine vv_getfN (C := RX5) (T := TX5) (N := 19) (ref := "AcousticCamera$Setup") X hU.ob in_X5 CL_X5 2 (by decide) q782 rfl rfl dX1_withZone_8 ?_
  refine vv_callFp X (mJ12_size (kL K) D (u 3) _ _ (nZ P)) (by decide) q302 q308 q306 q154 q310 (show notMH ⟨"java/util/List", "size", "()I"⟩ 0 by decide +kernel) ⟨(Nat.le_of_ble_eq_true rfl), (Nat.le_of_ble_eq_true rfl)⟩ dX1_withZone_11 rfl (Nat.le_of_ble_eq_true rfl) hU.lz.1 CL_J12 hU.lz.1 ⟨(Nat.le_of_ble_eq_true rfl), (Nat.le_of_ble_eq_true rfl)⟩ ?_
  refine vx_cS X (xX1_checkIndex (kL K) D hl q (nZ P) (hq)) q446 q447 q137 q448 nX1_checkIndex ⟨(Nat.le_of_ble_eq_true rfl), (Nat.le_of_ble_eq_true rfl)⟩ dX1_withZone_16 rfl (Nat.le_of_ble_eq_true rfl) hK (fun _ z => z.elim) ⟨(Nat.le_of_ble_eq_true rfl), (Nat.le_of_ble_eq_true rfl)⟩ (fun Xn q H hq hz_ hk hXO => ?_) (fun v_ H hq hz_ hk => hq.elim)
  obtain rfl := hq
  exact vt_out X (fun x hx => (ht x hx).elim) hQ hXO (Nat.le_of_ble_eq_true rfl) (Nat.le_of_ble_eq_true rfl) rfl
theorem nX1_checkShare : notMH yX1_checkShare 2 := by decide +kernel
set_option maxHeartbeats 800000 in
theorem mX1_checkShare (l : Launch) (D : DD) (p s : Int32) (hp : (nI 2 ≤ p ∧ p ≤ nI 99) ∧ nI 1 ≤ s ∧ s ≤ nI 100) : Cv l yX1_checkShare cX1_checkShare 2 { frames := 3, cells := 0, slots := 0, locals := 57 } D [.int (p), .int (s)] (fun H => True) := by
  refine Ct.of (by decide +kernel) (Nat.le_of_ble_eq_true rfl) (fun K Qf hkl X hM hQ => ?_)
  subst hkl
  refine vv_sub (lv' := [(0, .int (p)), (1, .int (s))]) [0, 1] rfl ?_
  refine vv_iload_n X dX1_checkShare_0 rfl 0 rfl ?_
  refine vv_callSp X (mX1_isPeriod (kL K) D p) q2390 q2391 q137 q2392 nX1_isPeriod ⟨(Nat.le_of_ble_eq_true rfl), (Nat.le_of_ble_eq_true rfl)⟩ dX1_checkShare_1 rfl (Nat.le_of_ble_eq_true rfl) trivial ⟨(Nat.le_of_ble_eq_true rfl), (Nat.le_of_ble_eq_true rfl)⟩ ?_
  refine vb_eq (tgt := 23) X dX1_checkShare_4 (by decide) (fun c_4 => ?_) (fun c_4 => ?_)
  · exact absurd hp.1 c_4
  · refine vv_iload_n X dX1_checkShare_7 rfl 1 rfl ?_
    refine vv_i2l (v := (s).toInt64) X dX1_checkShare_8 rfl ?_
    refine vv_lconst (v := 1) X dX1_checkShare_9 (by decide) ?_
    refine vv_eql (show _ = (nI 1 : Int32).toInt64 from by decide) ?_
    refine vv_ldc2 (v := 100) X q2412 dX1_checkShare_10 ?_
    refine vv_eql (show _ = (nI 100 : Int32).toInt64 from by decide) ?_
    refine vv_callSp X (mX1_in (kL K) D ((s).toInt64) ((nI 1 : Int32).toInt64) ((nI 100 : Int32).toInt64)) q449 q450 q137 q451 nX1_in ⟨(Nat.le_of_ble_eq_true rfl), (Nat.le_of_ble_eq_true rfl)⟩ dX1_checkShare_13 rfl (Nat.le_of_ble_eq_true rfl) trivial ⟨(Nat.le_of_ble_eq_true rfl), (Nat.le_of_ble_eq_true rfl)⟩ ?_
    refine vv_eqi (b2_eq (in_I)) ?_
    refine vb_eq (tgt := 23) X dX1_checkShare_16 (by decide) (fun c_16 => ?_) (fun c_16 => ?_)
    · exact absurd hp.2 c_16
    · refine vv_iconst (v := nI 1) X dX1_checkShare_19 (by decide) ?_
      refine vv_goto (tgt := 24) X dX1_checkShare_20 (by decide) ?_
      refine vv_callSv X (mX1_checkArgument (kL K) D True trivial) q1820 q1821 q137 q1822 nX1_checkArgument ⟨(Nat.le_of_ble_eq_true rfl), (Nat.le_of_ble_eq_true rfl)⟩ dX1_checkShare_24 rfl (Nat.le_of_ble_eq_true rfl) trivial ⟨(Nat.le_of_ble_eq_true rfl), (Nat.le_of_ble_eq_true rfl)⟩ ?_
      exact vv_vret X hQ dX1_checkShare_27 (Nat.le_of_ble_eq_true rfl) (Nat.le_of_ble_eq_true rfl) (⟨rfl, rfl⟩)
set_option maxHeartbeats 800000 in
theorem xX1_checkShare (l : Launch) (D : DD) (hl : l.stackTraces = false) (p s : Int32) (hp : ¬ ((nI 2 ≤ p ∧ p ≤ nI 99) ∧ nI 1 ≤ s ∧ s ≤ nI 100)) : Cx l yX1_checkShare cX1_checkShare 2 none { frames := 7, cells := 1, slots := 6, locals := 109 } D [.int (p), .int (s)] (fun H => KH D H) (fun _ => False) (fun r H H1 => False) (fun Xn q H H1 => Xn = "java/lang/IllegalArgumentException") := by
  refine Cx.of (by decide +kernel) (Nat.le_of_ble_eq_true rfl) (fun K Qf hkl X ht hM hQ => ?_)
  subst hkl
  have hK := hM
  have hz : (kS K).heap.size ≤ (kS K).heap.size := Nat.le_refl _
  refine vv_sub (lv' := [(0, .int (p)), (1, .int (s))]) [0, 1] rfl ?_
  refine vv_iload_n X dX1_checkShare_0 rfl 0 rfl ?_
  refine vv_callSp X (mX1_isPeriod (kL K) D p) q2390 q2391 q137 q2392 nX1_isPeriod ⟨(Nat.le_of_ble_eq_true rfl), (Nat.le_of_ble_eq_true rfl)⟩ dX1_checkShare_1 rfl (Nat.le_of_ble_eq_true rfl) trivial ⟨(Nat.le_of_ble_eq_true rfl), (Nat.le_of_ble_eq_true rfl)⟩ ?_
  refine vb_eq (tgt := 23) X dX1_checkShare_4 (by decide) (fun c_4 => ?_) (fun c_4 => ?_)
  · refine vv_iconst (v := nI 0) X dX1_checkShare_23 (by decide) ?_
    refine vx_cS X (xX1_checkArgument (kL K) D hl False (fun z => z)) q1820 q1821 q137 q1822 nX1_checkArgument ⟨(Nat.le_of_ble_eq_true rfl), (Nat.le_of_ble_eq_true rfl)⟩ dX1_checkShare_24 rfl (Nat.le_of_ble_eq_true rfl) hK (fun _ z => z.elim) ⟨(Nat.le_of_ble_eq_true rfl), (Nat.le_of_ble_eq_true rfl)⟩ (fun Xn q H hq hz_ hk hXO => ?_) (fun v_ H hq hz_ hk => hq.elim)
    obtain rfl := hq
    exact vt_out X (fun x hx => (ht x hx).elim) hQ hXO (Nat.le_of_ble_eq_true rfl) (Nat.le_of_ble_eq_true rfl) rfl
  · refine vv_iload_n X dX1_checkShare_7 rfl 1 rfl ?_
    refine vv_i2l (v := (s).toInt64) X dX1_checkShare_8 rfl ?_
    refine vv_lconst (v := 1) X dX1_checkShare_9 (by decide) ?_
    refine vv_eql (show _ = (nI 1 : Int32).toInt64 from by decide) ?_
    refine vv_ldc2 (v := 100) X q2412 dX1_checkShare_10 ?_
    refine vv_eql (show _ = (nI 100 : Int32).toInt64 from by decide) ?_
    refine vv_callSp X (mX1_in (kL K) D ((s).toInt64) ((nI 1 : Int32).toInt64) ((nI 100 : Int32).toInt64)) q449 q450 q137 q451 nX1_in ⟨(Nat.le_of_ble_eq_true rfl), (Nat.le_of_ble_eq_true rfl)⟩ dX1_checkShare_13 rfl (Nat.le_of_ble_eq_true rfl) trivial ⟨(Nat.le_of_ble_eq_true rfl), (Nat.le_of_ble_eq_true rfl)⟩ ?_
    refine vv_eqi (b2_eq (in_I)) ?_
    refine vb_eq (tgt := 23) X dX1_checkShare_16 (by decide) (fun c_16 => ?_) (fun c_16 => ?_)
    · refine vv_iconst (v := nI 0) X dX1_checkShare_23 (by decide) ?_
      refine vx_cS X (xX1_checkArgument (kL K) D hl False (fun z => z)) q1820 q1821 q137 q1822 nX1_checkArgument ⟨(Nat.le_of_ble_eq_true rfl), (Nat.le_of_ble_eq_true rfl)⟩ dX1_checkShare_24 rfl (Nat.le_of_ble_eq_true rfl) hK (fun _ z => z.elim) ⟨(Nat.le_of_ble_eq_true rfl), (Nat.le_of_ble_eq_true rfl)⟩ (fun Xn q H hq hz_ hk hXO => ?_) (fun v_ H hq hz_ hk => hq.elim)
      obtain rfl := hq
      exact vt_out X (fun x hx => (ht x hx).elim) hQ hXO (Nat.le_of_ble_eq_true rfl) (Nat.le_of_ble_eq_true rfl) rfl
    · exact absurd ⟨c_4, c_16⟩ hp
set_option maxHeartbeats 800000 in
theorem mX1_checkLength (l : Launch) (D : DD) (u : Nat → Nat) (P T : Nat → Int32) (o : Nat) (g : Nat → Nat) (S : Nat → Int32) (pw : Option Nat) (c : Nat) (v0 v1 v2 v3 v5 v6 v7 : Value) (q : Int32) (hC : VC P) (hV : VS S) (hp : nI 4 ≤ q ∧ q ≤ nI (nT P)) : Cv l yX1_checkLength cX1_checkLength 2 { frames := 3, cells := 0, slots := 0, locals := 52 } D [.ref c, .int (q)] (fun H => KH D H ∧ oB D H c 0 [v0, v1, v2, v3, .ref (g 0), v5, v6, v7] ∧ UR D u P T o H ∧ SR D g u P S pw H) := by
  refine Ct.of (by decide +kernel) (Nat.le_of_ble_eq_true rfl) (fun K Qf hkl X hM hQ => ?_)
  subst hkl
  obtain ⟨hK, hc, hU, hR⟩ := hM
  have hP := hC.v
  have l0 := hP.l0
  have l1 := hP.l1
  have l2 := hP.l2
  have l4 := hP.l4
  have l5 := hP.l5
  have l8 := hP.l8
  have l9 := hP.l9
  have l10 := hP.l10
  have l71 := hP.l71
  have l76 := hP.l76
  have l77 := hP.l77
  have hx1 := hC.x1
  have hy1 := hC.y1
  have ht1 := hC.t1
  have he1 := hC.e1
  have hm1 := hC.m1
  have hcc : nC P ≤ 144 := Nat.mul_le_mul l9 l10
  refine vv_sub (lv' := [(0, .ref c), (1, .int (q))]) [0, 1] rfl ?_
  refine vv_iload_n X dX1_checkLength_0 rfl 1 rfl ?_
  refine vv_i2l (v := (q).toInt64) X dX1_checkLength_1 rfl ?_
  refine vv_ldc2 (v := 4) X q2479 dX1_checkLength_2 ?_
  refine vv_eql (show _ = (nI 4 : Int32).toInt64 from by decide) ?_
  refine vv_aload_n X dX1_checkLength_5 rfl 0 rfl ?_
  refine vv_callVp X (mX1_there (kL K) D u P T o g S pw c v0 v1 v2 v3 v5 v6 v7  hC hV ) q1797 q1799 qs36 q137 q1800 nX1_there ⟨(Nat.le_of_ble_eq_true rfl), (Nat.le_of_ble_eq_true rfl)⟩ dX1_checkLength_6 rfl (Nat.le_of_ble_eq_true rfl) (recv X hc CL_X1) ⟨hK, hc, hU, hR⟩ ⟨(Nat.le_of_ble_eq_true rfl), (Nat.le_of_ble_eq_true rfl)⟩ ?_
  refine vv_getfN (C := RX3) (T := TX3) (N := 8) (ref := "AcousticCamera$State") X hR.ob in_X3 CL_X3 0 (by decide) q1688 rfl rfl dX1_checkLength_9 ?_
  refine vv_getfN (C := RX5) (T := TX5) (N := 19) (ref := "AcousticCamera$Setup") X hU.ob in_X5 CL_X5 10 (by decide) q804 rfl rfl dX1_checkLength_12 ?_
  refine vv_i2l (v := (nI (nT P)).toInt64) X dX1_checkLength_15 rfl ?_
  refine vv_callSp X (mX1_in (kL K) D ((q).toInt64) ((nI 4 : Int32).toInt64) ((nI (nT P)).toInt64)) q449 q450 q137 q451 nX1_in ⟨(Nat.le_of_ble_eq_true rfl), (Nat.le_of_ble_eq_true rfl)⟩ dX1_checkLength_16 rfl (Nat.le_of_ble_eq_true rfl) trivial ⟨(Nat.le_of_ble_eq_true rfl), (Nat.le_of_ble_eq_true rfl)⟩ ?_
  refine vv_eqi (b2_eq (in_I)) ?_
  refine vv_callSv X (mX1_checkArgument (kL K) D ((nI 4 : Int32) ≤ (q) ∧ (q) ≤ (nI (nT P))) (hp)) q1820 q1821 q137 q1822 nX1_checkArgument ⟨(Nat.le_of_ble_eq_true rfl), (Nat.le_of_ble_eq_true rfl)⟩ dX1_checkLength_19 rfl (Nat.le_of_ble_eq_true rfl) trivial ⟨(Nat.le_of_ble_eq_true rfl), (Nat.le_of_ble_eq_true rfl)⟩ ?_
  exact vv_vret X hQ dX1_checkLength_22 (Nat.le_of_ble_eq_true rfl) (Nat.le_of_ble_eq_true rfl) (⟨rfl, rfl⟩)
set_option maxHeartbeats 800000 in
theorem xX1_checkLength (l : Launch) (D : DD) (hl : l.stackTraces = false) (u : Nat → Nat) (P T : Nat → Int32) (o : Nat) (g : Nat → Nat) (S : Nat → Int32) (pw : Option Nat) (c : Nat) (v0 v1 v2 v3 v5 v6 v7 : Value) (q : Int32) (hC : VC P) (hV : VS S) (hp : ¬ (nI 4 ≤ q ∧ q ≤ nI (nT P))) : Cx l yX1_checkLength cX1_checkLength 2 none { frames := 7, cells := 1, slots := 6, locals := 109 } D [.ref c, .int (q)] (fun H => KH D H ∧ oB D H c 0 [v0, v1, v2, v3, .ref (g 0), v5, v6, v7] ∧ UR D u P T o H ∧ SR D g u P S pw H) (fun _ => False) (fun r H H1 => False) (fun Xn q H H1 => Xn = "java/lang/IllegalArgumentException") := by
  refine Cx.of (by decide +kernel) (Nat.le_of_ble_eq_true rfl) (fun K Qf hkl X ht hM hQ => ?_)
  subst hkl
  obtain ⟨hK, hc, hU, hR⟩ := hM
  have hz : (kS K).heap.size ≤ (kS K).heap.size := Nat.le_refl _
  have hP := hC.v
  have l0 := hP.l0
  have l1 := hP.l1
  have l2 := hP.l2
  have l4 := hP.l4
  have l5 := hP.l5
  have l8 := hP.l8
  have l9 := hP.l9
  have l10 := hP.l10
  have l71 := hP.l71
  have l76 := hP.l76
  have l77 := hP.l77
  have hx1 := hC.x1
  have hy1 := hC.y1
  have ht1 := hC.t1
  have he1 := hC.e1
  have hm1 := hC.m1
  have hcc : nC P ≤ 144 := Nat.mul_le_mul l9 l10
  refine vv_sub (lv' := [(0, .ref c), (1, .int (q))]) [0, 1] rfl ?_
  refine vv_iload_n X dX1_checkLength_0 rfl 1 rfl ?_
  refine vv_i2l (v := (q).toInt64) X dX1_checkLength_1 rfl ?_
  refine vv_ldc2 (v := 4) X q2479 dX1_checkLength_2 ?_
  refine vv_eql (show _ = (nI 4 : Int32).toInt64 from by decide) ?_
  refine vv_aload_n X dX1_checkLength_5 rfl 0 rfl ?_
  refine vv_callVp X (mX1_there (kL K) D u P T o g S pw c v0 v1 v2 v3 v5 v6 v7  hC hV ) q1797 q1799 qs36 q137 q1800 nX1_there ⟨(Nat.le_of_ble_eq_true rfl), (Nat.le_of_ble_eq_true rfl)⟩ dX1_checkLength_6 rfl (Nat.le_of_ble_eq_true rfl) (recv X hc CL_X1) ⟨hK, hc, hU, hR⟩ ⟨(Nat.le_of_ble_eq_true rfl), (Nat.le_of_ble_eq_true rfl)⟩ ?_
  refine vv_getfN (C := RX3) (T := TX3) (N := 8) (ref := "AcousticCamera$State") X hR.ob in_X3 CL_X3 0 (by decide) q1688 rfl rfl dX1_checkLength_9 ?_
  refine vv_getfN (C := RX5) (T := TX5) (N := 19) (ref := "AcousticCamera$Setup") X hU.ob in_X5 CL_X5 10 (by decide) q804 rfl rfl dX1_checkLength_12 ?_
  refine vv_i2l (v := (nI (nT P)).toInt64) X dX1_checkLength_15 rfl ?_
  refine vv_callSp X (mX1_in (kL K) D ((q).toInt64) ((nI 4 : Int32).toInt64) ((nI (nT P)).toInt64)) q449 q450 q137 q451 nX1_in ⟨(Nat.le_of_ble_eq_true rfl), (Nat.le_of_ble_eq_true rfl)⟩ dX1_checkLength_16 rfl (Nat.le_of_ble_eq_true rfl) trivial ⟨(Nat.le_of_ble_eq_true rfl), (Nat.le_of_ble_eq_true rfl)⟩ ?_
  refine vv_eqi (b2_eq (in_I)) ?_
  refine vx_cS X (xX1_checkArgument (kL K) D hl ((nI 4 : Int32) ≤ (q) ∧ (q) ≤ (nI (nT P))) (hp)) q1820 q1821 q137 q1822 nX1_checkArgument ⟨(Nat.le_of_ble_eq_true rfl), (Nat.le_of_ble_eq_true rfl)⟩ dX1_checkLength_19 rfl (Nat.le_of_ble_eq_true rfl) hK (fun _ z => z.elim) ⟨(Nat.le_of_ble_eq_true rfl), (Nat.le_of_ble_eq_true rfl)⟩ (fun Xn q H hq hz_ hk hXO => ?_) (fun v_ H hq hz_ hk => hq.elim)
  obtain rfl := hq
  exact vt_out X (fun x hx => (ht x hx).elim) hQ hXO (Nat.le_of_ble_eq_true rfl) (Nat.le_of_ble_eq_true rfl) rfl
theorem nX1_checkBlock : notMH yX1_checkBlock 2 := by decide +kernel
set_option maxHeartbeats 800000 in
theorem mX1_checkBlock (l : Launch) (D : DD) (u : Nat → Nat) (P T : Nat → Int32) (o : Nat) (g : Nat → Nat) (S : Nat → Int32) (pw : Option Nat) (c : Nat) (v0 v1 v2 v3 v5 v6 v7 : Value) (a n : Int32) (hC : VC P) (hV : VS S) (hp : ix (nT P) a ∧ nI 1 ≤ n ∧ n ≤ nI (nT P)) : Cv l yX1_checkBlock cX1_checkBlock 3 { frames := 3, cells := 0, slots := 0, locals := 58 } D [.ref c, .int (a), .int (n)] (fun H => KH D H ∧ oB D H c 0 [v0, v1, v2, v3, .ref (g 0), v5, v6, v7] ∧ UR D u P T o H ∧ SR D g u P S pw H) := by
  refine Ct.of (by decide +kernel) (Nat.le_of_ble_eq_true rfl) (fun K Qf hkl X hM hQ => ?_)
  subst hkl
  obtain ⟨hK, hc, hU, hR⟩ := hM
  have hP := hC.v
  have l0 := hP.l0
  have l1 := hP.l1
  have l2 := hP.l2
  have l4 := hP.l4
  have l5 := hP.l5
  have l8 := hP.l8
  have l9 := hP.l9
  have l10 := hP.l10
  have l71 := hP.l71
  have l76 := hP.l76
  have l77 := hP.l77
  have hx1 := hC.x1
  have hy1 := hC.y1
  have ht1 := hC.t1
  have he1 := hC.e1
  have hm1 := hC.m1
  have hcc : nC P ≤ 144 := Nat.mul_le_mul l9 l10
  refine vv_sub (lv' := [(0, .ref c), (1, .int (a)), (2, .int (n))]) [0, 1, 2] rfl ?_
  refine vv_aload_n X dX1_checkBlock_0 rfl 0 rfl ?_
  refine vv_iload_n X dX1_checkBlock_1 rfl 1 rfl ?_
  refine vv_callVp X (mX1_isSample (kL K) D u P T o g S pw c v0 v1 v2 v3 v5 v6 v7 a hC hV ) q1862 q1864 qs39 q137 q1865 nX1_isSample ⟨(Nat.le_of_ble_eq_true rfl), (Nat.le_of_ble_eq_true rfl)⟩ dX1_checkBlock_2 rfl (Nat.le_of_ble_eq_true rfl) (recv X hc CL_X1) ⟨hK, hc, hU, hR⟩ ⟨(Nat.le_of_ble_eq_true rfl), (Nat.le_of_ble_eq_true rfl)⟩ ?_
  refine vb_eq (tgt := 32) X dX1_checkBlock_5 (by decide) (fun c_5 => ?_) (fun c_5 => ?_)
  · exact absurd hp.1 c_5
  · refine vv_iload_n X dX1_checkBlock_8 rfl 2 rfl ?_
    refine vv_i2l (v := (n).toInt64) X dX1_checkBlock_9 rfl ?_
    refine vv_lconst (v := 1) X dX1_checkBlock_10 (by decide) ?_
    refine vv_eql (show _ = (nI 1 : Int32).toInt64 from by decide) ?_
    refine vv_aload_n X dX1_checkBlock_11 rfl 0 rfl ?_
    refine vv_getf (C := RX1) (T := TX1) (N := 8) (ref := "AcousticCamera") X hc in_X1 CL_X1 4 (by decide) q259 rfl rfl dX1_checkBlock_12 ?_
    refine vv_getfN (C := RX3) (T := TX3) (N := 8) (ref := "AcousticCamera$State") X hR.ob in_X3 CL_X3 0 (by decide) q1688 rfl rfl dX1_checkBlock_15 ?_
    refine vv_getfN (C := RX5) (T := TX5) (N := 19) (ref := "AcousticCamera$Setup") X hU.ob in_X5 CL_X5 10 (by decide) q804 rfl rfl dX1_checkBlock_18 ?_
    refine vv_i2l (v := (nI (nT P)).toInt64) X dX1_checkBlock_21 rfl ?_
    refine vv_callSp X (mX1_in (kL K) D ((n).toInt64) ((nI 1 : Int32).toInt64) ((nI (nT P)).toInt64)) q449 q450 q137 q451 nX1_in ⟨(Nat.le_of_ble_eq_true rfl), (Nat.le_of_ble_eq_true rfl)⟩ dX1_checkBlock_22 rfl (Nat.le_of_ble_eq_true rfl) trivial ⟨(Nat.le_of_ble_eq_true rfl), (Nat.le_of_ble_eq_true rfl)⟩ ?_
    refine vv_eqi (b2_eq (in_I)) ?_
    refine vb_eq (tgt := 32) X dX1_checkBlock_25 (by decide) (fun c_25 => ?_) (fun c_25 => ?_)
    · exact absurd hp.2 c_25
    · refine vv_iconst (v := nI 1) X dX1_checkBlock_28 (by decide) ?_
      refine vv_goto (tgt := 33) X dX1_checkBlock_29 (by decide) ?_
      refine vv_callSv X (mX1_checkArgument (kL K) D True trivial) q1820 q1821 q137 q1822 nX1_checkArgument ⟨(Nat.le_of_ble_eq_true rfl), (Nat.le_of_ble_eq_true rfl)⟩ dX1_checkBlock_33 rfl (Nat.le_of_ble_eq_true rfl) trivial ⟨(Nat.le_of_ble_eq_true rfl), (Nat.le_of_ble_eq_true rfl)⟩ ?_
      exact vv_vret X hQ dX1_checkBlock_36 (Nat.le_of_ble_eq_true rfl) (Nat.le_of_ble_eq_true rfl) (⟨rfl, rfl⟩)
set_option maxHeartbeats 800000 in
theorem xX1_checkBlock (l : Launch) (D : DD) (hl : l.stackTraces = false) (u : Nat → Nat) (P T : Nat → Int32) (o : Nat) (g : Nat → Nat) (S : Nat → Int32) (pw : Option Nat) (c : Nat) (v0 v1 v2 v3 v5 v6 v7 : Value) (a n : Int32) (hC : VC P) (hV : VS S) (hp : ¬ (ix (nT P) a ∧ nI 1 ≤ n ∧ n ≤ nI (nT P))) : Cx l yX1_checkBlock cX1_checkBlock 3 none { frames := 7, cells := 1, slots := 6, locals := 109 } D [.ref c, .int (a), .int (n)] (fun H => KH D H ∧ oB D H c 0 [v0, v1, v2, v3, .ref (g 0), v5, v6, v7] ∧ UR D u P T o H ∧ SR D g u P S pw H) (fun _ => False) (fun r H H1 => False) (fun Xn q H H1 => Xn = "java/lang/IllegalArgumentException") := by
  refine Cx.of (by decide +kernel) (Nat.le_of_ble_eq_true rfl) (fun K Qf hkl X ht hM hQ => ?_)
  subst hkl
  obtain ⟨hK, hc, hU, hR⟩ := hM
  have hz : (kS K).heap.size ≤ (kS K).heap.size := Nat.le_refl _
  have hP := hC.v
  have l0 := hP.l0
  have l1 := hP.l1
  have l2 := hP.l2
  have l4 := hP.l4
  have l5 := hP.l5
  have l8 := hP.l8
  have l9 := hP.l9
  have l10 := hP.l10
  have l71 := hP.l71
  have l76 := hP.l76
  have l77 := hP.l77
  have hx1 := hC.x1
  have hy1 := hC.y1
  have ht1 := hC.t1
  have he1 := hC.e1
  have hm1 := hC.m1
  have hcc : nC P ≤ 144 := Nat.mul_le_mul l9 l10
  refine vv_sub (lv' := [(0, .ref c), (1, .int (a)), (2, .int (n))]) [0, 1, 2] rfl ?_
  refine vv_aload_n X dX1_checkBlock_0 rfl 0 rfl ?_
  refine vv_iload_n X dX1_checkBlock_1 rfl 1 rfl ?_
  refine vv_callVp X (mX1_isSample (kL K) D u P T o g S pw c v0 v1 v2 v3 v5 v6 v7 a hC hV ) q1862 q1864 qs39 q137 q1865 nX1_isSample ⟨(Nat.le_of_ble_eq_true rfl), (Nat.le_of_ble_eq_true rfl)⟩ dX1_checkBlock_2 rfl (Nat.le_of_ble_eq_true rfl) (recv X hc CL_X1) ⟨hK, hc, hU, hR⟩ ⟨(Nat.le_of_ble_eq_true rfl), (Nat.le_of_ble_eq_true rfl)⟩ ?_
  refine vb_eq (tgt := 32) X dX1_checkBlock_5 (by decide) (fun c_5 => ?_) (fun c_5 => ?_)
  · refine vv_iconst (v := nI 0) X dX1_checkBlock_32 (by decide) ?_
    refine vx_cS X (xX1_checkArgument (kL K) D hl False (fun z => z)) q1820 q1821 q137 q1822 nX1_checkArgument ⟨(Nat.le_of_ble_eq_true rfl), (Nat.le_of_ble_eq_true rfl)⟩ dX1_checkBlock_33 rfl (Nat.le_of_ble_eq_true rfl) hK (fun _ z => z.elim) ⟨(Nat.le_of_ble_eq_true rfl), (Nat.le_of_ble_eq_true rfl)⟩ (fun Xn q H hq hz_ hk hXO => ?_) (fun v_ H hq hz_ hk => hq.elim)
    obtain rfl := hq
    exact vt_out X (fun x hx => (ht x hx).elim) hQ hXO (Nat.le_of_ble_eq_true rfl) (Nat.le_of_ble_eq_true rfl) rfl
  · refine vv_iload_n X dX1_checkBlock_8 rfl 2 rfl ?_
    refine vv_i2l (v := (n).toInt64) X dX1_checkBlock_9 rfl ?_
    refine vv_lconst (v := 1) X dX1_checkBlock_10 (by decide) ?_
    refine vv_eql (show _ = (nI 1 : Int32).toInt64 from by decide) ?_
    refine vv_aload_n X dX1_checkBlock_11 rfl 0 rfl ?_
    refine vv_getf (C := RX1) (T := TX1) (N := 8) (ref := "AcousticCamera") X hc in_X1 CL_X1 4 (by decide) q259 rfl rfl dX1_checkBlock_12 ?_
    refine vv_getfN (C := RX3) (T := TX3) (N := 8) (ref := "AcousticCamera$State") X hR.ob in_X3 CL_X3 0 (by decide) q1688 rfl rfl dX1_checkBlock_15 ?_
    refine vv_getfN (C := RX5) (T := TX5) (N := 19) (ref := "AcousticCamera$Setup") X hU.ob in_X5 CL_X5 10 (by decide) q804 rfl rfl dX1_checkBlock_18 ?_
    refine vv_i2l (v := (nI (nT P)).toInt64) X dX1_checkBlock_21 rfl ?_
    refine vv_callSp X (mX1_in (kL K) D ((n).toInt64) ((nI 1 : Int32).toInt64) ((nI (nT P)).toInt64)) q449 q450 q137 q451 nX1_in ⟨(Nat.le_of_ble_eq_true rfl), (Nat.le_of_ble_eq_true rfl)⟩ dX1_checkBlock_22 rfl (Nat.le_of_ble_eq_true rfl) trivial ⟨(Nat.le_of_ble_eq_true rfl), (Nat.le_of_ble_eq_true rfl)⟩ ?_
    refine vv_eqi (b2_eq (in_I)) ?_
    refine vb_eq (tgt := 32) X dX1_checkBlock_25 (by decide) (fun c_25 => ?_) (fun c_25 => ?_)
    · refine vv_iconst (v := nI 0) X dX1_checkBlock_32 (by decide) ?_
      refine vx_cS X (xX1_checkArgument (kL K) D hl False (fun z => z)) q1820 q1821 q137 q1822 nX1_checkArgument ⟨(Nat.le_of_ble_eq_true rfl), (Nat.le_of_ble_eq_true rfl)⟩ dX1_checkBlock_33 rfl (Nat.le_of_ble_eq_true rfl) hK (fun _ z => z.elim) ⟨(Nat.le_of_ble_eq_true rfl), (Nat.le_of_ble_eq_true rfl)⟩ (fun Xn q H hq hz_ hk hXO => ?_) (fun v_ H hq hz_ hk => hq.elim)
      obtain rfl := hq
      exact vt_out X (fun x hx => (ht x hx).elim) hQ hXO (Nat.le_of_ble_eq_true rfl) (Nat.le_of_ble_eq_true rfl) rfl
    · exact absurd ⟨c_5, c_25⟩ hp
set_option maxHeartbeats 800000 in
theorem mX1_blockPower (l : Launch) (D : DD) (u : Nat → Nat) (P T : Nat → Int32) (o : Nat) (g : Nat → Nat) (S : Nat → Int32) (pw : Option Nat) (c : Nat) (v0 v1 v2 v3 v5 v6 v7 : Value) (k a n : Nat) (hC : VC P) (hV : VS S) (hk : k < nC P) (ha : a < nT P) (hn : 1 ≤ n ∧ n ≤ nT P) : Cp l yX1_blockPower cX1_blockPower 4 (some .long) { frames := 7, cells := 0, slots := 0, locals := 150 } D [.ref c, .int (nI k), .int (nI a), .int (nI n)] (fun H => KH D H ∧ oB D H c 0 [v0, v1, v2, v3, .ref (g 0), v5, v6, v7] ∧ UR D u P T o H ∧ SR D g u P S pw H) (.long (blk P S k a n)) := by
  refine Ct.of (by decide +kernel) (Nat.le_of_ble_eq_true rfl) (fun K Qf hkl X hM hQ => ?_)
  subst hkl
  obtain ⟨hK, hc, hU, hR⟩ := hM
  have hP := hC.v
  have l0 := hP.l0
  have l1 := hP.l1
  have l2 := hP.l2
  have l4 := hP.l4
  have l5 := hP.l5
  have l8 := hP.l8
  have l9 := hP.l9
  have l10 := hP.l10
  have l71 := hP.l71
  have l76 := hP.l76
  have l77 := hP.l77
  have hx1 := hC.x1
  have hy1 := hC.y1
  have ht1 := hC.t1
  have he1 := hC.e1
  have hm1 := hC.m1
  have hcc : nC P ≤ 144 := Nat.mul_le_mul l9 l10
  refine vv_sub (lv' := [(0, .ref c), (1, .int (nI k)), (2, .int (nI a)), (3, .int (nI n))]) [0, 1, 2, 3] rfl ?_
  refine vv_aload_n X dX1_blockPower_0 rfl 0 rfl ?_
  refine vv_iload_n X dX1_blockPower_1 rfl 1 rfl ?_
  refine vv_callVp X (mX1_withCell (kL K) D u P T o g S pw c v0 v1 v2 v3 v5 v6 v7 k hC hV (by omega)) q1845 q1847 qs37 q137 q1848 nX1_withCell ⟨(Nat.le_of_ble_eq_true rfl), (Nat.le_of_ble_eq_true rfl)⟩ dX1_blockPower_2 rfl (Nat.le_of_ble_eq_true rfl) (recv X hc CL_X1) ⟨hK, hc, hU, hR⟩ ⟨(Nat.le_of_ble_eq_true rfl), (Nat.le_of_ble_eq_true rfl)⟩ ?_
  refine vv_pop X dX1_blockPower_5 rfl ?_
  refine vv_aload_n X dX1_blockPower_6 rfl 0 rfl ?_
  refine vv_iload_n X dX1_blockPower_7 rfl 2 rfl ?_
  refine vv_iload_n X dX1_blockPower_8 rfl 3 rfl ?_
  refine vv_callVv X (mX1_checkBlock (kL K) D u P T o g S pw c v0 v1 v2 v3 v5 v6 v7 (nI a) (nI n) hC hV (⟨ix_N ha (by omega), (nI_leI (by omega) (by omega)).mpr hn.1, (nI_leI (by omega) (by omega)).mpr hn.2⟩)) q2449 q2451 qs49 q137 q2452 nX1_checkBlock ⟨(Nat.le_of_ble_eq_true rfl), (Nat.le_of_ble_eq_true rfl)⟩ dX1_blockPower_9 rfl (Nat.le_of_ble_eq_true rfl) (recv X hc CL_X1) ⟨hK, hc, hU, hR⟩ ⟨(Nat.le_of_ble_eq_true rfl), (Nat.le_of_ble_eq_true rfl)⟩ ?_
  refine vv_aload_n X dX1_blockPower_12 rfl 0 rfl ?_
  refine vv_getf (C := RX1) (T := TX1) (N := 8) (ref := "AcousticCamera") X hc in_X1 CL_X1 4 (by decide) q259 rfl rfl dX1_blockPower_13 ?_
  refine vv_iload_n X dX1_blockPower_16 rfl 1 rfl ?_
  refine vv_iload_n X dX1_blockPower_17 rfl 2 rfl ?_
  refine vv_iload_n X dX1_blockPower_18 rfl 3 rfl ?_
  refine vv_callVp X (mX3_blockPower (kL K) D u P T o g S pw k a n hC hV (by omega) (by omega) (by omega)) q2453 q2454 q2455 q150 q2456 nX3_blockPower ⟨(Nat.le_of_ble_eq_true rfl), (Nat.le_of_ble_eq_true rfl)⟩ dX1_blockPower_19 rfl (Nat.le_of_ble_eq_true rfl) (recv X hR.ob CL_X3) ⟨hK, hU, hR⟩ ⟨(Nat.le_of_ble_eq_true rfl), (Nat.le_of_ble_eq_true rfl)⟩ ?_
  exact vv_lret X hQ dX1_blockPower_22 (Nat.le_of_ble_eq_true rfl) (Nat.le_of_ble_eq_true rfl) (pql (rfl))
set_option maxHeartbeats 800000 in
theorem xX1_blockPower (l : Launch) (D : DD) (hl : l.stackTraces = false) (u : Nat → Nat) (P T : Nat → Int32) (o : Nat) (g : Nat → Nat) (S : Nat → Int32) (pw : Option Nat) (c : Nat) (v0 v1 v2 v3 v5 v6 v7 : Value) (q a n : Int32) (hC : VC P) (hV : VS S) (hq : ¬ ix (nC P) q) : Cx l yX1_blockPower cX1_blockPower 4 (some .long) { frames := 8, cells := 1, slots := 6, locals := 131 } D [.ref c, .int (q), .int (a), .int (n)] (fun H => KH D H ∧ oB D H c 0 [v0, v1, v2, v3, .ref (g 0), v5, v6, v7] ∧ UR D u P T o H ∧ SR D g u P S pw H) (fun _ => False) (fun r H H1 => False) (fun Xn q H H1 => Xn = "java/lang/IndexOutOfBoundsException") := by
  refine Cx.of (by decide +kernel) (Nat.le_of_ble_eq_true rfl) (fun K Qf hkl X ht hM hQ => ?_)
  subst hkl
  obtain ⟨hK, hc, hU, hR⟩ := hM
  have hz : (kS K).heap.size ≤ (kS K).heap.size := Nat.le_refl _
  have hP := hC.v
  have l0 := hP.l0
  have l1 := hP.l1
  have l2 := hP.l2
  have l4 := hP.l4
  have l5 := hP.l5
  have l8 := hP.l8
  have l9 := hP.l9
  have l10 := hP.l10
  have l71 := hP.l71
  have l76 := hP.l76
  have l77 := hP.l77
  have hx1 := hC.x1
  have hy1 := hC.y1
  have ht1 := hC.t1
  have he1 := hC.e1
  have hm1 := hC.m1
  have hcc : nC P ≤ 144 := Nat.mul_le_mul l9 l10
  refine vv_sub (lv' := [(0, .ref c), (1, .int (q)), (2, .int (a)), (3, .int (n))]) [0, 1, 2, 3] rfl ?_
  refine vv_aload_n X dX1_blockPower_0 rfl 0 rfl ?_
  refine vv_iload_n X dX1_blockPower_1 rfl 1 rfl ?_
  refine vx_cV X (xX1_withCell (kL K) D hl u P T o g S pw c v0 v1 v2 v3 v5 v6 v7 q hC hV (hq)) q1845 q1847 qs37 q137 q1848 nX1_withCell ⟨(Nat.le_of_ble_eq_true rfl), (Nat.le_of_ble_eq_true rfl)⟩ dX1_blockPower_2 rfl (Nat.le_of_ble_eq_true rfl) (recv X hc CL_X1) ⟨hK, hc, hU, hR⟩ (fun _ z => z.elim) ⟨(Nat.le_of_ble_eq_true rfl), (Nat.le_of_ble_eq_true rfl)⟩ (fun Xn q H hq hz_ hk hXO => ?_) (fun v_ H hq hz_ hk => hq.elim)
  obtain rfl := hq
  exact vt_out X (fun x hx => (ht x hx).elim) hQ hXO (Nat.le_of_ble_eq_true rfl) (Nat.le_of_ble_eq_true rfl) rfl
set_option maxHeartbeats 800000 in
theorem w2X1_blockPower (l : Launch) (D : DD) (hl : l.stackTraces = false) (u : Nat → Nat) (P T : Nat → Int32) (o : Nat) (g : Nat → Nat) (S : Nat → Int32) (pw : Option Nat) (c : Nat) (v0 v1 v2 v3 v5 v6 v7 : Value) (k : Nat) (a n : Int32) (hC : VC P) (hV : VS S) (hk : k < nC P) (hp : ¬ (ix (nT P) a ∧ nI 1 ≤ n ∧ n ≤ nI (nT P))) : Cx l yX1_blockPower cX1_blockPower 4 (some .long) { frames := 8, cells := 1, slots := 6, locals := 131 } D [.ref c, .int (nI k), .int (a), .int (n)] (fun H => KH D H ∧ oB D H c 0 [v0, v1, v2, v3, .ref (g 0), v5, v6, v7] ∧ UR D u P T o H ∧ SR D g u P S pw H) (fun _ => False) (fun r H H1 => False) (fun Xn q H H1 => Xn = "java/lang/IllegalArgumentException") := by
  refine Cx.of (by decide +kernel) (Nat.le_of_ble_eq_true rfl) (fun K Qf hkl X ht hM hQ => ?_)
  subst hkl
  obtain ⟨hK, hc, hU, hR⟩ := hM
  have hz : (kS K).heap.size ≤ (kS K).heap.size := Nat.le_refl _
  have hP := hC.v
  have l0 := hP.l0
  have l1 := hP.l1
  have l2 := hP.l2
  have l4 := hP.l4
  have l5 := hP.l5
  have l8 := hP.l8
  have l9 := hP.l9
  have l10 := hP.l10
  have l71 := hP.l71
  have l76 := hP.l76
  have l77 := hP.l77
  have hx1 := hC.x1
  have hy1 := hC.y1
  have ht1 := hC.t1
  have he1 := hC.e1
  have hm1 := hC.m1
  have hcc : nC P ≤ 144 := Nat.mul_le_mul l9 l10
  refine vv_sub (lv' := [(0, .ref c), (1, .int (nI k)), (2, .int (a)), (3, .int (n))]) [0, 1, 2, 3] rfl ?_
  refine vv_aload_n X dX1_blockPower_0 rfl 0 rfl ?_
  refine vv_iload_n X dX1_blockPower_1 rfl 1 rfl ?_
  refine vv_callVp X (mX1_withCell (kL K) D u P T o g S pw c v0 v1 v2 v3 v5 v6 v7 k hC hV (by omega)) q1845 q1847 qs37 q137 q1848 nX1_withCell ⟨(Nat.le_of_ble_eq_true rfl), (Nat.le_of_ble_eq_true rfl)⟩ dX1_blockPower_2 rfl (Nat.le_of_ble_eq_true rfl) (recv X hc CL_X1) ⟨hK, hc, hU, hR⟩ ⟨(Nat.le_of_ble_eq_true rfl), (Nat.le_of_ble_eq_true rfl)⟩ ?_
  refine vv_pop X dX1_blockPower_5 rfl ?_
  refine vv_aload_n X dX1_blockPower_6 rfl 0 rfl ?_
  refine vv_iload_n X dX1_blockPower_7 rfl 2 rfl ?_
  refine vv_iload_n X dX1_blockPower_8 rfl 3 rfl ?_
  refine vx_cV X (xX1_checkBlock (kL K) D hl u P T o g S pw c v0 v1 v2 v3 v5 v6 v7 a n hC hV (hp)) q2449 q2451 qs49 q137 q2452 nX1_checkBlock ⟨(Nat.le_of_ble_eq_true rfl), (Nat.le_of_ble_eq_true rfl)⟩ dX1_blockPower_9 rfl (Nat.le_of_ble_eq_true rfl) (recv X hc CL_X1) ⟨hK, hc, hU, hR⟩ (fun _ z => z.elim) ⟨(Nat.le_of_ble_eq_true rfl), (Nat.le_of_ble_eq_true rfl)⟩ (fun Xn q H hq hz_ hk hXO => ?_) (fun v_ H hq hz_ hk => hq.elim)
  obtain rfl := hq
  exact vt_out X (fun x hx => (ht x hx).elim) hQ hXO (Nat.le_of_ble_eq_true rfl) (Nat.le_of_ble_eq_true rfl) rfl
set_option maxHeartbeats 800000 in
theorem mX1_movingPower (l : Launch) (D : DD) (u : Nat → Nat) (P T : Nat → Int32) (o : Nat) (g : Nat → Nat) (S : Nat → Int32) (pw : Option Nat) (c : Nat) (v0 v1 v2 v3 v5 v6 v7 : Value) (k : Nat) (x y : Int32) (hC : VC P) (hV : VS S) (hk : k < nC P) (hu : rg 999 x) (hw : rg 999 y) (hp : (-999 ≤ x ∧ x ≤ 999) ∧ -999 ≤ y ∧ y ≤ 999) : Cp l yX1_movingPower cX1_movingPower 4 (some .long) { frames := 7, cells := 0, slots := 0, locals := 158 } D [.ref c, .int (nI k), .int (x), .int (y)] (fun H => KH D H ∧ oB D H c 0 [v0, v1, v2, v3, .ref (g 0), v5, v6, v7] ∧ UR D u P T o H ∧ SR D g u P S pw H) (.long (fcp P S (mvD P (cx P k) (cy P k) x y) (nT P))) := by
  refine Ct.of (by decide +kernel) (Nat.le_of_ble_eq_true rfl) (fun K Qf hkl X hM hQ => ?_)
  subst hkl
  obtain ⟨hK, hc, hU, hR⟩ := hM
  have hP := hC.v
  have l0 := hP.l0
  have l1 := hP.l1
  have l2 := hP.l2
  have l4 := hP.l4
  have l5 := hP.l5
  have l8 := hP.l8
  have l9 := hP.l9
  have l10 := hP.l10
  have l71 := hP.l71
  have l76 := hP.l76
  have l77 := hP.l77
  have hx1 := hC.x1
  have hy1 := hC.y1
  have ht1 := hC.t1
  have he1 := hC.e1
  have hm1 := hC.m1
  have hcc : nC P ≤ 144 := Nat.mul_le_mul l9 l10
  refine vv_sub (lv' := [(0, .ref c), (1, .int (nI k)), (2, .int (x)), (3, .int (y))]) [0, 1, 2, 3] rfl ?_
  refine vv_aload_n X dX1_movingPower_0 rfl 0 rfl ?_
  refine vv_iload_n X dX1_movingPower_1 rfl 1 rfl ?_
  refine vv_callVp X (mX1_withCell (kL K) D u P T o g S pw c v0 v1 v2 v3 v5 v6 v7 k hC hV (by omega)) q1845 q1847 qs37 q137 q1848 nX1_withCell ⟨(Nat.le_of_ble_eq_true rfl), (Nat.le_of_ble_eq_true rfl)⟩ dX1_movingPower_2 rfl (Nat.le_of_ble_eq_true rfl) (recv X hc CL_X1) ⟨hK, hc, hU, hR⟩ ⟨(Nat.le_of_ble_eq_true rfl), (Nat.le_of_ble_eq_true rfl)⟩ ?_
  refine vv_pop X dX1_movingPower_5 rfl ?_
  refine vv_iload_n X dX1_movingPower_6 rfl 2 rfl ?_
  refine vv_i2l (v := (x).toInt64) X dX1_movingPower_7 rfl ?_
  refine vv_ldc2 (v := -999) X q2525 dX1_movingPower_8 ?_
  refine vv_eql (show _ = (-999 : Int32).toInt64 from by decide) ?_
  refine vv_ldc2 (v := 999) X q2526 dX1_movingPower_11 ?_
  refine vv_eql (show _ = (999 : Int32).toInt64 from by decide) ?_
  refine vv_callSp X (mX1_in (kL K) D ((x).toInt64) ((-999 : Int32).toInt64) ((999 : Int32).toInt64)) q449 q450 q137 q451 nX1_in ⟨(Nat.le_of_ble_eq_true rfl), (Nat.le_of_ble_eq_true rfl)⟩ dX1_movingPower_14 rfl (Nat.le_of_ble_eq_true rfl) trivial ⟨(Nat.le_of_ble_eq_true rfl), (Nat.le_of_ble_eq_true rfl)⟩ ?_
  refine vv_eqi (b2_eq (in_I)) ?_
  refine vb_eq (tgt := 38) X dX1_movingPower_17 (by decide) (fun c_17 => ?_) (fun c_17 => ?_)
  · exact absurd hp.1 c_17
  · refine vv_iload_n X dX1_movingPower_20 rfl 3 rfl ?_
    refine vv_i2l (v := (y).toInt64) X dX1_movingPower_21 rfl ?_
    refine vv_ldc2 (v := -999) X q2525 dX1_movingPower_22 ?_
    refine vv_eql (show _ = (-999 : Int32).toInt64 from by decide) ?_
    refine vv_ldc2 (v := 999) X q2526 dX1_movingPower_25 ?_
    refine vv_eql (show _ = (999 : Int32).toInt64 from by decide) ?_
    refine vv_callSp X (mX1_in (kL K) D ((y).toInt64) ((-999 : Int32).toInt64) ((999 : Int32).toInt64)) q449 q450 q137 q451 nX1_in ⟨(Nat.le_of_ble_eq_true rfl), (Nat.le_of_ble_eq_true rfl)⟩ dX1_movingPower_28 rfl (Nat.le_of_ble_eq_true rfl) trivial ⟨(Nat.le_of_ble_eq_true rfl), (Nat.le_of_ble_eq_true rfl)⟩ ?_
    refine vv_eqi (b2_eq (in_I)) ?_
    refine vb_eq (tgt := 38) X dX1_movingPower_31 (by decide) (fun c_31 => ?_) (fun c_31 => ?_)
    · exact absurd hp.2 c_31
    · refine vv_iconst (v := nI 1) X dX1_movingPower_34 (by decide) ?_
      refine vv_goto (tgt := 39) X dX1_movingPower_35 (by decide) ?_
      refine vv_callSv X (mX1_checkArgument (kL K) D True trivial) q1820 q1821 q137 q1822 nX1_checkArgument ⟨(Nat.le_of_ble_eq_true rfl), (Nat.le_of_ble_eq_true rfl)⟩ dX1_movingPower_39 rfl (Nat.le_of_ble_eq_true rfl) trivial ⟨(Nat.le_of_ble_eq_true rfl), (Nat.le_of_ble_eq_true rfl)⟩ ?_
      refine vv_aload_n X dX1_movingPower_42 rfl 0 rfl ?_
      refine vv_getf (C := RX1) (T := TX1) (N := 8) (ref := "AcousticCamera") X hc in_X1 CL_X1 4 (by decide) q259 rfl rfl dX1_movingPower_43 ?_
      refine vv_iload_n X dX1_movingPower_46 rfl 1 rfl ?_
      refine vv_iload_n X dX1_movingPower_47 rfl 2 rfl ?_
      refine vv_iload_n X dX1_movingPower_48 rfl 3 rfl ?_
      refine vv_callVp X (mX3_movingPower (kL K) D u P T o g S pw k x y hC hV (by omega) (hu) (hw)) q2527 q2528 q2529 q150 q2530 nX3_movingPower ⟨(Nat.le_of_ble_eq_true rfl), (Nat.le_of_ble_eq_true rfl)⟩ dX1_movingPower_49 rfl (Nat.le_of_ble_eq_true rfl) (recv X hR.ob CL_X3) ⟨hK, hU, hR⟩ ⟨(Nat.le_of_ble_eq_true rfl), (Nat.le_of_ble_eq_true rfl)⟩ ?_
      exact vv_lret X hQ dX1_movingPower_52 (Nat.le_of_ble_eq_true rfl) (Nat.le_of_ble_eq_true rfl) (pql (rfl))
set_option maxHeartbeats 800000 in
theorem xX1_movingPower (l : Launch) (D : DD) (hl : l.stackTraces = false) (u : Nat → Nat) (P T : Nat → Int32) (o : Nat) (g : Nat → Nat) (S : Nat → Int32) (pw : Option Nat) (c : Nat) (v0 v1 v2 v3 v5 v6 v7 : Value) (q x y : Int32) (hC : VC P) (hV : VS S) (hq : ¬ ix (nC P) q) : Cx l yX1_movingPower cX1_movingPower 4 (some .long) { frames := 8, cells := 1, slots := 6, locals := 131 } D [.ref c, .int (q), .int (x), .int (y)] (fun H => KH D H ∧ oB D H c 0 [v0, v1, v2, v3, .ref (g 0), v5, v6, v7] ∧ UR D u P T o H ∧ SR D g u P S pw H) (fun _ => False) (fun r H H1 => False) (fun Xn q H H1 => Xn = "java/lang/IndexOutOfBoundsException") := by
  refine Cx.of (by decide +kernel) (Nat.le_of_ble_eq_true rfl) (fun K Qf hkl X ht hM hQ => ?_)
  subst hkl
  obtain ⟨hK, hc, hU, hR⟩ := hM
  have hz : (kS K).heap.size ≤ (kS K).heap.size := Nat.le_refl _
  have hP := hC.v
  have l0 := hP.l0
  have l1 := hP.l1
  have l2 := hP.l2
  have l4 := hP.l4
  have l5 := hP.l5
  have l8 := hP.l8
  have l9 := hP.l9
  have l10 := hP.l10
  have l71 := hP.l71
  have l76 := hP.l76
  have l77 := hP.l77
  have hx1 := hC.x1
  have hy1 := hC.y1
  have ht1 := hC.t1
  have he1 := hC.e1
  have hm1 := hC.m1
  have hcc : nC P ≤ 144 := Nat.mul_le_mul l9 l10
  refine vv_sub (lv' := [(0, .ref c), (1, .int (q)), (2, .int (x)), (3, .int (y))]) [0, 1, 2, 3] rfl ?_
  refine vv_aload_n X dX1_movingPower_0 rfl 0 rfl ?_
  refine vv_iload_n X dX1_movingPower_1 rfl 1 rfl ?_
  refine vx_cV X (xX1_withCell (kL K) D hl u P T o g S pw c v0 v1 v2 v3 v5 v6 v7 q hC hV (hq)) q1845 q1847 qs37 q137 q1848 nX1_withCell ⟨(Nat.le_of_ble_eq_true rfl), (Nat.le_of_ble_eq_true rfl)⟩ dX1_movingPower_2 rfl (Nat.le_of_ble_eq_true rfl) (recv X hc CL_X1) ⟨hK, hc, hU, hR⟩ (fun _ z => z.elim) ⟨(Nat.le_of_ble_eq_true rfl), (Nat.le_of_ble_eq_true rfl)⟩ (fun Xn q H hq hz_ hk hXO => ?_) (fun v_ H hq hz_ hk => hq.elim)
  obtain rfl := hq
  exact vt_out X (fun x hx => (ht x hx).elim) hQ hXO (Nat.le_of_ble_eq_true rfl) (Nat.le_of_ble_eq_true rfl) rfl
set_option maxHeartbeats 800000 in
theorem w2X1_movingPower (l : Launch) (D : DD) (hl : l.stackTraces = false) (u : Nat → Nat) (P T : Nat → Int32) (o : Nat) (g : Nat → Nat) (S : Nat → Int32) (pw : Option Nat) (c : Nat) (v0 v1 v2 v3 v5 v6 v7 : Value) (k : Nat) (x y : Int32) (hC : VC P) (hV : VS S) (hk : k < nC P) (hp : ¬ ((-999 ≤ x ∧ x ≤ 999) ∧ -999 ≤ y ∧ y ≤ 999)) : Cx l yX1_movingPower cX1_movingPower 4 (some .long) { frames := 7, cells := 1, slots := 6, locals := 109 } D [.ref c, .int (nI k), .int (x), .int (y)] (fun H => KH D H ∧ oB D H c 0 [v0, v1, v2, v3, .ref (g 0), v5, v6, v7] ∧ UR D u P T o H ∧ SR D g u P S pw H) (fun _ => False) (fun r H H1 => False) (fun Xn q H H1 => Xn = "java/lang/IllegalArgumentException") := by
  refine Cx.of (by decide +kernel) (Nat.le_of_ble_eq_true rfl) (fun K Qf hkl X ht hM hQ => ?_)
  subst hkl
  obtain ⟨hK, hc, hU, hR⟩ := hM
  have hz : (kS K).heap.size ≤ (kS K).heap.size := Nat.le_refl _
  have hP := hC.v
  have l0 := hP.l0
  have l1 := hP.l1
  have l2 := hP.l2
  have l4 := hP.l4
  have l5 := hP.l5
  have l8 := hP.l8
  have l9 := hP.l9
  have l10 := hP.l10
  have l71 := hP.l71
  have l76 := hP.l76
  have l77 := hP.l77
  have hx1 := hC.x1
  have hy1 := hC.y1
  have ht1 := hC.t1
  have he1 := hC.e1
  have hm1 := hC.m1
  have hcc : nC P ≤ 144 := Nat.mul_le_mul l9 l10
  refine vv_sub (lv' := [(0, .ref c), (1, .int (nI k)), (2, .int (x)), (3, .int (y))]) [0, 1, 2, 3] rfl ?_
  refine vv_aload_n X dX1_movingPower_0 rfl 0 rfl ?_
  refine vv_iload_n X dX1_movingPower_1 rfl 1 rfl ?_
  refine vv_callVp X (mX1_withCell (kL K) D u P T o g S pw c v0 v1 v2 v3 v5 v6 v7 k hC hV (by omega)) q1845 q1847 qs37 q137 q1848 nX1_withCell ⟨(Nat.le_of_ble_eq_true rfl), (Nat.le_of_ble_eq_true rfl)⟩ dX1_movingPower_2 rfl (Nat.le_of_ble_eq_true rfl) (recv X hc CL_X1) ⟨hK, hc, hU, hR⟩ ⟨(Nat.le_of_ble_eq_true rfl), (Nat.le_of_ble_eq_true rfl)⟩ ?_
  refine vv_pop X dX1_movingPower_5 rfl ?_
  refine vv_iload_n X dX1_movingPower_6 rfl 2 rfl ?_
  refine vv_i2l (v := (x).toInt64) X dX1_movingPower_7 rfl ?_
  refine vv_ldc2 (v := -999) X q2525 dX1_movingPower_8 ?_
  refine vv_eql (show _ = (-999 : Int32).toInt64 from by decide) ?_
  refine vv_ldc2 (v := 999) X q2526 dX1_movingPower_11 ?_
  refine vv_eql (show _ = (999 : Int32).toInt64 from by decide) ?_
  refine vv_callSp X (mX1_in (kL K) D ((x).toInt64) ((-999 : Int32).toInt64) ((999 : Int32).toInt64)) q449 q450 q137 q451 nX1_in ⟨(Nat.le_of_ble_eq_true rfl), (Nat.le_of_ble_eq_true rfl)⟩ dX1_movingPower_14 rfl (Nat.le_of_ble_eq_true rfl) trivial ⟨(Nat.le_of_ble_eq_true rfl), (Nat.le_of_ble_eq_true rfl)⟩ ?_
  refine vv_eqi (b2_eq (in_I)) ?_
  refine vb_eq (tgt := 38) X dX1_movingPower_17 (by decide) (fun c_17 => ?_) (fun c_17 => ?_)
  · refine vv_iconst (v := nI 0) X dX1_movingPower_38 (by decide) ?_
    refine vx_cS X (xX1_checkArgument (kL K) D hl False (fun z => z)) q1820 q1821 q137 q1822 nX1_checkArgument ⟨(Nat.le_of_ble_eq_true rfl), (Nat.le_of_ble_eq_true rfl)⟩ dX1_movingPower_39 rfl (Nat.le_of_ble_eq_true rfl) hK (fun _ z => z.elim) ⟨(Nat.le_of_ble_eq_true rfl), (Nat.le_of_ble_eq_true rfl)⟩ (fun Xn q H hq hz_ hk hXO => ?_) (fun v_ H hq hz_ hk => hq.elim)
    obtain rfl := hq
    exact vt_out X (fun x hx => (ht x hx).elim) hQ hXO (Nat.le_of_ble_eq_true rfl) (Nat.le_of_ble_eq_true rfl) rfl
  · refine vv_iload_n X dX1_movingPower_20 rfl 3 rfl ?_
    refine vv_i2l (v := (y).toInt64) X dX1_movingPower_21 rfl ?_
    refine vv_ldc2 (v := -999) X q2525 dX1_movingPower_22 ?_
    refine vv_eql (show _ = (-999 : Int32).toInt64 from by decide) ?_
    refine vv_ldc2 (v := 999) X q2526 dX1_movingPower_25 ?_
    refine vv_eql (show _ = (999 : Int32).toInt64 from by decide) ?_
    refine vv_callSp X (mX1_in (kL K) D ((y).toInt64) ((-999 : Int32).toInt64) ((999 : Int32).toInt64)) q449 q450 q137 q451 nX1_in ⟨(Nat.le_of_ble_eq_true rfl), (Nat.le_of_ble_eq_true rfl)⟩ dX1_movingPower_28 rfl (Nat.le_of_ble_eq_true rfl) trivial ⟨(Nat.le_of_ble_eq_true rfl), (Nat.le_of_ble_eq_true rfl)⟩ ?_
    refine vv_eqi (b2_eq (in_I)) ?_
    refine vb_eq (tgt := 38) X dX1_movingPower_31 (by decide) (fun c_31 => ?_) (fun c_31 => ?_)
    · refine vv_iconst (v := nI 0) X dX1_movingPower_38 (by decide) ?_
      refine vx_cS X (xX1_checkArgument (kL K) D hl False (fun z => z)) q1820 q1821 q137 q1822 nX1_checkArgument ⟨(Nat.le_of_ble_eq_true rfl), (Nat.le_of_ble_eq_true rfl)⟩ dX1_movingPower_39 rfl (Nat.le_of_ble_eq_true rfl) hK (fun _ z => z.elim) ⟨(Nat.le_of_ble_eq_true rfl), (Nat.le_of_ble_eq_true rfl)⟩ (fun Xn q H hq hz_ hk hXO => ?_) (fun v_ H hq hz_ hk => hq.elim)
      obtain rfl := hq
      exact vt_out X (fun x hx => (ht x hx).elim) hQ hXO (Nat.le_of_ble_eq_true rfl) (Nat.le_of_ble_eq_true rfl) rfl
    · exact absurd ⟨c_17, c_31⟩ hp
set_option maxHeartbeats 800000 in
theorem mX1_beam (l : Launch) (D : DD) (u : Nat → Nat) (P T : Nat → Int32) (o : Nat) (g : Nat → Nat) (S : Nat → Int32) (pw : Option Nat) (c : Nat) (v0 v1 v2 v3 v5 v6 v7 : Value) (k t : Nat) (hC : VC P) (hV : VS S) (hk : k < nC P) (ht : t < win P S (dc P k)) : Cp l yX1_beam cX1_beam 3 (some .int) { frames := 6, cells := 0, slots := 0, locals := 119 } D [.ref c, .int (nI k), .int (nI t)] (fun H => KH D H ∧ oB D H c 0 [v0, v1, v2, v3, .ref (g 0), v5, v6, v7] ∧ UR D u P T o H ∧ SR D g u P S pw H) (.int (bm P S (dc P k) t)) := by
  refine Ct.of (by decide +kernel) (Nat.le_of_ble_eq_true rfl) (fun K Qf hkl X hM hQ => ?_)
  subst hkl
  obtain ⟨hK, hc, hU, hR⟩ := hM
  have hP := hC.v
  have l0 := hP.l0
  have l1 := hP.l1
  have l2 := hP.l2
  have l4 := hP.l4
  have l5 := hP.l5
  have l8 := hP.l8
  have l9 := hP.l9
  have l10 := hP.l10
  have l71 := hP.l71
  have l76 := hP.l76
  have l77 := hP.l77
  have hx1 := hC.x1
  have hy1 := hC.y1
  have ht1 := hC.t1
  have he1 := hC.e1
  have hm1 := hC.m1
  have hcc : nC P ≤ 144 := Nat.mul_le_mul l9 l10
  have hw2 : win P S (dc P k) ≤ 200 := Nat.le_trans (Nat.sub_le _ _) l2
  refine vv_sub (lv' := [(0, .ref c), (1, .int (nI k)), (2, .int (nI t))]) [0, 1, 2] rfl ?_
  refine vv_iload_n X dX1_beam_0 rfl 2 rfl ?_
  refine vv_i2l (v := (nI t).toInt64) X dX1_beam_1 rfl ?_
  refine vv_lconst (v := 0) X dX1_beam_2 (by decide) ?_
  refine vv_eql (show (0 : Int64) = (nI 0).toInt64 from by decide) ?_
  refine vv_aload_n X dX1_beam_3 rfl 0 rfl ?_
  refine vv_iload_n X dX1_beam_4 rfl 1 rfl ?_
  refine vv_callVp X (mX1_withCell (kL K) D u P T o g S pw c v0 v1 v2 v3 v5 v6 v7 k hC hV (by omega)) q1845 q1847 qs37 q137 q1848 nX1_withCell ⟨(Nat.le_of_ble_eq_true rfl), (Nat.le_of_ble_eq_true rfl)⟩ dX1_beam_5 rfl (Nat.le_of_ble_eq_true rfl) (recv X hc CL_X1) ⟨hK, hc, hU, hR⟩ ⟨(Nat.le_of_ble_eq_true rfl), (Nat.le_of_ble_eq_true rfl)⟩ ?_
  refine vv_iload_n X dX1_beam_8 rfl 1 rfl ?_
  refine vv_callVp X (mX3_window (kL K) D u P T o g S pw k hC hV (by omega)) q1927 q1928 q1929 q150 q1930 nX3_window ⟨(Nat.le_of_ble_eq_true rfl), (Nat.le_of_ble_eq_true rfl)⟩ dX1_beam_9 rfl (Nat.le_of_ble_eq_true rfl) (recv X hR.ob CL_X3) ⟨hK, hU, hR⟩ ⟨(Nat.le_of_ble_eq_true rfl), (Nat.le_of_ble_eq_true rfl)⟩ ?_
  refine vv_iconst (v := nI 1) X dX1_beam_12 (by decide) ?_
  refine vv_isub X dX1_beam_13 ?_
  refine vv_i2l (v := ((nI (win P S (dc P k))) - (nI 1)).toInt64) X dX1_beam_14 rfl ?_
  refine vv_callSp X (mX1_in (kL K) D ((nI t).toInt64) ((nI 0).toInt64) (((nI (win P S (dc P k))) - (nI 1)).toInt64)) q449 q450 q137 q451 nX1_in ⟨(Nat.le_of_ble_eq_true rfl), (Nat.le_of_ble_eq_true rfl)⟩ dX1_beam_15 rfl (Nat.le_of_ble_eq_true rfl) trivial ⟨(Nat.le_of_ble_eq_true rfl), (Nat.le_of_ble_eq_true rfl)⟩ ?_
  refine vv_eqi (b2_eq (in_I)) ?_
  refine vv_callSv X (mX1_checkArgument (kL K) D ((nI 0) ≤ (nI t) ∧ (nI t) ≤ ((nI (win P S (dc P k))) - (nI 1))) (ix_N ht (by omega))) q1820 q1821 q137 q1822 nX1_checkArgument ⟨(Nat.le_of_ble_eq_true rfl), (Nat.le_of_ble_eq_true rfl)⟩ dX1_beam_18 rfl (Nat.le_of_ble_eq_true rfl) trivial ⟨(Nat.le_of_ble_eq_true rfl), (Nat.le_of_ble_eq_true rfl)⟩ ?_
  refine vv_aload_n X dX1_beam_21 rfl 0 rfl ?_
  refine vv_getf (C := RX1) (T := TX1) (N := 8) (ref := "AcousticCamera") X hc in_X1 CL_X1 4 (by decide) q259 rfl rfl dX1_beam_22 ?_
  refine vv_iload_n X dX1_beam_25 rfl 1 rfl ?_
  refine vv_iload_n X dX1_beam_26 rfl 2 rfl ?_
  refine vv_callVp X (mX3_beam (kL K) D u P T o g S pw k t hC hV (by omega) (by omega)) q1945 q1946 q1947 q150 q1948 nX3_beam ⟨(Nat.le_of_ble_eq_true rfl), (Nat.le_of_ble_eq_true rfl)⟩ dX1_beam_27 rfl (Nat.le_of_ble_eq_true rfl) (recv X hR.ob CL_X3) ⟨hK, hU, hR⟩ ⟨(Nat.le_of_ble_eq_true rfl), (Nat.le_of_ble_eq_true rfl)⟩ ?_
  exact vv_iret X hQ dX1_beam_30 (Nat.le_of_ble_eq_true rfl) (Nat.le_of_ble_eq_true rfl) (pq (rfl))
set_option maxHeartbeats 800000 in
theorem xX1_beam (l : Launch) (D : DD) (hl : l.stackTraces = false) (u : Nat → Nat) (P T : Nat → Int32) (o : Nat) (g : Nat → Nat) (S : Nat → Int32) (pw : Option Nat) (c : Nat) (v0 v1 v2 v3 v5 v6 v7 : Value) (q t : Int32) (hC : VC P) (hV : VS S) (hq : ¬ ix (nC P) q) : Cx l yX1_beam cX1_beam 3 (some .int) { frames := 8, cells := 1, slots := 6, locals := 131 } D [.ref c, .int (q), .int (t)] (fun H => KH D H ∧ oB D H c 0 [v0, v1, v2, v3, .ref (g 0), v5, v6, v7] ∧ UR D u P T o H ∧ SR D g u P S pw H) (fun _ => False) (fun r H H1 => False) (fun Xn q H H1 => Xn = "java/lang/IndexOutOfBoundsException") := by
  refine Cx.of (by decide +kernel) (Nat.le_of_ble_eq_true rfl) (fun K Qf hkl X ht hM hQ => ?_)
  subst hkl
  obtain ⟨hK, hc, hU, hR⟩ := hM
  have hz : (kS K).heap.size ≤ (kS K).heap.size := Nat.le_refl _
  have hP := hC.v
  have l0 := hP.l0
  have l1 := hP.l1
  have l2 := hP.l2
  have l4 := hP.l4
  have l5 := hP.l5
  have l8 := hP.l8
  have l9 := hP.l9
  have l10 := hP.l10
  have l71 := hP.l71
  have l76 := hP.l76
  have l77 := hP.l77
  have hx1 := hC.x1
  have hy1 := hC.y1
  have ht1 := hC.t1
  have he1 := hC.e1
  have hm1 := hC.m1
  have hcc : nC P ≤ 144 := Nat.mul_le_mul l9 l10
  refine vv_sub (lv' := [(0, .ref c), (1, .int (q)), (2, .int (t))]) [0, 1, 2] rfl ?_
  refine vv_iload_n X dX1_beam_0 rfl 2 rfl ?_
  refine vv_i2l (v := (t).toInt64) X dX1_beam_1 rfl ?_
  refine vv_lconst (v := 0) X dX1_beam_2 (by decide) ?_
  refine vv_eql (show (0 : Int64) = (nI 0).toInt64 from by decide) ?_
  refine vv_aload_n X dX1_beam_3 rfl 0 rfl ?_
  refine vv_iload_n X dX1_beam_4 rfl 1 rfl ?_
  refine vx_cV X (xX1_withCell (kL K) D hl u P T o g S pw c v0 v1 v2 v3 v5 v6 v7 q hC hV (hq)) q1845 q1847 qs37 q137 q1848 nX1_withCell ⟨(Nat.le_of_ble_eq_true rfl), (Nat.le_of_ble_eq_true rfl)⟩ dX1_beam_5 rfl (Nat.le_of_ble_eq_true rfl) (recv X hc CL_X1) ⟨hK, hc, hU, hR⟩ (fun _ z => z.elim) ⟨(Nat.le_of_ble_eq_true rfl), (Nat.le_of_ble_eq_true rfl)⟩ (fun Xn q H hq hz_ hk hXO => ?_) (fun v_ H hq hz_ hk => hq.elim)
  obtain rfl := hq
  exact vt_out X (fun x hx => (ht x hx).elim) hQ hXO (Nat.le_of_ble_eq_true rfl) (Nat.le_of_ble_eq_true rfl) rfl
set_option maxHeartbeats 800000 in
theorem w2X1_beam (l : Launch) (D : DD) (hl : l.stackTraces = false) (u : Nat → Nat) (P T : Nat → Int32) (o : Nat) (g : Nat → Nat) (S : Nat → Int32) (pw : Option Nat) (c : Nat) (v0 v1 v2 v3 v5 v6 v7 : Value) (k : Nat) (t : Int32) (hC : VC P) (hV : VS S) (hk : k < nC P) (hv : ¬ ix (win P S (dc P k)) t) : Cx l yX1_beam cX1_beam 3 (some .int) { frames := 7, cells := 1, slots := 6, locals := 119 } D [.ref c, .int (nI k), .int (t)] (fun H => KH D H ∧ oB D H c 0 [v0, v1, v2, v3, .ref (g 0), v5, v6, v7] ∧ UR D u P T o H ∧ SR D g u P S pw H) (fun _ => False) (fun r H H1 => False) (fun Xn q H H1 => Xn = "java/lang/IllegalArgumentException") := by
  refine Cx.of (by decide +kernel) (Nat.le_of_ble_eq_true rfl) (fun K Qf hkl X ht hM hQ => ?_)
  subst hkl
  obtain ⟨hK, hc, hU, hR⟩ := hM
  have hz : (kS K).heap.size ≤ (kS K).heap.size := Nat.le_refl _
  have hP := hC.v
  have l0 := hP.l0
  have l1 := hP.l1
  have l2 := hP.l2
  have l4 := hP.l4
  have l5 := hP.l5
  have l8 := hP.l8
  have l9 := hP.l9
  have l10 := hP.l10
  have l71 := hP.l71
  have l76 := hP.l76
  have l77 := hP.l77
  have hx1 := hC.x1
  have hy1 := hC.y1
  have ht1 := hC.t1
  have he1 := hC.e1
  have hm1 := hC.m1
  have hcc : nC P ≤ 144 := Nat.mul_le_mul l9 l10
  have hw2 : win P S (dc P k) ≤ 200 := Nat.le_trans (Nat.sub_le _ _) l2
  refine vv_sub (lv' := [(0, .ref c), (1, .int (nI k)), (2, .int (t))]) [0, 1, 2] rfl ?_
  refine vv_iload_n X dX1_beam_0 rfl 2 rfl ?_
  refine vv_i2l (v := (t).toInt64) X dX1_beam_1 rfl ?_
  refine vv_lconst (v := 0) X dX1_beam_2 (by decide) ?_
  refine vv_eql (show (0 : Int64) = (nI 0).toInt64 from by decide) ?_
  refine vv_aload_n X dX1_beam_3 rfl 0 rfl ?_
  refine vv_iload_n X dX1_beam_4 rfl 1 rfl ?_
  refine vv_callVp X (mX1_withCell (kL K) D u P T o g S pw c v0 v1 v2 v3 v5 v6 v7 k hC hV (by omega)) q1845 q1847 qs37 q137 q1848 nX1_withCell ⟨(Nat.le_of_ble_eq_true rfl), (Nat.le_of_ble_eq_true rfl)⟩ dX1_beam_5 rfl (Nat.le_of_ble_eq_true rfl) (recv X hc CL_X1) ⟨hK, hc, hU, hR⟩ ⟨(Nat.le_of_ble_eq_true rfl), (Nat.le_of_ble_eq_true rfl)⟩ ?_
  refine vv_iload_n X dX1_beam_8 rfl 1 rfl ?_
  refine vv_callVp X (mX3_window (kL K) D u P T o g S pw k hC hV (by omega)) q1927 q1928 q1929 q150 q1930 nX3_window ⟨(Nat.le_of_ble_eq_true rfl), (Nat.le_of_ble_eq_true rfl)⟩ dX1_beam_9 rfl (Nat.le_of_ble_eq_true rfl) (recv X hR.ob CL_X3) ⟨hK, hU, hR⟩ ⟨(Nat.le_of_ble_eq_true rfl), (Nat.le_of_ble_eq_true rfl)⟩ ?_
  refine vv_iconst (v := nI 1) X dX1_beam_12 (by decide) ?_
  refine vv_isub X dX1_beam_13 ?_
  refine vv_i2l (v := ((nI (win P S (dc P k))) - (nI 1)).toInt64) X dX1_beam_14 rfl ?_
  refine vv_callSp X (mX1_in (kL K) D ((t).toInt64) ((nI 0).toInt64) (((nI (win P S (dc P k))) - (nI 1)).toInt64)) q449 q450 q137 q451 nX1_in ⟨(Nat.le_of_ble_eq_true rfl), (Nat.le_of_ble_eq_true rfl)⟩ dX1_beam_15 rfl (Nat.le_of_ble_eq_true rfl) trivial ⟨(Nat.le_of_ble_eq_true rfl), (Nat.le_of_ble_eq_true rfl)⟩ ?_
  refine vv_eqi (b2_eq (in_I)) ?_
  refine vx_cS X (xX1_checkArgument (kL K) D hl ((nI 0) ≤ (t) ∧ (t) ≤ ((nI (win P S (dc P k))) - (nI 1))) (hv)) q1820 q1821 q137 q1822 nX1_checkArgument ⟨(Nat.le_of_ble_eq_true rfl), (Nat.le_of_ble_eq_true rfl)⟩ dX1_beam_18 rfl (Nat.le_of_ble_eq_true rfl) hK (fun _ z => z.elim) ⟨(Nat.le_of_ble_eq_true rfl), (Nat.le_of_ble_eq_true rfl)⟩ (fun Xn q H hq hz_ hk hXO => ?_) (fun v_ H hq hz_ hk => hq.elim)
  obtain rfl := hq
  exact vt_out X (fun x hx => (ht x hx).elim) hQ hXO (Nat.le_of_ble_eq_true rfl) (Nat.le_of_ble_eq_true rfl) rfl
