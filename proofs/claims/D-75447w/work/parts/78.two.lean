/-! AcousticCamera: more complaints: printed by gen/s25.py -/
set_option maxRecDepth 100000
set_option maxHeartbeats 800000 in
theorem w2X1_withMics (l : Launch) (D : DD) (hl : l.stackTraces = false) (u : Nat → Nat) (P T : Nat → Int32) (o : Nat) (g : Nat → Nat) (S : Nat → Int32) (pw : Option Nat) (c : Nat) (v0 v1 v2 v3 v5 v6 v7 : Value) (m : Nat) (k : Int32) (hC : VC P) (hV : VS S) (hm : m < nM P) (hk : ¬ ix (nM P) k) : Cx l yX1_withMics cX1_withMics 3 (some (.object "AcousticCamera$State")) { frames := 8, cells := 1, slots := 6, locals := 131 } D [.ref c, .int (nI m), .int (k)] (fun H => KH D H ∧ oB D H c 0 [v0, v1, v2, v3, .ref (g 0), v5, v6, v7] ∧ UR D u P T o H ∧ SR D g u P S pw H) (fun _ => False) (fun r H H1 => False) (fun Xn q H H1 => Xn = "java/lang/IndexOutOfBoundsException") := by
  refine Cx.of (by decide +kernel) (Nat.le_of_ble_eq_true rfl) (fun K Qf hkl X ht hM hQ => ?_)
  subst hkl
  obtain ⟨hK, hc, hU, hR⟩ := hM
  have hz : (kS K).heap.size ≤ (kS K).heap.size := Nat.le_refl _
  have hP := hC.v
  have l0 := hP.l0
  have l1 := hP.l1
  have l2 := hP.l2
  have l4 := hP.l4
  have l5 := hP.l5
  have l8 := hP.l8
  have l9 := hP.l9
  have l10 := hP.l10
  have l71 := hP.l71
  have l76 := hP.l76
  have l77 := hP.l77
  have hx1 := hC.x1
  have hy1 := hC.y1
  have ht1 := hC.t1
  have he1 := hC.e1
  have hm1 := hC.m1
  have hcc : nC P ≤ 144 := Nat.mul_le_mul l9 l10
  refine vv_sub (lv' := [(0, .ref c), (1, .int (nI m)), (2, .int (k))]) [0, 1, 2] rfl ?_
  refine vv_aload_n X dX1_withMics_0 rfl 0 rfl ?_
  refine vv_iload_n X dX1_withMics_1 rfl 1 rfl ?_
  refine vv_callVp X (mX1_withMic (kL K) D u P T o g S pw c v0 v1 v2 v3 v5 v6 v7 m hC hV (by omega)) q1793 q1795 qs35 q137 q1796 nX1_withMic ⟨(Nat.le_of_ble_eq_true rfl), (Nat.le_of_ble_eq_true rfl)⟩ dX1_withMics_2 rfl (Nat.le_of_ble_eq_true rfl) (recv X hc CL_X1) ⟨hK, hc, hU, hR⟩ ⟨(Nat.le_of_ble_eq_true rfl), (Nat.le_of_ble_eq_true rfl)⟩ ?_
  refine vv_pop X dX1_withMics_5 rfl ?_
  refine vv_aload_n X dX1_withMics_6 rfl 0 rfl ?_
  refine vv_iload_n X dX1_withMics_7 rfl 2 rfl ?_
  refine vx_cV X (xX1_withMic (kL K) D hl u P T o g S pw c v0 v1 v2 v3 v5 v6 v7 k hC hV (hk)) q1793 q1795 qs35 q137 q1796 nX1_withMic ⟨(Nat.le_of_ble_eq_true rfl), (Nat.le_of_ble_eq_true rfl)⟩ dX1_withMics_8 rfl (Nat.le_of_ble_eq_true rfl) (recv X hc CL_X1) ⟨hK, hc, hU, hR⟩ (fun _ z => z.elim) ⟨(Nat.le_of_ble_eq_true rfl), (Nat.le_of_ble_eq_true rfl)⟩ (fun Xn q H hq hz_ hk hXO => ?_) (fun v_ H hq hz_ hk => hq.elim)
  obtain rfl := hq
  exact vt_out X (fun x hx => (ht x hx).elim) hQ hXO (Nat.le_of_ble_eq_true rfl) (Nat.le_of_ble_eq_true rfl) rfl
set_option maxHeartbeats 800000 in
theorem w2X1_correlation (l : Launch) (D : DD) (hl : l.stackTraces = false) (u : Nat → Nat) (P T : Nat → Int32) (o : Nat) (g : Nat → Nat) (S : Nat → Int32) (pw : Option Nat) (c : Nat) (v0 v1 v2 v3 v5 v6 v7 : Value) (m : Nat) (k t : Int32) (hC : VC P) (hV : VS S) (hm : m < nM P) (hk : ¬ ix (nM P) k) : Cx l yX1_correlation cX1_correlation 4 (some .long) { frames := 9, cells := 1, slots := 6, locals := 153 } D [.ref c, .int (nI m), .int (k), .int (t)] (fun H => KH D H ∧ oB D H c 0 [v0, v1, v2, v3, .ref (g 0), v5, v6, v7] ∧ UR D u P T o H ∧ SR D g u P S pw H) (fun _ => False) (fun r H H1 => False) (fun Xn q H H1 => Xn = "java/lang/IndexOutOfBoundsException") := by
  refine Cx.of (by decide +kernel) (Nat.le_of_ble_eq_true rfl) (fun K Qf hkl X ht hM hQ => ?_)
  subst hkl
  obtain ⟨hK, hc, hU, hR⟩ := hM
  have hz : (kS K).heap.size ≤ (kS K).heap.size := Nat.le_refl _
  have hP := hC.v
  have l0 := hP.l0
  have l1 := hP.l1
  have l2 := hP.l2
  have l4 := hP.l4
  have l5 := hP.l5
  have l8 := hP.l8
  have l9 := hP.l9
  have l10 := hP.l10
  have l71 := hP.l71
  have l76 := hP.l76
  have l77 := hP.l77
  have hx1 := hC.x1
  have hy1 := hC.y1
  have ht1 := hC.t1
  have he1 := hC.e1
  have hm1 := hC.m1
  have hcc : nC P ≤ 144 := Nat.mul_le_mul l9 l10
  refine vv_sub (lv' := [(0, .ref c), (1, .int (nI m)), (2, .int (k)), (3, .int (t))]) [0, 1, 2, 3] rfl ?_
  refine vv_aload_n X dX1_correlation_0 rfl 0 rfl ?_
  refine vv_iload_n X dX1_correlation_1 rfl 1 rfl ?_
  refine vv_iload_n X dX1_correlation_2 rfl 2 rfl ?_
  refine vx_cV X (w2X1_withMics (kL K) D hl u P T o g S pw c v0 v1 v2 v3 v5 v6 v7 m k hC hV (by omega) (hk)) q2549 q2551 qs52 q137 q2552 nX1_withMics ⟨(Nat.le_of_ble_eq_true rfl), (Nat.le_of_ble_eq_true rfl)⟩ dX1_correlation_3 rfl (Nat.le_of_ble_eq_true rfl) (recv X hc CL_X1) ⟨hK, hc, hU, hR⟩ (fun _ z => z.elim) ⟨(Nat.le_of_ble_eq_true rfl), (Nat.le_of_ble_eq_true rfl)⟩ (fun Xn q H hq hz_ hk hXO => ?_) (fun v_ H hq hz_ hk => hq.elim)
  obtain rfl := hq
  exact vt_out X (fun x hx => (ht x hx).elim) hQ hXO (Nat.le_of_ble_eq_true rfl) (Nat.le_of_ble_eq_true rfl) rfl
set_option maxHeartbeats 800000 in
theorem w2X1_bestLag (l : Launch) (D : DD) (hl : l.stackTraces = false) (u : Nat → Nat) (P T : Nat → Int32) (o : Nat) (g : Nat → Nat) (S : Nat → Int32) (pw : Option Nat) (c : Nat) (v0 v1 v2 v3 v5 v6 v7 : Value) (m : Nat) (k t : Int32) (hC : VC P) (hV : VS S) (hm : m < nM P) (hk : ¬ ix (nM P) k) : Cx l yX1_bestLag cX1_bestLag 5 (some .int) { frames := 9, cells := 1, slots := 6, locals := 153 } D [.ref c, .int (nI m), .int (k), .int (t)] (fun H => KH D H ∧ oB D H c 0 [v0, v1, v2, v3, .ref (g 0), v5, v6, v7] ∧ UR D u P T o H ∧ SR D g u P S pw H) (fun _ => False) (fun r H H1 => False) (fun Xn q H H1 => Xn = "java/lang/IndexOutOfBoundsException") := by
  refine Cx.of (by decide +kernel) (Nat.le_of_ble_eq_true rfl) (fun K Qf hkl X ht hM hQ => ?_)
  subst hkl
  obtain ⟨hK, hc, hU, hR⟩ := hM
  have hz : (kS K).heap.size ≤ (kS K).heap.size := Nat.le_refl _
  have hP := hC.v
  have l0 := hP.l0
  have l1 := hP.l1
  have l2 := hP.l2
  have l4 := hP.l4
  have l5 := hP.l5
  have l8 := hP.l8
  have l9 := hP.l9
  have l10 := hP.l10
  have l71 := hP.l71
  have l76 := hP.l76
  have l77 := hP.l77
  have hx1 := hC.x1
  have hy1 := hC.y1
  have ht1 := hC.t1
  have he1 := hC.e1
  have hm1 := hC.m1
  have hcc : nC P ≤ 144 := Nat.mul_le_mul l9 l10
  refine vv_sub (lv' := [(0, .ref c), (1, .int (nI m)), (2, .int (k)), (3, .int (t))]) [0, 1, 2, 3] rfl ?_
  refine vv_aload_n X dX1_bestLag_0 rfl 0 rfl ?_
  refine vv_iload_n X dX1_bestLag_1 rfl 1 rfl ?_
  refine vv_iload_n X dX1_bestLag_2 rfl 2 rfl ?_
  refine vx_cV X (w2X1_withMics (kL K) D hl u P T o g S pw c v0 v1 v2 v3 v5 v6 v7 m k hC hV (by omega) (hk)) q2549 q2551 qs52 q137 q2552 nX1_withMics ⟨(Nat.le_of_ble_eq_true rfl), (Nat.le_of_ble_eq_true rfl)⟩ dX1_bestLag_3 rfl (Nat.le_of_ble_eq_true rfl) (recv X hc CL_X1) ⟨hK, hc, hU, hR⟩ (fun _ z => z.elim) ⟨(Nat.le_of_ble_eq_true rfl), (Nat.le_of_ble_eq_true rfl)⟩ (fun Xn q H hq hz_ hk hXO => ?_) (fun v_ H hq hz_ hk => hq.elim)
  obtain rfl := hq
  exact vt_out X (fun x hx => (ht x hx).elim) hQ hXO (Nat.le_of_ble_eq_true rfl) (Nat.le_of_ble_eq_true rfl) rfl
set_option maxHeartbeats 800000 in
theorem w2X1_alias (l : Launch) (D : DD) (hl : l.stackTraces = false) (u : Nat → Nat) (P T : Nat → Int32) (o : Nat) (g : Nat → Nat) (S : Nat → Int32) (pw : Option Nat) (c : Nat) (v0 v1 v2 v3 v5 v6 v7 : Value) (m : Nat) (k p : Int32) (hC : VC P) (hV : VS S) (hm : m < nC P) (hk : ¬ ix (nC P) k) : Cx l yX1_alias cX1_alias 4 (some .int) { frames := 9, cells := 1, slots := 6, locals := 153 } D [.ref c, .int (nI m), .int (k), .int (p)] (fun H => KH D H ∧ oB D H c 0 [v0, v1, v2, v3, .ref (g 0), v5, v6, v7] ∧ UR D u P T o H ∧ SR D g u P S pw H) (fun _ => False) (fun r H H1 => False) (fun Xn q H H1 => Xn = "java/lang/IndexOutOfBoundsException") := by
  refine Cx.of (by decide +kernel) (Nat.le_of_ble_eq_true rfl) (fun K Qf hkl X ht hM hQ => ?_)
  subst hkl
  obtain ⟨hK, hc, hU, hR⟩ := hM
  have hz : (kS K).heap.size ≤ (kS K).heap.size := Nat.le_refl _
  have hP := hC.v
  have l0 := hP.l0
  have l1 := hP.l1
  have l2 := hP.l2
  have l4 := hP.l4
  have l5 := hP.l5
  have l8 := hP.l8
  have l9 := hP.l9
  have l10 := hP.l10
  have l71 := hP.l71
  have l76 := hP.l76
  have l77 := hP.l77
  have hx1 := hC.x1
  have hy1 := hC.y1
  have ht1 := hC.t1
  have he1 := hC.e1
  have hm1 := hC.m1
  have hcc : nC P ≤ 144 := Nat.mul_le_mul l9 l10
  refine vv_sub (lv' := [(0, .ref c), (1, .int (nI m)), (2, .int (k)), (3, .int (p))]) [0, 1, 2, 3] rfl ?_
  refine vv_aload_n X dX1_alias_0 rfl 0 rfl ?_
  refine vv_iload_n X dX1_alias_1 rfl 1 rfl ?_
  refine vv_iload_n X dX1_alias_2 rfl 2 rfl ?_
  refine vx_cV X (w2X1_withCells (kL K) D hl u P T o g S pw c v0 v1 v2 v3 v5 v6 v7 m k hC hV (by omega) (hk)) q2386 q2388 qs48 q137 q2389 nX1_withCells ⟨(Nat.le_of_ble_eq_true rfl), (Nat.le_of_ble_eq_true rfl)⟩ dX1_alias_3 rfl (Nat.le_of_ble_eq_true rfl) (recv X hc CL_X1) ⟨hK, hc, hU, hR⟩ (fun _ z => z.elim) ⟨(Nat.le_of_ble_eq_true rfl), (Nat.le_of_ble_eq_true rfl)⟩ (fun Xn q H hq hz_ hk hXO => ?_) (fun v_ H hq hz_ hk => hq.elim)
  obtain rfl := hq
  exact vt_out X (fun x hx => (ht x hx).elim) hQ hXO (Nat.le_of_ble_eq_true rfl) (Nat.le_of_ble_eq_true rfl) rfl
set_option maxHeartbeats 800000 in
theorem xX1_pointPower (l : Launch) (D : DD) (hl : l.stackTraces = false) (u : Nat → Nat) (P T : Nat → Int32) (o : Nat) (g : Nat → Nat) (S : Nat → Int32) (pw : Option Nat) (c : Nat) (v0 v1 v2 v3 v5 v6 v7 : Value) (q k p : Int32) (hC : VC P) (hV : VS S) (hq : ¬ ix (nC P) q) : Cx l yX1_pointPower cX1_pointPower 4 (some .long) { frames := 9, cells := 1, slots := 6, locals := 153 } D [.ref c, .int (q), .int (k), .int (p)] (fun H => KH D H ∧ oB D H c 0 [v0, v1, v2, v3, .ref (g 0), v5, v6, v7] ∧ UR D u P T o H ∧ SR D g u P S pw H) (fun _ => False) (fun r H H1 => False) (fun Xn q H H1 => Xn = "java/lang/IndexOutOfBoundsException") := by
  refine Cx.of (by decide +kernel) (Nat.le_of_ble_eq_true rfl) (fun K Qf hkl X ht hM hQ => ?_)
  subst hkl
  obtain ⟨hK, hc, hU, hR⟩ := hM
  have hz : (kS K).heap.size ≤ (kS K).heap.size := Nat.le_refl _
  have hP := hC.v
  have l0 := hP.l0
  have l1 := hP.l1
  have l2 := hP.l2
  have l4 := hP.l4
  have l5 := hP.l5
  have l8 := hP.l8
  have l9 := hP.l9
  have l10 := hP.l10
  have l71 := hP.l71
  have l76 := hP.l76
  have l77 := hP.l77
  have hx1 := hC.x1
  have hy1 := hC.y1
  have ht1 := hC.t1
  have he1 := hC.e1
  have hm1 := hC.m1
  have hcc : nC P ≤ 144 := Nat.mul_le_mul l9 l10
  refine vv_sub (lv' := [(0, .ref c), (1, .int (q)), (2, .int (k)), (3, .int (p))]) [0, 1, 2, 3] rfl ?_
  refine vv_aload_n X dX1_pointPower_0 rfl 0 rfl ?_
  refine vv_iload_n X dX1_pointPower_1 rfl 1 rfl ?_
  refine vv_iload_n X dX1_pointPower_2 rfl 2 rfl ?_
  refine vx_cV X (xX1_withCells (kL K) D hl u P T o g S pw c v0 v1 v2 v3 v5 v6 v7 q k hC hV (hq)) q2386 q2388 qs48 q137 q2389 nX1_withCells ⟨(Nat.le_of_ble_eq_true rfl), (Nat.le_of_ble_eq_true rfl)⟩ dX1_pointPower_3 rfl (Nat.le_of_ble_eq_true rfl) (recv X hc CL_X1) ⟨hK, hc, hU, hR⟩ (fun _ z => z.elim) ⟨(Nat.le_of_ble_eq_true rfl), (Nat.le_of_ble_eq_true rfl)⟩ (fun Xn q H hq hz_ hk hXO => ?_) (fun v_ H hq hz_ hk => hq.elim)
  obtain rfl := hq
  exact vt_out X (fun x hx => (ht x hx).elim) hQ hXO (Nat.le_of_ble_eq_true rfl) (Nat.le_of_ble_eq_true rfl) rfl
set_option maxHeartbeats 800000 in
theorem w2X1_pointPower (l : Launch) (D : DD) (hl : l.stackTraces = false) (u : Nat → Nat) (P T : Nat → Int32) (o : Nat) (g : Nat → Nat) (S : Nat → Int32) (pw : Option Nat) (c : Nat) (v0 v1 v2 v3 v5 v6 v7 : Value) (m : Nat) (k p : Int32) (hC : VC P) (hV : VS S) (hm : m < nC P) (hk : ¬ ix (nC P) k) : Cx l yX1_pointPower cX1_pointPower 4 (some .long) { frames := 9, cells := 1, slots := 6, locals := 153 } D [.ref c, .int (nI m), .int (k), .int (p)] (fun H => KH D H ∧ oB D H c 0 [v0, v1, v2, v3, .ref (g 0), v5, v6, v7] ∧ UR D u P T o H ∧ SR D g u P S pw H) (fun _ => False) (fun r H H1 => False) (fun Xn q H H1 => Xn = "java/lang/IndexOutOfBoundsException") := by
  refine Cx.of (by decide +kernel) (Nat.le_of_ble_eq_true rfl) (fun K Qf hkl X ht hM hQ => ?_)
  subst hkl
  obtain ⟨hK, hc, hU, hR⟩ := hM
  have hz : (kS K).heap.size ≤ (kS K).heap.size := Nat.le_refl _
  have hP := hC.v
  have l0 := hP.l0
  have l1 := hP.l1
  have l2 := hP.l2
  have l4 := hP.l4
  have l5 := hP.l5
  have l8 := hP.l8
  have l9 := hP.l9
  have l10 := hP.l10
  have l71 := hP.l71
  have l76 := hP.l76
  have l77 := hP.l77
  have hx1 := hC.x1
  have hy1 := hC.y1
  have ht1 := hC.t1
  have he1 := hC.e1
  have hm1 := hC.m1
  have hcc : nC P ≤ 144 := Nat.mul_le_mul l9 l10
  refine vv_sub (lv' := [(0, .ref c), (1, .int (nI m)), (2, .int (k)), (3, .int (p))]) [0, 1, 2, 3] rfl ?_
  refine vv_aload_n X dX1_pointPower_0 rfl 0 rfl ?_
  refine vv_iload_n X dX1_pointPower_1 rfl 1 rfl ?_
  refine vv_iload_n X dX1_pointPower_2 rfl 2 rfl ?_
  refine vx_cV X (w2X1_withCells (kL K) D hl u P T o g S pw c v0 v1 v2 v3 v5 v6 v7 m k hC hV (by omega) (hk)) q2386 q2388 qs48 q137 q2389 nX1_withCells ⟨(Nat.le_of_ble_eq_true rfl), (Nat.le_of_ble_eq_true rfl)⟩ dX1_pointPower_3 rfl (Nat.le_of_ble_eq_true rfl) (recv X hc CL_X1) ⟨hK, hc, hU, hR⟩ (fun _ z => z.elim) ⟨(Nat.le_of_ble_eq_true rfl), (Nat.le_of_ble_eq_true rfl)⟩ (fun Xn q H hq hz_ hk hXO => ?_) (fun v_ H hq hz_ hk => hq.elim)
  obtain rfl := hq
  exact vt_out X (fun x hx => (ht x hx).elim) hQ hXO (Nat.le_of_ble_eq_true rfl) (Nat.le_of_ble_eq_true rfl) rfl
set_option maxHeartbeats 800000 in
theorem w3X1_pointPower (l : Launch) (D : DD) (hl : l.stackTraces = false) (u : Nat → Nat) (P T : Nat → Int32) (o : Nat) (g : Nat → Nat) (S : Nat → Int32) (pw : Option Nat) (c : Nat) (v0 v1 v2 v3 v5 v6 v7 : Value) (k j : Nat) (p : Int32) (hC : VC P) (hV : VS S) (hk : k < nC P) (hj : j < nC P) (hp : ¬ (nI 2 ≤ p ∧ p ≤ nI 99)) : Cx l yX1_pointPower cX1_pointPower 4 (some .long) { frames := 7, cells := 1, slots := 6, locals := 109 } D [.ref c, .int (nI k), .int (nI j), .int (p)] (fun H => KH D H ∧ oB D H c 0 [v0, v1, v2, v3, .ref (g 0), v5, v6, v7] ∧ UR D u P T o H ∧ SR D g u P S pw H) (fun _ => False) (fun r H H1 => False) (fun Xn q H H1 => Xn = "java/lang/IllegalArgumentException") := by
  refine Cx.of (by decide +kernel) (Nat.le_of_ble_eq_true rfl) (fun K Qf hkl X ht hM hQ => ?_)
  subst hkl
  obtain ⟨hK, hc, hU, hR⟩ := hM
  have hz : (kS K).heap.size ≤ (kS K).heap.size := Nat.le_refl _
  have hP := hC.v
  have l0 := hP.l0
  have l1 := hP.l1
  have l2 := hP.l2
  have l4 := hP.l4
  have l5 := hP.l5
  have l8 := hP.l8
  have l9 := hP.l9
  have l10 := hP.l10
  have l71 := hP.l71
  have l76 := hP.l76
  have l77 := hP.l77
  have hx1 := hC.x1
  have hy1 := hC.y1
  have ht1 := hC.t1
  have he1 := hC.e1
  have hm1 := hC.m1
  have hcc : nC P ≤ 144 := Nat.mul_le_mul l9 l10
  refine vv_sub (lv' := [(0, .ref c), (1, .int (nI k)), (2, .int (nI j)), (3, .int (p))]) [0, 1, 2, 3] rfl ?_
  refine vv_aload_n X dX1_pointPower_0 rfl 0 rfl ?_
  refine vv_iload_n X dX1_pointPower_1 rfl 1 rfl ?_
  refine vv_iload_n X dX1_pointPower_2 rfl 2 rfl ?_
  refine vv_callVp X (mX1_withCells (kL K) D u P T o g S pw c v0 v1 v2 v3 v5 v6 v7 k j hC hV (by omega) (by omega)) q2386 q2388 qs48 q137 q2389 nX1_withCells ⟨(Nat.le_of_ble_eq_true rfl), (Nat.le_of_ble_eq_true rfl)⟩ dX1_pointPower_3 rfl (Nat.le_of_ble_eq_true rfl) (recv X hc CL_X1) ⟨hK, hc, hU, hR⟩ ⟨(Nat.le_of_ble_eq_true rfl), (Nat.le_of_ble_eq_true rfl)⟩ ?_
  refine vv_pop X dX1_pointPower_6 rfl ?_
  refine vv_iload_n X dX1_pointPower_7 rfl 3 rfl ?_
  refine vv_callSp X (mX1_isPeriod (kL K) D p) q2390 q2391 q137 q2392 nX1_isPeriod ⟨(Nat.le_of_ble_eq_true rfl), (Nat.le_of_ble_eq_true rfl)⟩ dX1_pointPower_8 rfl (Nat.le_of_ble_eq_true rfl) trivial ⟨(Nat.le_of_ble_eq_true rfl), (Nat.le_of_ble_eq_true rfl)⟩ ?_
  refine vx_cS X (xX1_checkArgument (kL K) D hl (nI 2 ≤ p ∧ p ≤ nI 99) (hp)) q1820 q1821 q137 q1822 nX1_checkArgument ⟨(Nat.le_of_ble_eq_true rfl), (Nat.le_of_ble_eq_true rfl)⟩ dX1_pointPower_11 rfl (Nat.le_of_ble_eq_true rfl) hK (fun _ z => z.elim) ⟨(Nat.le_of_ble_eq_true rfl), (Nat.le_of_ble_eq_true rfl)⟩ (fun Xn q H hq hz_ hk hXO => ?_) (fun v_ H hq hz_ hk => hq.elim)
  obtain rfl := hq
  exact vt_out X (fun x hx => (ht x hx).elim) hQ hXO (Nat.le_of_ble_eq_true rfl) (Nat.le_of_ble_eq_true rfl) rfl
set_option maxHeartbeats 800000 in
theorem xX1_pointBest (l : Launch) (D : DD) (hl : l.stackTraces = false) (u : Nat → Nat) (P T : Nat → Int32) (o : Nat) (g : Nat → Nat) (S : Nat → Int32) (pw : Option Nat) (c : Nat) (v0 v1 v2 v3 v5 v6 v7 : Value) (q p : Int32) (hC : VC P) (hV : VS S) (hq : ¬ ix (nC P) q) : Cx l yX1_pointBest cX1_pointBest 3 (some .int) { frames := 8, cells := 1, slots := 6, locals := 131 } D [.ref c, .int (q), .int (p)] (fun H => KH D H ∧ oB D H c 0 [v0, v1, v2, v3, .ref (g 0), v5, v6, v7] ∧ UR D u P T o H ∧ SR D g u P S pw H) (fun _ => False) (fun r H H1 => False) (fun Xn q H H1 => Xn = "java/lang/IndexOutOfBoundsException") := by
  refine Cx.of (by decide +kernel) (Nat.le_of_ble_eq_true rfl) (fun K Qf hkl X ht hM hQ => ?_)
  subst hkl
  obtain ⟨hK, hc, hU, hR⟩ := hM
  have hz : (kS K).heap.size ≤ (kS K).heap.size := Nat.le_refl _
  have hP := hC.v
  have l0 := hP.l0
  have l1 := hP.l1
  have l2 := hP.l2
  have l4 := hP.l4
  have l5 := hP.l5
  have l8 := hP.l8
  have l9 := hP.l9
  have l10 := hP.l10
  have l71 := hP.l71
  have l76 := hP.l76
  have l77 := hP.l77
  have hx1 := hC.x1
  have hy1 := hC.y1
  have ht1 := hC.t1
  have he1 := hC.e1
  have hm1 := hC.m1
  have hcc : nC P ≤ 144 := Nat.mul_le_mul l9 l10
  refine vv_sub (lv' := [(0, .ref c), (1, .int (q)), (2, .int (p))]) [0, 1, 2] rfl ?_
  refine vv_aload_n X dX1_pointBest_0 rfl 0 rfl ?_
  refine vv_iload_n X dX1_pointBest_1 rfl 1 rfl ?_
  refine vx_cV X (xX1_withCell (kL K) D hl u P T o g S pw c v0 v1 v2 v3 v5 v6 v7 q hC hV (hq)) q1845 q1847 qs37 q137 q1848 nX1_withCell ⟨(Nat.le_of_ble_eq_true rfl), (Nat.le_of_ble_eq_true rfl)⟩ dX1_pointBest_2 rfl (Nat.le_of_ble_eq_true rfl) (recv X hc CL_X1) ⟨hK, hc, hU, hR⟩ (fun _ z => z.elim) ⟨(Nat.le_of_ble_eq_true rfl), (Nat.le_of_ble_eq_true rfl)⟩ (fun Xn q H hq hz_ hk hXO => ?_) (fun v_ H hq hz_ hk => hq.elim)
  obtain rfl := hq
  exact vt_out X (fun x hx => (ht x hx).elim) hQ hXO (Nat.le_of_ble_eq_true rfl) (Nat.le_of_ble_eq_true rfl) rfl
set_option maxHeartbeats 800000 in
theorem w2X1_pointBest (l : Launch) (D : DD) (hl : l.stackTraces = false) (u : Nat → Nat) (P T : Nat → Int32) (o : Nat) (g : Nat → Nat) (S : Nat → Int32) (pw : Option Nat) (c : Nat) (v0 v1 v2 v3 v5 v6 v7 : Value) (k : Nat) (p : Int32) (hC : VC P) (hV : VS S) (hk : k < nC P) (hp : ¬ (nI 2 ≤ p ∧ p ≤ nI 99)) : Cx l yX1_pointBest cX1_pointBest 3 (some .int) { frames := 7, cells := 1, slots := 6, locals := 109 } D [.ref c, .int (nI k), .int (p)] (fun H => KH D H ∧ oB D H c 0 [v0, v1, v2, v3, .ref (g 0), v5, v6, v7] ∧ UR D u P T o H ∧ SR D g u P S pw H) (fun _ => False) (fun r H H1 => False) (fun Xn q H H1 => Xn = "java/lang/IllegalArgumentException") := by
  refine Cx.of (by decide +kernel) (Nat.le_of_ble_eq_true rfl) (fun K Qf hkl X ht hM hQ => ?_)
  subst hkl
  obtain ⟨hK, hc, hU, hR⟩ := hM
  have hz : (kS K).heap.size ≤ (kS K).heap.size := Nat.le_refl _
  have hP := hC.v
  have l0 := hP.l0
  have l1 := hP.l1
  have l2 := hP.l2
  have l4 := hP.l4
  have l5 := hP.l5
  have l8 := hP.l8
  have l9 := hP.l9
  have l10 := hP.l10
  have l71 := hP.l71
  have l76 := hP.l76
  have l77 := hP.l77
  have hx1 := hC.x1
  have hy1 := hC.y1
  have ht1 := hC.t1
  have he1 := hC.e1
  have hm1 := hC.m1
  have hcc : nC P ≤ 144 := Nat.mul_le_mul l9 l10
  refine vv_sub (lv' := [(0, .ref c), (1, .int (nI k)), (2, .int (p))]) [0, 1, 2] rfl ?_
  refine vv_aload_n X dX1_pointBest_0 rfl 0 rfl ?_
  refine vv_iload_n X dX1_pointBest_1 rfl 1 rfl ?_
  refine vv_callVp X (mX1_withCell (kL K) D u P T o g S pw c v0 v1 v2 v3 v5 v6 v7 k hC hV (by omega)) q1845 q1847 qs37 q137 q1848 nX1_withCell ⟨(Nat.le_of_ble_eq_true rfl), (Nat.le_of_ble_eq_true rfl)⟩ dX1_pointBest_2 rfl (Nat.le_of_ble_eq_true rfl) (recv X hc CL_X1) ⟨hK, hc, hU, hR⟩ ⟨(Nat.le_of_ble_eq_true rfl), (Nat.le_of_ble_eq_true rfl)⟩ ?_
  refine vv_pop X dX1_pointBest_5 rfl ?_
  refine vv_iload_n X dX1_pointBest_6 rfl 2 rfl ?_
  refine vv_callSp X (mX1_isPeriod (kL K) D p) q2390 q2391 q137 q2392 nX1_isPeriod ⟨(Nat.le_of_ble_eq_true rfl), (Nat.le_of_ble_eq_true rfl)⟩ dX1_pointBest_7 rfl (Nat.le_of_ble_eq_true rfl) trivial ⟨(Nat.le_of_ble_eq_true rfl), (Nat.le_of_ble_eq_true rfl)⟩ ?_
  refine vx_cS X (xX1_checkArgument (kL K) D hl (nI 2 ≤ p ∧ p ≤ nI 99) (hp)) q1820 q1821 q137 q1822 nX1_checkArgument ⟨(Nat.le_of_ble_eq_true rfl), (Nat.le_of_ble_eq_true rfl)⟩ dX1_pointBest_10 rfl (Nat.le_of_ble_eq_true rfl) hK (fun _ z => z.elim) ⟨(Nat.le_of_ble_eq_true rfl), (Nat.le_of_ble_eq_true rfl)⟩ (fun Xn q H hq hz_ hk hXO => ?_) (fun v_ H hq hz_ hk => hq.elim)
  obtain rfl := hq
  exact vt_out X (fun x hx => (ht x hx).elim) hQ hXO (Nat.le_of_ble_eq_true rfl) (Nat.le_of_ble_eq_true rfl) rfl
set_option maxHeartbeats 800000 in
theorem xX1_mute (l : Launch) (D : DD) (hl : l.stackTraces = false) (u : Nat → Nat) (P T : Nat → Int32) (o : Nat) (g : Nat → Nat) (S : Nat → Int32) (pw : Option Nat) (c : Nat) (v0 v1 v2 v3 v5 v6 v7 : Value) (q b : Int32) (hC : VC P) (hV : VS S) (hq : ¬ ix (nM P) q) : Cx l yX1_mute cX1_mute 4 (some .boolean) { frames := 8, cells := 1, slots := 6, locals := 131 } D [.ref c, .int (q), .int (b)] (fun H => KH D H ∧ oB D H c 0 [v0, v1, v2, v3, .ref (g 0), v5, v6, v7] ∧ UR D u P T o H ∧ SR D g u P S pw H) (fun _ => False) (fun r H H1 => False) (fun Xn q H H1 => Xn = "java/lang/IndexOutOfBoundsException") := by
  refine Cx.of (by decide +kernel) (Nat.le_of_ble_eq_true rfl) (fun K Qf hkl X ht hM hQ => ?_)
  subst hkl
  obtain ⟨hK, hc, hU, hR⟩ := hM
  have hz : (kS K).heap.size ≤ (kS K).heap.size := Nat.le_refl _
  have hP := hC.v
  have l0 := hP.l0
  have l1 := hP.l1
  have l2 := hP.l2
  have l4 := hP.l4
  have l5 := hP.l5
  have l8 := hP.l8
  have l9 := hP.l9
  have l10 := hP.l10
  have l71 := hP.l71
  have l76 := hP.l76
  have l77 := hP.l77
  have hx1 := hC.x1
  have hy1 := hC.y1
  have ht1 := hC.t1
  have he1 := hC.e1
  have hm1 := hC.m1
  have hcc : nC P ≤ 144 := Nat.mul_le_mul l9 l10
  refine vv_sub (lv' := [(0, .ref c), (1, .int (q)), (2, .int (b))]) [0, 1, 2] rfl ?_
  refine vv_aload_n X dX1_mute_0 rfl 0 rfl ?_
  refine vv_iload_n X dX1_mute_1 rfl 1 rfl ?_
  refine vx_cV X (xX1_withMic (kL K) D hl u P T o g S pw c v0 v1 v2 v3 v5 v6 v7 q hC hV (hq)) q1793 q1795 qs35 q137 q1796 nX1_withMic ⟨(Nat.le_of_ble_eq_true rfl), (Nat.le_of_ble_eq_true rfl)⟩ dX1_mute_2 rfl (Nat.le_of_ble_eq_true rfl) (recv X hc CL_X1) ⟨hK, hc, hU, hR⟩ (fun _ z => z.elim) ⟨(Nat.le_of_ble_eq_true rfl), (Nat.le_of_ble_eq_true rfl)⟩ (fun Xn q H hq hz_ hk hXO => ?_) (fun v_ H hq hz_ hk => hq.elim)
  obtain rfl := hq
  exact vt_out X (fun x hx => (ht x hx).elim) hQ hXO (Nat.le_of_ble_eq_true rfl) (Nat.le_of_ble_eq_true rfl) rfl
set_option maxHeartbeats 800000 in
theorem xX1_bestWithout (l : Launch) (D : DD) (hl : l.stackTraces = false) (u : Nat → Nat) (P T : Nat → Int32) (o : Nat) (g : Nat → Nat) (S : Nat → Int32) (pw : Option Nat) (c : Nat) (v0 v1 v2 v3 v5 v6 v7 : Value) (q : Int32) (hC : VC P) (hV : VS S) (hq : ¬ ix (nM P) q) : Cx l yX1_bestWithout cX1_bestWithout 3 (some .int) { frames := 8, cells := 1, slots := 6, locals := 131 } D [.ref c, .int (q)] (fun H => KH D H ∧ oB D H c 0 [v0, v1, v2, v3, .ref (g 0), v5, v6, v7] ∧ UR D u P T o H ∧ SR D g u P S pw H) (fun _ => False) (fun r H H1 => False) (fun Xn q H H1 => Xn = "java/lang/IndexOutOfBoundsException") := by
  refine Cx.of (by decide +kernel) (Nat.le_of_ble_eq_true rfl) (fun K Qf hkl X ht hM hQ => ?_)
  subst hkl
  obtain ⟨hK, hc, hU, hR⟩ := hM
  have hz : (kS K).heap.size ≤ (kS K).heap.size := Nat.le_refl _
  have hP := hC.v
  have l0 := hP.l0
  have l1 := hP.l1
  have l2 := hP.l2
  have l4 := hP.l4
  have l5 := hP.l5
  have l8 := hP.l8
  have l9 := hP.l9
  have l10 := hP.l10
  have l71 := hP.l71
  have l76 := hP.l76
  have l77 := hP.l77
  have hx1 := hC.x1
  have hy1 := hC.y1
  have ht1 := hC.t1
  have he1 := hC.e1
  have hm1 := hC.m1
  have hcc : nC P ≤ 144 := Nat.mul_le_mul l9 l10
  refine vv_sub (lv' := [(0, .ref c), (1, .int (q))]) [0, 1] rfl ?_
  refine vv_aload_n X dX1_bestWithout_0 rfl 0 rfl ?_
  refine vv_iload_n X dX1_bestWithout_1 rfl 1 rfl ?_
  refine vx_cV X (xX1_withMic (kL K) D hl u P T o g S pw c v0 v1 v2 v3 v5 v6 v7 q hC hV (hq)) q1793 q1795 qs35 q137 q1796 nX1_withMic ⟨(Nat.le_of_ble_eq_true rfl), (Nat.le_of_ble_eq_true rfl)⟩ dX1_bestWithout_2 rfl (Nat.le_of_ble_eq_true rfl) (recv X hc CL_X1) ⟨hK, hc, hU, hR⟩ (fun _ z => z.elim) ⟨(Nat.le_of_ble_eq_true rfl), (Nat.le_of_ble_eq_true rfl)⟩ (fun Xn q H hq hz_ hk hXO => ?_) (fun v_ H hq hz_ hk => hq.elim)
  obtain rfl := hq
  exact vt_out X (fun x hx => (ht x hx).elim) hQ hXO (Nat.le_of_ble_eq_true rfl) (Nat.le_of_ble_eq_true rfl) rfl
set_option maxHeartbeats 800000 in
theorem xX1_bestIfOff (l : Launch) (D : DD) (hl : l.stackTraces = false) (u : Nat → Nat) (P T : Nat → Int32) (o : Nat) (g : Nat → Nat) (S : Nat → Int32) (pw : Option Nat) (c : Nat) (v0 v1 v2 v3 v5 v6 v7 : Value) (q : Int32) (hC : VC P) (hV : VS S) (hq : ¬ ix (nS P) q) : Cx l yX1_bestIfOff cX1_bestIfOff 3 (some .int) { frames := 8, cells := 1, slots := 6, locals := 131 } D [.ref c, .int (q)] (fun H => KH D H ∧ oB D H c 0 [v0, v1, v2, v3, .ref (g 0), v5, v6, v7] ∧ UR D u P T o H ∧ SR D g u P S pw H) (fun _ => False) (fun r H H1 => False) (fun Xn q H H1 => Xn = "java/lang/IndexOutOfBoundsException") := by
  refine Cx.of (by decide +kernel) (Nat.le_of_ble_eq_true rfl) (fun K Qf hkl X ht hM hQ => ?_)
  subst hkl
  obtain ⟨hK, hc, hU, hR⟩ := hM
  have hz : (kS K).heap.size ≤ (kS K).heap.size := Nat.le_refl _
  have hP := hC.v
  have l0 := hP.l0
  have l1 := hP.l1
  have l2 := hP.l2
  have l4 := hP.l4
  have l5 := hP.l5
  have l8 := hP.l8
  have l9 := hP.l9
  have l10 := hP.l10
  have l71 := hP.l71
  have l76 := hP.l76
  have l77 := hP.l77
  have hx1 := hC.x1
  have hy1 := hC.y1
  have ht1 := hC.t1
  have he1 := hC.e1
  have hm1 := hC.m1
  have hcc : nC P ≤ 144 := Nat.mul_le_mul l9 l10
  refine vv_sub (lv' := [(0, .ref c), (1, .int (q))]) [0, 1] rfl ?_
  refine vv_aload_n X dX1_bestIfOff_0 rfl 0 rfl ?_
  refine vv_iload_n X dX1_bestIfOff_1 rfl 1 rfl ?_
  refine vx_cV X (xX1_withSource (kL K) D hl u P T o g S pw c v0 v1 v2 v3 v5 v6 v7 q hC hV (hq)) q1858 q1860 qs38 q137 q1861 nX1_withSource ⟨(Nat.le_of_ble_eq_true rfl), (Nat.le_of_ble_eq_true rfl)⟩ dX1_bestIfOff_2 rfl (Nat.le_of_ble_eq_true rfl) (recv X hc CL_X1) ⟨hK, hc, hU, hR⟩ (fun _ z => z.elim) ⟨(Nat.le_of_ble_eq_true rfl), (Nat.le_of_ble_eq_true rfl)⟩ (fun Xn q H hq hz_ hk hXO => ?_) (fun v_ H hq hz_ hk => hq.elim)
  obtain rfl := hq
  exact vt_out X (fun x hx => (ht x hx).elim) hQ hXO (Nat.le_of_ble_eq_true rfl) (Nat.le_of_ble_eq_true rfl) rfl
set_option maxHeartbeats 800000 in
theorem xX1_setOn (l : Launch) (D : DD) (hl : l.stackTraces = false) (u : Nat → Nat) (P T : Nat → Int32) (o : Nat) (g : Nat → Nat) (S : Nat → Int32) (pw : Option Nat) (c : Nat) (v0 v1 v2 v3 v5 v6 v7 : Value) (q b : Int32) (hC : VC P) (hV : VS S) (hq : ¬ ix (nS P) q) : Cx l yX1_setOn cX1_setOn 4 (some .boolean) { frames := 8, cells := 1, slots := 6, locals := 131 } D [.ref c, .int (q), .int (b)] (fun H => KH D H ∧ oB D H c 0 [v0, v1, v2, v3, .ref (g 0), v5, v6, v7] ∧ UR D u P T o H ∧ SR D g u P S pw H) (fun _ => False) (fun r H H1 => False) (fun Xn q H H1 => Xn = "java/lang/IndexOutOfBoundsException") := by
  refine Cx.of (by decide +kernel) (Nat.le_of_ble_eq_true rfl) (fun K Qf hkl X ht hM hQ => ?_)
  subst hkl
  obtain ⟨hK, hc, hU, hR⟩ := hM
  have hz : (kS K).heap.size ≤ (kS K).heap.size := Nat.le_refl _
  have hP := hC.v
  have l0 := hP.l0
  have l1 := hP.l1
  have l2 := hP.l2
  have l4 := hP.l4
  have l5 := hP.l5
  have l8 := hP.l8
  have l9 := hP.l9
  have l10 := hP.l10
  have l71 := hP.l71
  have l76 := hP.l76
  have l77 := hP.l77
  have hx1 := hC.x1
  have hy1 := hC.y1
  have ht1 := hC.t1
  have he1 := hC.e1
  have hm1 := hC.m1
  have hcc : nC P ≤ 144 := Nat.mul_le_mul l9 l10
  refine vv_sub (lv' := [(0, .ref c), (1, .int (q)), (2, .int (b))]) [0, 1, 2] rfl ?_
  refine vv_aload_n X dX1_setOn_0 rfl 0 rfl ?_
  refine vv_iload_n X dX1_setOn_1 rfl 1 rfl ?_
  refine vx_cV X (xX1_withSource (kL K) D hl u P T o g S pw c v0 v1 v2 v3 v5 v6 v7 q hC hV (hq)) q1858 q1860 qs38 q137 q1861 nX1_withSource ⟨(Nat.le_of_ble_eq_true rfl), (Nat.le_of_ble_eq_true rfl)⟩ dX1_setOn_2 rfl (Nat.le_of_ble_eq_true rfl) (recv X hc CL_X1) ⟨hK, hc, hU, hR⟩ (fun _ z => z.elim) ⟨(Nat.le_of_ble_eq_true rfl), (Nat.le_of_ble_eq_true rfl)⟩ (fun Xn q H hq hz_ hk hXO => ?_) (fun v_ H hq hz_ hk => hq.elim)
  obtain rfl := hq
  exact vt_out X (fun x hx => (ht x hx).elim) hQ hXO (Nat.le_of_ble_eq_true rfl) (Nat.le_of_ble_eq_true rfl) rfl
set_option maxHeartbeats 800000 in
theorem xX1_setWeight (l : Launch) (D : DD) (hl : l.stackTraces = false) (u : Nat → Nat) (P T : Nat → Int32) (o : Nat) (g : Nat → Nat) (S : Nat → Int32) (pw : Option Nat) (c : Nat) (v0 v1 v2 v3 v5 v6 v7 : Value) (q b : Int32) (hC : VC P) (hV : VS S) (hq : ¬ ix (nM P) q) : Cx l yX1_setWeight cX1_setWeight 4 (some .int) { frames := 8, cells := 1, slots := 6, locals := 131 } D [.ref c, .int (q), .int (b)] (fun H => KH D H ∧ oB D H c 0 [v0, v1, v2, v3, .ref (g 0), v5, v6, v7] ∧ UR D u P T o H ∧ SR D g u P S pw H) (fun _ => False) (fun r H H1 => False) (fun Xn q H H1 => Xn = "java/lang/IndexOutOfBoundsException") := by
  refine Cx.of (by decide +kernel) (Nat.le_of_ble_eq_true rfl) (fun K Qf hkl X ht hM hQ => ?_)
  subst hkl
  obtain ⟨hK, hc, hU, hR⟩ := hM
  have hz : (kS K).heap.size ≤ (kS K).heap.size := Nat.le_refl _
  have hP := hC.v
  have l0 := hP.l0
  have l1 := hP.l1
  have l2 := hP.l2
  have l4 := hP.l4
  have l5 := hP.l5
  have l8 := hP.l8
  have l9 := hP.l9
  have l10 := hP.l10
  have l71 := hP.l71
  have l76 := hP.l76
  have l77 := hP.l77
  have hx1 := hC.x1
  have hy1 := hC.y1
  have ht1 := hC.t1
  have he1 := hC.e1
  have hm1 := hC.m1
  have hcc : nC P ≤ 144 := Nat.mul_le_mul l9 l10
  refine vv_sub (lv' := [(0, .ref c), (1, .int (q)), (2, .int (b))]) [0, 1, 2] rfl ?_
  refine vv_aload_n X dX1_setWeight_0 rfl 0 rfl ?_
  refine vv_iload_n X dX1_setWeight_1 rfl 1 rfl ?_
  refine vx_cV X (xX1_withMic (kL K) D hl u P T o g S pw c v0 v1 v2 v3 v5 v6 v7 q hC hV (hq)) q1793 q1795 qs35 q137 q1796 nX1_withMic ⟨(Nat.le_of_ble_eq_true rfl), (Nat.le_of_ble_eq_true rfl)⟩ dX1_setWeight_2 rfl (Nat.le_of_ble_eq_true rfl) (recv X hc CL_X1) ⟨hK, hc, hU, hR⟩ (fun _ z => z.elim) ⟨(Nat.le_of_ble_eq_true rfl), (Nat.le_of_ble_eq_true rfl)⟩ (fun Xn q H hq hz_ hk hXO => ?_) (fun v_ H hq hz_ hk => hq.elim)
  obtain rfl := hq
  exact vt_out X (fun x hx => (ht x hx).elim) hQ hXO (Nat.le_of_ble_eq_true rfl) (Nat.le_of_ble_eq_true rfl) rfl
set_option maxHeartbeats 800000 in
theorem xX1_moveSource (l : Launch) (D : DD) (hl : l.stackTraces = false) (u : Nat → Nat) (P T : Nat → Int32) (o : Nat) (g : Nat → Nat) (S : Nat → Int32) (pw : Option Nat) (c : Nat) (v0 v1 v2 v3 v5 v6 v7 : Value) (q x y : Int32) (hC : VC P) (hV : VS S) (hq : ¬ ix (nS P) q) : Cx l yX1_moveSource cX1_moveSource 5 (some .int) { frames := 8, cells := 1, slots := 6, locals := 131 } D [.ref c, .int (q), .int (x), .int (y)] (fun H => KH D H ∧ oB D H c 0 [v0, v1, v2, v3, .ref (g 0), v5, v6, v7] ∧ UR D u P T o H ∧ SR D g u P S pw H) (fun _ => False) (fun r H H1 => False) (fun Xn q H H1 => Xn = "java/lang/IndexOutOfBoundsException") := by
  refine Cx.of (by decide +kernel) (Nat.le_of_ble_eq_true rfl) (fun K Qf hkl X ht hM hQ => ?_)
  subst hkl
  obtain ⟨hK, hc, hU, hR⟩ := hM
  have hz : (kS K).heap.size ≤ (kS K).heap.size := Nat.le_refl _
  have hP := hC.v
  have l0 := hP.l0
  have l1 := hP.l1
  have l2 := hP.l2
  have l4 := hP.l4
  have l5 := hP.l5
  have l8 := hP.l8
  have l9 := hP.l9
  have l10 := hP.l10
  have l71 := hP.l71
  have l76 := hP.l76
  have l77 := hP.l77
  have hx1 := hC.x1
  have hy1 := hC.y1
  have ht1 := hC.t1
  have he1 := hC.e1
  have hm1 := hC.m1
  have hcc : nC P ≤ 144 := Nat.mul_le_mul l9 l10
  refine vv_sub (lv' := [(0, .ref c), (1, .int (q)), (2, .int (x)), (3, .int (y))]) [0, 1, 2, 3] rfl ?_
  refine vv_aload_n X dX1_moveSource_0 rfl 0 rfl ?_
  refine vv_iload_n X dX1_moveSource_1 rfl 1 rfl ?_
  refine vx_cV X (xX1_withSource (kL K) D hl u P T o g S pw c v0 v1 v2 v3 v5 v6 v7 q hC hV (hq)) q1858 q1860 qs38 q137 q1861 nX1_withSource ⟨(Nat.le_of_ble_eq_true rfl), (Nat.le_of_ble_eq_true rfl)⟩ dX1_moveSource_2 rfl (Nat.le_of_ble_eq_true rfl) (recv X hc CL_X1) ⟨hK, hc, hU, hR⟩ (fun _ z => z.elim) ⟨(Nat.le_of_ble_eq_true rfl), (Nat.le_of_ble_eq_true rfl)⟩ (fun Xn q H hq hz_ hk hXO => ?_) (fun v_ H hq hz_ hk => hq.elim)
  obtain rfl := hq
  exact vt_out X (fun x hx => (ht x hx).elim) hQ hXO (Nat.le_of_ble_eq_true rfl) (Nat.le_of_ble_eq_true rfl) rfl
set_option maxHeartbeats 800000 in
theorem xX1_setVelocity (l : Launch) (D : DD) (hl : l.stackTraces = false) (u : Nat → Nat) (P T : Nat → Int32) (o : Nat) (g : Nat → Nat) (S : Nat → Int32) (pw : Option Nat) (c : Nat) (v0 v1 v2 v3 v5 v6 v7 : Value) (q x y : Int32) (hC : VC P) (hV : VS S) (hq : ¬ ix (nS P) q) : Cx l yX1_setVelocity cX1_setVelocity 5 (some .int) { frames := 8, cells := 1, slots := 6, locals := 131 } D [.ref c, .int (q), .int (x), .int (y)] (fun H => KH D H ∧ oB D H c 0 [v0, v1, v2, v3, .ref (g 0), v5, v6, v7] ∧ UR D u P T o H ∧ SR D g u P S pw H) (fun _ => False) (fun r H H1 => False) (fun Xn q H H1 => Xn = "java/lang/IndexOutOfBoundsException") := by
  refine Cx.of (by decide +kernel) (Nat.le_of_ble_eq_true rfl) (fun K Qf hkl X ht hM hQ => ?_)
  subst hkl
  obtain ⟨hK, hc, hU, hR⟩ := hM
  have hz : (kS K).heap.size ≤ (kS K).heap.size := Nat.le_refl _
  have hP := hC.v
  have l0 := hP.l0
  have l1 := hP.l1
  have l2 := hP.l2
  have l4 := hP.l4
  have l5 := hP.l5
  have l8 := hP.l8
  have l9 := hP.l9
  have l10 := hP.l10
  have l71 := hP.l71
  have l76 := hP.l76
  have l77 := hP.l77
  have hx1 := hC.x1
  have hy1 := hC.y1
  have ht1 := hC.t1
  have he1 := hC.e1
  have hm1 := hC.m1
  have hcc : nC P ≤ 144 := Nat.mul_le_mul l9 l10
  refine vv_sub (lv' := [(0, .ref c), (1, .int (q)), (2, .int (x)), (3, .int (y))]) [0, 1, 2, 3] rfl ?_
  refine vv_aload_n X dX1_setVelocity_0 rfl 0 rfl ?_
  refine vv_iload_n X dX1_setVelocity_1 rfl 1 rfl ?_
  refine vx_cV X (xX1_withSource (kL K) D hl u P T o g S pw c v0 v1 v2 v3 v5 v6 v7 q hC hV (hq)) q1858 q1860 qs38 q137 q1861 nX1_withSource ⟨(Nat.le_of_ble_eq_true rfl), (Nat.le_of_ble_eq_true rfl)⟩ dX1_setVelocity_2 rfl (Nat.le_of_ble_eq_true rfl) (recv X hc CL_X1) ⟨hK, hc, hU, hR⟩ (fun _ z => z.elim) ⟨(Nat.le_of_ble_eq_true rfl), (Nat.le_of_ble_eq_true rfl)⟩ (fun Xn q H hq hz_ hk hXO => ?_) (fun v_ H hq hz_ hk => hq.elim)
  obtain rfl := hq
  exact vt_out X (fun x hx => (ht x hx).elim) hQ hXO (Nat.le_of_ble_eq_true rfl) (Nat.le_of_ble_eq_true rfl) rfl
set_option maxHeartbeats 800000 in
theorem xX1_micAt (l : Launch) (D : DD) (hl : l.stackTraces = false) (u : Nat → Nat) (P T : Nat → Int32) (o : Nat) (g : Nat → Nat) (S : Nat → Int32) (pw : Option Nat) (c : Nat) (v0 v1 v2 v3 v5 v6 v7 : Value) (q b : Int32) (hC : VC P) (hV : VS S) (hq : ¬ ix (nM P) q) : Cx l yX1_micAt cX1_micAt 4 (some .int) { frames := 8, cells := 1, slots := 6, locals := 131 } D [.ref c, .int (q), .int (b)] (fun H => KH D H ∧ oB D H c 0 [v0, v1, v2, v3, .ref (g 0), v5, v6, v7] ∧ UR D u P T o H ∧ SR D g u P S pw H) (fun _ => False) (fun r H H1 => False) (fun Xn q H H1 => Xn = "java/lang/IndexOutOfBoundsException") := by
  refine Cx.of (by decide +kernel) (Nat.le_of_ble_eq_true rfl) (fun K Qf hkl X ht hM hQ => ?_)
  subst hkl
  obtain ⟨hK, hc, hU, hR⟩ := hM
  have hz : (kS K).heap.size ≤ (kS K).heap.size := Nat.le_refl _
  have hP := hC.v
  have l0 := hP.l0
  have l1 := hP.l1
  have l2 := hP.l2
  have l4 := hP.l4
  have l5 := hP.l5
  have l8 := hP.l8
  have l9 := hP.l9
  have l10 := hP.l10
  have l71 := hP.l71
  have l76 := hP.l76
  have l77 := hP.l77
  have hx1 := hC.x1
  have hy1 := hC.y1
  have ht1 := hC.t1
  have he1 := hC.e1
  have hm1 := hC.m1
  have hcc : nC P ≤ 144 := Nat.mul_le_mul l9 l10
  refine vv_sub (lv' := [(0, .ref c), (1, .int (q)), (2, .int (b))]) [0, 1, 2] rfl ?_
  refine vv_aload_n X dX1_micAt_0 rfl 0 rfl ?_
  refine vv_iload_n X dX1_micAt_1 rfl 1 rfl ?_
  refine vx_cV X (xX1_withMic (kL K) D hl u P T o g S pw c v0 v1 v2 v3 v5 v6 v7 q hC hV (hq)) q1793 q1795 qs35 q137 q1796 nX1_withMic ⟨(Nat.le_of_ble_eq_true rfl), (Nat.le_of_ble_eq_true rfl)⟩ dX1_micAt_2 rfl (Nat.le_of_ble_eq_true rfl) (recv X hc CL_X1) ⟨hK, hc, hU, hR⟩ (fun _ z => z.elim) ⟨(Nat.le_of_ble_eq_true rfl), (Nat.le_of_ble_eq_true rfl)⟩ (fun Xn q H hq hz_ hk hXO => ?_) (fun v_ H hq hz_ hk => hq.elim)
  obtain rfl := hq
  exact vt_out X (fun x hx => (ht x hx).elim) hQ hXO (Nat.le_of_ble_eq_true rfl) (Nat.le_of_ble_eq_true rfl) rfl
set_option maxHeartbeats 800000 in
theorem xX1_sourceAt (l : Launch) (D : DD) (hl : l.stackTraces = false) (u : Nat → Nat) (P T : Nat → Int32) (o : Nat) (g : Nat → Nat) (S : Nat → Int32) (pw : Option Nat) (c : Nat) (v0 v1 v2 v3 v5 v6 v7 : Value) (q x y : Int32) (hC : VC P) (hV : VS S) (hq : ¬ ix (nS P) q) : Cx l yX1_sourceAt cX1_sourceAt 4 (some .int) { frames := 8, cells := 1, slots := 6, locals := 131 } D [.ref c, .int (q), .int (x), .int (y)] (fun H => KH D H ∧ oB D H c 0 [v0, v1, v2, v3, .ref (g 0), v5, v6, v7] ∧ UR D u P T o H ∧ SR D g u P S pw H) (fun _ => False) (fun r H H1 => False) (fun Xn q H H1 => Xn = "java/lang/IndexOutOfBoundsException") := by
  refine Cx.of (by decide +kernel) (Nat.le_of_ble_eq_true rfl) (fun K Qf hkl X ht hM hQ => ?_)
  subst hkl
  obtain ⟨hK, hc, hU, hR⟩ := hM
  have hz : (kS K).heap.size ≤ (kS K).heap.size := Nat.le_refl _
  have hP := hC.v
  have l0 := hP.l0
  have l1 := hP.l1
  have l2 := hP.l2
  have l4 := hP.l4
  have l5 := hP.l5
  have l8 := hP.l8
  have l9 := hP.l9
  have l10 := hP.l10
  have l71 := hP.l71
  have l76 := hP.l76
  have l77 := hP.l77
  have hx1 := hC.x1
  have hy1 := hC.y1
  have ht1 := hC.t1
  have he1 := hC.e1
  have hm1 := hC.m1
  have hcc : nC P ≤ 144 := Nat.mul_le_mul l9 l10
  refine vv_sub (lv' := [(0, .ref c), (1, .int (q)), (2, .int (x)), (3, .int (y))]) [0, 1, 2, 3] rfl ?_
  refine vv_aload_n X dX1_sourceAt_0 rfl 0 rfl ?_
  refine vv_iload_n X dX1_sourceAt_1 rfl 1 rfl ?_
  refine vx_cV X (xX1_withSource (kL K) D hl u P T o g S pw c v0 v1 v2 v3 v5 v6 v7 q hC hV (hq)) q1858 q1860 qs38 q137 q1861 nX1_withSource ⟨(Nat.le_of_ble_eq_true rfl), (Nat.le_of_ble_eq_true rfl)⟩ dX1_sourceAt_2 rfl (Nat.le_of_ble_eq_true rfl) (recv X hc CL_X1) ⟨hK, hc, hU, hR⟩ (fun _ z => z.elim) ⟨(Nat.le_of_ble_eq_true rfl), (Nat.le_of_ble_eq_true rfl)⟩ (fun Xn q H hq hz_ hk hXO => ?_) (fun v_ H hq hz_ hk => hq.elim)
  obtain rfl := hq
  exact vt_out X (fun x hx => (ht x hx).elim) hQ hXO (Nat.le_of_ble_eq_true rfl) (Nat.le_of_ble_eq_true rfl) rfl
set_option maxHeartbeats 800000 in
theorem xX1_bestVelocity (l : Launch) (D : DD) (hl : l.stackTraces = false) (u : Nat → Nat) (P T : Nat → Int32) (o : Nat) (g : Nat → Nat) (S : Nat → Int32) (pw : Option Nat) (c : Nat) (v0 v1 v2 v3 v5 v6 v7 : Value) (q x y : Int32) (hC : VC P) (hV : VS S) (hq : ¬ ix (nC P) q) : Cx l yX1_bestVelocity cX1_bestVelocity 7 (some .int) { frames := 8, cells := 1, slots := 6, locals := 131 } D [.ref c, .int (q), .int (x), .int (y)] (fun H => KH D H ∧ oB D H c 0 [v0, v1, v2, v3, .ref (g 0), v5, v6, v7] ∧ UR D u P T o H ∧ SR D g u P S pw H) (fun _ => False) (fun r H H1 => False) (fun Xn q H H1 => Xn = "java/lang/IndexOutOfBoundsException") := by
  refine Cx.of (by decide +kernel) (Nat.le_of_ble_eq_true rfl) (fun K Qf hkl X ht hM hQ => ?_)
  subst hkl
  obtain ⟨hK, hc, hU, hR⟩ := hM
  have hz : (kS K).heap.size ≤ (kS K).heap.size := Nat.le_refl _
  have hP := hC.v
  have l0 := hP.l0
  have l1 := hP.l1
  have l2 := hP.l2
  have l4 := hP.l4
  have l5 := hP.l5
  have l8 := hP.l8
  have l9 := hP.l9
  have l10 := hP.l10
  have l71 := hP.l71
  have l76 := hP.l76
  have l77 := hP.l77
  have hx1 := hC.x1
  have hy1 := hC.y1
  have ht1 := hC.t1
  have he1 := hC.e1
  have hm1 := hC.m1
  have hcc : nC P ≤ 144 := Nat.mul_le_mul l9 l10
  refine vv_sub (lv' := [(0, .ref c), (1, .int (q)), (2, .int (x)), (3, .int (y))]) [0, 1, 2, 3] rfl ?_
  refine vv_aload_n X dX1_bestVelocity_0 rfl 0 rfl ?_
  refine vv_iload_n X dX1_bestVelocity_1 rfl 1 rfl ?_
  refine vx_cV X (xX1_withCell (kL K) D hl u P T o g S pw c v0 v1 v2 v3 v5 v6 v7 q hC hV (hq)) q1845 q1847 qs37 q137 q1848 nX1_withCell ⟨(Nat.le_of_ble_eq_true rfl), (Nat.le_of_ble_eq_true rfl)⟩ dX1_bestVelocity_2 rfl (Nat.le_of_ble_eq_true rfl) (recv X hc CL_X1) ⟨hK, hc, hU, hR⟩ (fun _ z => z.elim) ⟨(Nat.le_of_ble_eq_true rfl), (Nat.le_of_ble_eq_true rfl)⟩ (fun Xn q H hq hz_ hk hXO => ?_) (fun v_ H hq hz_ hk => hq.elim)
  obtain rfl := hq
  exact vt_out X (fun x hx => (ht x hx).elim) hQ hXO (Nat.le_of_ble_eq_true rfl) (Nat.le_of_ble_eq_true rfl) rfl
set_option maxHeartbeats 800000 in
theorem xX1_loudest (l : Launch) (D : DD) (hl : l.stackTraces = false) (u : Nat → Nat) (P T : Nat → Int32) (o : Nat) (g : Nat → Nat) (S : Nat → Int32) (pw : Option Nat) (c : Nat) (v0 v1 v2 v3 v5 v6 v7 : Value) (q : Int32) (hC : VC P) (hV : VS S) (hq : ¬ ix (nM P) q) : Cx l yX1_loudest cX1_loudest 3 (some .int) { frames := 8, cells := 1, slots := 6, locals := 131 } D [.ref c, .int (q)] (fun H => KH D H ∧ oB D H c 0 [v0, v1, v2, v3, .ref (g 0), v5, v6, v7] ∧ UR D u P T o H ∧ SR D g u P S pw H) (fun _ => False) (fun r H H1 => False) (fun Xn q H H1 => Xn = "java/lang/IndexOutOfBoundsException") := by
  refine Cx.of (by decide +kernel) (Nat.le_of_ble_eq_true rfl) (fun K Qf hkl X ht hM hQ => ?_)
  subst hkl
  obtain ⟨hK, hc, hU, hR⟩ := hM
  have hz : (kS K).heap.size ≤ (kS K).heap.size := Nat.le_refl _
  have hP := hC.v
  have l0 := hP.l0
  have l1 := hP.l1
  have l2 := hP.l2
  have l4 := hP.l4
  have l5 := hP.l5
  have l8 := hP.l8
  have l9 := hP.l9
  have l10 := hP.l10
  have l71 := hP.l71
  have l76 := hP.l76
  have l77 := hP.l77
  have hx1 := hC.x1
  have hy1 := hC.y1
  have ht1 := hC.t1
  have he1 := hC.e1
  have hm1 := hC.m1
  have hcc : nC P ≤ 144 := Nat.mul_le_mul l9 l10
  refine vv_sub (lv' := [(0, .ref c), (1, .int (q))]) [0, 1] rfl ?_
  refine vv_aload_n X dX1_loudest_0 rfl 0 rfl ?_
  refine vv_iload_n X dX1_loudest_1 rfl 1 rfl ?_
  refine vx_cV X (xX1_withMic (kL K) D hl u P T o g S pw c v0 v1 v2 v3 v5 v6 v7 q hC hV (hq)) q1793 q1795 qs35 q137 q1796 nX1_withMic ⟨(Nat.le_of_ble_eq_true rfl), (Nat.le_of_ble_eq_true rfl)⟩ dX1_loudest_2 rfl (Nat.le_of_ble_eq_true rfl) (recv X hc CL_X1) ⟨hK, hc, hU, hR⟩ (fun _ z => z.elim) ⟨(Nat.le_of_ble_eq_true rfl), (Nat.le_of_ble_eq_true rfl)⟩ (fun Xn q H hq hz_ hk hXO => ?_) (fun v_ H hq hz_ hk => hq.elim)
  obtain rfl := hq
  exact vt_out X (fun x hx => (ht x hx).elim) hQ hXO (Nat.le_of_ble_eq_true rfl) (Nat.le_of_ble_eq_true rfl) rfl
set_option maxHeartbeats 800000 in
theorem xX1_trackScore (l : Launch) (D : DD) (hl : l.stackTraces = false) (u : Nat → Nat) (P T : Nat → Int32) (o : Nat) (g : Nat → Nat) (S : Nat → Int32) (pw : Option Nat) (c : Nat) (v0 v1 v2 v3 v5 v6 v7 : Value) (q : Int32) (hC : VC P) (hV : VS S) (hp : ¬ (nI 4 ≤ q ∧ q ≤ nI (nT P))) : Cx l yX1_trackScore cX1_trackScore 3 (some .long) { frames := 8, cells := 1, slots := 6, locals := 130 } D [.ref c, .int (q)] (fun H => KH D H ∧ oB D H c 0 [v0, v1, v2, v3, .ref (g 0), v5, v6, v7] ∧ UR D u P T o H ∧ SR D g u P S pw H) (fun _ => False) (fun r H H1 => False) (fun Xn q H H1 => Xn = "java/lang/IllegalArgumentException") := by
  refine Cx.of (by decide +kernel) (Nat.le_of_ble_eq_true rfl) (fun K Qf hkl X ht hM hQ => ?_)
  subst hkl
  obtain ⟨hK, hc, hU, hR⟩ := hM
  have hz : (kS K).heap.size ≤ (kS K).heap.size := Nat.le_refl _
  have hP := hC.v
  have l0 := hP.l0
  have l1 := hP.l1
  have l2 := hP.l2
  have l4 := hP.l4
  have l5 := hP.l5
  have l8 := hP.l8
  have l9 := hP.l9
  have l10 := hP.l10
  have l71 := hP.l71
  have l76 := hP.l76
  have l77 := hP.l77
  have hx1 := hC.x1
  have hy1 := hC.y1
  have ht1 := hC.t1
  have he1 := hC.e1
  have hm1 := hC.m1
  have hcc : nC P ≤ 144 := Nat.mul_le_mul l9 l10
  refine vv_sub (lv' := [(0, .ref c), (1, .int (q))]) [0, 1] rfl ?_
  refine vv_aload_n X dX1_trackScore_0 rfl 0 rfl ?_
  refine vv_iload_n X dX1_trackScore_1 rfl 1 rfl ?_
  refine vx_cV X (xX1_checkLength (kL K) D hl u P T o g S pw c v0 v1 v2 v3 v5 v6 v7 q hC hV (hp)) q2487 q2489 qs51 q137 q2490 nX1_checkLength ⟨(Nat.le_of_ble_eq_true rfl), (Nat.le_of_ble_eq_true rfl)⟩ dX1_trackScore_2 rfl (Nat.le_of_ble_eq_true rfl) (recv X hc CL_X1) ⟨hK, hc, hU, hR⟩ (fun _ z => z.elim) ⟨(Nat.le_of_ble_eq_true rfl), (Nat.le_of_ble_eq_true rfl)⟩ (fun Xn q H hq hz_ hk hXO => ?_) (fun v_ H hq hz_ hk => hq.elim)
  obtain rfl := hq
  exact vt_out X (fun x hx => (ht x hx).elim) hQ hXO (Nat.le_of_ble_eq_true rfl) (Nat.le_of_ble_eq_true rfl) rfl
set_option maxHeartbeats 800000 in
theorem xX1_trackCell (l : Launch) (D : DD) (hl : l.stackTraces = false) (u : Nat → Nat) (P T : Nat → Int32) (o : Nat) (g : Nat → Nat) (S : Nat → Int32) (pw : Option Nat) (c : Nat) (v0 v1 v2 v3 v5 v6 v7 : Value) (q b : Int32) (hC : VC P) (hV : VS S) (hp : ¬ (nI 4 ≤ q ∧ q ≤ nI (nT P))) : Cx l yX1_trackCell cX1_trackCell 6 (some .int) { frames := 8, cells := 1, slots := 6, locals := 130 } D [.ref c, .int (q), .int (b)] (fun H => KH D H ∧ oB D H c 0 [v0, v1, v2, v3, .ref (g 0), v5, v6, v7] ∧ UR D u P T o H ∧ SR D g u P S pw H) (fun _ => False) (fun r H H1 => False) (fun Xn q H H1 => Xn = "java/lang/IllegalArgumentException") := by
  refine Cx.of (by decide +kernel) (Nat.le_of_ble_eq_true rfl) (fun K Qf hkl X ht hM hQ => ?_)
  subst hkl
  obtain ⟨hK, hc, hU, hR⟩ := hM
  have hz : (kS K).heap.size ≤ (kS K).heap.size := Nat.le_refl _
  have hP := hC.v
  have l0 := hP.l0
  have l1 := hP.l1
  have l2 := hP.l2
  have l4 := hP.l4
  have l5 := hP.l5
  have l8 := hP.l8
  have l9 := hP.l9
  have l10 := hP.l10
  have l71 := hP.l71
  have l76 := hP.l76
  have l77 := hP.l77
  have hx1 := hC.x1
  have hy1 := hC.y1
  have ht1 := hC.t1
  have he1 := hC.e1
  have hm1 := hC.m1
  have hcc : nC P ≤ 144 := Nat.mul_le_mul l9 l10
  refine vv_sub (lv' := [(0, .ref c), (1, .int (q)), (2, .int (b))]) [0, 1, 2] rfl ?_
  refine vv_aload_n X dX1_trackCell_0 rfl 0 rfl ?_
  refine vv_iload_n X dX1_trackCell_1 rfl 1 rfl ?_
  refine vx_cV X (xX1_checkLength (kL K) D hl u P T o g S pw c v0 v1 v2 v3 v5 v6 v7 q hC hV (hp)) q2487 q2489 qs51 q137 q2490 nX1_checkLength ⟨(Nat.le_of_ble_eq_true rfl), (Nat.le_of_ble_eq_true rfl)⟩ dX1_trackCell_2 rfl (Nat.le_of_ble_eq_true rfl) (recv X hc CL_X1) ⟨hK, hc, hU, hR⟩ (fun _ z => z.elim) ⟨(Nat.le_of_ble_eq_true rfl), (Nat.le_of_ble_eq_true rfl)⟩ (fun Xn q H hq hz_ hk hXO => ?_) (fun v_ H hq hz_ hk => hq.elim)
  obtain rfl := hq
  exact vt_out X (fun x hx => (ht x hx).elim) hQ hXO (Nat.le_of_ble_eq_true rfl) (Nat.le_of_ble_eq_true rfl) rfl
