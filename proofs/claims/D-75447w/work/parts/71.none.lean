/-! AcousticCamera without a camera: printed by gen/s18.py -/
set_option maxRecDepth 100000
set_option maxHeartbeats 800000 in
theorem zX1_withMic (l : Launch) (D : DD) (hl : l.stackTraces = false) (c : Nat) (v0 v1 v2 v3 v5 v6 v7 : Value) (q0 : Int32)  : Cx l yX1_withMic cX1_withMic 2 (some (.object "AcousticCamera$State")) { frames := 8, cells := 1, slots := 6, locals := 129 } D [.ref c, .int (q0)] (fun H => KH D H ∧ oB D H c 0 [v0, v1, v2, v3, .null, v5, v6, v7]) (fun _ => False) (fun r H H1 => False) (fun Xn q H H1 => Xn = "java/lang/IllegalStateException") := by
  refine Cx.of (by decide +kernel) (Nat.le_of_ble_eq_true rfl) (fun K Qf hkl X ht hM hQ => ?_)
  subst hkl
  obtain ⟨hK, hc⟩ := hM
  have hz : (kS K).heap.size ≤ (kS K).heap.size := Nat.le_refl _
  refine vv_sub (lv' := [(0, .ref c), (1, .int (q0))]) [0, 1] rfl ?_
  refine vv_iload_n X dX1_withMic_0 rfl 1 rfl ?_
  refine vv_aload_n X dX1_withMic_1 rfl 0 rfl ?_
  refine vx_cV X (zX1_there (kL K) D hl c v0 v1 v2 v3 v5 v6 v7 ) q1797 q1799 qs36 q137 q1800 nX1_there ⟨(Nat.le_of_ble_eq_true rfl), (Nat.le_of_ble_eq_true rfl)⟩ dX1_withMic_2 rfl (Nat.le_of_ble_eq_true rfl) (recv X hc CL_X1) ⟨hK, hc⟩ (fun _ z => z.elim) ⟨(Nat.le_of_ble_eq_true rfl), (Nat.le_of_ble_eq_true rfl)⟩ (fun Xn q H hq hz_ hk hXO => ?_) (fun v_ H hq hz_ hk => hq.elim)
  obtain rfl := hq
  exact vt_out X (fun x hx => (ht x hx).elim) hQ hXO (Nat.le_of_ble_eq_true rfl) (Nat.le_of_ble_eq_true rfl) rfl
set_option maxHeartbeats 800000 in
theorem zX1_withCell (l : Launch) (D : DD) (hl : l.stackTraces = false) (c : Nat) (v0 v1 v2 v3 v5 v6 v7 : Value) (q0 : Int32)  : Cx l yX1_withCell cX1_withCell 2 (some (.object "AcousticCamera$State")) { frames := 8, cells := 1, slots := 6, locals := 129 } D [.ref c, .int (q0)] (fun H => KH D H ∧ oB D H c 0 [v0, v1, v2, v3, .null, v5, v6, v7]) (fun _ => False) (fun r H H1 => False) (fun Xn q H H1 => Xn = "java/lang/IllegalStateException") := by
  refine Cx.of (by decide +kernel) (Nat.le_of_ble_eq_true rfl) (fun K Qf hkl X ht hM hQ => ?_)
  subst hkl
  obtain ⟨hK, hc⟩ := hM
  have hz : (kS K).heap.size ≤ (kS K).heap.size := Nat.le_refl _
  refine vv_sub (lv' := [(0, .ref c), (1, .int (q0))]) [0, 1] rfl ?_
  refine vv_iload_n X dX1_withCell_0 rfl 1 rfl ?_
  refine vv_aload_n X dX1_withCell_1 rfl 0 rfl ?_
  refine vx_cV X (zX1_there (kL K) D hl c v0 v1 v2 v3 v5 v6 v7 ) q1797 q1799 qs36 q137 q1800 nX1_there ⟨(Nat.le_of_ble_eq_true rfl), (Nat.le_of_ble_eq_true rfl)⟩ dX1_withCell_2 rfl (Nat.le_of_ble_eq_true rfl) (recv X hc CL_X1) ⟨hK, hc⟩ (fun _ z => z.elim) ⟨(Nat.le_of_ble_eq_true rfl), (Nat.le_of_ble_eq_true rfl)⟩ (fun Xn q H hq hz_ hk hXO => ?_) (fun v_ H hq hz_ hk => hq.elim)
  obtain rfl := hq
  exact vt_out X (fun x hx => (ht x hx).elim) hQ hXO (Nat.le_of_ble_eq_true rfl) (Nat.le_of_ble_eq_true rfl) rfl
set_option maxHeartbeats 800000 in
theorem zX1_withSource (l : Launch) (D : DD) (hl : l.stackTraces = false) (c : Nat) (v0 v1 v2 v3 v5 v6 v7 : Value) (q0 : Int32)  : Cx l yX1_withSource cX1_withSource 2 (some (.object "AcousticCamera$State")) { frames := 8, cells := 1, slots := 6, locals := 129 } D [.ref c, .int (q0)] (fun H => KH D H ∧ oB D H c 0 [v0, v1, v2, v3, .null, v5, v6, v7]) (fun _ => False) (fun r H H1 => False) (fun Xn q H H1 => Xn = "java/lang/IllegalStateException") := by
  refine Cx.of (by decide +kernel) (Nat.le_of_ble_eq_true rfl) (fun K Qf hkl X ht hM hQ => ?_)
  subst hkl
  obtain ⟨hK, hc⟩ := hM
  have hz : (kS K).heap.size ≤ (kS K).heap.size := Nat.le_refl _
  refine vv_sub (lv' := [(0, .ref c), (1, .int (q0))]) [0, 1] rfl ?_
  refine vv_iload_n X dX1_withSource_0 rfl 1 rfl ?_
  refine vv_aload_n X dX1_withSource_1 rfl 0 rfl ?_
  refine vx_cV X (zX1_there (kL K) D hl c v0 v1 v2 v3 v5 v6 v7 ) q1797 q1799 qs36 q137 q1800 nX1_there ⟨(Nat.le_of_ble_eq_true rfl), (Nat.le_of_ble_eq_true rfl)⟩ dX1_withSource_2 rfl (Nat.le_of_ble_eq_true rfl) (recv X hc CL_X1) ⟨hK, hc⟩ (fun _ z => z.elim) ⟨(Nat.le_of_ble_eq_true rfl), (Nat.le_of_ble_eq_true rfl)⟩ (fun Xn q H hq hz_ hk hXO => ?_) (fun v_ H hq hz_ hk => hq.elim)
  obtain rfl := hq
  exact vt_out X (fun x hx => (ht x hx).elim) hQ hXO (Nat.le_of_ble_eq_true rfl) (Nat.le_of_ble_eq_true rfl) rfl
set_option maxHeartbeats 800000 in
theorem zX1_withMics (l : Launch) (D : DD) (hl : l.stackTraces = false) (c : Nat) (v0 v1 v2 v3 v5 v6 v7 : Value) (q0 q1 : Int32)  : Cx l yX1_withMics cX1_withMics 3 (some (.object "AcousticCamera$State")) { frames := 9, cells := 1, slots := 6, locals := 150 } D [.ref c, .int (q0), .int (q1)] (fun H => KH D H ∧ oB D H c 0 [v0, v1, v2, v3, .null, v5, v6, v7]) (fun _ => False) (fun r H H1 => False) (fun Xn q H H1 => Xn = "java/lang/IllegalStateException") := by
  refine Cx.of (by decide +kernel) (Nat.le_of_ble_eq_true rfl) (fun K Qf hkl X ht hM hQ => ?_)
  subst hkl
  obtain ⟨hK, hc⟩ := hM
  have hz : (kS K).heap.size ≤ (kS K).heap.size := Nat.le_refl _
  refine vv_sub (lv' := [(0, .ref c), (1, .int (q0)), (2, .int (q1))]) [0, 1, 2] rfl ?_
  refine vv_aload_n X dX1_withMics_0 rfl 0 rfl ?_
  refine vv_iload_n X dX1_withMics_1 rfl 1 rfl ?_
  refine vx_cV X (zX1_withMic (kL K) D hl c v0 v1 v2 v3 v5 v6 v7 q0) q1793 q1795 qs35 q137 q1796 nX1_withMic ⟨(Nat.le_of_ble_eq_true rfl), (Nat.le_of_ble_eq_true rfl)⟩ dX1_withMics_2 rfl (Nat.le_of_ble_eq_true rfl) (recv X hc CL_X1) ⟨hK, hc⟩ (fun _ z => z.elim) ⟨(Nat.le_of_ble_eq_true rfl), (Nat.le_of_ble_eq_true rfl)⟩ (fun Xn q H hq hz_ hk hXO => ?_) (fun v_ H hq hz_ hk => hq.elim)
  obtain rfl := hq
  exact vt_out X (fun x hx => (ht x hx).elim) hQ hXO (Nat.le_of_ble_eq_true rfl) (Nat.le_of_ble_eq_true rfl) rfl
theorem nX1_withCells : notMH yX1_withCells 2 := by decide +kernel
set_option maxHeartbeats 800000 in
theorem zX1_withCells (l : Launch) (D : DD) (hl : l.stackTraces = false) (c : Nat) (v0 v1 v2 v3 v5 v6 v7 : Value) (q0 q1 : Int32)  : Cx l yX1_withCells cX1_withCells 3 (some (.object "AcousticCamera$State")) { frames := 9, cells := 1, slots := 6, locals := 150 } D [.ref c, .int (q0), .int (q1)] (fun H => KH D H ∧ oB D H c 0 [v0, v1, v2, v3, .null, v5, v6, v7]) (fun _ => False) (fun r H H1 => False) (fun Xn q H H1 => Xn = "java/lang/IllegalStateException") := by
  refine Cx.of (by decide +kernel) (Nat.le_of_ble_eq_true rfl) (fun K Qf hkl X ht hM hQ => ?_)
  subst hkl
  obtain ⟨hK, hc⟩ := hM
  have hz : (kS K).heap.size ≤ (kS K).heap.size := Nat.le_refl _
  refine vv_sub (lv' := [(0, .ref c), (1, .int (q0)), (2, .int (q1))]) [0, 1, 2] rfl ?_
  refine vv_aload_n X dX1_withCells_0 rfl 0 rfl ?_
  refine vv_iload_n X dX1_withCells_1 rfl 1 rfl ?_
  refine vx_cV X (zX1_withCell (kL K) D hl c v0 v1 v2 v3 v5 v6 v7 q0) q1845 q1847 qs37 q137 q1848 nX1_withCell ⟨(Nat.le_of_ble_eq_true rfl), (Nat.le_of_ble_eq_true rfl)⟩ dX1_withCells_2 rfl (Nat.le_of_ble_eq_true rfl) (recv X hc CL_X1) ⟨hK, hc⟩ (fun _ z => z.elim) ⟨(Nat.le_of_ble_eq_true rfl), (Nat.le_of_ble_eq_true rfl)⟩ (fun Xn q H hq hz_ hk hXO => ?_) (fun v_ H hq hz_ hk => hq.elim)
  obtain rfl := hq
  exact vt_out X (fun x hx => (ht x hx).elim) hQ hXO (Nat.le_of_ble_eq_true rfl) (Nat.le_of_ble_eq_true rfl) rfl
theorem nX1_withZone : notMH yX1_withZone 1 := by decide +kernel
set_option maxHeartbeats 800000 in
theorem zX1_withZone (l : Launch) (D : DD) (hl : l.stackTraces = false) (c : Nat) (v0 v1 v2 v3 v5 v6 v7 : Value) (q0 : Int32)  : Cx l yX1_withZone cX1_withZone 2 (some (.object "AcousticCamera$State")) { frames := 8, cells := 1, slots := 6, locals := 129 } D [.ref c, .int (q0)] (fun H => KH D H ∧ oB D H c 0 [v0, v1, v2, v3, .null, v5, v6, v7]) (fun _ => False) (fun r H H1 => False) (fun Xn q H H1 => Xn = "java/lang/IllegalStateException") := by
  refine Cx.of (by decide +kernel) (Nat.le_of_ble_eq_true rfl) (fun K Qf hkl X ht hM hQ => ?_)
  subst hkl
  obtain ⟨hK, hc⟩ := hM
  have hz : (kS K).heap.size ≤ (kS K).heap.size := Nat.le_refl _
  refine vv_sub (lv' := [(0, .ref c), (1, .int (q0))]) [0, 1] rfl ?_
  refine vv_iload_n X dX1_withZone_0 rfl 1 rfl ?_
  refine vv_aload_n X dX1_withZone_1 rfl 0 rfl ?_
  refine vx_cV X (zX1_there (kL K) D hl c v0 v1 v2 v3 v5 v6 v7 ) q1797 q1799 qs36 q137 q1800 nX1_there ⟨(Nat.le_of_ble_eq_true rfl), (Nat.le_of_ble_eq_true rfl)⟩ dX1_withZone_2 rfl (Nat.le_of_ble_eq_true rfl) (recv X hc CL_X1) ⟨hK, hc⟩ (fun _ z => z.elim) ⟨(Nat.le_of_ble_eq_true rfl), (Nat.le_of_ble_eq_true rfl)⟩ (fun Xn q H hq hz_ hk hXO => ?_) (fun v_ H hq hz_ hk => hq.elim)
  obtain rfl := hq
  exact vt_out X (fun x hx => (ht x hx).elim) hQ hXO (Nat.le_of_ble_eq_true rfl) (Nat.le_of_ble_eq_true rfl) rfl
theorem nX1_checkLength : notMH yX1_checkLength 1 := by decide +kernel
set_option maxHeartbeats 800000 in
theorem zX1_checkLength (l : Launch) (D : DD) (hl : l.stackTraces = false) (c : Nat) (v0 v1 v2 v3 v5 v6 v7 : Value) (q0 : Int32)  : Cx l yX1_checkLength cX1_checkLength 2 none { frames := 8, cells := 1, slots := 6, locals := 129 } D [.ref c, .int (q0)] (fun H => KH D H ∧ oB D H c 0 [v0, v1, v2, v3, .null, v5, v6, v7]) (fun _ => False) (fun r H H1 => False) (fun Xn q H H1 => Xn = "java/lang/IllegalStateException") := by
  refine Cx.of (by decide +kernel) (Nat.le_of_ble_eq_true rfl) (fun K Qf hkl X ht hM hQ => ?_)
  subst hkl
  obtain ⟨hK, hc⟩ := hM
  have hz : (kS K).heap.size ≤ (kS K).heap.size := Nat.le_refl _
  refine vv_sub (lv' := [(0, .ref c), (1, .int (q0))]) [0, 1] rfl ?_
  refine vv_iload_n X dX1_checkLength_0 rfl 1 rfl ?_
  refine vv_i2l (v := (q0).toInt64) X dX1_checkLength_1 rfl ?_
  refine vv_ldc2 (v := 4) X q2479 dX1_checkLength_2 ?_
  refine vv_aload_n X dX1_checkLength_5 rfl 0 rfl ?_
  refine vx_cV X (zX1_there (kL K) D hl c v0 v1 v2 v3 v5 v6 v7 ) q1797 q1799 qs36 q137 q1800 nX1_there ⟨(Nat.le_of_ble_eq_true rfl), (Nat.le_of_ble_eq_true rfl)⟩ dX1_checkLength_6 rfl (Nat.le_of_ble_eq_true rfl) (recv X hc CL_X1) ⟨hK, hc⟩ (fun _ z => z.elim) ⟨(Nat.le_of_ble_eq_true rfl), (Nat.le_of_ble_eq_true rfl)⟩ (fun Xn q H hq hz_ hk hXO => ?_) (fun v_ H hq hz_ hk => hq.elim)
  obtain rfl := hq
  exact vt_out X (fun x hx => (ht x hx).elim) hQ hXO (Nat.le_of_ble_eq_true rfl) (Nat.le_of_ble_eq_true rfl) rfl
set_option maxHeartbeats 800000 in
theorem zX1_isMuted (l : Launch) (D : DD) (hl : l.stackTraces = false) (c : Nat) (v0 v1 v2 v3 v5 v6 v7 : Value) (q0 : Int32)  : Cx l yX1_isMuted cX1_isMuted 2 (some .boolean) { frames := 9, cells := 1, slots := 6, locals := 150 } D [.ref c, .int (q0)] (fun H => KH D H ∧ oB D H c 0 [v0, v1, v2, v3, .null, v5, v6, v7]) (fun _ => False) (fun r H H1 => False) (fun Xn q H H1 => Xn = "java/lang/IllegalStateException") := by
  refine Cx.of (by decide +kernel) (Nat.le_of_ble_eq_true rfl) (fun K Qf hkl X ht hM hQ => ?_)
  subst hkl
  obtain ⟨hK, hc⟩ := hM
  have hz : (kS K).heap.size ≤ (kS K).heap.size := Nat.le_refl _
  refine vv_sub (lv' := [(0, .ref c), (1, .int (q0))]) [0, 1] rfl ?_
  refine vv_aload_n X dX1_isMuted_0 rfl 0 rfl ?_
  refine vv_iload_n X dX1_isMuted_1 rfl 1 rfl ?_
  refine vx_cV X (zX1_withMic (kL K) D hl c v0 v1 v2 v3 v5 v6 v7 q0) q1793 q1795 qs35 q137 q1796 nX1_withMic ⟨(Nat.le_of_ble_eq_true rfl), (Nat.le_of_ble_eq_true rfl)⟩ dX1_isMuted_2 rfl (Nat.le_of_ble_eq_true rfl) (recv X hc CL_X1) ⟨hK, hc⟩ (fun _ z => z.elim) ⟨(Nat.le_of_ble_eq_true rfl), (Nat.le_of_ble_eq_true rfl)⟩ (fun Xn q H hq hz_ hk hXO => ?_) (fun v_ H hq hz_ hk => hq.elim)
  obtain rfl := hq
  exact vt_out X (fun x hx => (ht x hx).elim) hQ hXO (Nat.le_of_ble_eq_true rfl) (Nat.le_of_ble_eq_true rfl) rfl
set_option maxHeartbeats 800000 in
theorem zX1_isOn (l : Launch) (D : DD) (hl : l.stackTraces = false) (c : Nat) (v0 v1 v2 v3 v5 v6 v7 : Value) (q0 : Int32)  : Cx l yX1_isOn cX1_isOn 2 (some .boolean) { frames := 9, cells := 1, slots := 6, locals := 150 } D [.ref c, .int (q0)] (fun H => KH D H ∧ oB D H c 0 [v0, v1, v2, v3, .null, v5, v6, v7]) (fun _ => False) (fun r H H1 => False) (fun Xn q H H1 => Xn = "java/lang/IllegalStateException") := by
  refine Cx.of (by decide +kernel) (Nat.le_of_ble_eq_true rfl) (fun K Qf hkl X ht hM hQ => ?_)
  subst hkl
  obtain ⟨hK, hc⟩ := hM
  have hz : (kS K).heap.size ≤ (kS K).heap.size := Nat.le_refl _
  refine vv_sub (lv' := [(0, .ref c), (1, .int (q0))]) [0, 1] rfl ?_
  refine vv_aload_n X dX1_isOn_0 rfl 0 rfl ?_
  refine vv_iload_n X dX1_isOn_1 rfl 1 rfl ?_
  refine vx_cV X (zX1_withSource (kL K) D hl c v0 v1 v2 v3 v5 v6 v7 q0) q1858 q1860 qs38 q137 q1861 nX1_withSource ⟨(Nat.le_of_ble_eq_true rfl), (Nat.le_of_ble_eq_true rfl)⟩ dX1_isOn_2 rfl (Nat.le_of_ble_eq_true rfl) (recv X hc CL_X1) ⟨hK, hc⟩ (fun _ z => z.elim) ⟨(Nat.le_of_ble_eq_true rfl), (Nat.le_of_ble_eq_true rfl)⟩ (fun Xn q H hq hz_ hk hXO => ?_) (fun v_ H hq hz_ hk => hq.elim)
  obtain rfl := hq
  exact vt_out X (fun x hx => (ht x hx).elim) hQ hXO (Nat.le_of_ble_eq_true rfl) (Nat.le_of_ble_eq_true rfl) rfl
set_option maxHeartbeats 800000 in
theorem zX1_spread (l : Launch) (D : DD) (hl : l.stackTraces = false) (c : Nat) (v0 v1 v2 v3 v5 v6 v7 : Value) (q0 : Int32)  : Cx l yX1_spread cX1_spread 2 (some .int) { frames := 9, cells := 1, slots := 6, locals := 150 } D [.ref c, .int (q0)] (fun H => KH D H ∧ oB D H c 0 [v0, v1, v2, v3, .null, v5, v6, v7]) (fun _ => False) (fun r H H1 => False) (fun Xn q H H1 => Xn = "java/lang/IllegalStateException") := by
  refine Cx.of (by decide +kernel) (Nat.le_of_ble_eq_true rfl) (fun K Qf hkl X ht hM hQ => ?_)
  subst hkl
  obtain ⟨hK, hc⟩ := hM
  have hz : (kS K).heap.size ≤ (kS K).heap.size := Nat.le_refl _
  refine vv_sub (lv' := [(0, .ref c), (1, .int (q0))]) [0, 1] rfl ?_
  refine vv_aload_n X dX1_spread_0 rfl 0 rfl ?_
  refine vv_iload_n X dX1_spread_1 rfl 1 rfl ?_
  refine vx_cV X (zX1_withCell (kL K) D hl c v0 v1 v2 v3 v5 v6 v7 q0) q1845 q1847 qs37 q137 q1848 nX1_withCell ⟨(Nat.le_of_ble_eq_true rfl), (Nat.le_of_ble_eq_true rfl)⟩ dX1_spread_2 rfl (Nat.le_of_ble_eq_true rfl) (recv X hc CL_X1) ⟨hK, hc⟩ (fun _ z => z.elim) ⟨(Nat.le_of_ble_eq_true rfl), (Nat.le_of_ble_eq_true rfl)⟩ (fun Xn q H hq hz_ hk hXO => ?_) (fun v_ H hq hz_ hk => hq.elim)
  obtain rfl := hq
  exact vt_out X (fun x hx => (ht x hx).elim) hQ hXO (Nat.le_of_ble_eq_true rfl) (Nat.le_of_ble_eq_true rfl) rfl
set_option maxHeartbeats 800000 in
theorem zX1_window (l : Launch) (D : DD) (hl : l.stackTraces = false) (c : Nat) (v0 v1 v2 v3 v5 v6 v7 : Value) (q0 : Int32)  : Cx l yX1_window cX1_window 2 (some .int) { frames := 9, cells := 1, slots := 6, locals := 150 } D [.ref c, .int (q0)] (fun H => KH D H ∧ oB D H c 0 [v0, v1, v2, v3, .null, v5, v6, v7]) (fun _ => False) (fun r H H1 => False) (fun Xn q H H1 => Xn = "java/lang/IllegalStateException") := by
  refine Cx.of (by decide +kernel) (Nat.le_of_ble_eq_true rfl) (fun K Qf hkl X ht hM hQ => ?_)
  subst hkl
  obtain ⟨hK, hc⟩ := hM
  have hz : (kS K).heap.size ≤ (kS K).heap.size := Nat.le_refl _
  refine vv_sub (lv' := [(0, .ref c), (1, .int (q0))]) [0, 1] rfl ?_
  refine vv_aload_n X dX1_window_0 rfl 0 rfl ?_
  refine vv_iload_n X dX1_window_1 rfl 1 rfl ?_
  refine vx_cV X (zX1_withCell (kL K) D hl c v0 v1 v2 v3 v5 v6 v7 q0) q1845 q1847 qs37 q137 q1848 nX1_withCell ⟨(Nat.le_of_ble_eq_true rfl), (Nat.le_of_ble_eq_true rfl)⟩ dX1_window_2 rfl (Nat.le_of_ble_eq_true rfl) (recv X hc CL_X1) ⟨hK, hc⟩ (fun _ z => z.elim) ⟨(Nat.le_of_ble_eq_true rfl), (Nat.le_of_ble_eq_true rfl)⟩ (fun Xn q H hq hz_ hk hXO => ?_) (fun v_ H hq hz_ hk => hq.elim)
  obtain rfl := hq
  exact vt_out X (fun x hx => (ht x hx).elim) hQ hXO (Nat.le_of_ble_eq_true rfl) (Nat.le_of_ble_eq_true rfl) rfl
set_option maxHeartbeats 800000 in
theorem zX1_level (l : Launch) (D : DD) (hl : l.stackTraces = false) (c : Nat) (v0 v1 v2 v3 v5 v6 v7 : Value) (q0 : Int32)  : Cx l yX1_level cX1_level 2 (some .long) { frames := 9, cells := 1, slots := 6, locals := 150 } D [.ref c, .int (q0)] (fun H => KH D H ∧ oB D H c 0 [v0, v1, v2, v3, .null, v5, v6, v7]) (fun _ => False) (fun r H H1 => False) (fun Xn q H H1 => Xn = "java/lang/IllegalStateException") := by
  refine Cx.of (by decide +kernel) (Nat.le_of_ble_eq_true rfl) (fun K Qf hkl X ht hM hQ => ?_)
  subst hkl
  obtain ⟨hK, hc⟩ := hM
  have hz : (kS K).heap.size ≤ (kS K).heap.size := Nat.le_refl _
  refine vv_sub (lv' := [(0, .ref c), (1, .int (q0))]) [0, 1] rfl ?_
  refine vv_aload_n X dX1_level_0 rfl 0 rfl ?_
  refine vv_iload_n X dX1_level_1 rfl 1 rfl ?_
  refine vx_cV X (zX1_withMic (kL K) D hl c v0 v1 v2 v3 v5 v6 v7 q0) q1793 q1795 qs35 q137 q1796 nX1_withMic ⟨(Nat.le_of_ble_eq_true rfl), (Nat.le_of_ble_eq_true rfl)⟩ dX1_level_2 rfl (Nat.le_of_ble_eq_true rfl) (recv X hc CL_X1) ⟨hK, hc⟩ (fun _ z => z.elim) ⟨(Nat.le_of_ble_eq_true rfl), (Nat.le_of_ble_eq_true rfl)⟩ (fun Xn q H hq hz_ hk hXO => ?_) (fun v_ H hq hz_ hk => hq.elim)
  obtain rfl := hq
  exact vt_out X (fun x hx => (ht x hx).elim) hQ hXO (Nat.le_of_ble_eq_true rfl) (Nat.le_of_ble_eq_true rfl) rfl
set_option maxHeartbeats 800000 in
theorem zX1_delay (l : Launch) (D : DD) (hl : l.stackTraces = false) (c : Nat) (v0 v1 v2 v3 v5 v6 v7 : Value) (q0 q1 : Int32)  : Cx l yX1_delay cX1_delay 3 (some .int) { frames := 9, cells := 1, slots := 6, locals := 150 } D [.ref c, .int (q0), .int (q1)] (fun H => KH D H ∧ oB D H c 0 [v0, v1, v2, v3, .null, v5, v6, v7]) (fun _ => False) (fun r H H1 => False) (fun Xn q H H1 => Xn = "java/lang/IllegalStateException") := by
  refine Cx.of (by decide +kernel) (Nat.le_of_ble_eq_true rfl) (fun K Qf hkl X ht hM hQ => ?_)
  subst hkl
  obtain ⟨hK, hc⟩ := hM
  have hz : (kS K).heap.size ≤ (kS K).heap.size := Nat.le_refl _
  refine vv_sub (lv' := [(0, .ref c), (1, .int (q0)), (2, .int (q1))]) [0, 1, 2] rfl ?_
  refine vv_aload_n X dX1_delay_0 rfl 0 rfl ?_
  refine vv_iload_n X dX1_delay_1 rfl 1 rfl ?_
  refine vx_cV X (zX1_withMic (kL K) D hl c v0 v1 v2 v3 v5 v6 v7 q0) q1793 q1795 qs35 q137 q1796 nX1_withMic ⟨(Nat.le_of_ble_eq_true rfl), (Nat.le_of_ble_eq_true rfl)⟩ dX1_delay_2 rfl (Nat.le_of_ble_eq_true rfl) (recv X hc CL_X1) ⟨hK, hc⟩ (fun _ z => z.elim) ⟨(Nat.le_of_ble_eq_true rfl), (Nat.le_of_ble_eq_true rfl)⟩ (fun Xn q H hq hz_ hk hXO => ?_) (fun v_ H hq hz_ hk => hq.elim)
  obtain rfl := hq
  exact vt_out X (fun x hx => (ht x hx).elim) hQ hXO (Nat.le_of_ble_eq_true rfl) (Nat.le_of_ble_eq_true rfl) rfl
set_option maxHeartbeats 800000 in
theorem zX1_sample (l : Launch) (D : DD) (hl : l.stackTraces = false) (c : Nat) (v0 v1 v2 v3 v5 v6 v7 : Value) (q0 q1 : Int32)  : Cx l yX1_sample cX1_sample 3 (some .int) { frames := 9, cells := 1, slots := 6, locals := 150 } D [.ref c, .int (q0), .int (q1)] (fun H => KH D H ∧ oB D H c 0 [v0, v1, v2, v3, .null, v5, v6, v7]) (fun _ => False) (fun r H H1 => False) (fun Xn q H H1 => Xn = "java/lang/IllegalStateException") := by
  refine Cx.of (by decide +kernel) (Nat.le_of_ble_eq_true rfl) (fun K Qf hkl X ht hM hQ => ?_)
  subst hkl
  obtain ⟨hK, hc⟩ := hM
  have hz : (kS K).heap.size ≤ (kS K).heap.size := Nat.le_refl _
  refine vv_sub (lv' := [(0, .ref c), (1, .int (q0)), (2, .int (q1))]) [0, 1, 2] rfl ?_
  refine vv_aload_n X dX1_sample_0 rfl 0 rfl ?_
  refine vv_iload_n X dX1_sample_1 rfl 1 rfl ?_
  refine vx_cV X (zX1_withMic (kL K) D hl c v0 v1 v2 v3 v5 v6 v7 q0) q1793 q1795 qs35 q137 q1796 nX1_withMic ⟨(Nat.le_of_ble_eq_true rfl), (Nat.le_of_ble_eq_true rfl)⟩ dX1_sample_2 rfl (Nat.le_of_ble_eq_true rfl) (recv X hc CL_X1) ⟨hK, hc⟩ (fun _ z => z.elim) ⟨(Nat.le_of_ble_eq_true rfl), (Nat.le_of_ble_eq_true rfl)⟩ (fun Xn q H hq hz_ hk hXO => ?_) (fun v_ H hq hz_ hk => hq.elim)
  obtain rfl := hq
  exact vt_out X (fun x hx => (ht x hx).elim) hQ hXO (Nat.le_of_ble_eq_true rfl) (Nat.le_of_ble_eq_true rfl) rfl
set_option maxHeartbeats 800000 in
theorem zX1_waveAt (l : Launch) (D : DD) (hl : l.stackTraces = false) (c : Nat) (v0 v1 v2 v3 v5 v6 v7 : Value) (q0 q1 : Int32)  : Cx l yX1_waveAt cX1_waveAt 3 (some .int) { frames := 9, cells := 1, slots := 6, locals := 150 } D [.ref c, .int (q0), .int (q1)] (fun H => KH D H ∧ oB D H c 0 [v0, v1, v2, v3, .null, v5, v6, v7]) (fun _ => False) (fun r H H1 => False) (fun Xn q H H1 => Xn = "java/lang/IllegalStateException") := by
  refine Cx.of (by decide +kernel) (Nat.le_of_ble_eq_true rfl) (fun K Qf hkl X ht hM hQ => ?_)
  subst hkl
  obtain ⟨hK, hc⟩ := hM
  have hz : (kS K).heap.size ≤ (kS K).heap.size := Nat.le_refl _
  refine vv_sub (lv' := [(0, .ref c), (1, .int (q0)), (2, .int (q1))]) [0, 1, 2] rfl ?_
  refine vv_aload_n X dX1_waveAt_0 rfl 0 rfl ?_
  refine vv_iload_n X dX1_waveAt_1 rfl 1 rfl ?_
  refine vx_cV X (zX1_withSource (kL K) D hl c v0 v1 v2 v3 v5 v6 v7 q0) q1858 q1860 qs38 q137 q1861 nX1_withSource ⟨(Nat.le_of_ble_eq_true rfl), (Nat.le_of_ble_eq_true rfl)⟩ dX1_waveAt_2 rfl (Nat.le_of_ble_eq_true rfl) (recv X hc CL_X1) ⟨hK, hc⟩ (fun _ z => z.elim) ⟨(Nat.le_of_ble_eq_true rfl), (Nat.le_of_ble_eq_true rfl)⟩ (fun Xn q H hq hz_ hk hXO => ?_) (fun v_ H hq hz_ hk => hq.elim)
  obtain rfl := hq
  exact vt_out X (fun x hx => (ht x hx).elim) hQ hXO (Nat.le_of_ble_eq_true rfl) (Nat.le_of_ble_eq_true rfl) rfl
set_option maxHeartbeats 800000 in
theorem zX1_delayTo (l : Launch) (D : DD) (hl : l.stackTraces = false) (c : Nat) (v0 v1 v2 v3 v5 v6 v7 : Value) (q0 q1 q2 : Int32)  : Cx l yX1_delayTo cX1_delayTo 4 (some .int) { frames := 9, cells := 1, slots := 6, locals := 150 } D [.ref c, .int (q0), .int (q1), .int (q2)] (fun H => KH D H ∧ oB D H c 0 [v0, v1, v2, v3, .null, v5, v6, v7]) (fun _ => False) (fun r H H1 => False) (fun Xn q H H1 => Xn = "java/lang/IllegalStateException") := by
  refine Cx.of (by decide +kernel) (Nat.le_of_ble_eq_true rfl) (fun K Qf hkl X ht hM hQ => ?_)
  subst hkl
  obtain ⟨hK, hc⟩ := hM
  have hz : (kS K).heap.size ≤ (kS K).heap.size := Nat.le_refl _
  refine vv_sub (lv' := [(0, .ref c), (1, .int (q0)), (2, .int (q1)), (3, .int (q2))]) [0, 1, 2, 3] rfl ?_
  refine vv_aload_n X dX1_delayTo_0 rfl 0 rfl ?_
  refine vv_iload_n X dX1_delayTo_1 rfl 1 rfl ?_
  refine vx_cV X (zX1_withMic (kL K) D hl c v0 v1 v2 v3 v5 v6 v7 q0) q1793 q1795 qs35 q137 q1796 nX1_withMic ⟨(Nat.le_of_ble_eq_true rfl), (Nat.le_of_ble_eq_true rfl)⟩ dX1_delayTo_2 rfl (Nat.le_of_ble_eq_true rfl) (recv X hc CL_X1) ⟨hK, hc⟩ (fun _ z => z.elim) ⟨(Nat.le_of_ble_eq_true rfl), (Nat.le_of_ble_eq_true rfl)⟩ (fun Xn q H hq hz_ hk hXO => ?_) (fun v_ H hq hz_ hk => hq.elim)
  obtain rfl := hq
  exact vt_out X (fun x hx => (ht x hx).elim) hQ hXO (Nat.le_of_ble_eq_true rfl) (Nat.le_of_ble_eq_true rfl) rfl
set_option maxHeartbeats 800000 in
theorem zX1_correlation (l : Launch) (D : DD) (hl : l.stackTraces = false) (c : Nat) (v0 v1 v2 v3 v5 v6 v7 : Value) (q0 q1 q2 : Int32)  : Cx l yX1_correlation cX1_correlation 4 (some .long) { frames := 10, cells := 1, slots := 6, locals := 172 } D [.ref c, .int (q0), .int (q1), .int (q2)] (fun H => KH D H ∧ oB D H c 0 [v0, v1, v2, v3, .null, v5, v6, v7]) (fun _ => False) (fun r H H1 => False) (fun Xn q H H1 => Xn = "java/lang/IllegalStateException") := by
  refine Cx.of (by decide +kernel) (Nat.le_of_ble_eq_true rfl) (fun K Qf hkl X ht hM hQ => ?_)
  subst hkl
  obtain ⟨hK, hc⟩ := hM
  have hz : (kS K).heap.size ≤ (kS K).heap.size := Nat.le_refl _
  refine vv_sub (lv' := [(0, .ref c), (1, .int (q0)), (2, .int (q1)), (3, .int (q2))]) [0, 1, 2, 3] rfl ?_
  refine vv_aload_n X dX1_correlation_0 rfl 0 rfl ?_
  refine vv_iload_n X dX1_correlation_1 rfl 1 rfl ?_
  refine vv_iload_n X dX1_correlation_2 rfl 2 rfl ?_
  refine vx_cV X (zX1_withMics (kL K) D hl c v0 v1 v2 v3 v5 v6 v7 q0 q1) q2549 q2551 qs52 q137 q2552 nX1_withMics ⟨(Nat.le_of_ble_eq_true rfl), (Nat.le_of_ble_eq_true rfl)⟩ dX1_correlation_3 rfl (Nat.le_of_ble_eq_true rfl) (recv X hc CL_X1) ⟨hK, hc⟩ (fun _ z => z.elim) ⟨(Nat.le_of_ble_eq_true rfl), (Nat.le_of_ble_eq_true rfl)⟩ (fun Xn q H hq hz_ hk hXO => ?_) (fun v_ H hq hz_ hk => hq.elim)
  obtain rfl := hq
  exact vt_out X (fun x hx => (ht x hx).elim) hQ hXO (Nat.le_of_ble_eq_true rfl) (Nat.le_of_ble_eq_true rfl) rfl
set_option maxHeartbeats 800000 in
theorem zX1_powerAt (l : Launch) (D : DD) (hl : l.stackTraces = false) (c : Nat) (v0 v1 v2 v3 v5 v6 v7 : Value) (q0 q1 : Int32)  : Cx l yX1_powerAt cX1_powerAt 3 (some .long) { frames := 8, cells := 1, slots := 6, locals := 129 } D [.ref c, .int (q0), .int (q1)] (fun H => KH D H ∧ oB D H c 0 [v0, v1, v2, v3, .null, v5, v6, v7]) (fun _ => False) (fun r H H1 => False) (fun Xn q H H1 => Xn = "java/lang/IllegalStateException") := by
  refine Cx.of (by decide +kernel) (Nat.le_of_ble_eq_true rfl) (fun K Qf hkl X ht hM hQ => ?_)
  subst hkl
  obtain ⟨hK, hc⟩ := hM
  have hz : (kS K).heap.size ≤ (kS K).heap.size := Nat.le_refl _
  refine vv_sub (lv' := [(0, .ref c), (1, .int (q0)), (2, .int (q1))]) [0, 1, 2] rfl ?_
  refine vv_aload_n X dX1_powerAt_0 rfl 0 rfl ?_
  refine vx_cV X (zX1_there (kL K) D hl c v0 v1 v2 v3 v5 v6 v7 ) q1797 q1799 qs36 q137 q1800 nX1_there ⟨(Nat.le_of_ble_eq_true rfl), (Nat.le_of_ble_eq_true rfl)⟩ dX1_powerAt_1 rfl (Nat.le_of_ble_eq_true rfl) (recv X hc CL_X1) ⟨hK, hc⟩ (fun _ z => z.elim) ⟨(Nat.le_of_ble_eq_true rfl), (Nat.le_of_ble_eq_true rfl)⟩ (fun Xn q H hq hz_ hk hXO => ?_) (fun v_ H hq hz_ hk => hq.elim)
  obtain rfl := hq
  exact vt_out X (fun x hx => (ht x hx).elim) hQ hXO (Nat.le_of_ble_eq_true rfl) (Nat.le_of_ble_eq_true rfl) rfl
theorem nX1_micAt : notMH yX1_micAt 2 := by decide +kernel
set_option maxHeartbeats 800000 in
theorem zX1_micAt (l : Launch) (D : DD) (hl : l.stackTraces = false) (c : Nat) (v0 v1 v2 v3 v5 v6 v7 : Value) (q0 q1 : Int32)  : Cx l yX1_micAt cX1_micAt 4 (some .int) { frames := 9, cells := 1, slots := 6, locals := 150 } D [.ref c, .int (q0), .int (q1)] (fun H => KH D H ∧ oB D H c 0 [v0, v1, v2, v3, .null, v5, v6, v7]) (fun _ => False) (fun r H H1 => False) (fun Xn q H H1 => Xn = "java/lang/IllegalStateException") := by
  refine Cx.of (by decide +kernel) (Nat.le_of_ble_eq_true rfl) (fun K Qf hkl X ht hM hQ => ?_)
  subst hkl
  obtain ⟨hK, hc⟩ := hM
  have hz : (kS K).heap.size ≤ (kS K).heap.size := Nat.le_refl _
  refine vv_sub (lv' := [(0, .ref c), (1, .int (q0)), (2, .int (q1))]) [0, 1, 2] rfl ?_
  refine vv_aload_n X dX1_micAt_0 rfl 0 rfl ?_
  refine vv_iload_n X dX1_micAt_1 rfl 1 rfl ?_
  refine vx_cV X (zX1_withMic (kL K) D hl c v0 v1 v2 v3 v5 v6 v7 q0) q1793 q1795 qs35 q137 q1796 nX1_withMic ⟨(Nat.le_of_ble_eq_true rfl), (Nat.le_of_ble_eq_true rfl)⟩ dX1_micAt_2 rfl (Nat.le_of_ble_eq_true rfl) (recv X hc CL_X1) ⟨hK, hc⟩ (fun _ z => z.elim) ⟨(Nat.le_of_ble_eq_true rfl), (Nat.le_of_ble_eq_true rfl)⟩ (fun Xn q H hq hz_ hk hXO => ?_) (fun v_ H hq hz_ hk => hq.elim)
  obtain rfl := hq
  exact vt_out X (fun x hx => (ht x hx).elim) hQ hXO (Nat.le_of_ble_eq_true rfl) (Nat.le_of_ble_eq_true rfl) rfl
theorem nX1_cellAt : notMH yX1_cellAt 2 := by decide +kernel
set_option maxHeartbeats 800000 in
theorem zX1_cellAt (l : Launch) (D : DD) (hl : l.stackTraces = false) (c : Nat) (v0 v1 v2 v3 v5 v6 v7 : Value) (q0 q1 : Int32)  : Cx l yX1_cellAt cX1_cellAt 3 (some .int) { frames := 9, cells := 1, slots := 6, locals := 150 } D [.ref c, .int (q0), .int (q1)] (fun H => KH D H ∧ oB D H c 0 [v0, v1, v2, v3, .null, v5, v6, v7]) (fun _ => False) (fun r H H1 => False) (fun Xn q H H1 => Xn = "java/lang/IllegalStateException") := by
  refine Cx.of (by decide +kernel) (Nat.le_of_ble_eq_true rfl) (fun K Qf hkl X ht hM hQ => ?_)
  subst hkl
  obtain ⟨hK, hc⟩ := hM
  have hz : (kS K).heap.size ≤ (kS K).heap.size := Nat.le_refl _
  refine vv_sub (lv' := [(0, .ref c), (1, .int (q0)), (2, .int (q1))]) [0, 1, 2] rfl ?_
  refine vv_aload_n X dX1_cellAt_0 rfl 0 rfl ?_
  refine vv_iload_n X dX1_cellAt_1 rfl 1 rfl ?_
  refine vx_cV X (zX1_withCell (kL K) D hl c v0 v1 v2 v3 v5 v6 v7 q0) q1845 q1847 qs37 q137 q1848 nX1_withCell ⟨(Nat.le_of_ble_eq_true rfl), (Nat.le_of_ble_eq_true rfl)⟩ dX1_cellAt_2 rfl (Nat.le_of_ble_eq_true rfl) (recv X hc CL_X1) ⟨hK, hc⟩ (fun _ z => z.elim) ⟨(Nat.le_of_ble_eq_true rfl), (Nat.le_of_ble_eq_true rfl)⟩ (fun Xn q H hq hz_ hk hXO => ?_) (fun v_ H hq hz_ hk => hq.elim)
  obtain rfl := hq
  exact vt_out X (fun x hx => (ht x hx).elim) hQ hXO (Nat.le_of_ble_eq_true rfl) (Nat.le_of_ble_eq_true rfl) rfl
theorem nX1_sourceAt : notMH yX1_sourceAt 3 := by decide +kernel
set_option maxHeartbeats 800000 in
theorem zX1_sourceAt (l : Launch) (D : DD) (hl : l.stackTraces = false) (c : Nat) (v0 v1 v2 v3 v5 v6 v7 : Value) (q0 q1 q2 : Int32)  : Cx l yX1_sourceAt cX1_sourceAt 4 (some .int) { frames := 9, cells := 1, slots := 6, locals := 150 } D [.ref c, .int (q0), .int (q1), .int (q2)] (fun H => KH D H ∧ oB D H c 0 [v0, v1, v2, v3, .null, v5, v6, v7]) (fun _ => False) (fun r H H1 => False) (fun Xn q H H1 => Xn = "java/lang/IllegalStateException") := by
  refine Cx.of (by decide +kernel) (Nat.le_of_ble_eq_true rfl) (fun K Qf hkl X ht hM hQ => ?_)
  subst hkl
  obtain ⟨hK, hc⟩ := hM
  have hz : (kS K).heap.size ≤ (kS K).heap.size := Nat.le_refl _
  refine vv_sub (lv' := [(0, .ref c), (1, .int (q0)), (2, .int (q1)), (3, .int (q2))]) [0, 1, 2, 3] rfl ?_
  refine vv_aload_n X dX1_sourceAt_0 rfl 0 rfl ?_
  refine vv_iload_n X dX1_sourceAt_1 rfl 1 rfl ?_
  refine vx_cV X (zX1_withSource (kL K) D hl c v0 v1 v2 v3 v5 v6 v7 q0) q1858 q1860 qs38 q137 q1861 nX1_withSource ⟨(Nat.le_of_ble_eq_true rfl), (Nat.le_of_ble_eq_true rfl)⟩ dX1_sourceAt_2 rfl (Nat.le_of_ble_eq_true rfl) (recv X hc CL_X1) ⟨hK, hc⟩ (fun _ z => z.elim) ⟨(Nat.le_of_ble_eq_true rfl), (Nat.le_of_ble_eq_true rfl)⟩ (fun Xn q H hq hz_ hk hXO => ?_) (fun v_ H hq hz_ hk => hq.elim)
  obtain rfl := hq
  exact vt_out X (fun x hx => (ht x hx).elim) hQ hXO (Nat.le_of_ble_eq_true rfl) (Nat.le_of_ble_eq_true rfl) rfl
theorem nX1_beam : notMH yX1_beam 2 := by decide +kernel
set_option maxHeartbeats 800000 in
theorem zX1_beam (l : Launch) (D : DD) (hl : l.stackTraces = false) (c : Nat) (v0 v1 v2 v3 v5 v6 v7 : Value) (q0 q1 : Int32)  : Cx l yX1_beam cX1_beam 3 (some .int) { frames := 9, cells := 1, slots := 6, locals := 150 } D [.ref c, .int (q0), .int (q1)] (fun H => KH D H ∧ oB D H c 0 [v0, v1, v2, v3, .null, v5, v6, v7]) (fun _ => False) (fun r H H1 => False) (fun Xn q H H1 => Xn = "java/lang/IllegalStateException") := by
  refine Cx.of (by decide +kernel) (Nat.le_of_ble_eq_true rfl) (fun K Qf hkl X ht hM hQ => ?_)
  subst hkl
  obtain ⟨hK, hc⟩ := hM
  have hz : (kS K).heap.size ≤ (kS K).heap.size := Nat.le_refl _
  refine vv_sub (lv' := [(0, .ref c), (1, .int (q0)), (2, .int (q1))]) [0, 1, 2] rfl ?_
  refine vv_iload_n X dX1_beam_0 rfl 2 rfl ?_
  refine vv_i2l (v := (q1).toInt64) X dX1_beam_1 rfl ?_
  refine vv_lconst (v := 0) X dX1_beam_2 (by decide) ?_
  refine vv_aload_n X dX1_beam_3 rfl 0 rfl ?_
  refine vv_iload_n X dX1_beam_4 rfl 1 rfl ?_
  refine vx_cV X (zX1_withCell (kL K) D hl c v0 v1 v2 v3 v5 v6 v7 q0) q1845 q1847 qs37 q137 q1848 nX1_withCell ⟨(Nat.le_of_ble_eq_true rfl), (Nat.le_of_ble_eq_true rfl)⟩ dX1_beam_5 rfl (Nat.le_of_ble_eq_true rfl) (recv X hc CL_X1) ⟨hK, hc⟩ (fun _ z => z.elim) ⟨(Nat.le_of_ble_eq_true rfl), (Nat.le_of_ble_eq_true rfl)⟩ (fun Xn q H hq hz_ hk hXO => ?_) (fun v_ H hq hz_ hk => hq.elim)
  obtain rfl := hq
  exact vt_out X (fun x hx => (ht x hx).elim) hQ hXO (Nat.le_of_ble_eq_true rfl) (Nat.le_of_ble_eq_true rfl) rfl
theorem nX1_power : notMH yX1_power 1 := by decide +kernel
set_option maxHeartbeats 800000 in
theorem zX1_power (l : Launch) (D : DD) (hl : l.stackTraces = false) (c : Nat) (v0 v1 v2 v3 v5 v6 v7 : Value) (q0 : Int32)  : Cx l yX1_power cX1_power 2 (some .long) { frames := 9, cells := 1, slots := 6, locals := 150 } D [.ref c, .int (q0)] (fun H => KH D H ∧ oB D H c 0 [v0, v1, v2, v3, .null, v5, v6, v7]) (fun _ => False) (fun r H H1 => False) (fun Xn q H H1 => Xn = "java/lang/IllegalStateException") := by
  refine Cx.of (by decide +kernel) (Nat.le_of_ble_eq_true rfl) (fun K Qf hkl X ht hM hQ => ?_)
  subst hkl
  obtain ⟨hK, hc⟩ := hM
  have hz : (kS K).heap.size ≤ (kS K).heap.size := Nat.le_refl _
  refine vv_sub (lv' := [(0, .ref c), (1, .int (q0))]) [0, 1] rfl ?_
  refine vv_aload_n X dX1_power_0 rfl 0 rfl ?_
  refine vv_iload_n X dX1_power_1 rfl 1 rfl ?_
  refine vx_cV X (zX1_withCell (kL K) D hl c v0 v1 v2 v3 v5 v6 v7 q0) q1845 q1847 qs37 q137 q1848 nX1_withCell ⟨(Nat.le_of_ble_eq_true rfl), (Nat.le_of_ble_eq_true rfl)⟩ dX1_power_2 rfl (Nat.le_of_ble_eq_true rfl) (recv X hc CL_X1) ⟨hK, hc⟩ (fun _ z => z.elim) ⟨(Nat.le_of_ble_eq_true rfl), (Nat.le_of_ble_eq_true rfl)⟩ (fun Xn q H hq hz_ hk hXO => ?_) (fun v_ H hq hz_ hk => hq.elim)
  obtain rfl := hq
  exact vt_out X (fun x hx => (ht x hx).elim) hQ hXO (Nat.le_of_ble_eq_true rfl) (Nat.le_of_ble_eq_true rfl) rfl
theorem nX1_best : notMH yX1_best 0 := by decide +kernel
set_option maxHeartbeats 800000 in
theorem zX1_best (l : Launch) (D : DD) (hl : l.stackTraces = false) (c : Nat) (v0 v1 v2 v3 v5 v6 v7 : Value)   : Cx l yX1_best cX1_best 1 (some .int) { frames := 8, cells := 1, slots := 6, locals := 129 } D [.ref c] (fun H => KH D H ∧ oB D H c 0 [v0, v1, v2, v3, .null, v5, v6, v7]) (fun _ => False) (fun r H H1 => False) (fun Xn q H H1 => Xn = "java/lang/IllegalStateException") := by
  refine Cx.of (by decide +kernel) (Nat.le_of_ble_eq_true rfl) (fun K Qf hkl X ht hM hQ => ?_)
  subst hkl
  obtain ⟨hK, hc⟩ := hM
  have hz : (kS K).heap.size ≤ (kS K).heap.size := Nat.le_refl _
  refine vv_sub (lv' := [(0, .ref c)]) [0] rfl ?_
  refine vv_aload_n X dX1_best_0 rfl 0 rfl ?_
  refine vx_cV X (zX1_there (kL K) D hl c v0 v1 v2 v3 v5 v6 v7 ) q1797 q1799 qs36 q137 q1800 nX1_there ⟨(Nat.le_of_ble_eq_true rfl), (Nat.le_of_ble_eq_true rfl)⟩ dX1_best_1 rfl (Nat.le_of_ble_eq_true rfl) (recv X hc CL_X1) ⟨hK, hc⟩ (fun _ z => z.elim) ⟨(Nat.le_of_ble_eq_true rfl), (Nat.le_of_ble_eq_true rfl)⟩ (fun Xn q H hq hz_ hk hXO => ?_) (fun v_ H hq hz_ hk => hq.elim)
  obtain rfl := hq
  exact vt_out X (fun x hx => (ht x hx).elim) hQ hXO (Nat.le_of_ble_eq_true rfl) (Nat.le_of_ble_eq_true rfl) rfl
theorem nX1_bestPower : notMH yX1_bestPower 0 := by decide +kernel
set_option maxHeartbeats 800000 in
theorem zX1_bestPower (l : Launch) (D : DD) (hl : l.stackTraces = false) (c : Nat) (v0 v1 v2 v3 v5 v6 v7 : Value)   : Cx l yX1_bestPower cX1_bestPower 1 (some .long) { frames := 8, cells := 1, slots := 6, locals := 129 } D [.ref c] (fun H => KH D H ∧ oB D H c 0 [v0, v1, v2, v3, .null, v5, v6, v7]) (fun _ => False) (fun r H H1 => False) (fun Xn q H H1 => Xn = "java/lang/IllegalStateException") := by
  refine Cx.of (by decide +kernel) (Nat.le_of_ble_eq_true rfl) (fun K Qf hkl X ht hM hQ => ?_)
  subst hkl
  obtain ⟨hK, hc⟩ := hM
  have hz : (kS K).heap.size ≤ (kS K).heap.size := Nat.le_refl _
  refine vv_sub (lv' := [(0, .ref c)]) [0] rfl ?_
  refine vv_aload_n X dX1_bestPower_0 rfl 0 rfl ?_
  refine vx_cV X (zX1_there (kL K) D hl c v0 v1 v2 v3 v5 v6 v7 ) q1797 q1799 qs36 q137 q1800 nX1_there ⟨(Nat.le_of_ble_eq_true rfl), (Nat.le_of_ble_eq_true rfl)⟩ dX1_bestPower_1 rfl (Nat.le_of_ble_eq_true rfl) (recv X hc CL_X1) ⟨hK, hc⟩ (fun _ z => z.elim) ⟨(Nat.le_of_ble_eq_true rfl), (Nat.le_of_ble_eq_true rfl)⟩ (fun Xn q H hq hz_ hk hXO => ?_) (fun v_ H hq hz_ hk => hq.elim)
  obtain rfl := hq
  exact vt_out X (fun x hx => (ht x hx).elim) hQ hXO (Nat.le_of_ble_eq_true rfl) (Nat.le_of_ble_eq_true rfl) rfl
theorem nX1_meanPower : notMH yX1_meanPower 0 := by decide +kernel
set_option maxHeartbeats 800000 in
theorem zX1_meanPower (l : Launch) (D : DD) (hl : l.stackTraces = false) (c : Nat) (v0 v1 v2 v3 v5 v6 v7 : Value)   : Cx l yX1_meanPower cX1_meanPower 8 (some .long) { frames := 8, cells := 1, slots := 6, locals := 129 } D [.ref c] (fun H => KH D H ∧ oB D H c 0 [v0, v1, v2, v3, .null, v5, v6, v7]) (fun _ => False) (fun r H H1 => False) (fun Xn q H H1 => Xn = "java/lang/IllegalStateException") := by
  refine Cx.of (by decide +kernel) (Nat.le_of_ble_eq_true rfl) (fun K Qf hkl X ht hM hQ => ?_)
  subst hkl
  obtain ⟨hK, hc⟩ := hM
  have hz : (kS K).heap.size ≤ (kS K).heap.size := Nat.le_refl _
  refine vv_sub (lv' := [(0, .ref c)]) [0] rfl ?_
  refine vv_lconst (v := 0) X dX1_meanPower_0 (by decide) ?_
  refine vv_lstore_n (lv' := [(1, .long (0)), (0, .ref c)]) X dX1_meanPower_1 rfl (by decide) rfl ?_
  refine vv_aload_n X dX1_meanPower_2 rfl 1 rfl ?_
  refine vx_cV X (zX1_there (kL K) D hl c v0 v1 v2 v3 v5 v6 v7 ) q1797 q1799 qs36 q137 q1800 nX1_there ⟨(Nat.le_of_ble_eq_true rfl), (Nat.le_of_ble_eq_true rfl)⟩ dX1_meanPower_3 rfl (Nat.le_of_ble_eq_true rfl) (recv X hc CL_X1) ⟨hK, hc⟩ (fun _ z => z.elim) ⟨(Nat.le_of_ble_eq_true rfl), (Nat.le_of_ble_eq_true rfl)⟩ (fun Xn q H hq hz_ hk hXO => ?_) (fun v_ H hq hz_ hk => hq.elim)
  obtain rfl := hq
  exact vt_out X (fun x hx => (ht x hx).elim) hQ hXO (Nat.le_of_ble_eq_true rfl) (Nat.le_of_ble_eq_true rfl) rfl
theorem nX1_peaks : notMH yX1_peaks 0 := by decide +kernel
set_option maxHeartbeats 800000 in
theorem zX1_peaks (l : Launch) (D : DD) (hl : l.stackTraces = false) (c : Nat) (v0 v1 v2 v3 v5 v6 v7 : Value)   : Cx l yX1_peaks cX1_peaks 2 (some .int) { frames := 8, cells := 1, slots := 6, locals := 129 } D [.ref c] (fun H => KH D H ∧ oB D H c 0 [v0, v1, v2, v3, .null, v5, v6, v7]) (fun _ => False) (fun r H H1 => False) (fun Xn q H H1 => Xn = "java/lang/IllegalStateException") := by
  refine Cx.of (by decide +kernel) (Nat.le_of_ble_eq_true rfl) (fun K Qf hkl X ht hM hQ => ?_)
  subst hkl
  obtain ⟨hK, hc⟩ := hM
  have hz : (kS K).heap.size ≤ (kS K).heap.size := Nat.le_refl _
  refine vv_sub (lv' := [(0, .ref c)]) [0] rfl ?_
  refine vv_aload_n X dX1_peaks_0 rfl 0 rfl ?_
  refine vx_cV X (zX1_there (kL K) D hl c v0 v1 v2 v3 v5 v6 v7 ) q1797 q1799 qs36 q137 q1800 nX1_there ⟨(Nat.le_of_ble_eq_true rfl), (Nat.le_of_ble_eq_true rfl)⟩ dX1_peaks_1 rfl (Nat.le_of_ble_eq_true rfl) (recv X hc CL_X1) ⟨hK, hc⟩ (fun _ z => z.elim) ⟨(Nat.le_of_ble_eq_true rfl), (Nat.le_of_ble_eq_true rfl)⟩ (fun Xn q H hq hz_ hk hXO => ?_) (fun v_ H hq hz_ hk => hq.elim)
  obtain rfl := hq
  exact vt_out X (fun x hx => (ht x hx).elim) hQ hXO (Nat.le_of_ble_eq_true rfl) (Nat.le_of_ble_eq_true rfl) rfl
theorem nX1_peakAt : notMH yX1_peakAt 1 := by decide +kernel
set_option maxHeartbeats 800000 in
theorem zX1_peakAt (l : Launch) (D : DD) (hl : l.stackTraces = false) (c : Nat) (v0 v1 v2 v3 v5 v6 v7 : Value) (q0 : Int32)  : Cx l yX1_peakAt cX1_peakAt 3 (some .int) { frames := 8, cells := 1, slots := 6, locals := 129 } D [.ref c, .int (q0)] (fun H => KH D H ∧ oB D H c 0 [v0, v1, v2, v3, .null, v5, v6, v7]) (fun _ => False) (fun r H H1 => False) (fun Xn q H H1 => Xn = "java/lang/IllegalStateException") := by
  refine Cx.of (by decide +kernel) (Nat.le_of_ble_eq_true rfl) (fun K Qf hkl X ht hM hQ => ?_)
  subst hkl
  obtain ⟨hK, hc⟩ := hM
  have hz : (kS K).heap.size ≤ (kS K).heap.size := Nat.le_refl _
  refine vv_sub (lv' := [(0, .ref c), (1, .int (q0))]) [0, 1] rfl ?_
  refine vv_aload_n X dX1_peakAt_0 rfl 0 rfl ?_
  refine vx_cV X (zX1_there (kL K) D hl c v0 v1 v2 v3 v5 v6 v7 ) q1797 q1799 qs36 q137 q1800 nX1_there ⟨(Nat.le_of_ble_eq_true rfl), (Nat.le_of_ble_eq_true rfl)⟩ dX1_peakAt_1 rfl (Nat.le_of_ble_eq_true rfl) (recv X hc CL_X1) ⟨hK, hc⟩ (fun _ z => z.elim) ⟨(Nat.le_of_ble_eq_true rfl), (Nat.le_of_ble_eq_true rfl)⟩ (fun Xn q H hq hz_ hk hXO => ?_) (fun v_ H hq hz_ hk => hq.elim)
  obtain rfl := hq
  exact vt_out X (fun x hx => (ht x hx).elim) hQ hXO (Nat.le_of_ble_eq_true rfl) (Nat.le_of_ble_eq_true rfl) rfl
theorem nX1_isPeak : notMH yX1_isPeak 1 := by decide +kernel
set_option maxHeartbeats 800000 in
theorem zX1_isPeak (l : Launch) (D : DD) (hl : l.stackTraces = false) (c : Nat) (v0 v1 v2 v3 v5 v6 v7 : Value) (q0 : Int32)  : Cx l yX1_isPeak cX1_isPeak 2 (some .boolean) { frames := 9, cells := 1, slots := 6, locals := 150 } D [.ref c, .int (q0)] (fun H => KH D H ∧ oB D H c 0 [v0, v1, v2, v3, .null, v5, v6, v7]) (fun _ => False) (fun r H H1 => False) (fun Xn q H H1 => Xn = "java/lang/IllegalStateException") := by
  refine Cx.of (by decide +kernel) (Nat.le_of_ble_eq_true rfl) (fun K Qf hkl X ht hM hQ => ?_)
  subst hkl
  obtain ⟨hK, hc⟩ := hM
  have hz : (kS K).heap.size ≤ (kS K).heap.size := Nat.le_refl _
  refine vv_sub (lv' := [(0, .ref c), (1, .int (q0))]) [0, 1] rfl ?_
  refine vv_aload_n X dX1_isPeak_0 rfl 0 rfl ?_
  refine vv_iload_n X dX1_isPeak_1 rfl 1 rfl ?_
  refine vx_cV X (zX1_withCell (kL K) D hl c v0 v1 v2 v3 v5 v6 v7 q0) q1845 q1847 qs37 q137 q1848 nX1_withCell ⟨(Nat.le_of_ble_eq_true rfl), (Nat.le_of_ble_eq_true rfl)⟩ dX1_isPeak_2 rfl (Nat.le_of_ble_eq_true rfl) (recv X hc CL_X1) ⟨hK, hc⟩ (fun _ z => z.elim) ⟨(Nat.le_of_ble_eq_true rfl), (Nat.le_of_ble_eq_true rfl)⟩ (fun Xn q H hq hz_ hk hXO => ?_) (fun v_ H hq hz_ hk => hq.elim)
  obtain rfl := hq
  exact vt_out X (fun x hx => (ht x hx).elim) hQ hXO (Nat.le_of_ble_eq_true rfl) (Nat.le_of_ble_eq_true rfl) rfl
theorem nX1_zonePower : notMH yX1_zonePower 1 := by decide +kernel
set_option maxHeartbeats 800000 in
theorem zX1_zonePower (l : Launch) (D : DD) (hl : l.stackTraces = false) (c : Nat) (v0 v1 v2 v3 v5 v6 v7 : Value) (q0 : Int32)  : Cx l yX1_zonePower cX1_zonePower 6 (some .long) { frames := 9, cells := 1, slots := 6, locals := 150 } D [.ref c, .int (q0)] (fun H => KH D H ∧ oB D H c 0 [v0, v1, v2, v3, .null, v5, v6, v7]) (fun _ => False) (fun r H H1 => False) (fun Xn q H H1 => Xn = "java/lang/IllegalStateException") := by
  refine Cx.of (by decide +kernel) (Nat.le_of_ble_eq_true rfl) (fun K Qf hkl X ht hM hQ => ?_)
  subst hkl
  obtain ⟨hK, hc⟩ := hM
  have hz : (kS K).heap.size ≤ (kS K).heap.size := Nat.le_refl _
  refine vv_sub (lv' := [(0, .ref c), (1, .int (q0))]) [0, 1] rfl ?_
  refine vv_aload_n X dX1_zonePower_0 rfl 0 rfl ?_
  refine vv_iload_n X dX1_zonePower_1 rfl 1 rfl ?_
  refine vx_cV X (zX1_withZone (kL K) D hl c v0 v1 v2 v3 v5 v6 v7 q0) q2345 q2347 qs47 q137 q2348 nX1_withZone ⟨(Nat.le_of_ble_eq_true rfl), (Nat.le_of_ble_eq_true rfl)⟩ dX1_zonePower_2 rfl (Nat.le_of_ble_eq_true rfl) (recv X hc CL_X1) ⟨hK, hc⟩ (fun _ z => z.elim) ⟨(Nat.le_of_ble_eq_true rfl), (Nat.le_of_ble_eq_true rfl)⟩ (fun Xn q H hq hz_ hk hXO => ?_) (fun v_ H hq hz_ hk => hq.elim)
  obtain rfl := hq
  exact vt_out X (fun x hx => (ht x hx).elim) hQ hXO (Nat.le_of_ble_eq_true rfl) (Nat.le_of_ble_eq_true rfl) rfl
theorem nX1_zoneBest : notMH yX1_zoneBest 1 := by decide +kernel
set_option maxHeartbeats 800000 in
theorem zX1_zoneBest (l : Launch) (D : DD) (hl : l.stackTraces = false) (c : Nat) (v0 v1 v2 v3 v5 v6 v7 : Value) (q0 : Int32)  : Cx l yX1_zoneBest cX1_zoneBest 4 (some .int) { frames := 9, cells := 1, slots := 6, locals := 150 } D [.ref c, .int (q0)] (fun H => KH D H ∧ oB D H c 0 [v0, v1, v2, v3, .null, v5, v6, v7]) (fun _ => False) (fun r H H1 => False) (fun Xn q H H1 => Xn = "java/lang/IllegalStateException") := by
  refine Cx.of (by decide +kernel) (Nat.le_of_ble_eq_true rfl) (fun K Qf hkl X ht hM hQ => ?_)
  subst hkl
  obtain ⟨hK, hc⟩ := hM
  have hz : (kS K).heap.size ≤ (kS K).heap.size := Nat.le_refl _
  refine vv_sub (lv' := [(0, .ref c), (1, .int (q0))]) [0, 1] rfl ?_
  refine vv_aload_n X dX1_zoneBest_0 rfl 0 rfl ?_
  refine vv_iload_n X dX1_zoneBest_1 rfl 1 rfl ?_
  refine vx_cV X (zX1_withZone (kL K) D hl c v0 v1 v2 v3 v5 v6 v7 q0) q2345 q2347 qs47 q137 q2348 nX1_withZone ⟨(Nat.le_of_ble_eq_true rfl), (Nat.le_of_ble_eq_true rfl)⟩ dX1_zoneBest_2 rfl (Nat.le_of_ble_eq_true rfl) (recv X hc CL_X1) ⟨hK, hc⟩ (fun _ z => z.elim) ⟨(Nat.le_of_ble_eq_true rfl), (Nat.le_of_ble_eq_true rfl)⟩ (fun Xn q H hq hz_ hk hXO => ?_) (fun v_ H hq hz_ hk => hq.elim)
  obtain rfl := hq
  exact vt_out X (fun x hx => (ht x hx).elim) hQ hXO (Nat.le_of_ble_eq_true rfl) (Nat.le_of_ble_eq_true rfl) rfl
theorem nX1_contrast : notMH yX1_contrast 0 := by decide +kernel
set_option maxHeartbeats 800000 in
theorem zX1_contrast (l : Launch) (D : DD) (hl : l.stackTraces = false) (c : Nat) (v0 v1 v2 v3 v5 v6 v7 : Value)   : Cx l yX1_contrast cX1_contrast 4 (some .float) { frames := 8, cells := 1, slots := 6, locals := 129 } D [.ref c] (fun H => KH D H ∧ oB D H c 0 [v0, v1, v2, v3, .null, v5, v6, v7]) (fun _ => False) (fun r H H1 => False) (fun Xn q H H1 => Xn = "java/lang/IllegalStateException") := by
  refine Cx.of (by decide +kernel) (Nat.le_of_ble_eq_true rfl) (fun K Qf hkl X ht hM hQ => ?_)
  subst hkl
  obtain ⟨hK, hc⟩ := hM
  have hz : (kS K).heap.size ≤ (kS K).heap.size := Nat.le_refl _
  refine vv_sub (lv' := [(0, .ref c)]) [0] rfl ?_
  refine vv_aload_n X dX1_contrast_0 rfl 0 rfl ?_
  refine vx_cV X (zX1_there (kL K) D hl c v0 v1 v2 v3 v5 v6 v7 ) q1797 q1799 qs36 q137 q1800 nX1_there ⟨(Nat.le_of_ble_eq_true rfl), (Nat.le_of_ble_eq_true rfl)⟩ dX1_contrast_1 rfl (Nat.le_of_ble_eq_true rfl) (recv X hc CL_X1) ⟨hK, hc⟩ (fun _ z => z.elim) ⟨(Nat.le_of_ble_eq_true rfl), (Nat.le_of_ble_eq_true rfl)⟩ (fun Xn q H hq hz_ hk hXO => ?_) (fun v_ H hq hz_ hk => hq.elim)
  obtain rfl := hq
  exact vt_out X (fun x hx => (ht x hx).elim) hQ hXO (Nat.le_of_ble_eq_true rfl) (Nat.le_of_ble_eq_true rfl) rfl
theorem nX1_alias : notMH yX1_alias 3 := by decide +kernel
set_option maxHeartbeats 800000 in
theorem zX1_alias (l : Launch) (D : DD) (hl : l.stackTraces = false) (c : Nat) (v0 v1 v2 v3 v5 v6 v7 : Value) (q0 q1 q2 : Int32)  : Cx l yX1_alias cX1_alias 4 (some .int) { frames := 10, cells := 1, slots := 6, locals := 172 } D [.ref c, .int (q0), .int (q1), .int (q2)] (fun H => KH D H ∧ oB D H c 0 [v0, v1, v2, v3, .null, v5, v6, v7]) (fun _ => False) (fun r H H1 => False) (fun Xn q H H1 => Xn = "java/lang/IllegalStateException") := by
  refine Cx.of (by decide +kernel) (Nat.le_of_ble_eq_true rfl) (fun K Qf hkl X ht hM hQ => ?_)
  subst hkl
  obtain ⟨hK, hc⟩ := hM
  have hz : (kS K).heap.size ≤ (kS K).heap.size := Nat.le_refl _
  refine vv_sub (lv' := [(0, .ref c), (1, .int (q0)), (2, .int (q1)), (3, .int (q2))]) [0, 1, 2, 3] rfl ?_
  refine vv_aload_n X dX1_alias_0 rfl 0 rfl ?_
  refine vv_iload_n X dX1_alias_1 rfl 1 rfl ?_
  refine vv_iload_n X dX1_alias_2 rfl 2 rfl ?_
  refine vx_cV X (zX1_withCells (kL K) D hl c v0 v1 v2 v3 v5 v6 v7 q0 q1) q2386 q2388 qs48 q137 q2389 nX1_withCells ⟨(Nat.le_of_ble_eq_true rfl), (Nat.le_of_ble_eq_true rfl)⟩ dX1_alias_3 rfl (Nat.le_of_ble_eq_true rfl) (recv X hc CL_X1) ⟨hK, hc⟩ (fun _ z => z.elim) ⟨(Nat.le_of_ble_eq_true rfl), (Nat.le_of_ble_eq_true rfl)⟩ (fun Xn q H hq hz_ hk hXO => ?_) (fun v_ H hq hz_ hk => hq.elim)
  obtain rfl := hq
  exact vt_out X (fun x hx => (ht x hx).elim) hQ hXO (Nat.le_of_ble_eq_true rfl) (Nat.le_of_ble_eq_true rfl) rfl
theorem nX1_isAlias : notMH yX1_isAlias 3 := by decide +kernel
set_option maxHeartbeats 800000 in
theorem zX1_isAlias (l : Launch) (D : DD) (hl : l.stackTraces = false) (c : Nat) (v0 v1 v2 v3 v5 v6 v7 : Value) (q0 q1 q2 : Int32)  : Cx l yX1_isAlias cX1_isAlias 4 (some .boolean) { frames := 9, cells := 1, slots := 6, locals := 150 } D [.ref c, .int (q0), .int (q1), .int (q2)] (fun H => KH D H ∧ oB D H c 0 [v0, v1, v2, v3, .null, v5, v6, v7]) (fun _ => False) (fun r H H1 => False) (fun Xn q H H1 => Xn = "java/lang/IllegalStateException") := by
  refine Cx.of (by decide +kernel) (Nat.le_of_ble_eq_true rfl) (fun K Qf hkl X ht hM hQ => ?_)
  subst hkl
  obtain ⟨hK, hc⟩ := hM
  have hz : (kS K).heap.size ≤ (kS K).heap.size := Nat.le_refl _
  refine vv_sub (lv' := [(0, .ref c), (1, .int (q0)), (2, .int (q1)), (3, .int (q2))]) [0, 1, 2, 3] rfl ?_
  refine vv_aload_n X dX1_isAlias_0 rfl 0 rfl ?_
  refine vv_iload_n X dX1_isAlias_1 rfl 1 rfl ?_
  refine vx_cV X (zX1_withCell (kL K) D hl c v0 v1 v2 v3 v5 v6 v7 q0) q1845 q1847 qs37 q137 q1848 nX1_withCell ⟨(Nat.le_of_ble_eq_true rfl), (Nat.le_of_ble_eq_true rfl)⟩ dX1_isAlias_2 rfl (Nat.le_of_ble_eq_true rfl) (recv X hc CL_X1) ⟨hK, hc⟩ (fun _ z => z.elim) ⟨(Nat.le_of_ble_eq_true rfl), (Nat.le_of_ble_eq_true rfl)⟩ (fun Xn q H hq hz_ hk hXO => ?_) (fun v_ H hq hz_ hk => hq.elim)
  obtain rfl := hq
  exact vt_out X (fun x hx => (ht x hx).elim) hQ hXO (Nat.le_of_ble_eq_true rfl) (Nat.le_of_ble_eq_true rfl) rfl
theorem nX1_aliases : notMH yX1_aliases 2 := by decide +kernel
set_option maxHeartbeats 800000 in
theorem zX1_aliases (l : Launch) (D : DD) (hl : l.stackTraces = false) (c : Nat) (v0 v1 v2 v3 v5 v6 v7 : Value) (q0 q1 : Int32)  : Cx l yX1_aliases cX1_aliases 4 (some .int) { frames := 8, cells := 1, slots := 6, locals := 129 } D [.ref c, .int (q0), .int (q1)] (fun H => KH D H ∧ oB D H c 0 [v0, v1, v2, v3, .null, v5, v6, v7]) (fun _ => False) (fun r H H1 => False) (fun Xn q H H1 => Xn = "java/lang/IllegalStateException") := by
  refine Cx.of (by decide +kernel) (Nat.le_of_ble_eq_true rfl) (fun K Qf hkl X ht hM hQ => ?_)
  subst hkl
  obtain ⟨hK, hc⟩ := hM
  have hz : (kS K).heap.size ≤ (kS K).heap.size := Nat.le_refl _
  refine vv_sub (lv' := [(0, .ref c), (1, .int (q0)), (2, .int (q1))]) [0, 1, 2] rfl ?_
  refine vv_aload_n X dX1_aliases_0 rfl 0 rfl ?_
  refine vx_cV X (zX1_there (kL K) D hl c v0 v1 v2 v3 v5 v6 v7 ) q1797 q1799 qs36 q137 q1800 nX1_there ⟨(Nat.le_of_ble_eq_true rfl), (Nat.le_of_ble_eq_true rfl)⟩ dX1_aliases_1 rfl (Nat.le_of_ble_eq_true rfl) (recv X hc CL_X1) ⟨hK, hc⟩ (fun _ z => z.elim) ⟨(Nat.le_of_ble_eq_true rfl), (Nat.le_of_ble_eq_true rfl)⟩ (fun Xn q H hq hz_ hk hXO => ?_) (fun v_ H hq hz_ hk => hq.elim)
  obtain rfl := hq
  exact vt_out X (fun x hx => (ht x hx).elim) hQ hXO (Nat.le_of_ble_eq_true rfl) (Nat.le_of_ble_eq_true rfl) rfl
theorem nX1_blockPower : notMH yX1_blockPower 3 := by decide +kernel
set_option maxHeartbeats 800000 in
theorem zX1_blockPower (l : Launch) (D : DD) (hl : l.stackTraces = false) (c : Nat) (v0 v1 v2 v3 v5 v6 v7 : Value) (q0 q1 q2 : Int32)  : Cx l yX1_blockPower cX1_blockPower 4 (some .long) { frames := 9, cells := 1, slots := 6, locals := 150 } D [.ref c, .int (q0), .int (q1), .int (q2)] (fun H => KH D H ∧ oB D H c 0 [v0, v1, v2, v3, .null, v5, v6, v7]) (fun _ => False) (fun r H H1 => False) (fun Xn q H H1 => Xn = "java/lang/IllegalStateException") := by
  refine Cx.of (by decide +kernel) (Nat.le_of_ble_eq_true rfl) (fun K Qf hkl X ht hM hQ => ?_)
  subst hkl
  obtain ⟨hK, hc⟩ := hM
  have hz : (kS K).heap.size ≤ (kS K).heap.size := Nat.le_refl _
  refine vv_sub (lv' := [(0, .ref c), (1, .int (q0)), (2, .int (q1)), (3, .int (q2))]) [0, 1, 2, 3] rfl ?_
  refine vv_aload_n X dX1_blockPower_0 rfl 0 rfl ?_
  refine vv_iload_n X dX1_blockPower_1 rfl 1 rfl ?_
  refine vx_cV X (zX1_withCell (kL K) D hl c v0 v1 v2 v3 v5 v6 v7 q0) q1845 q1847 qs37 q137 q1848 nX1_withCell ⟨(Nat.le_of_ble_eq_true rfl), (Nat.le_of_ble_eq_true rfl)⟩ dX1_blockPower_2 rfl (Nat.le_of_ble_eq_true rfl) (recv X hc CL_X1) ⟨hK, hc⟩ (fun _ z => z.elim) ⟨(Nat.le_of_ble_eq_true rfl), (Nat.le_of_ble_eq_true rfl)⟩ (fun Xn q H hq hz_ hk hXO => ?_) (fun v_ H hq hz_ hk => hq.elim)
  obtain rfl := hq
  exact vt_out X (fun x hx => (ht x hx).elim) hQ hXO (Nat.le_of_ble_eq_true rfl) (Nat.le_of_ble_eq_true rfl) rfl
theorem nX1_blockBest : notMH yX1_blockBest 2 := by decide +kernel
set_option maxHeartbeats 800000 in
theorem zX1_blockBest (l : Launch) (D : DD) (hl : l.stackTraces = false) (c : Nat) (v0 v1 v2 v3 v5 v6 v7 : Value) (q0 q1 : Int32)  : Cx l yX1_blockBest cX1_blockBest 3 (some .int) { frames := 8, cells := 1, slots := 6, locals := 129 } D [.ref c, .int (q0), .int (q1)] (fun H => KH D H ∧ oB D H c 0 [v0, v1, v2, v3, .null, v5, v6, v7]) (fun _ => False) (fun r H H1 => False) (fun Xn q H H1 => Xn = "java/lang/IllegalStateException") := by
  refine Cx.of (by decide +kernel) (Nat.le_of_ble_eq_true rfl) (fun K Qf hkl X ht hM hQ => ?_)
  subst hkl
  obtain ⟨hK, hc⟩ := hM
  have hz : (kS K).heap.size ≤ (kS K).heap.size := Nat.le_refl _
  refine vv_sub (lv' := [(0, .ref c), (1, .int (q0)), (2, .int (q1))]) [0, 1, 2] rfl ?_
  refine vv_aload_n X dX1_blockBest_0 rfl 0 rfl ?_
  refine vx_cV X (zX1_there (kL K) D hl c v0 v1 v2 v3 v5 v6 v7 ) q1797 q1799 qs36 q137 q1800 nX1_there ⟨(Nat.le_of_ble_eq_true rfl), (Nat.le_of_ble_eq_true rfl)⟩ dX1_blockBest_1 rfl (Nat.le_of_ble_eq_true rfl) (recv X hc CL_X1) ⟨hK, hc⟩ (fun _ z => z.elim) ⟨(Nat.le_of_ble_eq_true rfl), (Nat.le_of_ble_eq_true rfl)⟩ (fun Xn q H hq hz_ hk hXO => ?_) (fun v_ H hq hz_ hk => hq.elim)
  obtain rfl := hq
  exact vt_out X (fun x hx => (ht x hx).elim) hQ hXO (Nat.le_of_ble_eq_true rfl) (Nat.le_of_ble_eq_true rfl) rfl
theorem nX1_path : notMH yX1_path 1 := by decide +kernel
set_option maxHeartbeats 800000 in
theorem zX1_path (l : Launch) (D : DD) (hl : l.stackTraces = false) (c : Nat) (v0 v1 v2 v3 v5 v6 v7 : Value) (q0 : Int32)  : Cx l yX1_path cX1_path 6 (some .int) { frames := 8, cells := 1, slots := 6, locals := 129 } D [.ref c, .int (q0)] (fun H => KH D H ∧ oB D H c 0 [v0, v1, v2, v3, .null, v5, v6, v7]) (fun _ => False) (fun r H H1 => False) (fun Xn q H H1 => Xn = "java/lang/IllegalStateException") := by
  refine Cx.of (by decide +kernel) (Nat.le_of_ble_eq_true rfl) (fun K Qf hkl X ht hM hQ => ?_)
  subst hkl
  obtain ⟨hK, hc⟩ := hM
  have hz : (kS K).heap.size ≤ (kS K).heap.size := Nat.le_refl _
  refine vv_sub (lv' := [(0, .ref c), (1, .int (q0))]) [0, 1] rfl ?_
  refine vv_aload_n X dX1_path_0 rfl 0 rfl ?_
  refine vx_cV X (zX1_there (kL K) D hl c v0 v1 v2 v3 v5 v6 v7 ) q1797 q1799 qs36 q137 q1800 nX1_there ⟨(Nat.le_of_ble_eq_true rfl), (Nat.le_of_ble_eq_true rfl)⟩ dX1_path_1 rfl (Nat.le_of_ble_eq_true rfl) (recv X hc CL_X1) ⟨hK, hc⟩ (fun _ z => z.elim) ⟨(Nat.le_of_ble_eq_true rfl), (Nat.le_of_ble_eq_true rfl)⟩ (fun Xn q H hq hz_ hk hXO => ?_) (fun v_ H hq hz_ hk => hq.elim)
  obtain rfl := hq
  exact vt_out X (fun x hx => (ht x hx).elim) hQ hXO (Nat.le_of_ble_eq_true rfl) (Nat.le_of_ble_eq_true rfl) rfl
theorem nX1_trackScore : notMH yX1_trackScore 1 := by decide +kernel
set_option maxHeartbeats 800000 in
theorem zX1_trackScore (l : Launch) (D : DD) (hl : l.stackTraces = false) (c : Nat) (v0 v1 v2 v3 v5 v6 v7 : Value) (q0 : Int32)  : Cx l yX1_trackScore cX1_trackScore 3 (some .long) { frames := 9, cells := 1, slots := 6, locals := 150 } D [.ref c, .int (q0)] (fun H => KH D H ∧ oB D H c 0 [v0, v1, v2, v3, .null, v5, v6, v7]) (fun _ => False) (fun r H H1 => False) (fun Xn q H H1 => Xn = "java/lang/IllegalStateException") := by
  refine Cx.of (by decide +kernel) (Nat.le_of_ble_eq_true rfl) (fun K Qf hkl X ht hM hQ => ?_)
  subst hkl
  obtain ⟨hK, hc⟩ := hM
  have hz : (kS K).heap.size ≤ (kS K).heap.size := Nat.le_refl _
  refine vv_sub (lv' := [(0, .ref c), (1, .int (q0))]) [0, 1] rfl ?_
  refine vv_aload_n X dX1_trackScore_0 rfl 0 rfl ?_
  refine vv_iload_n X dX1_trackScore_1 rfl 1 rfl ?_
  refine vx_cV X (zX1_checkLength (kL K) D hl c v0 v1 v2 v3 v5 v6 v7 q0) q2487 q2489 qs51 q137 q2490 nX1_checkLength ⟨(Nat.le_of_ble_eq_true rfl), (Nat.le_of_ble_eq_true rfl)⟩ dX1_trackScore_2 rfl (Nat.le_of_ble_eq_true rfl) (recv X hc CL_X1) ⟨hK, hc⟩ (fun _ z => z.elim) ⟨(Nat.le_of_ble_eq_true rfl), (Nat.le_of_ble_eq_true rfl)⟩ (fun Xn q H hq hz_ hk hXO => ?_) (fun v_ H hq hz_ hk => hq.elim)
  obtain rfl := hq
  exact vt_out X (fun x hx => (ht x hx).elim) hQ hXO (Nat.le_of_ble_eq_true rfl) (Nat.le_of_ble_eq_true rfl) rfl
theorem nX1_trackCell : notMH yX1_trackCell 2 := by decide +kernel
set_option maxHeartbeats 800000 in
theorem zX1_trackCell (l : Launch) (D : DD) (hl : l.stackTraces = false) (c : Nat) (v0 v1 v2 v3 v5 v6 v7 : Value) (q0 q1 : Int32)  : Cx l yX1_trackCell cX1_trackCell 6 (some .int) { frames := 9, cells := 1, slots := 6, locals := 150 } D [.ref c, .int (q0), .int (q1)] (fun H => KH D H ∧ oB D H c 0 [v0, v1, v2, v3, .null, v5, v6, v7]) (fun _ => False) (fun r H H1 => False) (fun Xn q H H1 => Xn = "java/lang/IllegalStateException") := by
  refine Cx.of (by decide +kernel) (Nat.le_of_ble_eq_true rfl) (fun K Qf hkl X ht hM hQ => ?_)
  subst hkl
  obtain ⟨hK, hc⟩ := hM
  have hz : (kS K).heap.size ≤ (kS K).heap.size := Nat.le_refl _
  refine vv_sub (lv' := [(0, .ref c), (1, .int (q0)), (2, .int (q1))]) [0, 1, 2] rfl ?_
  refine vv_aload_n X dX1_trackCell_0 rfl 0 rfl ?_
  refine vv_iload_n X dX1_trackCell_1 rfl 1 rfl ?_
  refine vx_cV X (zX1_checkLength (kL K) D hl c v0 v1 v2 v3 v5 v6 v7 q0) q2487 q2489 qs51 q137 q2490 nX1_checkLength ⟨(Nat.le_of_ble_eq_true rfl), (Nat.le_of_ble_eq_true rfl)⟩ dX1_trackCell_2 rfl (Nat.le_of_ble_eq_true rfl) (recv X hc CL_X1) ⟨hK, hc⟩ (fun _ z => z.elim) ⟨(Nat.le_of_ble_eq_true rfl), (Nat.le_of_ble_eq_true rfl)⟩ (fun Xn q H hq hz_ hk hXO => ?_) (fun v_ H hq hz_ hk => hq.elim)
  obtain rfl := hq
  exact vt_out X (fun x hx => (ht x hx).elim) hQ hXO (Nat.le_of_ble_eq_true rfl) (Nat.le_of_ble_eq_true rfl) rfl
theorem nX1_movingPower : notMH yX1_movingPower 3 := by decide +kernel
set_option maxHeartbeats 800000 in
theorem zX1_movingPower (l : Launch) (D : DD) (hl : l.stackTraces = false) (c : Nat) (v0 v1 v2 v3 v5 v6 v7 : Value) (q0 q1 q2 : Int32)  : Cx l yX1_movingPower cX1_movingPower 4 (some .long) { frames := 9, cells := 1, slots := 6, locals := 150 } D [.ref c, .int (q0), .int (q1), .int (q2)] (fun H => KH D H ∧ oB D H c 0 [v0, v1, v2, v3, .null, v5, v6, v7]) (fun _ => False) (fun r H H1 => False) (fun Xn q H H1 => Xn = "java/lang/IllegalStateException") := by
  refine Cx.of (by decide +kernel) (Nat.le_of_ble_eq_true rfl) (fun K Qf hkl X ht hM hQ => ?_)
  subst hkl
  obtain ⟨hK, hc⟩ := hM
  have hz : (kS K).heap.size ≤ (kS K).heap.size := Nat.le_refl _
  refine vv_sub (lv' := [(0, .ref c), (1, .int (q0)), (2, .int (q1)), (3, .int (q2))]) [0, 1, 2, 3] rfl ?_
  refine vv_aload_n X dX1_movingPower_0 rfl 0 rfl ?_
  refine vv_iload_n X dX1_movingPower_1 rfl 1 rfl ?_
  refine vx_cV X (zX1_withCell (kL K) D hl c v0 v1 v2 v3 v5 v6 v7 q0) q1845 q1847 qs37 q137 q1848 nX1_withCell ⟨(Nat.le_of_ble_eq_true rfl), (Nat.le_of_ble_eq_true rfl)⟩ dX1_movingPower_2 rfl (Nat.le_of_ble_eq_true rfl) (recv X hc CL_X1) ⟨hK, hc⟩ (fun _ z => z.elim) ⟨(Nat.le_of_ble_eq_true rfl), (Nat.le_of_ble_eq_true rfl)⟩ (fun Xn q H hq hz_ hk hXO => ?_) (fun v_ H hq hz_ hk => hq.elim)
  obtain rfl := hq
  exact vt_out X (fun x hx => (ht x hx).elim) hQ hXO (Nat.le_of_ble_eq_true rfl) (Nat.le_of_ble_eq_true rfl) rfl
theorem nX1_bestVelocity : notMH yX1_bestVelocity 3 := by decide +kernel
set_option maxHeartbeats 800000 in
theorem zX1_bestVelocity (l : Launch) (D : DD) (hl : l.stackTraces = false) (c : Nat) (v0 v1 v2 v3 v5 v6 v7 : Value) (q0 q1 q2 : Int32)  : Cx l yX1_bestVelocity cX1_bestVelocity 7 (some .int) { frames := 9, cells := 1, slots := 6, locals := 150 } D [.ref c, .int (q0), .int (q1), .int (q2)] (fun H => KH D H ∧ oB D H c 0 [v0, v1, v2, v3, .null, v5, v6, v7]) (fun _ => False) (fun r H H1 => False) (fun Xn q H H1 => Xn = "java/lang/IllegalStateException") := by
  refine Cx.of (by decide +kernel) (Nat.le_of_ble_eq_true rfl) (fun K Qf hkl X ht hM hQ => ?_)
  subst hkl
  obtain ⟨hK, hc⟩ := hM
  have hz : (kS K).heap.size ≤ (kS K).heap.size := Nat.le_refl _
  refine vv_sub (lv' := [(0, .ref c), (1, .int (q0)), (2, .int (q1)), (3, .int (q2))]) [0, 1, 2, 3] rfl ?_
  refine vv_aload_n X dX1_bestVelocity_0 rfl 0 rfl ?_
  refine vv_iload_n X dX1_bestVelocity_1 rfl 1 rfl ?_
  refine vx_cV X (zX1_withCell (kL K) D hl c v0 v1 v2 v3 v5 v6 v7 q0) q1845 q1847 qs37 q137 q1848 nX1_withCell ⟨(Nat.le_of_ble_eq_true rfl), (Nat.le_of_ble_eq_true rfl)⟩ dX1_bestVelocity_2 rfl (Nat.le_of_ble_eq_true rfl) (recv X hc CL_X1) ⟨hK, hc⟩ (fun _ z => z.elim) ⟨(Nat.le_of_ble_eq_true rfl), (Nat.le_of_ble_eq_true rfl)⟩ (fun Xn q H hq hz_ hk hXO => ?_) (fun v_ H hq hz_ hk => hq.elim)
  obtain rfl := hq
  exact vt_out X (fun x hx => (ht x hx).elim) hQ hXO (Nat.le_of_ble_eq_true rfl) (Nat.le_of_ble_eq_true rfl) rfl
theorem nX1_bestLag : notMH yX1_bestLag 3 := by decide +kernel
set_option maxHeartbeats 800000 in
theorem zX1_bestLag (l : Launch) (D : DD) (hl : l.stackTraces = false) (c : Nat) (v0 v1 v2 v3 v5 v6 v7 : Value) (q0 q1 q2 : Int32)  : Cx l yX1_bestLag cX1_bestLag 5 (some .int) { frames := 10, cells := 1, slots := 6, locals := 172 } D [.ref c, .int (q0), .int (q1), .int (q2)] (fun H => KH D H ∧ oB D H c 0 [v0, v1, v2, v3, .null, v5, v6, v7]) (fun _ => False) (fun r H H1 => False) (fun Xn q H H1 => Xn = "java/lang/IllegalStateException") := by
  refine Cx.of (by decide +kernel) (Nat.le_of_ble_eq_true rfl) (fun K Qf hkl X ht hM hQ => ?_)
  subst hkl
  obtain ⟨hK, hc⟩ := hM
  have hz : (kS K).heap.size ≤ (kS K).heap.size := Nat.le_refl _
  refine vv_sub (lv' := [(0, .ref c), (1, .int (q0)), (2, .int (q1)), (3, .int (q2))]) [0, 1, 2, 3] rfl ?_
  refine vv_aload_n X dX1_bestLag_0 rfl 0 rfl ?_
  refine vv_iload_n X dX1_bestLag_1 rfl 1 rfl ?_
  refine vv_iload_n X dX1_bestLag_2 rfl 2 rfl ?_
  refine vx_cV X (zX1_withMics (kL K) D hl c v0 v1 v2 v3 v5 v6 v7 q0 q1) q2549 q2551 qs52 q137 q2552 nX1_withMics ⟨(Nat.le_of_ble_eq_true rfl), (Nat.le_of_ble_eq_true rfl)⟩ dX1_bestLag_3 rfl (Nat.le_of_ble_eq_true rfl) (recv X hc CL_X1) ⟨hK, hc⟩ (fun _ z => z.elim) ⟨(Nat.le_of_ble_eq_true rfl), (Nat.le_of_ble_eq_true rfl)⟩ (fun Xn q H hq hz_ hk hXO => ?_) (fun v_ H hq hz_ hk => hq.elim)
  obtain rfl := hq
  exact vt_out X (fun x hx => (ht x hx).elim) hQ hXO (Nat.le_of_ble_eq_true rfl) (Nat.le_of_ble_eq_true rfl) rfl
theorem nX1_loudest : notMH yX1_loudest 1 := by decide +kernel
set_option maxHeartbeats 800000 in
theorem zX1_loudest (l : Launch) (D : DD) (hl : l.stackTraces = false) (c : Nat) (v0 v1 v2 v3 v5 v6 v7 : Value) (q0 : Int32)  : Cx l yX1_loudest cX1_loudest 3 (some .int) { frames := 9, cells := 1, slots := 6, locals := 150 } D [.ref c, .int (q0)] (fun H => KH D H ∧ oB D H c 0 [v0, v1, v2, v3, .null, v5, v6, v7]) (fun _ => False) (fun r H H1 => False) (fun Xn q H H1 => Xn = "java/lang/IllegalStateException") := by
  refine Cx.of (by decide +kernel) (Nat.le_of_ble_eq_true rfl) (fun K Qf hkl X ht hM hQ => ?_)
  subst hkl
  obtain ⟨hK, hc⟩ := hM
  have hz : (kS K).heap.size ≤ (kS K).heap.size := Nat.le_refl _
  refine vv_sub (lv' := [(0, .ref c), (1, .int (q0))]) [0, 1] rfl ?_
  refine vv_aload_n X dX1_loudest_0 rfl 0 rfl ?_
  refine vv_iload_n X dX1_loudest_1 rfl 1 rfl ?_
  refine vx_cV X (zX1_withMic (kL K) D hl c v0 v1 v2 v3 v5 v6 v7 q0) q1793 q1795 qs35 q137 q1796 nX1_withMic ⟨(Nat.le_of_ble_eq_true rfl), (Nat.le_of_ble_eq_true rfl)⟩ dX1_loudest_2 rfl (Nat.le_of_ble_eq_true rfl) (recv X hc CL_X1) ⟨hK, hc⟩ (fun _ z => z.elim) ⟨(Nat.le_of_ble_eq_true rfl), (Nat.le_of_ble_eq_true rfl)⟩ (fun Xn q H hq hz_ hk hXO => ?_) (fun v_ H hq hz_ hk => hq.elim)
  obtain rfl := hq
  exact vt_out X (fun x hx => (ht x hx).elim) hQ hXO (Nat.le_of_ble_eq_true rfl) (Nat.le_of_ble_eq_true rfl) rfl
theorem nX1_writeMap : notMH yX1_writeMap 0 := by decide +kernel
set_option maxHeartbeats 800000 in
theorem zX1_writeMap (l : Launch) (D : DD) (hl : l.stackTraces = false) (c : Nat) (v0 v1 v2 v3 v5 v6 v7 : Value)   : Cx l yX1_writeMap cX1_writeMap 5 (some .int) { frames := 8, cells := 1, slots := 6, locals := 129 } D [.ref c] (fun H => KH D H ∧ oB D H c 0 [v0, v1, v2, v3, .null, v5, v6, v7]) (fun _ => False) (fun r H H1 => False) (fun Xn q H H1 => Xn = "java/lang/IllegalStateException") := by
  refine Cx.of (by decide +kernel) (Nat.le_of_ble_eq_true rfl) (fun K Qf hkl X ht hM hQ => ?_)
  subst hkl
  obtain ⟨hK, hc⟩ := hM
  have hz : (kS K).heap.size ≤ (kS K).heap.size := Nat.le_refl _
  refine vv_sub (lv' := [(0, .ref c)]) [0] rfl ?_
  refine vv_aload_n X dX1_writeMap_0 rfl 0 rfl ?_
  refine vx_cV X (zX1_there (kL K) D hl c v0 v1 v2 v3 v5 v6 v7 ) q1797 q1799 qs36 q137 q1800 nX1_there ⟨(Nat.le_of_ble_eq_true rfl), (Nat.le_of_ble_eq_true rfl)⟩ dX1_writeMap_1 rfl (Nat.le_of_ble_eq_true rfl) (recv X hc CL_X1) ⟨hK, hc⟩ (fun _ z => z.elim) ⟨(Nat.le_of_ble_eq_true rfl), (Nat.le_of_ble_eq_true rfl)⟩ (fun Xn q H hq hz_ hk hXO => ?_) (fun v_ H hq hz_ hk => hq.elim)
  obtain rfl := hq
  exact vt_out X (fun x hx => (ht x hx).elim) hQ hXO (Nat.le_of_ble_eq_true rfl) (Nat.le_of_ble_eq_true rfl) rfl
theorem nX1_pointBest : notMH yX1_pointBest 2 := by decide +kernel
set_option maxHeartbeats 800000 in
theorem zX1_pointBest (l : Launch) (D : DD) (hl : l.stackTraces = false) (c : Nat) (v0 v1 v2 v3 v5 v6 v7 : Value) (q0 q1 : Int32)  : Cx l yX1_pointBest cX1_pointBest 3 (some .int) { frames := 9, cells := 1, slots := 6, locals := 150 } D [.ref c, .int (q0), .int (q1)] (fun H => KH D H ∧ oB D H c 0 [v0, v1, v2, v3, .null, v5, v6, v7]) (fun _ => False) (fun r H H1 => False) (fun Xn q H H1 => Xn = "java/lang/IllegalStateException") := by
  refine Cx.of (by decide +kernel) (Nat.le_of_ble_eq_true rfl) (fun K Qf hkl X ht hM hQ => ?_)
  subst hkl
  obtain ⟨hK, hc⟩ := hM
  have hz : (kS K).heap.size ≤ (kS K).heap.size := Nat.le_refl _
  refine vv_sub (lv' := [(0, .ref c), (1, .int (q0)), (2, .int (q1))]) [0, 1, 2] rfl ?_
  refine vv_aload_n X dX1_pointBest_0 rfl 0 rfl ?_
  refine vv_iload_n X dX1_pointBest_1 rfl 1 rfl ?_
  refine vx_cV X (zX1_withCell (kL K) D hl c v0 v1 v2 v3 v5 v6 v7 q0) q1845 q1847 qs37 q137 q1848 nX1_withCell ⟨(Nat.le_of_ble_eq_true rfl), (Nat.le_of_ble_eq_true rfl)⟩ dX1_pointBest_2 rfl (Nat.le_of_ble_eq_true rfl) (recv X hc CL_X1) ⟨hK, hc⟩ (fun _ z => z.elim) ⟨(Nat.le_of_ble_eq_true rfl), (Nat.le_of_ble_eq_true rfl)⟩ (fun Xn q H hq hz_ hk hXO => ?_) (fun v_ H hq hz_ hk => hq.elim)
  obtain rfl := hq
  exact vt_out X (fun x hx => (ht x hx).elim) hQ hXO (Nat.le_of_ble_eq_true rfl) (Nat.le_of_ble_eq_true rfl) rfl
theorem nX1_pointPower : notMH yX1_pointPower 3 := by decide +kernel
set_option maxHeartbeats 800000 in
theorem zX1_pointPower (l : Launch) (D : DD) (hl : l.stackTraces = false) (c : Nat) (v0 v1 v2 v3 v5 v6 v7 : Value) (q0 q1 q2 : Int32)  : Cx l yX1_pointPower cX1_pointPower 4 (some .long) { frames := 10, cells := 1, slots := 6, locals := 172 } D [.ref c, .int (q0), .int (q1), .int (q2)] (fun H => KH D H ∧ oB D H c 0 [v0, v1, v2, v3, .null, v5, v6, v7]) (fun _ => False) (fun r H H1 => False) (fun Xn q H H1 => Xn = "java/lang/IllegalStateException") := by
  refine Cx.of (by decide +kernel) (Nat.le_of_ble_eq_true rfl) (fun K Qf hkl X ht hM hQ => ?_)
  subst hkl
  obtain ⟨hK, hc⟩ := hM
  have hz : (kS K).heap.size ≤ (kS K).heap.size := Nat.le_refl _
  refine vv_sub (lv' := [(0, .ref c), (1, .int (q0)), (2, .int (q1)), (3, .int (q2))]) [0, 1, 2, 3] rfl ?_
  refine vv_aload_n X dX1_pointPower_0 rfl 0 rfl ?_
  refine vv_iload_n X dX1_pointPower_1 rfl 1 rfl ?_
  refine vv_iload_n X dX1_pointPower_2 rfl 2 rfl ?_
  refine vx_cV X (zX1_withCells (kL K) D hl c v0 v1 v2 v3 v5 v6 v7 q0 q1) q2386 q2388 qs48 q137 q2389 nX1_withCells ⟨(Nat.le_of_ble_eq_true rfl), (Nat.le_of_ble_eq_true rfl)⟩ dX1_pointPower_3 rfl (Nat.le_of_ble_eq_true rfl) (recv X hc CL_X1) ⟨hK, hc⟩ (fun _ z => z.elim) ⟨(Nat.le_of_ble_eq_true rfl), (Nat.le_of_ble_eq_true rfl)⟩ (fun Xn q H hq hz_ hk hXO => ?_) (fun v_ H hq hz_ hk => hq.elim)
  obtain rfl := hq
  exact vt_out X (fun x hx => (ht x hx).elim) hQ hXO (Nat.le_of_ble_eq_true rfl) (Nat.le_of_ble_eq_true rfl) rfl
theorem nX1_bestWithout : notMH yX1_bestWithout 1 := by decide +kernel
set_option maxHeartbeats 800000 in
theorem zX1_bestWithout (l : Launch) (D : DD) (hl : l.stackTraces = false) (c : Nat) (v0 v1 v2 v3 v5 v6 v7 : Value) (q0 : Int32)  : Cx l yX1_bestWithout cX1_bestWithout 3 (some .int) { frames := 9, cells := 1, slots := 6, locals := 150 } D [.ref c, .int (q0)] (fun H => KH D H ∧ oB D H c 0 [v0, v1, v2, v3, .null, v5, v6, v7]) (fun _ => False) (fun r H H1 => False) (fun Xn q H H1 => Xn = "java/lang/IllegalStateException") := by
  refine Cx.of (by decide +kernel) (Nat.le_of_ble_eq_true rfl) (fun K Qf hkl X ht hM hQ => ?_)
  subst hkl
  obtain ⟨hK, hc⟩ := hM
  have hz : (kS K).heap.size ≤ (kS K).heap.size := Nat.le_refl _
  refine vv_sub (lv' := [(0, .ref c), (1, .int (q0))]) [0, 1] rfl ?_
  refine vv_aload_n X dX1_bestWithout_0 rfl 0 rfl ?_
  refine vv_iload_n X dX1_bestWithout_1 rfl 1 rfl ?_
  refine vx_cV X (zX1_withMic (kL K) D hl c v0 v1 v2 v3 v5 v6 v7 q0) q1793 q1795 qs35 q137 q1796 nX1_withMic ⟨(Nat.le_of_ble_eq_true rfl), (Nat.le_of_ble_eq_true rfl)⟩ dX1_bestWithout_2 rfl (Nat.le_of_ble_eq_true rfl) (recv X hc CL_X1) ⟨hK, hc⟩ (fun _ z => z.elim) ⟨(Nat.le_of_ble_eq_true rfl), (Nat.le_of_ble_eq_true rfl)⟩ (fun Xn q H hq hz_ hk hXO => ?_) (fun v_ H hq hz_ hk => hq.elim)
  obtain rfl := hq
  exact vt_out X (fun x hx => (ht x hx).elim) hQ hXO (Nat.le_of_ble_eq_true rfl) (Nat.le_of_ble_eq_true rfl) rfl
theorem nX1_bestIfOff : notMH yX1_bestIfOff 1 := by decide +kernel
set_option maxHeartbeats 800000 in
theorem zX1_bestIfOff (l : Launch) (D : DD) (hl : l.stackTraces = false) (c : Nat) (v0 v1 v2 v3 v5 v6 v7 : Value) (q0 : Int32)  : Cx l yX1_bestIfOff cX1_bestIfOff 3 (some .int) { frames := 9, cells := 1, slots := 6, locals := 150 } D [.ref c, .int (q0)] (fun H => KH D H ∧ oB D H c 0 [v0, v1, v2, v3, .null, v5, v6, v7]) (fun _ => False) (fun r H H1 => False) (fun Xn q H H1 => Xn = "java/lang/IllegalStateException") := by
  refine Cx.of (by decide +kernel) (Nat.le_of_ble_eq_true rfl) (fun K Qf hkl X ht hM hQ => ?_)
  subst hkl
  obtain ⟨hK, hc⟩ := hM
  have hz : (kS K).heap.size ≤ (kS K).heap.size := Nat.le_refl _
  refine vv_sub (lv' := [(0, .ref c), (1, .int (q0))]) [0, 1] rfl ?_
  refine vv_aload_n X dX1_bestIfOff_0 rfl 0 rfl ?_
  refine vv_iload_n X dX1_bestIfOff_1 rfl 1 rfl ?_
  refine vx_cV X (zX1_withSource (kL K) D hl c v0 v1 v2 v3 v5 v6 v7 q0) q1858 q1860 qs38 q137 q1861 nX1_withSource ⟨(Nat.le_of_ble_eq_true rfl), (Nat.le_of_ble_eq_true rfl)⟩ dX1_bestIfOff_2 rfl (Nat.le_of_ble_eq_true rfl) (recv X hc CL_X1) ⟨hK, hc⟩ (fun _ z => z.elim) ⟨(Nat.le_of_ble_eq_true rfl), (Nat.le_of_ble_eq_true rfl)⟩ (fun Xn q H hq hz_ hk hXO => ?_) (fun v_ H hq hz_ hk => hq.elim)
  obtain rfl := hq
  exact vt_out X (fun x hx => (ht x hx).elim) hQ hXO (Nat.le_of_ble_eq_true rfl) (Nat.le_of_ble_eq_true rfl) rfl
theorem nX1_mute : notMH yX1_mute 2 := by decide +kernel
set_option maxHeartbeats 800000 in
theorem zX1_mute (l : Launch) (D : DD) (hl : l.stackTraces = false) (c : Nat) (v0 v1 v2 v3 v5 v6 v7 : Value) (q0 q1 : Int32)  : Cx l yX1_mute cX1_mute 4 (some .boolean) { frames := 9, cells := 1, slots := 6, locals := 150 } D [.ref c, .int (q0), .int (q1)] (fun H => KH D H ∧ oB D H c 0 [v0, v1, v2, v3, .null, v5, v6, v7]) (fun _ => False) (fun r H H1 => False) (fun Xn q H H1 => Xn = "java/lang/IllegalStateException") := by
  refine Cx.of (by decide +kernel) (Nat.le_of_ble_eq_true rfl) (fun K Qf hkl X ht hM hQ => ?_)
  subst hkl
  obtain ⟨hK, hc⟩ := hM
  have hz : (kS K).heap.size ≤ (kS K).heap.size := Nat.le_refl _
  refine vv_sub (lv' := [(0, .ref c), (1, .int (q0)), (2, .int (q1))]) [0, 1, 2] rfl ?_
  refine vv_aload_n X dX1_mute_0 rfl 0 rfl ?_
  refine vv_iload_n X dX1_mute_1 rfl 1 rfl ?_
  refine vx_cV X (zX1_withMic (kL K) D hl c v0 v1 v2 v3 v5 v6 v7 q0) q1793 q1795 qs35 q137 q1796 nX1_withMic ⟨(Nat.le_of_ble_eq_true rfl), (Nat.le_of_ble_eq_true rfl)⟩ dX1_mute_2 rfl (Nat.le_of_ble_eq_true rfl) (recv X hc CL_X1) ⟨hK, hc⟩ (fun _ z => z.elim) ⟨(Nat.le_of_ble_eq_true rfl), (Nat.le_of_ble_eq_true rfl)⟩ (fun Xn q H hq hz_ hk hXO => ?_) (fun v_ H hq hz_ hk => hq.elim)
  obtain rfl := hq
  exact vt_out X (fun x hx => (ht x hx).elim) hQ hXO (Nat.le_of_ble_eq_true rfl) (Nat.le_of_ble_eq_true rfl) rfl
theorem nX1_setWeight : notMH yX1_setWeight 2 := by decide +kernel
set_option maxHeartbeats 800000 in
theorem zX1_setWeight (l : Launch) (D : DD) (hl : l.stackTraces = false) (c : Nat) (v0 v1 v2 v3 v5 v6 v7 : Value) (q0 q1 : Int32)  : Cx l yX1_setWeight cX1_setWeight 4 (some .int) { frames := 9, cells := 1, slots := 6, locals := 150 } D [.ref c, .int (q0), .int (q1)] (fun H => KH D H ∧ oB D H c 0 [v0, v1, v2, v3, .null, v5, v6, v7]) (fun _ => False) (fun r H H1 => False) (fun Xn q H H1 => Xn = "java/lang/IllegalStateException") := by
  refine Cx.of (by decide +kernel) (Nat.le_of_ble_eq_true rfl) (fun K Qf hkl X ht hM hQ => ?_)
  subst hkl
  obtain ⟨hK, hc⟩ := hM
  have hz : (kS K).heap.size ≤ (kS K).heap.size := Nat.le_refl _
  refine vv_sub (lv' := [(0, .ref c), (1, .int (q0)), (2, .int (q1))]) [0, 1, 2] rfl ?_
  refine vv_aload_n X dX1_setWeight_0 rfl 0 rfl ?_
  refine vv_iload_n X dX1_setWeight_1 rfl 1 rfl ?_
  refine vx_cV X (zX1_withMic (kL K) D hl c v0 v1 v2 v3 v5 v6 v7 q0) q1793 q1795 qs35 q137 q1796 nX1_withMic ⟨(Nat.le_of_ble_eq_true rfl), (Nat.le_of_ble_eq_true rfl)⟩ dX1_setWeight_2 rfl (Nat.le_of_ble_eq_true rfl) (recv X hc CL_X1) ⟨hK, hc⟩ (fun _ z => z.elim) ⟨(Nat.le_of_ble_eq_true rfl), (Nat.le_of_ble_eq_true rfl)⟩ (fun Xn q H hq hz_ hk hXO => ?_) (fun v_ H hq hz_ hk => hq.elim)
  obtain rfl := hq
  exact vt_out X (fun x hx => (ht x hx).elim) hQ hXO (Nat.le_of_ble_eq_true rfl) (Nat.le_of_ble_eq_true rfl) rfl
theorem nX1_setOn : notMH yX1_setOn 2 := by decide +kernel
set_option maxHeartbeats 800000 in
theorem zX1_setOn (l : Launch) (D : DD) (hl : l.stackTraces = false) (c : Nat) (v0 v1 v2 v3 v5 v6 v7 : Value) (q0 q1 : Int32)  : Cx l yX1_setOn cX1_setOn 4 (some .boolean) { frames := 9, cells := 1, slots := 6, locals := 150 } D [.ref c, .int (q0), .int (q1)] (fun H => KH D H ∧ oB D H c 0 [v0, v1, v2, v3, .null, v5, v6, v7]) (fun _ => False) (fun r H H1 => False) (fun Xn q H H1 => Xn = "java/lang/IllegalStateException") := by
  refine Cx.of (by decide +kernel) (Nat.le_of_ble_eq_true rfl) (fun K Qf hkl X ht hM hQ => ?_)
  subst hkl
  obtain ⟨hK, hc⟩ := hM
  have hz : (kS K).heap.size ≤ (kS K).heap.size := Nat.le_refl _
  refine vv_sub (lv' := [(0, .ref c), (1, .int (q0)), (2, .int (q1))]) [0, 1, 2] rfl ?_
  refine vv_aload_n X dX1_setOn_0 rfl 0 rfl ?_
  refine vv_iload_n X dX1_setOn_1 rfl 1 rfl ?_
  refine vx_cV X (zX1_withSource (kL K) D hl c v0 v1 v2 v3 v5 v6 v7 q0) q1858 q1860 qs38 q137 q1861 nX1_withSource ⟨(Nat.le_of_ble_eq_true rfl), (Nat.le_of_ble_eq_true rfl)⟩ dX1_setOn_2 rfl (Nat.le_of_ble_eq_true rfl) (recv X hc CL_X1) ⟨hK, hc⟩ (fun _ z => z.elim) ⟨(Nat.le_of_ble_eq_true rfl), (Nat.le_of_ble_eq_true rfl)⟩ (fun Xn q H hq hz_ hk hXO => ?_) (fun v_ H hq hz_ hk => hq.elim)
  obtain rfl := hq
  exact vt_out X (fun x hx => (ht x hx).elim) hQ hXO (Nat.le_of_ble_eq_true rfl) (Nat.le_of_ble_eq_true rfl) rfl
theorem nX1_moveSource : notMH yX1_moveSource 3 := by decide +kernel
set_option maxHeartbeats 800000 in
theorem zX1_moveSource (l : Launch) (D : DD) (hl : l.stackTraces = false) (c : Nat) (v0 v1 v2 v3 v5 v6 v7 : Value) (q0 q1 q2 : Int32)  : Cx l yX1_moveSource cX1_moveSource 5 (some .int) { frames := 9, cells := 1, slots := 6, locals := 150 } D [.ref c, .int (q0), .int (q1), .int (q2)] (fun H => KH D H ∧ oB D H c 0 [v0, v1, v2, v3, .null, v5, v6, v7]) (fun _ => False) (fun r H H1 => False) (fun Xn q H H1 => Xn = "java/lang/IllegalStateException") := by
  refine Cx.of (by decide +kernel) (Nat.le_of_ble_eq_true rfl) (fun K Qf hkl X ht hM hQ => ?_)
  subst hkl
  obtain ⟨hK, hc⟩ := hM
  have hz : (kS K).heap.size ≤ (kS K).heap.size := Nat.le_refl _
  refine vv_sub (lv' := [(0, .ref c), (1, .int (q0)), (2, .int (q1)), (3, .int (q2))]) [0, 1, 2, 3] rfl ?_
  refine vv_aload_n X dX1_moveSource_0 rfl 0 rfl ?_
  refine vv_iload_n X dX1_moveSource_1 rfl 1 rfl ?_
  refine vx_cV X (zX1_withSource (kL K) D hl c v0 v1 v2 v3 v5 v6 v7 q0) q1858 q1860 qs38 q137 q1861 nX1_withSource ⟨(Nat.le_of_ble_eq_true rfl), (Nat.le_of_ble_eq_true rfl)⟩ dX1_moveSource_2 rfl (Nat.le_of_ble_eq_true rfl) (recv X hc CL_X1) ⟨hK, hc⟩ (fun _ z => z.elim) ⟨(Nat.le_of_ble_eq_true rfl), (Nat.le_of_ble_eq_true rfl)⟩ (fun Xn q H hq hz_ hk hXO => ?_) (fun v_ H hq hz_ hk => hq.elim)
  obtain rfl := hq
  exact vt_out X (fun x hx => (ht x hx).elim) hQ hXO (Nat.le_of_ble_eq_true rfl) (Nat.le_of_ble_eq_true rfl) rfl
theorem nX1_setVelocity : notMH yX1_setVelocity 3 := by decide +kernel
set_option maxHeartbeats 800000 in
theorem zX1_setVelocity (l : Launch) (D : DD) (hl : l.stackTraces = false) (c : Nat) (v0 v1 v2 v3 v5 v6 v7 : Value) (q0 q1 q2 : Int32)  : Cx l yX1_setVelocity cX1_setVelocity 5 (some .int) { frames := 9, cells := 1, slots := 6, locals := 150 } D [.ref c, .int (q0), .int (q1), .int (q2)] (fun H => KH D H ∧ oB D H c 0 [v0, v1, v2, v3, .null, v5, v6, v7]) (fun _ => False) (fun r H H1 => False) (fun Xn q H H1 => Xn = "java/lang/IllegalStateException") := by
  refine Cx.of (by decide +kernel) (Nat.le_of_ble_eq_true rfl) (fun K Qf hkl X ht hM hQ => ?_)
  subst hkl
  obtain ⟨hK, hc⟩ := hM
  have hz : (kS K).heap.size ≤ (kS K).heap.size := Nat.le_refl _
  refine vv_sub (lv' := [(0, .ref c), (1, .int (q0)), (2, .int (q1)), (3, .int (q2))]) [0, 1, 2, 3] rfl ?_
  refine vv_aload_n X dX1_setVelocity_0 rfl 0 rfl ?_
  refine vv_iload_n X dX1_setVelocity_1 rfl 1 rfl ?_
  refine vx_cV X (zX1_withSource (kL K) D hl c v0 v1 v2 v3 v5 v6 v7 q0) q1858 q1860 qs38 q137 q1861 nX1_withSource ⟨(Nat.le_of_ble_eq_true rfl), (Nat.le_of_ble_eq_true rfl)⟩ dX1_setVelocity_2 rfl (Nat.le_of_ble_eq_true rfl) (recv X hc CL_X1) ⟨hK, hc⟩ (fun _ z => z.elim) ⟨(Nat.le_of_ble_eq_true rfl), (Nat.le_of_ble_eq_true rfl)⟩ (fun Xn q H hq hz_ hk hXO => ?_) (fun v_ H hq hz_ hk => hq.elim)
  obtain rfl := hq
  exact vt_out X (fun x hx => (ht x hx).elim) hQ hXO (Nat.le_of_ble_eq_true rfl) (Nat.le_of_ble_eq_true rfl) rfl
theorem nX1_clean : notMH yX1_clean 1 := by decide +kernel
set_option maxHeartbeats 800000 in
theorem zX1_clean (l : Launch) (D : DD) (hl : l.stackTraces = false) (c : Nat) (v0 v1 v2 v3 v5 v6 v7 : Value) (q0 : Int32)  : Cx l yX1_clean cX1_clean 2 (some .int) { frames := 8, cells := 1, slots := 6, locals := 129 } D [.ref c, .int (q0)] (fun H => KH D H ∧ oB D H c 0 [v0, v1, v2, v3, .null, v5, v6, v7]) (fun _ => False) (fun r H H1 => False) (fun Xn q H H1 => Xn = "java/lang/IllegalStateException") := by
  refine Cx.of (by decide +kernel) (Nat.le_of_ble_eq_true rfl) (fun K Qf hkl X ht hM hQ => ?_)
  subst hkl
  obtain ⟨hK, hc⟩ := hM
  have hz : (kS K).heap.size ≤ (kS K).heap.size := Nat.le_refl _
  refine vv_sub (lv' := [(0, .ref c), (1, .int (q0))]) [0, 1] rfl ?_
  refine vv_aload_n X dX1_clean_0 rfl 0 rfl ?_
  refine vx_cV X (zX1_there (kL K) D hl c v0 v1 v2 v3 v5 v6 v7 ) q1797 q1799 qs36 q137 q1800 nX1_there ⟨(Nat.le_of_ble_eq_true rfl), (Nat.le_of_ble_eq_true rfl)⟩ dX1_clean_1 rfl (Nat.le_of_ble_eq_true rfl) (recv X hc CL_X1) ⟨hK, hc⟩ (fun _ z => z.elim) ⟨(Nat.le_of_ble_eq_true rfl), (Nat.le_of_ble_eq_true rfl)⟩ (fun Xn q H hq hz_ hk hXO => ?_) (fun v_ H hq hz_ hk => hq.elim)
  obtain rfl := hq
  exact vt_out X (fun x hx => (ht x hx).elim) hQ hXO (Nat.le_of_ble_eq_true rfl) (Nat.le_of_ble_eq_true rfl) rfl
set_option maxHeartbeats 800000 in
theorem zX1_cleaned (l : Launch) (D : DD) (hl : l.stackTraces = false) (c : Nat) (v0 v1 v2 v3 v5 v6 v7 : Value)   : Cx l yX1_cleaned cX1_cleaned 1 (some .int) { frames := 8, cells := 1, slots := 6, locals := 129 } D [.ref c] (fun H => KH D H ∧ oB D H c 0 [v0, v1, v2, v3, .null, v5, v6, v7]) (fun _ => False) (fun r H H1 => False) (fun Xn q H H1 => Xn = "java/lang/IllegalStateException") := by
  refine Cx.of (by decide +kernel) (Nat.le_of_ble_eq_true rfl) (fun K Qf hkl X ht hM hQ => ?_)
  subst hkl
  obtain ⟨hK, hc⟩ := hM
  have hz : (kS K).heap.size ≤ (kS K).heap.size := Nat.le_refl _
  refine vv_sub (lv' := [(0, .ref c)]) [0] rfl ?_
  refine vv_aload_n X dX1_cleaned_0 rfl 0 rfl ?_
  refine vx_cV X (zX1_there (kL K) D hl c v0 v1 v2 v3 v5 v6 v7 ) q1797 q1799 qs36 q137 q1800 nX1_there ⟨(Nat.le_of_ble_eq_true rfl), (Nat.le_of_ble_eq_true rfl)⟩ dX1_cleaned_1 rfl (Nat.le_of_ble_eq_true rfl) (recv X hc CL_X1) ⟨hK, hc⟩ (fun _ z => z.elim) ⟨(Nat.le_of_ble_eq_true rfl), (Nat.le_of_ble_eq_true rfl)⟩ (fun Xn q H hq hz_ hk hXO => ?_) (fun v_ H hq hz_ hk => hq.elim)
  obtain rfl := hq
  exact vt_out X (fun x hx => (ht x hx).elim) hQ hXO (Nat.le_of_ble_eq_true rfl) (Nat.le_of_ble_eq_true rfl) rfl
theorem nX1_save : notMH yX1_save 1 := by decide +kernel
set_option maxHeartbeats 800000 in
theorem zX1_save (l : Launch) (D : DD) (hl : l.stackTraces = false) (c : Nat) (v0 v1 v2 v3 v5 v6 v7 : Value) (q0 : Int32)  : Cx l yX1_save cX1_save 2 (some .int) { frames := 8, cells := 1, slots := 6, locals := 129 } D [.ref c, .int (q0)] (fun H => KH D H ∧ oB D H c 0 [v0, v1, v2, v3, .null, v5, v6, v7]) (fun _ => False) (fun r H H1 => False) (fun Xn q H H1 => Xn = "java/lang/IllegalStateException") := by
  refine Cx.of (by decide +kernel) (Nat.le_of_ble_eq_true rfl) (fun K Qf hkl X ht hM hQ => ?_)
  subst hkl
  obtain ⟨hK, hc⟩ := hM
  have hz : (kS K).heap.size ≤ (kS K).heap.size := Nat.le_refl _
  refine vv_sub (lv' := [(0, .ref c), (1, .int (q0))]) [0, 1] rfl ?_
  refine vv_aload_n X dX1_save_0 rfl 0 rfl ?_
  refine vx_cV X (zX1_there (kL K) D hl c v0 v1 v2 v3 v5 v6 v7 ) q1797 q1799 qs36 q137 q1800 nX1_there ⟨(Nat.le_of_ble_eq_true rfl), (Nat.le_of_ble_eq_true rfl)⟩ dX1_save_1 rfl (Nat.le_of_ble_eq_true rfl) (recv X hc CL_X1) ⟨hK, hc⟩ (fun _ z => z.elim) ⟨(Nat.le_of_ble_eq_true rfl), (Nat.le_of_ble_eq_true rfl)⟩ (fun Xn q H hq hz_ hk hXO => ?_) (fun v_ H hq hz_ hk => hq.elim)
  obtain rfl := hq
  exact vt_out X (fun x hx => (ht x hx).elim) hQ hXO (Nat.le_of_ble_eq_true rfl) (Nat.le_of_ble_eq_true rfl) rfl
