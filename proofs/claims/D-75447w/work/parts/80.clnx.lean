/-! AcousticCamera: clean's complaints: printed by gen/s27.py -/
set_option maxRecDepth 100000
set_option maxHeartbeats 800000 in
theorem xX1_clean (l : Launch) (D : DD) (hl : l.stackTraces = false) (u : Nat → Nat) (P T : Nat → Int32) (o : Nat) (g : Nat → Nat) (S : Nat → Int32) (pw : Option Nat) (c : Nat) (v0 v1 v2 v3 v5 v6 v7 : Value) (q : Int32) (hC : VC P) (hV : VS S) (hw : wsm S (nM P) = 0) : Cx l yX1_clean cX1_clean 2 (some .int) { frames := 7, cells := 1, slots := 6, locals := 109 } D [.ref c, .int (q)] (fun H => KH D H ∧ oB D H c 0 [v0, v1, v2, v3, .ref (g 0), v5, v6, v7] ∧ UR D u P T o H ∧ SR D g u P S pw H) (fun _ => False) (fun r H H1 => False) (fun Xn q H H1 => Xn = "java/lang/IllegalStateException") := by
  refine Cx.of (by decide +kernel) (Nat.le_of_ble_eq_true rfl) (fun K Qf hkl X ht hM hQ => ?_)
  subst hkl
  obtain ⟨hK, hc, hU, hR⟩ := hM
  have hz : (kS K).heap.size ≤ (kS K).heap.size := Nat.le_refl _
  have hP := hC.v
  have l0 := hP.l0
  have l1 := hP.l1
  have l2 := hP.l2
  have l4 := hP.l4
  have l5 := hP.l5
  have l8 := hP.l8
  have l9 := hP.l9
  have l10 := hP.l10
  have l71 := hP.l71
  have l76 := hP.l76
  have l77 := hP.l77
  have hx1 := hC.x1
  have hy1 := hC.y1
  have ht1 := hC.t1
  have he1 := hC.e1
  have hm1 := hC.m1
  have hcc : nC P ≤ 144 := Nat.mul_le_mul l9 l10
  have hw9 := wsm_le hV l4
  refine vv_sub (lv' := [(0, .ref c), (1, .int (q))]) [0, 1] rfl ?_
  refine vv_aload_n X dX1_clean_0 rfl 0 rfl ?_
  refine vv_callVp X (mX1_there (kL K) D u P T o g S pw c v0 v1 v2 v3 v5 v6 v7  hC hV ) q1797 q1799 qs36 q137 q1800 nX1_there ⟨(Nat.le_of_ble_eq_true rfl), (Nat.le_of_ble_eq_true rfl)⟩ dX1_clean_1 rfl (Nat.le_of_ble_eq_true rfl) (recv X hc CL_X1) ⟨hK, hc, hU, hR⟩ ⟨(Nat.le_of_ble_eq_true rfl), (Nat.le_of_ble_eq_true rfl)⟩ ?_
  refine vv_callVp X (mX3_weightSum (kL K) D u P T o g S pw  hC hV ) q2853 q2854 q2855 q150 q2856 nX3_weightSum ⟨(Nat.le_of_ble_eq_true rfl), (Nat.le_of_ble_eq_true rfl)⟩ dX1_clean_4 rfl (Nat.le_of_ble_eq_true rfl) (recv X hR.ob CL_X3) ⟨hK, hU, hR⟩ ⟨(Nat.le_of_ble_eq_true rfl), (Nat.le_of_ble_eq_true rfl)⟩ ?_
  refine vn_if_le (tgt := 14) X (by omega) dX1_clean_7 (by decide) (fun c_7 => ?_) (fun c_7 => ?_)
  · refine vv_iconst (v := nI 0) X dX1_clean_14 (by decide) ?_
    refine vx_cS X (xX1_checkState (kL K) D hl False (fun z => z)) q1801 q1802 q137 q1803 nX1_checkState ⟨(Nat.le_of_ble_eq_true rfl), (Nat.le_of_ble_eq_true rfl)⟩ dX1_clean_15 rfl (Nat.le_of_ble_eq_true rfl) hK (fun _ z => z.elim) ⟨(Nat.le_of_ble_eq_true rfl), (Nat.le_of_ble_eq_true rfl)⟩ (fun Xn q H hq hz_ hk hXO => ?_) (fun v_ H hq hz_ hk => hq.elim)
    obtain rfl := hq
    exact vt_out X (fun x hx => (ht x hx).elim) hQ hXO (Nat.le_of_ble_eq_true rfl) (Nat.le_of_ble_eq_true rfl) rfl
  · exact absurd c_7 (by omega)
set_option maxHeartbeats 800000 in
theorem w2X1_clean (l : Launch) (D : DD) (hl : l.stackTraces = false) (u : Nat → Nat) (P T : Nat → Int32) (o : Nat) (g : Nat → Nat) (S : Nat → Int32) (pw : Option Nat) (c : Nat) (v0 v1 v2 v3 v5 v6 v7 : Value) (q : Int32) (hC : VC P) (hV : VS S) (hw : ¬ wsm S (nM P) = 0) (hp : ¬ (nI 1 ≤ q ∧ q ≤ nI 100)) : Cx l yX1_clean cX1_clean 2 (some .int) { frames := 7, cells := 1, slots := 6, locals := 109 } D [.ref c, .int (q)] (fun H => KH D H ∧ oB D H c 0 [v0, v1, v2, v3, .ref (g 0), v5, v6, v7] ∧ UR D u P T o H ∧ SR D g u P S pw H) (fun _ => False) (fun r H H1 => False) (fun Xn q H H1 => Xn = "java/lang/IllegalArgumentException") := by
  refine Cx.of (by decide +kernel) (Nat.le_of_ble_eq_true rfl) (fun K Qf hkl X ht hM hQ => ?_)
  subst hkl
  obtain ⟨hK, hc, hU, hR⟩ := hM
  have hz : (kS K).heap.size ≤ (kS K).heap.size := Nat.le_refl _
  have hP := hC.v
  have l0 := hP.l0
  have l1 := hP.l1
  have l2 := hP.l2
  have l4 := hP.l4
  have l5 := hP.l5
  have l8 := hP.l8
  have l9 := hP.l9
  have l10 := hP.l10
  have l71 := hP.l71
  have l76 := hP.l76
  have l77 := hP.l77
  have hx1 := hC.x1
  have hy1 := hC.y1
  have ht1 := hC.t1
  have he1 := hC.e1
  have hm1 := hC.m1
  have hcc : nC P ≤ 144 := Nat.mul_le_mul l9 l10
  have hw9 := wsm_le hV l4
  refine vv_sub (lv' := [(0, .ref c), (1, .int (q))]) [0, 1] rfl ?_
  refine vv_aload_n X dX1_clean_0 rfl 0 rfl ?_
  refine vv_callVp X (mX1_there (kL K) D u P T o g S pw c v0 v1 v2 v3 v5 v6 v7  hC hV ) q1797 q1799 qs36 q137 q1800 nX1_there ⟨(Nat.le_of_ble_eq_true rfl), (Nat.le_of_ble_eq_true rfl)⟩ dX1_clean_1 rfl (Nat.le_of_ble_eq_true rfl) (recv X hc CL_X1) ⟨hK, hc, hU, hR⟩ ⟨(Nat.le_of_ble_eq_true rfl), (Nat.le_of_ble_eq_true rfl)⟩ ?_
  refine vv_callVp X (mX3_weightSum (kL K) D u P T o g S pw  hC hV ) q2853 q2854 q2855 q150 q2856 nX3_weightSum ⟨(Nat.le_of_ble_eq_true rfl), (Nat.le_of_ble_eq_true rfl)⟩ dX1_clean_4 rfl (Nat.le_of_ble_eq_true rfl) (recv X hR.ob CL_X3) ⟨hK, hU, hR⟩ ⟨(Nat.le_of_ble_eq_true rfl), (Nat.le_of_ble_eq_true rfl)⟩ ?_
  refine vn_if_le (tgt := 14) X (by omega) dX1_clean_7 (by decide) (fun c_7 => ?_) (fun c_7 => ?_)
  · exact absurd c_7 (by omega)
  · refine vv_iconst (v := nI 1) X dX1_clean_10 (by decide) ?_
    refine vv_goto (tgt := 15) X dX1_clean_11 (by decide) ?_
    refine vv_callSv X (mX1_checkState (kL K) D True trivial) q1801 q1802 q137 q1803 nX1_checkState ⟨(Nat.le_of_ble_eq_true rfl), (Nat.le_of_ble_eq_true rfl)⟩ dX1_clean_15 rfl (Nat.le_of_ble_eq_true rfl) trivial ⟨(Nat.le_of_ble_eq_true rfl), (Nat.le_of_ble_eq_true rfl)⟩ ?_
    refine vv_iload_n X dX1_clean_18 rfl 1 rfl ?_
    refine vv_i2l (v := (q).toInt64) X dX1_clean_19 rfl ?_
    refine vv_lconst (v := 1) X dX1_clean_20 (by decide) ?_
    refine vv_eql (show _ = (nI 1 : Int32).toInt64 from by decide) ?_
    refine vv_ldc2 (v := 100) X q2412 dX1_clean_21 ?_
    refine vv_eql (show _ = (nI 100 : Int32).toInt64 from by decide) ?_
    refine vv_callSp X (mX1_in (kL K) D ((q).toInt64) ((nI 1 : Int32).toInt64) ((nI 100 : Int32).toInt64)) q449 q450 q137 q451 nX1_in ⟨(Nat.le_of_ble_eq_true rfl), (Nat.le_of_ble_eq_true rfl)⟩ dX1_clean_24 rfl (Nat.le_of_ble_eq_true rfl) trivial ⟨(Nat.le_of_ble_eq_true rfl), (Nat.le_of_ble_eq_true rfl)⟩ ?_
    refine vv_eqi (b2_eq (in_I)) ?_
    refine vx_cS X (xX1_checkArgument (kL K) D hl ((nI 1 : Int32) ≤ (q) ∧ (q) ≤ (nI 100 : Int32)) (hp)) q1820 q1821 q137 q1822 nX1_checkArgument ⟨(Nat.le_of_ble_eq_true rfl), (Nat.le_of_ble_eq_true rfl)⟩ dX1_clean_27 rfl (Nat.le_of_ble_eq_true rfl) hK (fun _ z => z.elim) ⟨(Nat.le_of_ble_eq_true rfl), (Nat.le_of_ble_eq_true rfl)⟩ (fun Xn q H hq hz_ hk hXO => ?_) (fun v_ H hq hz_ hk => hq.elim)
    obtain rfl := hq
    exact vt_out X (fun x hx => (ht x hx).elim) hQ hXO (Nat.le_of_ble_eq_true rfl) (Nat.le_of_ble_eq_true rfl) rfl
