/-! AcousticCamera: the score of site 12: printed by gen/s29.py -/
set_option maxRecDepth 100000
theorem nX1_lambda_trackScore_4 : notMH yX1_lambda_trackScore_4 2 := by decide +kernel
set_option maxHeartbeats 800000 in
theorem mX1_lambda_trackScore_4 (l : Launch) (D : DD) (p n c : Nat) (f : Nat → Int64) (hc : c < n) (hn : n < 2 ^ 31) : Cp l yX1_lambda_trackScore_4 cX1_lambda_trackScore_4 2 (some .long) { frames := 1, cells := 0, slots := 0, locals := 12 } D [.ref p, .int (nI c)] (fun H => lA D H p n f) (.long (f c)) := by
  refine Ct.of (by decide +kernel) (Nat.le_of_ble_eq_true rfl) (fun K Qf hkl X hM hQ => ?_)
  subst hkl
  have hA_ := hM
  refine vv_sub (lv' := [(0, .ref p), (1, .int (nI c))]) [0, 1] rfl ?_
  refine vv_aload_n X dX1_lambda_trackScore_4_0 rfl 0 rfl ?_
  refine vv_iload_n X dX1_lambda_trackScore_4_1 rfl 1 rfl ?_
  refine vv_lald X hA_ (c) (by omega) (by omega) rfl dX1_lambda_trackScore_4_2 ?_
  exact vv_lret X hQ dX1_lambda_trackScore_4_3 (Nat.le_of_ble_eq_true rfl) (Nat.le_of_ble_eq_true rfl) (pql (rfl))
theorem sco12 {l : Launch} {D : DD} {a p n N : Nat} {f : Nat → Int64} {Inv : Heap → Prop} (hI : ∀ H, Inv H → LO D H a 12 [.ref p] ∧ lA D H p N f) (hn : n ≤ N) (hN : N < 2 ^ 31) : SCO l D a { frames := 1, cells := 0, slots := 0, locals := 12 } Inv (fun _ => False) n f := by
  intro K y cc nL ret rm A H cells slots Q pc lv st idx cnt k hk X hl q1 hR d hw hi hA hc kk
  subst hl
  refine vv_lam12 X (mX1_lambda_trackScore_4 (kL K) D p N k f (by omega) hN) (hI H hi).1 q1 ⟨hR.1, by have := hR.2; omega⟩ d rfl hw (hI H hi).2 hA hc (fun v H H1 h => ⟨_, h.1⟩) (fun v_ H1 hq hz_ hk_ => ?_)
  obtain ⟨rfl, rfl⟩ := hq
  exact kk H1 hi hz_ hk_
