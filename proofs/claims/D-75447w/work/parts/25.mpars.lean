/-! the model's parser: printed by gen/m6.py -/
set_option maxRecDepth 100000
theorem nX2_byteAt : notMH yX2_byteAt 1 := by decide +kernel
set_option maxHeartbeats 800000 in
theorem mX2_byteAt (l : Launch) (D : DD) (g : Nat → Nat) (x : Nat → Int32) (I : Nat → Nat → Int32) (J : Nat → Nat → Int64) (e p : Nat) (he : x 3 = nI e) (he2 : e ≤ 1000) (hp : p ≤ e) : Cp l yX2_byteAt cX2_byteAt 2 (some .int) { frames := 1, cells := 0, slots := 0, locals := 12 } D [.ref (g 0), .int (nI p)] (fun H => MR D g x I J H) (.int (byt (I 1) e p)) := by
  refine Ct.of (by decide +kernel) (Nat.le_of_ble_eq_true rfl) (fun K Qf hkl X hM hQ => ?_)
  subst hkl
  refine vv_sub (lv' := [(0, .ref (g 0)), (1, .int (nI p))]) [0, 1] rfl ?_
  refine vv_iload_n X dX2_byteAt_0 rfl 1 rfl ?_
  refine vv_aload_n X dX2_byteAt_1 rfl 0 rfl ?_
  refine mg3 X rfl hM dX2_byteAt_2 ?_
  refine vv_eqi (he) ?_
  refine vn_ge (tgt := 17) X (by omega) (by omega) dX2_byteAt_5 (by decide) (fun c_5 => ?_) (fun c_5 => ?_)
  · refine vv_iconst (v := -1) X dX2_byteAt_17 (by decide) ?_
    exact vv_iret X hQ dX2_byteAt_18 (Nat.le_refl _) (Nat.le_refl _) (pq ((if_neg (by omega)).symm))
  · refine vv_aload_n X dX2_byteAt_8 rfl 0 rfl ?_
    refine mg1 X rfl hM dX2_byteAt_9 ?_
    refine vv_iload_n X dX2_byteAt_12 rfl 1 rfl ?_
    refine vv_iald X hM.a1 (p) (by omega) (by decide) rfl dX2_byteAt_13 ?_
    refine vv_goto (tgt := 18) X dX2_byteAt_14 (by decide) ?_
    exact vv_iret X hQ dX2_byteAt_18 (Nat.le_refl _) (Nat.le_refl _) (pq ((if_pos c_5).symm))
theorem nX2_isSign : notMH yX2_isSign 1 := by decide +kernel
set_option maxHeartbeats 800000 in
theorem mX2_isSign (l : Launch) (D : DD) (v : Int32) : Cp l yX2_isSign cX2_isSign 1 (some .boolean) { frames := 1, cells := 0, slots := 0, locals := 12 } D [.int (v)] (fun _ => True) (.int (b2 (sgn v))) := by
  refine Ct.of (by decide +kernel) (Nat.le_of_ble_eq_true rfl) (fun K Qf hkl X hM hQ => ?_)
  subst hkl
  refine vv_sub (lv' := [(0, .int (v))]) [0] rfl ?_
  refine vv_iload_n X dX2_isSign_0 rfl 0 rfl ?_
  refine vv_bipush (v := nI 59) X dX2_isSign_1 (by decide) ?_
  refine vv_icmp_eq (tgt := 42) X dX2_isSign_3 (by decide) (fun c_3 => ?_) (fun c_3 => ?_)
  · refine vv_iconst (v := nI 1) X dX2_isSign_42 (by decide) ?_
    refine vv_goto (tgt := 47) X dX2_isSign_43 (by decide) ?_
    exact vv_zret X (rfl) hQ dX2_isSign_47 (Nat.le_refl _) (Nat.le_refl _) (pq (b2_1 (Or.inl c_3)))
  · refine vv_iload_n X dX2_isSign_6 rfl 0 rfl ?_
    refine vv_bipush (v := nI 40) X dX2_isSign_7 (by decide) ?_
    refine vv_icmp_eq (tgt := 42) X dX2_isSign_9 (by decide) (fun c_9 => ?_) (fun c_9 => ?_)
    · refine vv_iconst (v := nI 1) X dX2_isSign_42 (by decide) ?_
      refine vv_goto (tgt := 47) X dX2_isSign_43 (by decide) ?_
      exact vv_zret X (rfl) hQ dX2_isSign_47 (Nat.le_refl _) (Nat.le_refl _) (pq (b2_1 (Or.inr (Or.inl c_9))))
    · refine vv_iload_n X dX2_isSign_12 rfl 0 rfl ?_
      refine vv_bipush (v := nI 41) X dX2_isSign_13 (by decide) ?_
      refine vv_icmp_eq (tgt := 42) X dX2_isSign_15 (by decide) (fun c_15 => ?_) (fun c_15 => ?_)
      · refine vv_iconst (v := nI 1) X dX2_isSign_42 (by decide) ?_
        refine vv_goto (tgt := 47) X dX2_isSign_43 (by decide) ?_
        exact vv_zret X (rfl) hQ dX2_isSign_47 (Nat.le_refl _) (Nat.le_refl _) (pq (b2_1 (Or.inr (Or.inr (Or.inl c_15)))))
      · refine vv_iload_n X dX2_isSign_18 rfl 0 rfl ?_
        refine vv_bipush (v := nI 43) X dX2_isSign_19 (by decide) ?_
        refine vv_icmp_eq (tgt := 42) X dX2_isSign_21 (by decide) (fun c_21 => ?_) (fun c_21 => ?_)
        · refine vv_iconst (v := nI 1) X dX2_isSign_42 (by decide) ?_
          refine vv_goto (tgt := 47) X dX2_isSign_43 (by decide) ?_
          exact vv_zret X (rfl) hQ dX2_isSign_47 (Nat.le_refl _) (Nat.le_refl _) (pq (b2_1 (Or.inr (Or.inr (Or.inr (Or.inl c_21))))))
        · refine vv_iload_n X dX2_isSign_24 rfl 0 rfl ?_
          refine vv_bipush (v := nI 45) X dX2_isSign_25 (by decide) ?_
          refine vv_icmp_eq (tgt := 42) X dX2_isSign_27 (by decide) (fun c_27 => ?_) (fun c_27 => ?_)
          · refine vv_iconst (v := nI 1) X dX2_isSign_42 (by decide) ?_
            refine vv_goto (tgt := 47) X dX2_isSign_43 (by decide) ?_
            exact vv_zret X (rfl) hQ dX2_isSign_47 (Nat.le_refl _) (Nat.le_refl _) (pq (b2_1 (Or.inr (Or.inr (Or.inr (Or.inr (Or.inl c_27)))))))
          · refine vv_iload_n X dX2_isSign_30 rfl 0 rfl ?_
            refine vv_bipush (v := nI 42) X dX2_isSign_31 (by decide) ?_
            refine vv_icmp_eq (tgt := 42) X dX2_isSign_33 (by decide) (fun c_33 => ?_) (fun c_33 => ?_)
            · refine vv_iconst (v := nI 1) X dX2_isSign_42 (by decide) ?_
              refine vv_goto (tgt := 47) X dX2_isSign_43 (by decide) ?_
              exact vv_zret X (rfl) hQ dX2_isSign_47 (Nat.le_refl _) (Nat.le_refl _) (pq (b2_1 (Or.inr (Or.inr (Or.inr (Or.inr (Or.inr (Or.inl c_33))))))))
            · refine vv_iload_n X dX2_isSign_36 rfl 0 rfl ?_
              refine vv_bipush (v := nI 47) X dX2_isSign_37 (by decide) ?_
              refine vv_icmp_ne (tgt := 46) X dX2_isSign_39 (by decide) (fun c_39 => ?_) (fun c_39 => ?_)
              · refine vv_iconst (v := nI 0) X dX2_isSign_46 (by decide) ?_
                exact vv_zret X (rfl) hQ dX2_isSign_47 (Nat.le_refl _) (Nat.le_refl _) (pq (b2_0 (fun z => z.elim c_3 (fun z => z.elim c_9 (fun z => z.elim c_15 (fun z => z.elim c_21 (fun z => z.elim c_27 (fun z => z.elim c_33 c_39))))))))
              · refine vv_iconst (v := nI 1) X dX2_isSign_42 (by decide) ?_
                refine vv_goto (tgt := 47) X dX2_isSign_43 (by decide) ?_
                exact vv_zret X (rfl) hQ dX2_isSign_47 (Nat.le_refl _) (Nat.le_refl _) (pq (b2_1 (Or.inr (Or.inr (Or.inr (Or.inr (Or.inr (Or.inr (c_39)))))))))
theorem nX2_isSignHere : notMH yX2_isSignHere 1 := by decide +kernel
set_option maxHeartbeats 800000 in
theorem mX2_isSignHere (l : Launch) (D : DD) (g : Nat → Nat) (x : Nat → Int32) (I : Nat → Nat → Int32) (J : Nat → Nat → Int64) (c : Int32) : Cp l yX2_isSignHere cX2_isSignHere 2 (some .boolean) { frames := 1, cells := 0, slots := 0, locals := 12 } D [.ref (g 0), .int (c)] (fun H => MR D g x I J H) (.int (b2 (sgh c x))) := by
  refine Ct.of (by decide +kernel) (Nat.le_of_ble_eq_true rfl) (fun K Qf hkl X hM hQ => ?_)
  subst hkl
  refine vv_sub (lv' := [(0, .ref (g 0)), (1, .int (c))]) [0, 1] rfl ?_
  refine vv_aload_n X dX2_isSignHere_0 rfl 0 rfl ?_
  refine mg5 X rfl hM dX2_isSignHere_1 ?_
  refine vv_if_ne (tgt := 27) X dX2_isSignHere_4 (by decide) (fun c_4 => ?_) (fun c_4 => ?_)
  · refine vv_iconst (v := nI 0) X dX2_isSignHere_27 (by decide) ?_
    exact vv_zret X (rfl) hQ dX2_isSignHere_28 (Nat.le_refl _) (Nat.le_refl _) (pq (b2_0 (fun z => c_4 z.1)))
  · refine vv_aload_n X dX2_isSignHere_7 rfl 0 rfl ?_
    refine mg7 X rfl hM dX2_isSignHere_8 ?_
    refine vv_iconst (v := nI 4) X dX2_isSignHere_11 (by decide) ?_
    refine vv_icmp_ne (tgt := 27) X dX2_isSignHere_12 (by decide) (fun c_12 => ?_) (fun c_12 => ?_)
    · refine vv_iconst (v := nI 0) X dX2_isSignHere_27 (by decide) ?_
      exact vv_zret X (rfl) hQ dX2_isSignHere_28 (Nat.le_refl _) (Nat.le_refl _) (pq (b2_0 (fun z => c_12 z.2.1)))
    · refine vv_aload_n X dX2_isSignHere_15 rfl 0 rfl ?_
      refine mg9 X rfl hM dX2_isSignHere_16 ?_
      refine vv_iload_n X dX2_isSignHere_19 rfl 1 rfl ?_
      refine vv_icmp_ne (tgt := 27) X dX2_isSignHere_20 (by decide) (fun c_20 => ?_) (fun c_20 => ?_)
      · refine vv_iconst (v := nI 0) X dX2_isSignHere_27 (by decide) ?_
        exact vv_zret X (rfl) hQ dX2_isSignHere_28 (Nat.le_refl _) (Nat.le_refl _) (pq (b2_0 (fun z => c_20 z.2.2)))
      · refine vv_iconst (v := nI 1) X dX2_isSignHere_23 (by decide) ?_
        refine vv_goto (tgt := 28) X dX2_isSignHere_24 (by decide) ?_
        exact vv_zret X (rfl) hQ dX2_isSignHere_28 (Nat.le_refl _) (Nat.le_refl _) (pq (b2_1 ⟨c_4, c_12, c_20⟩))
theorem nX2_faults : notMH yX2_faults 1 := by decide +kernel
set_option maxHeartbeats 800000 in
theorem mX2_faults (l : Launch) (D : DD) (g : Nat → Nat) (x : Nat → Int32) (I : Nat → Nat → Int32) (J : Nat → Nat → Int64) (hg : MG g) (k : Nat) : Ct l yX2_faults cX2_faults 2 none { frames := 1, cells := 0, slots := 0, locals := 12 } D [.ref (g 0), .int (nI k)] (fun H => MR D g x I J H) (MA g) (fun v H H1 => v = none ∧ MR D g (fau k x) I J H1) := by
  refine Ct.of (by decide +kernel) (Nat.le_of_ble_eq_true rfl) (fun K Qf hkl X hM hQ => ?_)
  subst hkl
  refine vv_sub (lv' := [(0, .ref (g 0)), (1, .int (nI k))]) [0, 1] rfl ?_
  refine vv_aload_n X dX2_faults_0 rfl 0 rfl ?_
  refine mg5 X rfl hM dX2_faults_1 ?_
  refine vv_if_le (tgt := 8) X dX2_faults_4 (by decide) (fun c_4 => ?_) (fun c_4 => ?_)
  · refine vv_aload_n X dX2_faults_8 rfl 0 rfl ?_
    refine vv_iload_n X dX2_faults_9 rfl 1 rfl ?_
    refine mp5 X rfl hM hg (Or.inl (MA.in (by decide))) dX2_faults_10 (fun H hM => ?_)
    refine vv_aload_n X dX2_faults_13 rfl 0 rfl ?_
    refine vv_aload_n X dX2_faults_14 rfl 0 rfl ?_
    refine mg8 X rfl hM dX2_faults_15 ?_
    refine mp6 X rfl hM hg (Or.inl (MA.in (by decide))) dX2_faults_18 (fun H hM => ?_)
    exact vv_vret X hQ dX2_faults_21 (Nat.le_refl _) (Nat.le_refl _) (⟨rfl, by rw [fau_0 (Int32.not_lt.mpr c_4)]; exact hM⟩)
  · exact vv_vret X hQ dX2_faults_7 (Nat.le_refl _) (Nat.le_refl _) (⟨rfl, by rw [fau_s (Int32.not_le.mp c_4)]; exact hM⟩)
theorem nX2_nextToken : notMH yX2_nextToken 0 := by decide +kernel
set_option maxHeartbeats 800000 in
theorem mX2_nextToken (l : Launch) (D : DD) (g : Nat → Nat) (x : Nat → Int32) (I : Nat → Nat → Int32) (J : Nat → Nat → Int64) (hg : MG g) (e : Nat) (hx : PX e x) : Ct l yX2_nextToken cX2_nextToken 1 none { frames := 2, cells := 0, slots := 0, locals := 34 } D [.ref (g 0)] (fun H => MR D g x I J H) (MA g) (fun v H H1 => v = none ∧ MR D g (nxt (I 1) e x) I J H1) := by
  refine Ct.of (by decide +kernel) (Nat.le_of_ble_eq_true rfl) (fun K Qf hkl X hM hQ => ?_)
  subst hkl
  obtain ⟨he, he2, ⟨p, hp, h4⟩, -, -⟩ := hx
  refine vv_sub (lv' := [(0, .ref (g 0))]) [0] rfl ?_
  refine vv_aload_n X dX2_nextToken_0 rfl 0 rfl ?_
  refine mg5 X rfl hM dX2_nextToken_1 ?_
  refine vv_if_le (tgt := 8) X dX2_nextToken_4 (by decide) (fun c_4 => ?_) (fun c_4 => ?_)
  · obtain ⟨s, hN⟩ : ∃ s, run isSp (I 1) e p = s := ⟨_, rfl⟩
    have hse := run_le (q := isSp) (f := I 1) hp
    rw [hN] at hse
    have hnx : nxt (I 1) e x = tkX (I 1) e s x := by rw [nxt_0 (Int32.not_lt.mpr c_4), h4, cl_I (by omega), hN]
    have hx_1 : ∀ (H : Heap) (hM : MR D g (va_up x 4 (nI s)) I J H) (hle : p ≤ s), V K 1 (MA g) H 0 0 Qf 34 [(0, .ref (g 0))] [] := by
      intro H hM hle
      refine vv_aload_n X dX2_nextToken_34 rfl 0 rfl ?_
      refine vv_aload_n X dX2_nextToken_35 rfl 0 rfl ?_
      refine mg4 X rfl hM dX2_nextToken_36 ?_
      refine mp8 X rfl hM hg (Or.inl (MA.in (by decide))) dX2_nextToken_39 (fun H hM => ?_)
      refine vv_aload_n X dX2_nextToken_42 rfl 0 rfl ?_
      refine mg4 X rfl hM dX2_nextToken_43 ?_
      refine vv_aload_n X dX2_nextToken_46 rfl 0 rfl ?_
      refine mg3 X rfl hM dX2_nextToken_47 ?_
      refine vv_eqi (he) ?_
      refine vn_ne (tgt := 61) X (by omega) (by omega) dX2_nextToken_50 (by decide) (fun c_50 => ?_) (fun c_50 => ?_)
      · refine vv_aload_n X dX2_nextToken_61 rfl 0 rfl ?_
        refine vv_aload_n X dX2_nextToken_62 rfl 0 rfl ?_
        refine mg4 X rfl hM dX2_nextToken_63 ?_
        refine vv_callVp X (mX2_byteAt (kL K) D g (va_up (va_up x 4 (nI s)) 8 (nI s)) I J e s he he2 (by omega)) q3046 q3048 qs62 q144 q3049 nX2_byteAt ⟨(Nat.le_of_ble_eq_true rfl), (Nat.le_of_ble_eq_true rfl)⟩ dX2_nextToken_66 rfl (Nat.le_of_ble_eq_true rfl) (recv X hM.1 CL_X2) hM ⟨(Nat.le_of_ble_eq_true rfl), (Nat.le_of_ble_eq_true rfl)⟩ ?_
        refine vv_bipush (v := nI 97) X dX2_nextToken_69 (by decide) ?_
        refine vv_bipush (v := nI 122) X dX2_nextToken_71 (by decide) ?_
        refine vv_callSp X (mX2_in (kL K) D (byt (I 1) e s) (nI 97) (nI 122)) q3031 q3032 q144 q3033 nX2_in ⟨(Nat.le_of_ble_eq_true rfl), (Nat.le_of_ble_eq_true rfl)⟩ dX2_nextToken_73 rfl (Nat.le_of_ble_eq_true rfl) trivial ⟨(Nat.le_of_ble_eq_true rfl), (Nat.le_of_ble_eq_true rfl)⟩ ?_
        refine vb_eq (tgt := 136) X dX2_nextToken_76 (by decide) (fun c_76 => ?_) (fun c_76 => ?_)
        · refine vv_aload_n X dX2_nextToken_136 rfl 0 rfl ?_
          refine vv_aload_n X dX2_nextToken_137 rfl 0 rfl ?_
          refine mg4 X rfl hM dX2_nextToken_138 ?_
          refine vv_callVp X (mX2_byteAt (kL K) D g (va_up (va_up x 4 (nI s)) 8 (nI s)) I J e s he he2 (by omega)) q3046 q3048 qs62 q144 q3049 nX2_byteAt ⟨(Nat.le_of_ble_eq_true rfl), (Nat.le_of_ble_eq_true rfl)⟩ dX2_nextToken_141 rfl (Nat.le_of_ble_eq_true rfl) (recv X hM.1 CL_X2) hM ⟨(Nat.le_of_ble_eq_true rfl), (Nat.le_of_ble_eq_true rfl)⟩ ?_
          refine vv_bipush (v := nI 48) X dX2_nextToken_144 (by decide) ?_
          refine vv_bipush (v := nI 57) X dX2_nextToken_146 (by decide) ?_
          refine vv_callSp X (mX2_in (kL K) D (byt (I 1) e s) (nI 48) (nI 57)) q3031 q3032 q144 q3033 nX2_in ⟨(Nat.le_of_ble_eq_true rfl), (Nat.le_of_ble_eq_true rfl)⟩ dX2_nextToken_148 rfl (Nat.le_of_ble_eq_true rfl) trivial ⟨(Nat.le_of_ble_eq_true rfl), (Nat.le_of_ble_eq_true rfl)⟩ ?_
          refine vb_eq (tgt := 251) X dX2_nextToken_151 (by decide) (fun c_151 => ?_) (fun c_151 => ?_)
          · refine vv_aload_n X dX2_nextToken_251 rfl 0 rfl ?_
            refine vv_aload_n X dX2_nextToken_252 rfl 0 rfl ?_
            refine vv_aload_n X dX2_nextToken_253 rfl 0 rfl ?_
            refine mg4 X rfl hM dX2_nextToken_254 ?_
            refine vv_callVp X (mX2_byteAt (kL K) D g (va_up (va_up x 4 (nI s)) 8 (nI s)) I J e s he he2 (by omega)) q3046 q3048 qs62 q144 q3049 nX2_byteAt ⟨(Nat.le_of_ble_eq_true rfl), (Nat.le_of_ble_eq_true rfl)⟩ dX2_nextToken_257 rfl (Nat.le_of_ble_eq_true rfl) (recv X hM.1 CL_X2) hM ⟨(Nat.le_of_ble_eq_true rfl), (Nat.le_of_ble_eq_true rfl)⟩ ?_
            refine mp9 X rfl hM hg (Or.inl (MA.in (by decide))) dX2_nextToken_260 (fun H hM => ?_)
            refine vv_aload_n X dX2_nextToken_263 rfl 0 rfl ?_
            refine vv_aload_n X dX2_nextToken_264 rfl 0 rfl ?_
            refine mg9 X rfl hM dX2_nextToken_265 ?_
            refine vv_callSp X (mX2_isSign (kL K) D (byt (I 1) e s)) q3050 q3051 q144 q3052 nX2_isSign ⟨(Nat.le_of_ble_eq_true rfl), (Nat.le_of_ble_eq_true rfl)⟩ dX2_nextToken_268 rfl (Nat.le_of_ble_eq_true rfl) trivial ⟨(Nat.le_of_ble_eq_true rfl), (Nat.le_of_ble_eq_true rfl)⟩ ?_
            refine vb_eq (tgt := 278) X dX2_nextToken_271 (by decide) (fun c_271 => ?_) (fun c_271 => ?_)
            · refine vv_iconst (v := nI 0) X dX2_nextToken_278 (by decide) ?_
              refine mp7 X rfl hM hg (Or.inl (MA.in (by decide))) dX2_nextToken_279 (fun H hM => ?_)
              refine vv_aload_n X dX2_nextToken_282 rfl 0 rfl ?_
              refine vv_dup X dX2_nextToken_283 rfl ?_
              refine mg4 X rfl hM dX2_nextToken_284 ?_
              refine vv_iconst (v := nI 1) X dX2_nextToken_287 (by decide) ?_
              refine vn_add X dX2_nextToken_288 ?_
              refine mp4 X rfl hM hg (Or.inl (MA.in (by decide))) dX2_nextToken_289 (fun H hM => ?_)
              rw [up_sw4 (by decide) (by decide) (by decide)] at hM
              exact vv_vret X hQ dX2_nextToken_292 (Nat.le_refl _) (Nat.le_refl _) (⟨rfl, by rw [hnx, tkX_s c_50 (fun z => c_76 (of_decide_eq_true z)) (fun z => c_151 (of_decide_eq_true z)), if_neg c_271]; exact hM⟩)
            · refine vv_iconst (v := nI 4) X dX2_nextToken_274 (by decide) ?_
              refine vv_goto (tgt := 279) X dX2_nextToken_275 (by decide) ?_
              refine mp7 X rfl hM hg (Or.inl (MA.in (by decide))) dX2_nextToken_279 (fun H hM => ?_)
              refine vv_aload_n X dX2_nextToken_282 rfl 0 rfl ?_
              refine vv_dup X dX2_nextToken_283 rfl ?_
              refine mg4 X rfl hM dX2_nextToken_284 ?_
              refine vv_iconst (v := nI 1) X dX2_nextToken_287 (by decide) ?_
              refine vn_add X dX2_nextToken_288 ?_
              refine mp4 X rfl hM hg (Or.inl (MA.in (by decide))) dX2_nextToken_289 (fun H hM => ?_)
              rw [up_sw4 (by decide) (by decide) (by decide)] at hM
              exact vv_vret X hQ dX2_nextToken_292 (Nat.le_refl _) (Nat.le_refl _) (⟨rfl, by rw [hnx, tkX_s c_50 (fun z => c_76 (of_decide_eq_true z)) (fun z => c_151 (of_decide_eq_true z)), if_pos c_271]; exact hM⟩)
          · refine vv_aload_n X dX2_nextToken_154 rfl 0 rfl ?_
            refine vv_iconst (v := nI 0) X dX2_nextToken_155 (by decide) ?_
            refine mp9 X rfl hM hg (Or.inl (MA.in (by decide))) dX2_nextToken_156 (fun H hM => ?_)
            obtain ⟨t, hN2⟩ : ∃ t, run isDi (I 1) e s = t := ⟨_, rfl⟩
            clear hN
            have hN := hN2
            have hte := run_le (q := isDi) (f := I 1) hse.2
            rw [hN] at hte
            have hx_2 : ∀ (H : Heap) (v : Int32) (hM : MR D g (va_up (va_up (va_up x 4 (nI t)) 8 (nI s)) 9 v) I J H) (hle : s ≤ t) (hv : v = dgv (I 1) e s (min 4 (t - s))), V K 1 (MA g) H 0 0 Qf 226 [(0, .ref (g 0))] [] := by
              intro H v hM hle hv
              refine vv_aload_n X dX2_nextToken_226 rfl 0 rfl ?_
              refine vv_aload_n X dX2_nextToken_227 rfl 0 rfl ?_
              refine mg4 X rfl hM dX2_nextToken_228 ?_
              refine vv_aload_n X dX2_nextToken_231 rfl 0 rfl ?_
              refine mg8 X rfl hM dX2_nextToken_232 ?_
              refine vn_sub X (by omega) dX2_nextToken_235 ?_
              refine vv_iconst (v := nI 4) X dX2_nextToken_236 (by decide) ?_
              refine vn_le (tgt := 244) X (by omega) (by omega) dX2_nextToken_237 (by decide) (fun c_237 => ?_) (fun c_237 => ?_)
              · refine vv_iconst (v := nI 3) X dX2_nextToken_244 (by decide) ?_
                refine mp7 X rfl hM hg (Or.inl (MA.in (by decide))) dX2_nextToken_245 (fun H hM => ?_)
                refine vv_goto (tgt := 292) X dX2_nextToken_248 (by decide) ?_
                exact vv_vret X hQ dX2_nextToken_292 (Nat.le_refl _) (Nat.le_refl _) (⟨rfl, by rw [hnx, tkX_d c_50 (fun z => c_76 (of_decide_eq_true z)) (decide_eq_true c_151), hN, ← hv, if_pos c_237]; exact hM⟩)
              · refine vv_iconst (v := nI 0) X dX2_nextToken_240 (by decide) ?_
                refine vv_goto (tgt := 245) X dX2_nextToken_241 (by decide) ?_
                refine mp7 X rfl hM hg (Or.inl (MA.in (by decide))) dX2_nextToken_245 (fun H hM => ?_)
                refine vv_goto (tgt := 292) X dX2_nextToken_248 (by decide) ?_
                exact vv_vret X hQ dX2_nextToken_292 (Nat.le_refl _) (Nat.le_refl _) (⟨rfl, by rw [hnx, tkX_d c_50 (fun z => c_76 (of_decide_eq_true z)) (decide_eq_true c_151), hN, ← hv, if_neg (Nat.not_le.mpr c_237)]; exact hM⟩)
            have hl_3 : ∀ (n_i i : Nat) (H : Heap) (v : Int32), i + n_i = t → (MR D g (va_up (va_up (va_up x 4 (nI i)) 8 (nI s)) 9 v) I J H) → (s ≤ i) → (v = dgv (I 1) e s (min 4 (i - s))) → V K 1 (MA g) H 0 0 Qf 159 [(0, .ref (g 0))] [] := by
              intro n_i
              induction n_i with
              | zero =>
                intro i H v hi hM hle hv
                obtain rfl : t = i := by omega
                refine vv_aload_n X dX2_nextToken_159 rfl 0 rfl ?_
                refine vv_aload_n X dX2_nextToken_160 rfl 0 rfl ?_
                refine mg4 X rfl hM dX2_nextToken_161 ?_
                refine vv_callVp X (mX2_byteAt (kL K) D g (va_up (va_up (va_up x 4 (nI t)) 8 (nI s)) 9 v) I J e t he he2 (by omega)) q3046 q3048 qs62 q144 q3049 nX2_byteAt ⟨(Nat.le_of_ble_eq_true rfl), (Nat.le_of_ble_eq_true rfl)⟩ dX2_nextToken_164 rfl (Nat.le_of_ble_eq_true rfl) (recv X hM.1 CL_X2) hM ⟨(Nat.le_of_ble_eq_true rfl), (Nat.le_of_ble_eq_true rfl)⟩ ?_
                refine vv_bipush (v := nI 48) X dX2_nextToken_167 (by decide) ?_
                refine vv_bipush (v := nI 57) X dX2_nextToken_169 (by decide) ?_
                refine vv_callSp X (mX2_in (kL K) D (byt (I 1) e t) (nI 48) (nI 57)) q3031 q3032 q144 q3033 nX2_in ⟨(Nat.le_of_ble_eq_true rfl), (Nat.le_of_ble_eq_true rfl)⟩ dX2_nextToken_171 rfl (Nat.le_of_ble_eq_true rfl) trivial ⟨(Nat.le_of_ble_eq_true rfl), (Nat.le_of_ble_eq_true rfl)⟩ ?_
                refine vb_eq (tgt := 226) X dX2_nextToken_174 (by decide) (fun c_174 => ?_) (fun c_174 => ?_)
                · exact hx_2 H v hM hle hv
                · exact absurd c_174 (by rw [← hN]; exact fun z => run_out (q := isDi) (by omega) (by decide) (decide_eq_true z))
              | succ n_i ihi =>
                intro i H v hi hM hle hv
                refine vv_aload_n X dX2_nextToken_159 rfl 0 rfl ?_
                refine vv_aload_n X dX2_nextToken_160 rfl 0 rfl ?_
                refine mg4 X rfl hM dX2_nextToken_161 ?_
                refine vv_callVp X (mX2_byteAt (kL K) D g (va_up (va_up (va_up x 4 (nI i)) 8 (nI s)) 9 v) I J e i he he2 (by omega)) q3046 q3048 qs62 q144 q3049 nX2_byteAt ⟨(Nat.le_of_ble_eq_true rfl), (Nat.le_of_ble_eq_true rfl)⟩ dX2_nextToken_164 rfl (Nat.le_of_ble_eq_true rfl) (recv X hM.1 CL_X2) hM ⟨(Nat.le_of_ble_eq_true rfl), (Nat.le_of_ble_eq_true rfl)⟩ ?_
                refine vv_bipush (v := nI 48) X dX2_nextToken_167 (by decide) ?_
                refine vv_bipush (v := nI 57) X dX2_nextToken_169 (by decide) ?_
                refine vv_callSp X (mX2_in (kL K) D (byt (I 1) e i) (nI 48) (nI 57)) q3031 q3032 q144 q3033 nX2_in ⟨(Nat.le_of_ble_eq_true rfl), (Nat.le_of_ble_eq_true rfl)⟩ dX2_nextToken_171 rfl (Nat.le_of_ble_eq_true rfl) trivial ⟨(Nat.le_of_ble_eq_true rfl), (Nat.le_of_ble_eq_true rfl)⟩ ?_
                refine vb_eq (tgt := 226) X dX2_nextToken_174 (by decide) (fun c_174 => ?_) (fun c_174 => ?_)
                · exact absurd (of_decide_eq_true (run_in (q := isDi) (f := I 1) (e := e) (p := s) (i := i) hle (by rw [hN]; omega) (by omega))) c_174
                · refine vv_aload_n X dX2_nextToken_177 rfl 0 rfl ?_
                  refine mg4 X rfl hM dX2_nextToken_178 ?_
                  refine vv_aload_n X dX2_nextToken_181 rfl 0 rfl ?_
                  refine mg8 X rfl hM dX2_nextToken_182 ?_
                  refine vn_sub X (by omega) dX2_nextToken_185 ?_
                  refine vv_iconst (v := nI 4) X dX2_nextToken_186 (by decide) ?_
                  refine vn_ge (tgt := 213) X (by omega) (by omega) dX2_nextToken_187 (by decide) (fun c_187 => ?_) (fun c_187 => ?_)
                  · refine vv_aload_n X dX2_nextToken_213 rfl 0 rfl ?_
                    refine vv_dup X dX2_nextToken_214 rfl ?_
                    refine mg4 X rfl hM dX2_nextToken_215 ?_
                    refine vv_iconst (v := nI 1) X dX2_nextToken_218 (by decide) ?_
                    refine vn_add X dX2_nextToken_219 ?_
                    refine mp4 X rfl hM hg (Or.inl (MA.in (by decide))) dX2_nextToken_220 (fun H hM => ?_)
                    rw [up_sw3 (by decide) (by decide)] at hM
                    refine vv_goto (tgt := 159) X dX2_nextToken_223 (by decide) ?_
                    refine vv_sub [0] rfl ?_
                    exact ihi (i + 1) H v (by omega) (hM) (by omega) (by rw [hv, show min 4 (i + 1 - s) = min 4 (i - s) by omega])
                  · refine vv_aload_n X dX2_nextToken_190 rfl 0 rfl ?_
                    refine vv_bipush (v := nI 10) X dX2_nextToken_191 (by decide) ?_
                    refine vv_aload_n X dX2_nextToken_193 rfl 0 rfl ?_
                    refine mg9 X rfl hM dX2_nextToken_194 ?_
                    refine vv_imul X dX2_nextToken_197 ?_
                    refine vv_aload_n X dX2_nextToken_198 rfl 0 rfl ?_
                    refine vv_aload_n X dX2_nextToken_199 rfl 0 rfl ?_
                    refine mg4 X rfl hM dX2_nextToken_200 ?_
                    refine vv_callVp X (mX2_byteAt (kL K) D g (va_up (va_up (va_up x 4 (nI i)) 8 (nI s)) 9 v) I J e i he he2 (by omega)) q3046 q3048 qs62 q144 q3049 nX2_byteAt ⟨(Nat.le_of_ble_eq_true rfl), (Nat.le_of_ble_eq_true rfl)⟩ dX2_nextToken_203 rfl (Nat.le_of_ble_eq_true rfl) (recv X hM.1 CL_X2) hM ⟨(Nat.le_of_ble_eq_true rfl), (Nat.le_of_ble_eq_true rfl)⟩ ?_
                    refine vv_iadd X dX2_nextToken_206 ?_
                    refine vv_bipush (v := nI 48) X dX2_nextToken_207 (by decide) ?_
                    refine vv_isub X dX2_nextToken_209 ?_
                    refine mp9 X rfl hM hg (Or.inl (MA.in (by decide))) dX2_nextToken_210 (fun H hM => ?_)
                    rw [up_up] at hM
                    refine vv_aload_n X dX2_nextToken_213 rfl 0 rfl ?_
                    refine vv_dup X dX2_nextToken_214 rfl ?_
                    refine mg4 X rfl hM dX2_nextToken_215 ?_
                    refine vv_iconst (v := nI 1) X dX2_nextToken_218 (by decide) ?_
                    refine vn_add X dX2_nextToken_219 ?_
                    refine mp4 X rfl hM hg (Or.inl (MA.in (by decide))) dX2_nextToken_220 (fun H hM => ?_)
                    rw [up_sw3 (by decide) (by decide)] at hM
                    refine vv_goto (tgt := 159) X dX2_nextToken_223 (by decide) ?_
                    refine vv_sub [0] rfl ?_
                    exact ihi (i + 1) H ((((nI 10) * v) + (byt (I 1) e i)) - (nI 48)) (by omega) (hM) (by omega) (by rw [show min 4 (i + 1 - s) = (i - s) + 1 by omega, dgv_s, hv, show min 4 (i - s) = i - s by omega, show s + (i - s) = i by omega])
            refine vv_sub [0] rfl ?_
            exact hl_3 (t - (s)) s H (nI 0) (by omega) (hM) (Nat.le_refl _) (by rw [Nat.sub_self]; rfl)
        · obtain ⟨t, hN2⟩ : ∃ t, run isLe (I 1) e s = t := ⟨_, rfl⟩
          clear hN
          have hN := hN2
          have hte := run_le (q := isLe) (f := I 1) hse.2
          rw [hN] at hte
          have hx_4 : ∀ (H : Heap) (hM : MR D g (va_up (va_up x 4 (nI t)) 8 (nI s)) I J H) (hle : s ≤ t), V K 1 (MA g) H 0 0 Qf 110 [(0, .ref (g 0))] [] := by
            intro H hM hle
            refine vv_aload_n X dX2_nextToken_110 rfl 0 rfl ?_
            refine vv_aload_n X dX2_nextToken_111 rfl 0 rfl ?_
            refine mg4 X rfl hM dX2_nextToken_112 ?_
            refine vv_aload_n X dX2_nextToken_115 rfl 0 rfl ?_
            refine mg8 X rfl hM dX2_nextToken_116 ?_
            refine vn_sub X (by omega) dX2_nextToken_119 ?_
            refine vv_bipush (v := nI 8) X dX2_nextToken_120 (by decide) ?_
            refine vn_le (tgt := 129) X (by omega) (by omega) dX2_nextToken_122 (by decide) (fun c_122 => ?_) (fun c_122 => ?_)
            · refine vv_iconst (v := nI 2) X dX2_nextToken_129 (by decide) ?_
              refine mp7 X rfl hM hg (Or.inl (MA.in (by decide))) dX2_nextToken_130 (fun H hM => ?_)
              refine vv_goto (tgt := 292) X dX2_nextToken_133 (by decide) ?_
              exact vv_vret X hQ dX2_nextToken_292 (Nat.le_refl _) (Nat.le_refl _) (⟨rfl, by rw [hnx, tkX_w c_50 (decide_eq_true c_76), hN, if_pos c_122]; exact hM⟩)
            · refine vv_iconst (v := nI 0) X dX2_nextToken_125 (by decide) ?_
              refine vv_goto (tgt := 130) X dX2_nextToken_126 (by decide) ?_
              refine mp7 X rfl hM hg (Or.inl (MA.in (by decide))) dX2_nextToken_130 (fun H hM => ?_)
              refine vv_goto (tgt := 292) X dX2_nextToken_133 (by decide) ?_
              exact vv_vret X hQ dX2_nextToken_292 (Nat.le_refl _) (Nat.le_refl _) (⟨rfl, by rw [hnx, tkX_w c_50 (decide_eq_true c_76), hN, if_neg (Nat.not_le.mpr c_122)]; exact hM⟩)
          have hl_5 : ∀ (n_i i : Nat) (H : Heap), i + n_i = t → (MR D g (va_up (va_up x 4 (nI i)) 8 (nI s)) I J H) → (s ≤ i) → V K 1 (MA g) H 0 0 Qf 79 [(0, .ref (g 0))] [] := by
            intro n_i
            induction n_i with
            | zero =>
              intro i H hi hM hle
              obtain rfl : t = i := by omega
              refine vv_aload_n X dX2_nextToken_79 rfl 0 rfl ?_
              refine vv_aload_n X dX2_nextToken_80 rfl 0 rfl ?_
              refine mg4 X rfl hM dX2_nextToken_81 ?_
              refine vv_callVp X (mX2_byteAt (kL K) D g (va_up (va_up x 4 (nI t)) 8 (nI s)) I J e t he he2 (by omega)) q3046 q3048 qs62 q144 q3049 nX2_byteAt ⟨(Nat.le_of_ble_eq_true rfl), (Nat.le_of_ble_eq_true rfl)⟩ dX2_nextToken_84 rfl (Nat.le_of_ble_eq_true rfl) (recv X hM.1 CL_X2) hM ⟨(Nat.le_of_ble_eq_true rfl), (Nat.le_of_ble_eq_true rfl)⟩ ?_
              refine vv_bipush (v := nI 97) X dX2_nextToken_87 (by decide) ?_
              refine vv_bipush (v := nI 122) X dX2_nextToken_89 (by decide) ?_
              refine vv_callSp X (mX2_in (kL K) D (byt (I 1) e t) (nI 97) (nI 122)) q3031 q3032 q144 q3033 nX2_in ⟨(Nat.le_of_ble_eq_true rfl), (Nat.le_of_ble_eq_true rfl)⟩ dX2_nextToken_91 rfl (Nat.le_of_ble_eq_true rfl) trivial ⟨(Nat.le_of_ble_eq_true rfl), (Nat.le_of_ble_eq_true rfl)⟩ ?_
              refine vb_eq (tgt := 110) X dX2_nextToken_94 (by decide) (fun c_94 => ?_) (fun c_94 => ?_)
              · exact hx_4 H hM hle
              · exact absurd c_94 (by rw [← hN]; exact fun z => run_out (q := isLe) (by omega) (by decide) (decide_eq_true z))
            | succ n_i ihi =>
              intro i H hi hM hle
              refine vv_aload_n X dX2_nextToken_79 rfl 0 rfl ?_
              refine vv_aload_n X dX2_nextToken_80 rfl 0 rfl ?_
              refine mg4 X rfl hM dX2_nextToken_81 ?_
              refine vv_callVp X (mX2_byteAt (kL K) D g (va_up (va_up x 4 (nI i)) 8 (nI s)) I J e i he he2 (by omega)) q3046 q3048 qs62 q144 q3049 nX2_byteAt ⟨(Nat.le_of_ble_eq_true rfl), (Nat.le_of_ble_eq_true rfl)⟩ dX2_nextToken_84 rfl (Nat.le_of_ble_eq_true rfl) (recv X hM.1 CL_X2) hM ⟨(Nat.le_of_ble_eq_true rfl), (Nat.le_of_ble_eq_true rfl)⟩ ?_
              refine vv_bipush (v := nI 97) X dX2_nextToken_87 (by decide) ?_
              refine vv_bipush (v := nI 122) X dX2_nextToken_89 (by decide) ?_
              refine vv_callSp X (mX2_in (kL K) D (byt (I 1) e i) (nI 97) (nI 122)) q3031 q3032 q144 q3033 nX2_in ⟨(Nat.le_of_ble_eq_true rfl), (Nat.le_of_ble_eq_true rfl)⟩ dX2_nextToken_91 rfl (Nat.le_of_ble_eq_true rfl) trivial ⟨(Nat.le_of_ble_eq_true rfl), (Nat.le_of_ble_eq_true rfl)⟩ ?_
              refine vb_eq (tgt := 110) X dX2_nextToken_94 (by decide) (fun c_94 => ?_) (fun c_94 => ?_)
              · exact absurd (of_decide_eq_true (run_in (q := isLe) (f := I 1) (e := e) (p := s) (i := i) hle (by rw [hN]; omega) (by omega))) c_94
              · refine vv_aload_n X dX2_nextToken_97 rfl 0 rfl ?_
                refine vv_dup X dX2_nextToken_98 rfl ?_
                refine mg4 X rfl hM dX2_nextToken_99 ?_
                refine vv_iconst (v := nI 1) X dX2_nextToken_102 (by decide) ?_
                refine vn_add X dX2_nextToken_103 ?_
                refine mp4 X rfl hM hg (Or.inl (MA.in (by decide))) dX2_nextToken_104 (fun H hM => ?_)
                rw [up_sw (by decide)] at hM
                refine vv_goto (tgt := 79) X dX2_nextToken_107 (by decide) ?_
                refine vv_sub [0] rfl ?_
                exact ihi (i + 1) H (by omega) (hM) (by omega)
          refine vv_sub [0] rfl ?_
          exact hl_5 (t - (s)) s H (by omega) (hM) (Nat.le_refl _)
      · refine vv_aload_n X dX2_nextToken_53 rfl 0 rfl ?_
        refine vv_iconst (v := nI 1) X dX2_nextToken_54 (by decide) ?_
        refine mp7 X rfl hM hg (Or.inl (MA.in (by decide))) dX2_nextToken_55 (fun H hM => ?_)
        refine vv_goto (tgt := 292) X dX2_nextToken_58 (by decide) ?_
        exact vv_vret X hQ dX2_nextToken_292 (Nat.le_refl _) (Nat.le_refl _) (⟨rfl, by rw [hnx, tkX_e c_50]; exact hM⟩)
    have hl_6 : ∀ (n_i i : Nat) (H : Heap), i + n_i = s → (MR D g (va_up x 4 (nI i)) I J H) → (p ≤ i) → V K 1 (MA g) H 0 0 Qf 8 [(0, .ref (g 0))] [] := by
      intro n_i
      induction n_i with
      | zero =>
        intro i H hi hM hle
        obtain rfl : s = i := by omega
        refine vv_aload_n X dX2_nextToken_8 rfl 0 rfl ?_
        refine vv_aload_n X dX2_nextToken_9 rfl 0 rfl ?_
        refine mg4 X rfl hM dX2_nextToken_10 ?_
        refine vv_callVp X (mX2_byteAt (kL K) D g (va_up x 4 (nI s)) I J e s he he2 (by omega)) q3046 q3048 qs62 q144 q3049 nX2_byteAt ⟨(Nat.le_of_ble_eq_true rfl), (Nat.le_of_ble_eq_true rfl)⟩ dX2_nextToken_13 rfl (Nat.le_of_ble_eq_true rfl) (recv X hM.1 CL_X2) hM ⟨(Nat.le_of_ble_eq_true rfl), (Nat.le_of_ble_eq_true rfl)⟩ ?_
        refine vv_bipush (v := nI 32) X dX2_nextToken_16 (by decide) ?_
        refine vv_icmp_ne (tgt := 34) X dX2_nextToken_18 (by decide) (fun c_18 => ?_) (fun c_18 => ?_)
        · exact hx_1 H hM hle
        · exact absurd c_18 (by rw [← hN]; exact fun z => run_out (q := isSp) (by omega) (by decide) (decide_eq_true z))
      | succ n_i ihi =>
        intro i H hi hM hle
        refine vv_aload_n X dX2_nextToken_8 rfl 0 rfl ?_
        refine vv_aload_n X dX2_nextToken_9 rfl 0 rfl ?_
        refine mg4 X rfl hM dX2_nextToken_10 ?_
        refine vv_callVp X (mX2_byteAt (kL K) D g (va_up x 4 (nI i)) I J e i he he2 (by omega)) q3046 q3048 qs62 q144 q3049 nX2_byteAt ⟨(Nat.le_of_ble_eq_true rfl), (Nat.le_of_ble_eq_true rfl)⟩ dX2_nextToken_13 rfl (Nat.le_of_ble_eq_true rfl) (recv X hM.1 CL_X2) hM ⟨(Nat.le_of_ble_eq_true rfl), (Nat.le_of_ble_eq_true rfl)⟩ ?_
        refine vv_bipush (v := nI 32) X dX2_nextToken_16 (by decide) ?_
        refine vv_icmp_ne (tgt := 34) X dX2_nextToken_18 (by decide) (fun c_18 => ?_) (fun c_18 => ?_)
        · exact absurd (of_decide_eq_true (run_in (q := isSp) (f := I 1) (e := e) (p := p) (i := i) hle (by rw [hN]; omega) (by omega))) c_18
        · refine vv_aload_n X dX2_nextToken_21 rfl 0 rfl ?_
          refine vv_dup X dX2_nextToken_22 rfl ?_
          refine mg4 X rfl hM dX2_nextToken_23 ?_
          refine vv_iconst (v := nI 1) X dX2_nextToken_26 (by decide) ?_
          refine vn_add X dX2_nextToken_27 ?_
          refine mp4 X rfl hM hg (Or.inl (MA.in (by decide))) dX2_nextToken_28 (fun H hM => ?_)
          rw [up_up] at hM
          refine vv_goto (tgt := 8) X dX2_nextToken_31 (by decide) ?_
          refine vv_sub [0] rfl ?_
          exact ihi (i + 1) H (by omega) (hM) (by omega)
    refine vv_sub [0] rfl ?_
    exact hl_6 (s - (p)) p ((kS K).heap) (by omega) (by rw [← h4, up_same]; exact hM) (Nat.le_refl _)
  · exact vv_vret X hQ dX2_nextToken_7 (Nat.le_refl _) (Nat.le_refl _) (⟨rfl, by rw [nxt_s (Int32.not_le.mp c_4)]; exact hM⟩)
theorem nX2_look : notMH yX2_look 2 := by decide +kernel
set_option maxHeartbeats 800000 in
theorem mX2_look (l : Launch) (D : DD) (g : Nat → Nat) (x : Nat → Int32) (I : Nat → Nat → Int32) (J : Nat → Nat → Int64) (hg : MG g) (e : Nat) (lo hi : Int32) (hx : PX e x) : Ct l yX2_look cX2_look 3 (some .int) { frames := 2, cells := 0, slots := 0, locals := 34 } D [.ref (g 0), .int (lo), .int (hi)] (fun H => MR D g x I J H) (MA g) (fun v H H1 => v = some (.int (lov lo hi x)) ∧ MR D g (lok lo hi x) I J H1) := by
  refine Ct.of (by decide +kernel) (Nat.le_of_ble_eq_true rfl) (fun K Qf hkl X hM hQ => ?_)
  subst hkl
  refine vv_sub (lv' := [(0, .ref (g 0)), (1, .int (lo)), (2, .int (hi))]) [0, 1, 2] rfl ?_
  refine vv_aload_n X dX2_look_0 rfl 0 rfl ?_
  refine mg5 X rfl hM dX2_look_1 ?_
  refine vv_if_le (tgt := 9) X dX2_look_4 (by decide) (fun c_4 => ?_) (fun c_4 => ?_)
  · refine vv_aload_n X dX2_look_9 rfl 0 rfl ?_
    refine mg7 X rfl hM dX2_look_10 ?_
    refine vv_iconst (v := nI 3) X dX2_look_13 (by decide) ?_
    refine vv_icmp_eq (tgt := 25) X dX2_look_14 (by decide) (fun c_14 => ?_) (fun c_14 => ?_)
    · refine vv_aload_n X dX2_look_25 rfl 0 rfl ?_
      refine mg9 X rfl hM dX2_look_26 ?_
      refine vv_iload_n X dX2_look_29 rfl 1 rfl ?_
      refine vv_iload_n X dX2_look_30 rfl 2 rfl ?_
      refine vv_callSp X (mX2_in (kL K) D (x 9) lo hi) q3031 q3032 q144 q3033 nX2_in ⟨(Nat.le_of_ble_eq_true rfl), (Nat.le_of_ble_eq_true rfl)⟩ dX2_look_31 rfl (Nat.le_of_ble_eq_true rfl) trivial ⟨(Nat.le_of_ble_eq_true rfl), (Nat.le_of_ble_eq_true rfl)⟩ ?_
      refine vb_ne (tgt := 42) X dX2_look_34 (by decide) (fun c_34 => ?_) (fun c_34 => ?_)
      · refine vv_aload_n X dX2_look_42 rfl 0 rfl ?_
        refine mg5 X rfl hM dX2_look_43 ?_
        refine vv_if_le (tgt := 53) X dX2_look_46 (by decide) (fun c_46 => ?_) (fun c_46 => ?_)
        · refine vv_aload_n X dX2_look_53 rfl 0 rfl ?_
          refine mg9 X rfl hM dX2_look_54 ?_
          exact vv_iret X hQ dX2_look_57 (Nat.le_refl _) (Nat.le_refl _) (⟨by rw [lov_0 (Int32.not_lt.mpr c_4) c_14 c_34], by rw [lok_0 (Int32.not_lt.mpr c_4) c_14 c_34]; exact hM⟩)
        · exact absurd c_4 c_46
      · refine vv_aload_n X dX2_look_37 rfl 0 rfl ?_
        refine vv_iconst (v := nI 2) X dX2_look_38 (by decide) ?_
        refine vv_callV X (mX2_faults (kL K) D g x I J hg 2) q3082 q3084 qs67 q144 q3085 nX2_faults ⟨(Nat.le_of_ble_eq_true rfl), (Nat.le_of_ble_eq_true rfl)⟩ dX2_look_39 rfl (Nat.le_of_ble_eq_true rfl) (recv X hM.1 CL_X2) hM  (fun _ z => Or.inl z) ⟨(Nat.le_of_ble_eq_true rfl), (Nat.le_of_ble_eq_true rfl)⟩ (fun v_ H hq hz hk => ?_)
        obtain ⟨rfl, hM⟩ := hq
        clear hz hk
        refine vv_aload_n X dX2_look_42 rfl 0 rfl ?_
        refine mg5 X rfl hM dX2_look_43 ?_
        refine vv_if_le (tgt := 53) X dX2_look_46 (by decide) (fun c_46 => ?_) (fun c_46 => ?_)
        · exact absurd c_46 (by rw [fau_5 (Int32.not_lt.mpr c_4)]; decide)
        · refine vv_iload_n X dX2_look_49 rfl 1 rfl ?_
          refine vv_goto (tgt := 57) X dX2_look_50 (by decide) ?_
          exact vv_iret X hQ dX2_look_57 (Nat.le_refl _) (Nat.le_refl _) (⟨by rw [lov_2 (Int32.not_lt.mpr c_4) c_14 c_34], by rw [lok_2 (Int32.not_lt.mpr c_4) c_14 c_34]; exact hM⟩)
    · refine vv_aload_n X dX2_look_17 rfl 0 rfl ?_
      refine vv_iconst (v := nI 1) X dX2_look_18 (by decide) ?_
      refine vv_callV X (mX2_faults (kL K) D g x I J hg 1) q3082 q3084 qs67 q144 q3085 nX2_faults ⟨(Nat.le_of_ble_eq_true rfl), (Nat.le_of_ble_eq_true rfl)⟩ dX2_look_19 rfl (Nat.le_of_ble_eq_true rfl) (recv X hM.1 CL_X2) hM  (fun _ z => Or.inl z) ⟨(Nat.le_of_ble_eq_true rfl), (Nat.le_of_ble_eq_true rfl)⟩ (fun v_ H hq hz hk => ?_)
      obtain ⟨rfl, hM⟩ := hq
      clear hz hk
      refine vv_goto (tgt := 42) X dX2_look_22 (by decide) ?_
      refine vv_aload_n X dX2_look_42 rfl 0 rfl ?_
      refine mg5 X rfl hM dX2_look_43 ?_
      refine vv_if_le (tgt := 53) X dX2_look_46 (by decide) (fun c_46 => ?_) (fun c_46 => ?_)
      · exact absurd c_46 (by rw [fau_5 (Int32.not_lt.mpr c_4)]; decide)
      · refine vv_iload_n X dX2_look_49 rfl 1 rfl ?_
        refine vv_goto (tgt := 57) X dX2_look_50 (by decide) ?_
        exact vv_iret X hQ dX2_look_57 (Nat.le_refl _) (Nat.le_refl _) (⟨by rw [lov_1 (Int32.not_lt.mpr c_4) c_14], by rw [lok_1 (Int32.not_lt.mpr c_4) c_14]; exact hM⟩)
  · refine vv_iload_n X dX2_look_7 rfl 1 rfl ?_
    exact vv_iret X hQ dX2_look_8 (Nat.le_refl _) (Nat.le_refl _) (⟨by rw [lov_s (Int32.not_le.mp c_4)], by rw [lok_s (Int32.not_le.mp c_4)]; exact hM⟩)
theorem nX2_number : notMH yX2_number 2 := by decide +kernel
set_option maxHeartbeats 800000 in
theorem mX2_number (l : Launch) (D : DD) (g : Nat → Nat) (x : Nat → Int32) (I : Nat → Nat → Int32) (J : Nat → Nat → Int64) (hg : MG g) (e : Nat) (lo hi : Int32) (hx : PX e x) : Ct l yX2_number cX2_number 4 (some .int) { frames := 3, cells := 0, slots := 0, locals := 56 } D [.ref (g 0), .int (lo), .int (hi)] (fun H => MR D g x I J H) (MA g) (fun v H H1 => v = some (.int (lov lo hi x)) ∧ MR D g (num (I 1) e lo hi x) I J H1) := by
  refine Ct.of (by decide +kernel) (Nat.le_of_ble_eq_true rfl) (fun K Qf hkl X hM hQ => ?_)
  subst hkl
  refine vv_sub (lv' := [(0, .ref (g 0)), (1, .int (lo)), (2, .int (hi))]) [0, 1, 2] rfl ?_
  refine vv_aload_n X dX2_number_0 rfl 0 rfl ?_
  refine vv_iload_n X dX2_number_1 rfl 1 rfl ?_
  refine vv_iload_n X dX2_number_2 rfl 2 rfl ?_
  refine vv_callV X (mX2_look (kL K) D g x I J hg e lo hi hx) q3095 q3097 qs70 q144 q3098 nX2_look ⟨(Nat.le_of_ble_eq_true rfl), (Nat.le_of_ble_eq_true rfl)⟩ dX2_number_3 rfl (Nat.le_of_ble_eq_true rfl) (recv X hM.1 CL_X2) hM  (fun _ z => Or.inl z) ⟨(Nat.le_of_ble_eq_true rfl), (Nat.le_of_ble_eq_true rfl)⟩ (fun v_ H hq hz hk => ?_)
  obtain ⟨rfl, hM⟩ := hq
  clear hz hk
  refine vv_istore_n (lv' := [(3, .int (lov lo hi x)), (0, .ref (g 0)), (1, .int (lo)), (2, .int (hi))]) X dX2_number_6 rfl (by decide) rfl ?_
  refine vv_aload_n X dX2_number_7 rfl 1 rfl ?_
  refine vv_callV X (mX2_nextToken (kL K) D g (lok lo hi x) I J hg e (PX_lok hx)) q3042 q3044 qs61 q144 q3045 nX2_nextToken ⟨(Nat.le_of_ble_eq_true rfl), (Nat.le_of_ble_eq_true rfl)⟩ dX2_number_8 rfl (Nat.le_of_ble_eq_true rfl) (recv X hM.1 CL_X2) hM  (fun _ z => Or.inl z) ⟨(Nat.le_of_ble_eq_true rfl), (Nat.le_of_ble_eq_true rfl)⟩ (fun v_ H hq hz hk => ?_)
  obtain ⟨rfl, hM⟩ := hq
  clear hz hk
  refine vv_iload_n X dX2_number_11 rfl 0 rfl ?_
  exact vv_iret X hQ dX2_number_12 (Nat.le_refl _) (Nat.le_refl _) (⟨rfl, hM⟩)
theorem nX2_signed : notMH yX2_signed 2 := by decide +kernel
set_option maxHeartbeats 800000 in
theorem mX2_signed (l : Launch) (D : DD) (g : Nat → Nat) (x : Nat → Int32) (I : Nat → Nat → Int32) (J : Nat → Nat → Int64) (hg : MG g) (e : Nat) (lo hi : Int32) (hx : PX e x) : Ct l yX2_signed cX2_signed 4 (some .int) { frames := 4, cells := 0, slots := 0, locals := 79 } D [.ref (g 0), .int (lo), .int (hi)] (fun H => MR D g x I J H) (MA g) (fun v H H1 => v = some (.int (sgv (I 1) e lo hi x)) ∧ MR D g (sgd (I 1) e lo hi x) I J H1) := by
  refine Ct.of (by decide +kernel) (Nat.le_of_ble_eq_true rfl) (fun K Qf hkl X hM hQ => ?_)
  subst hkl
  refine vv_sub (lv' := [(0, .ref (g 0)), (1, .int (lo)), (2, .int (hi))]) [0, 1, 2] rfl ?_
  refine vv_aload_n X dX2_signed_0 rfl 0 rfl ?_
  refine vv_bipush (v := nI 45) X dX2_signed_1 (by decide) ?_
  refine vv_callVp X (mX2_isSignHere (kL K) D g x I J (nI 45)) q3102 q3104 qs71 q144 q3105 nX2_isSignHere ⟨(Nat.le_of_ble_eq_true rfl), (Nat.le_of_ble_eq_true rfl)⟩ dX2_signed_3 rfl (Nat.le_of_ble_eq_true rfl) (recv X hM.1 CL_X2) hM ⟨(Nat.le_of_ble_eq_true rfl), (Nat.le_of_ble_eq_true rfl)⟩ ?_
  refine vv_istore_n (lv' := [(3, .int (b2 (sgh (nI 45) x))), (0, .ref (g 0)), (1, .int (lo)), (2, .int (hi))]) X dX2_signed_6 rfl (by decide) rfl ?_
  refine vv_iload_n X dX2_signed_7 rfl 0 rfl ?_
  refine vb_eq (tgt := 15) X dX2_signed_8 (by decide) (fun c_8 => ?_) (fun c_8 => ?_)
  · refine vv_iload_n X dX2_signed_15 rfl 0 rfl ?_
    refine vb_eq (tgt := 31) X dX2_signed_16 (by decide) (fun c_16 => ?_) (fun c_16 => ?_)
    · refine vv_aload_n X dX2_signed_31 rfl 1 rfl ?_
      refine vv_iload_n X dX2_signed_32 rfl 2 rfl ?_
      refine vv_iload_n X dX2_signed_33 rfl 3 rfl ?_
      refine vv_callV X (mX2_number (kL K) D g x I J hg e lo hi hx) q3091 q3093 qs69 q144 q3094 nX2_number ⟨(Nat.le_of_ble_eq_true rfl), (Nat.le_of_ble_eq_true rfl)⟩ dX2_signed_34 rfl (Nat.le_of_ble_eq_true rfl) (recv X hM.1 CL_X2) hM  (fun _ z => Or.inl z) ⟨(Nat.le_of_ble_eq_true rfl), (Nat.le_of_ble_eq_true rfl)⟩ (fun v_ H hq hz hk => ?_)
      obtain ⟨rfl, hM⟩ := hq
      clear hz hk
      exact vv_iret X hQ dX2_signed_37 (Nat.le_refl _) (Nat.le_refl _) (⟨by unfold sgv; rw [if_neg c_8], by unfold sgd; rw [if_neg c_8]; exact hM⟩)
    · exact absurd c_16 c_8
  · refine vv_aload_n X dX2_signed_11 rfl 1 rfl ?_
    refine vv_callV X (mX2_nextToken (kL K) D g x I J hg e hx) q3042 q3044 qs61 q144 q3045 nX2_nextToken ⟨(Nat.le_of_ble_eq_true rfl), (Nat.le_of_ble_eq_true rfl)⟩ dX2_signed_12 rfl (Nat.le_of_ble_eq_true rfl) (recv X hM.1 CL_X2) hM  (fun _ z => Or.inl z) ⟨(Nat.le_of_ble_eq_true rfl), (Nat.le_of_ble_eq_true rfl)⟩ (fun v_ H hq hz hk => ?_)
    obtain ⟨rfl, hM⟩ := hq
    clear hz hk
    refine vv_iload_n X dX2_signed_15 rfl 0 rfl ?_
    refine vb_eq (tgt := 31) X dX2_signed_16 (by decide) (fun c_16 => ?_) (fun c_16 => ?_)
    · exact absurd c_8 c_16
    · refine vv_aload_n X dX2_signed_19 rfl 1 rfl ?_
      refine vv_iload_n X dX2_signed_20 rfl 3 rfl ?_
      refine vv_ineg X dX2_signed_21 ?_
      refine vv_iload_n X dX2_signed_22 rfl 2 rfl ?_
      refine vv_ineg X dX2_signed_23 ?_
      refine vv_callV X (mX2_number (kL K) D g (nxt (I 1) e x) I J hg e (-hi) (-lo) (PX_nxt hx)) q3091 q3093 qs69 q144 q3094 nX2_number ⟨(Nat.le_of_ble_eq_true rfl), (Nat.le_of_ble_eq_true rfl)⟩ dX2_signed_24 rfl (Nat.le_of_ble_eq_true rfl) (recv X hM.1 CL_X2) hM  (fun _ z => Or.inl z) ⟨(Nat.le_of_ble_eq_true rfl), (Nat.le_of_ble_eq_true rfl)⟩ (fun v_ H hq hz hk => ?_)
      obtain ⟨rfl, hM⟩ := hq
      clear hz hk
      refine vv_ineg X dX2_signed_27 ?_
      refine vv_goto (tgt := 37) X dX2_signed_28 (by decide) ?_
      exact vv_iret X hQ dX2_signed_37 (Nat.le_refl _) (Nat.le_refl _) (⟨by unfold sgv; rw [if_pos c_8], by unfold sgd; rw [if_pos c_8]; exact hM⟩)
