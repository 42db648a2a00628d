/-! the model's parser, second half: printed by gen/m7.py -/
set_option maxRecDepth 100000
section MS
variable {D : DD} {g : Nat → Nat} {x : Nat → Int32} {I : Nat → Nat → Int32} {J : Nat → Nat → Int64} {H : Heap} {K : C_} {y : MethodName} {cc : ByteArray} {nL : Nat} {ret : Option FieldType} {rm : Room} {A : Nat → Prop} {cells slots : Nat} {Q : State → Prop} {pc : Nat} {lv : List (Nat × Value)} {rest : List Value}
theorem KH.ch1 {a : Nat} {H1 : Heap} (h : KH D H) (hka : KA D (MA g)) (ha : MA g a) (hc : Ch a H H1) : KH D H1 := h.keep hka (fun q _ hq => hc.2 q (fun z => hq (z ▸ ha)))
theorem mk11 (X : Fx K y cc nL ret rm D) (hM : MR D g x I J H) (hK : KH D H) (hka : KA D (MA g)) (hg : MG g) {i v : Int32} (k : Nat) (hk : k < 131) (e : i = nI k) (hA : kF K A (g 11)) (d : decode cc pc = .ok (.iastore, 1)) (kk : ∀ H1 : Heap, MR D g x (va_up I 11 (va_up (I 11) k v)) J H1 → KH D H1 → V K nL A H1 cells slots Q (pc + 1) lv rest) : V K nL A H cells slots Q pc lv (.int v :: .int i :: .ref (g 11) :: rest) := vv_iast X hM.a11 k hk (by decide) e hA d (fun H1 hc ha => kk H1 (hM.setI hg (by decide) hc ha) (hK.ch1 hka (MA.in (by decide)) hc))
theorem mk13 (X : Fx K y cc nL ret rm D) (hM : MR D g x I J H) (hK : KH D H) (hka : KA D (MA g)) (hg : MG g) {i v : Int32} (k : Nat) (hk : k < 2455) (e : i = nI k) (hA : kF K A (g 13)) (d : decode cc pc = .ok (.iastore, 1)) (kk : ∀ H1 : Heap, MR D g x (va_up I 13 (va_up (I 13) k v)) J H1 → KH D H1 → V K nL A H1 cells slots Q (pc + 1) lv rest) : V K nL A H cells slots Q pc lv (.int v :: .int i :: .ref (g 13) :: rest) := vv_iast X hM.a13 k hk (by decide) e hA d (fun H1 hc ha => kk H1 (hM.setI hg (by decide) hc ha) (hK.ch1 hka (MA.in (by decide)) hc))
end MS
theorem nX2_isWord : notMH yX2_isWord 1 := by decide +kernel
set_option maxHeartbeats 800000 in
theorem mX2_isWord (l : Launch) (D : DD) (g : Nat → Nat) (x : Nat → Int32) (I : Nat → Nat → Int32) (J : Nat → Nat → Int64) (i e : Nat) (hka : KA D (MA g)) (hi : i < 45) (hx : PY e x) : Cp l yX2_isWord cX2_isWord 3 (some .boolean) { frames := 5, cells := 0, slots := 0, locals := 97 } D [.ref (g 0), .ref (D.2.2 i)] (fun H => MR D g x I J H ∧ KH D H) (.int (b2 (wr (I 1) i x = true))) := by
  refine Ct.of (by decide +kernel) (Nat.le_of_ble_eq_true rfl) (fun K Qf hkl X hM hQ => ?_)
  subst hkl
  obtain ⟨hM, hK⟩ := hM
  have hx0 := hx
  obtain ⟨hpx, p, s, hsp, hpe, h4, h8⟩ := hx0
  have he2 : e ≤ 1000 := hpx.2.1
  have hsl := sln_le i hi
  refine vv_sub (lv' := [(0, .ref (g 0)), (1, .ref (D.2.2 i))]) [0, 1] rfl ?_
  refine vv_aload_n X dX2_isWord_0 rfl 0 rfl ?_
  refine mg5 X rfl hM dX2_isWord_1 ?_
  refine vv_if_gt (tgt := 31) X dX2_isWord_4 (by decide) (fun c_4 => ?_) (fun c_4 => ?_)
  · refine vv_iconst (v := nI 0) X dX2_isWord_31 (by decide) ?_
    exact vv_zret X (rfl) hQ dX2_isWord_32 (Nat.le_refl _) (Nat.le_refl _) (pq (b2_0 (fun z => px5n ((wr_eq h4 h8 (by omega) (by omega)).1 z).1 c_4)))
  · refine vv_aload_n X dX2_isWord_7 rfl 0 rfl ?_
    refine mg7 X rfl hM dX2_isWord_8 ?_
    refine vv_iconst (v := nI 2) X dX2_isWord_11 (by decide) ?_
    refine vv_icmp_ne (tgt := 31) X dX2_isWord_12 (by decide) (fun c_12 => ?_) (fun c_12 => ?_)
    · refine vv_iconst (v := nI 0) X dX2_isWord_31 (by decide) ?_
      exact vv_zret X (rfl) hQ dX2_isWord_32 (Nat.le_refl _) (Nat.le_refl _) (pq (b2_0 (fun z => c_12 ((wr_eq h4 h8 (by omega) (by omega)).1 z).2.1)))
    · refine vv_aload_n X dX2_isWord_15 rfl 0 rfl ?_
      refine mg4 X rfl hM dX2_isWord_16 ?_
      refine vv_eqi (h4) ?_
      refine vv_aload_n X dX2_isWord_19 rfl 0 rfl ?_
      refine mg8 X rfl hM dX2_isWord_20 ?_
      refine vv_eqi (h8) ?_
      refine vn_sub X (by omega) dX2_isWord_23 ?_
      refine vv_aload_n X dX2_isWord_24 rfl 1 rfl ?_
      refine vv_callVp X (mJ4_length (kL K) D (D.2.2 i) (D.2.2 (100 + i)) (sln i) (sby i) (shs i) (if sln i = 0 then 1 else 0) (Nat.lt_of_le_of_lt (sln_le i hi) (by decide))) q3070 q589 q590 q142 q591 nJ4_length ⟨(Nat.le_of_ble_eq_true rfl), (Nat.le_of_ble_eq_true rfl)⟩ dX2_isWord_25 rfl (Nat.le_of_ble_eq_true rfl) (recv X (hK.1 i hi).1 CL_J4) ⟨hK, (hK.1 i hi).1, (hK.1 i hi).2⟩ ⟨(Nat.le_of_ble_eq_true rfl), (Nat.le_of_ble_eq_true rfl)⟩ ?_
      refine vn_eq (tgt := 33) X (by omega) (by omega) dX2_isWord_28 (by decide) (fun c_28 => ?_) (fun c_28 => ?_)
      · refine vv_iconst (v := nI 0) X dX2_isWord_33 (by decide) ?_
        refine vv_istore_n (lv' := [(2, .int (nI 0)), (0, .ref (g 0)), (1, .ref (D.2.2 i))]) X dX2_isWord_34 rfl (by decide) rfl ?_
        have hx_1 : ∀ (hin : ∀ q, q < sln i → I 1 (s + q) = sby i q), V K 3 (fun _ => False) (kS K).heap 0 0 Qf 70 [(0, .ref (g 0)), (1, .ref (D.2.2 i)), (2, .int (nI (sln i)))] [] := by
          intro hin
          refine vv_iconst (v := nI 1) X dX2_isWord_70 (by decide) ?_
          exact vv_zret X (rfl) hQ dX2_isWord_71 (Nat.le_refl _) (Nat.le_refl _) (pq (b2_1 ((wr_eq h4 h8 (by omega) (by omega)).2 ⟨px50 hx.1 c_4, c_12, c_28, hin⟩)))
        have hl_2 : ∀ (n_k k : Nat), k + n_k = sln i → (∀ q, q < k → I 1 (s + q) = sby i q) → V K 3 (fun _ => False) (kS K).heap 0 0 Qf 35 [(0, .ref (g 0)), (1, .ref (D.2.2 i)), (2, .int (nI k))] [] := by
          intro n_k
          induction n_k with
          | zero =>
            intro k hk hin
            obtain rfl : k = sln i := by omega
            refine vv_iload_n X dX2_isWord_35 rfl 2 rfl ?_
            refine vv_aload_n X dX2_isWord_36 rfl 1 rfl ?_
            refine vv_callVp X (mJ4_length (kL K) D (D.2.2 i) (D.2.2 (100 + i)) (sln i) (sby i) (shs i) (if sln i = 0 then 1 else 0) (Nat.lt_of_le_of_lt (sln_le i hi) (by decide))) q3070 q589 q590 q142 q591 nJ4_length ⟨(Nat.le_of_ble_eq_true rfl), (Nat.le_of_ble_eq_true rfl)⟩ dX2_isWord_37 rfl (Nat.le_of_ble_eq_true rfl) (recv X (hK.1 i hi).1 CL_J4) ⟨hK, (hK.1 i hi).1, (hK.1 i hi).2⟩ ⟨(Nat.le_of_ble_eq_true rfl), (Nat.le_of_ble_eq_true rfl)⟩ ?_
            refine vn_ge (tgt := 70) X (by omega) (by omega) dX2_isWord_40 (by decide) (fun c_40 => ?_) (fun c_40 => ?_)
            · exact hx_1 hin
            · exact absurd c_40 (by omega)
          | succ n_k ihk =>
            intro k hk hin
            refine vv_iload_n X dX2_isWord_35 rfl 2 rfl ?_
            refine vv_aload_n X dX2_isWord_36 rfl 1 rfl ?_
            refine vv_callVp X (mJ4_length (kL K) D (D.2.2 i) (D.2.2 (100 + i)) (sln i) (sby i) (shs i) (if sln i = 0 then 1 else 0) (Nat.lt_of_le_of_lt (sln_le i hi) (by decide))) q3070 q589 q590 q142 q591 nJ4_length ⟨(Nat.le_of_ble_eq_true rfl), (Nat.le_of_ble_eq_true rfl)⟩ dX2_isWord_37 rfl (Nat.le_of_ble_eq_true rfl) (recv X (hK.1 i hi).1 CL_J4) ⟨hK, (hK.1 i hi).1, (hK.1 i hi).2⟩ ⟨(Nat.le_of_ble_eq_true rfl), (Nat.le_of_ble_eq_true rfl)⟩ ?_
            refine vn_ge (tgt := 70) X (by omega) (by omega) dX2_isWord_40 (by decide) (fun c_40 => ?_) (fun c_40 => ?_)
            · exact absurd hk (by omega)
            · refine vv_aload_n X dX2_isWord_43 rfl 0 rfl ?_
              refine mg1 X rfl hM dX2_isWord_44 ?_
              refine vv_aload_n X dX2_isWord_47 rfl 0 rfl ?_
              refine mg8 X rfl hM dX2_isWord_48 ?_
              refine vv_eqi (h8) ?_
              refine vv_iload_n X dX2_isWord_51 rfl 2 rfl ?_
              refine vn_add X dX2_isWord_52 ?_
              refine vv_iald X hM.a1 (s + k) (by omega) (by decide) rfl dX2_isWord_53 ?_
              refine vv_aload_n X dX2_isWord_54 rfl 1 rfl ?_
              refine vv_iload_n X dX2_isWord_55 rfl 2 rfl ?_
              refine vv_callVp X (mJ4_charAt (kL K) D (D.2.2 i) (D.2.2 (100 + i)) (sln i) k (sby i) (shs i) (if sln i = 0 then 1 else 0) (fun k => (sby i k).toNatClampNeg) (Nat.lt_of_le_of_lt (sln_le i hi) (by decide)) (sby_ok i hi) (by omega)) q3071 q3072 q3073 q142 q3074 nJ4_charAt ⟨(Nat.le_of_ble_eq_true rfl), (Nat.le_of_ble_eq_true rfl)⟩ dX2_isWord_56 rfl (Nat.le_of_ble_eq_true rfl) (recv X (hK.1 i hi).1 CL_J4) ⟨hK, (hK.1 i hi).1, (hK.1 i hi).2⟩ ⟨(Nat.le_of_ble_eq_true rfl), (Nat.le_of_ble_eq_true rfl)⟩ ?_
              refine vv_eqi ((sby_ok i hi k (by omega)).1.symm) ?_
              refine vv_icmp_eq (tgt := 64) X dX2_isWord_59 (by decide) (fun c_59 => ?_) (fun c_59 => ?_)
              · refine vv_iinc (v := nI (k + 1)) (lv' := [(2, .int (nI (k + 1))), (0, .ref (g 0)), (1, .ref (D.2.2 i))]) X dX2_isWord_64 (k := 2) rfl (nI_add _ 1) (by decide) rfl ?_
                refine vv_goto (tgt := 35) X dX2_isWord_67 (by decide) ?_
                refine vv_sub [1, 2, 0] rfl ?_
                exact ihk (k + 1) (by omega) (fun q z => by
                                  by_cases e1 : q = k
                                  · rw [e1]; exact c_59
                                  · exact hin q (by omega))
              · refine vv_iconst (v := nI 0) X dX2_isWord_62 (by decide) ?_
                exact vv_zret X (rfl) hQ dX2_isWord_63 (Nat.le_refl _) (Nat.le_refl _) (pq (b2_0 (fun z => c_59 (((wr_eq h4 h8 (by omega) (by omega)).1 z).2.2.2 k (by omega)))))
        refine vv_sub [1, 2, 0] rfl ?_
        exact hl_2 (sln i) 0 (by first | omega | assumption) (fun q z => absurd z (Nat.not_lt_zero _))
      · refine vv_iconst (v := nI 0) X dX2_isWord_31 (by decide) ?_
        exact vv_zret X (rfl) hQ dX2_isWord_32 (Nat.le_refl _) (Nat.le_refl _) (pq (b2_0 (fun z => c_28 ((wr_eq h4 h8 (by omega) (by omega)).1 z).2.2.1)))
theorem nX2_takes : notMH yX2_takes 1 := by decide +kernel
set_option maxHeartbeats 800000 in
theorem mX2_takes (l : Launch) (D : DD) (g : Nat → Nat) (x : Nat → Int32) (I : Nat → Nat → Int32) (J : Nat → Nat → Int64) (i e : Nat) (hg : MG g) (hka : KA D (MA g)) (hi : i < 45) (hx : PY e x) : Ct l yX2_takes cX2_takes 3 (some .boolean) { frames := 6, cells := 0, slots := 0, locals := 119 } D [.ref (g 0), .ref (D.2.2 i)] (fun H => MR D g x I J H ∧ KH D H) (MA g) (fun v H H1 => v = some (.int (b2 (wr (I 1) i x = true))) ∧ MR D g (tks (I 1) e i x) I J H1) := by
  refine Ct.of (by decide +kernel) (Nat.le_of_ble_eq_true rfl) (fun K Qf hkl X hM hQ => ?_)
  subst hkl
  obtain ⟨hM, hK⟩ := hM
  refine vv_sub (lv' := [(0, .ref (g 0)), (1, .ref (D.2.2 i))]) [0, 1] rfl ?_
  refine vv_aload_n X dX2_takes_0 rfl 0 rfl ?_
  refine vv_aload_n X dX2_takes_1 rfl 1 rfl ?_
  refine vv_callVp X (mX2_isWord (kL K) D g x I J i e hka (by first | exact hi | exact hi2) hx) q3066 q3068 qs66 q144 q3069 nX2_isWord ⟨(Nat.le_of_ble_eq_true rfl), (Nat.le_of_ble_eq_true rfl)⟩ dX2_takes_2 rfl (Nat.le_of_ble_eq_true rfl) (recv X hM.1 CL_X2) ⟨hM, hK⟩ ⟨(Nat.le_of_ble_eq_true rfl), (Nat.le_of_ble_eq_true rfl)⟩ ?_
  refine vv_istore_n (lv' := [(2, .int (b2 (wr (I 1) i x = true))), (0, .ref (g 0)), (1, .ref (D.2.2 i))]) X dX2_takes_5 rfl (by decide) rfl ?_
  refine vv_iload_n X dX2_takes_6 rfl 0 rfl ?_
  refine vb_eq (tgt := 14) X dX2_takes_7 (by decide) (fun c_7 => ?_) (fun c_7 => ?_)
  · replace c_7 : ¬ wr (I 1) i x = true := c_7
    refine vv_iload_n X dX2_takes_14 rfl 0 rfl ?_
    exact vv_zret X (b2_nar _) hQ dX2_takes_15 (Nat.le_refl _) (Nat.le_refl _) (⟨rfl, by rw [tks_n c_7]; exact hM⟩)
  · replace c_7 : wr (I 1) i x = true := c_7
    refine vv_aload_n X dX2_takes_10 rfl 1 rfl ?_
    refine vv_callV X (mX2_nextToken (kL K) D g x I J hg e hx.1) q3042 q3044 qs61 q144 q3045 nX2_nextToken ⟨(Nat.le_of_ble_eq_true rfl), (Nat.le_of_ble_eq_true rfl)⟩ dX2_takes_11 rfl (Nat.le_of_ble_eq_true rfl) (recv X hM.1 CL_X2) hM  (fun _ z => Or.inl z) ⟨(Nat.le_of_ble_eq_true rfl), (Nat.le_of_ble_eq_true rfl)⟩ (fun v_ H hq hz hk => ?_)
    obtain ⟨rfl, hM⟩ := hq
    replace hK := hK.keep hka hk
    clear hz hk
    replace hM : MR D g (nxt (I 1) e x) I J H := hM
    replace hx : PY e (nxt (I 1) e x) := PY_nxt hx
    refine vv_iload_n X dX2_takes_14 rfl 0 rfl ?_
    exact vv_zret X (b2_nar _) hQ dX2_takes_15 (Nat.le_refl _) (Nat.le_refl _) (⟨rfl, by rw [tks_y c_7]; exact hM⟩)
theorem nX2_keyword : notMH yX2_keyword 1 := by decide +kernel
set_option maxHeartbeats 800000 in
theorem mX2_keyword (l : Launch) (D : DD) (g : Nat → Nat) (x : Nat → Int32) (I : Nat → Nat → Int32) (J : Nat → Nat → Int64) (i e : Nat) (hg : MG g) (hka : KA D (MA g)) (hi : i < 45) (hx : PY e x) : Ct l yX2_keyword cX2_keyword 2 none { frames := 7, cells := 0, slots := 0, locals := 141 } D [.ref (g 0), .ref (D.2.2 i)] (fun H => MR D g x I J H ∧ KH D H) (MA g) (fun v H H1 => v = none ∧ MR D g (kwd (I 1) e i x) I J H1) := by
  refine Ct.of (by decide +kernel) (Nat.le_of_ble_eq_true rfl) (fun K Qf hkl X hM hQ => ?_)
  subst hkl
  obtain ⟨hM, hK⟩ := hM
  refine vv_sub (lv' := [(0, .ref (g 0)), (1, .ref (D.2.2 i))]) [0, 1] rfl ?_
  refine vv_aload_n X dX2_keyword_0 rfl 0 rfl ?_
  refine vv_aload_n X dX2_keyword_1 rfl 1 rfl ?_
  refine vv_callV X (mX2_takes (kL K) D g x I J i e hg hka (by first | exact hi | exact hi2) hx) q3062 q3064 qs65 q144 q3065 nX2_takes ⟨(Nat.le_of_ble_eq_true rfl), (Nat.le_of_ble_eq_true rfl)⟩ dX2_keyword_2 rfl (Nat.le_of_ble_eq_true rfl) (recv X hM.1 CL_X2) ⟨hM, hK⟩  (fun _ z => Or.inl z) ⟨(Nat.le_of_ble_eq_true rfl), (Nat.le_of_ble_eq_true rfl)⟩ (fun v_ H hq hz hk => ?_)
  obtain ⟨rfl, hM⟩ := hq
  replace hK := hK.keep hka hk
  clear hz hk
  replace hM : MR D g (tks (I 1) e i x) I J H := hM
  replace hx : PY e (tks (I 1) e i x) := PY_tks hx
  refine vb_ne (tgt := 13) X dX2_keyword_5 (by decide) (fun c_5 => ?_) (fun c_5 => ?_)
  · replace c_5 : wr (I 1) i x = true := c_5
    exact vv_vret X hQ dX2_keyword_13 (Nat.le_refl _) (Nat.le_refl _) (⟨rfl, by rw [kwd_y c_5, ← tks_y c_5]; exact hM⟩)
  · replace c_5 : ¬ wr (I 1) i x = true := c_5
    refine vv_aload_n X dX2_keyword_8 rfl 0 rfl ?_
    refine vv_iconst (v := nI 1) X dX2_keyword_9 (by decide) ?_
    refine vv_callV X (mX2_faults (kL K) D g (tks (I 1) e i x) I J hg 1) q3082 q3084 qs67 q144 q3085 nX2_faults ⟨(Nat.le_of_ble_eq_true rfl), (Nat.le_of_ble_eq_true rfl)⟩ dX2_keyword_10 rfl (Nat.le_of_ble_eq_true rfl) (recv X hM.1 CL_X2) hM  (fun _ z => Or.inl z) ⟨(Nat.le_of_ble_eq_true rfl), (Nat.le_of_ble_eq_true rfl)⟩ (fun v_ H hq hz hk => ?_)
    obtain ⟨rfl, hM⟩ := hq
    replace hK := hK.keep hka hk
    clear hz hk
    replace hM : MR D g (fau 1 (tks (I 1) e i x)) I J H := hM
    replace hx : PY e (fau 1 (tks (I 1) e i x)) := PY_fau hx (by decide)
    exact vv_vret X hQ dX2_keyword_13 (Nat.le_refl _) (Nat.le_refl _) (⟨rfl, by rw [kwd_n c_5, show fau 1 x = fau 1 (tks (I 1) e i x) by rw [tks_n c_5]]; exact hM⟩)
theorem nX2_gauge : notMH yX2_gauge 3 := by decide +kernel
set_option maxHeartbeats 800000 in
theorem mX2_gauge (l : Launch) (D : DD) (g : Nat → Nat) (x : Nat → Int32) (I : Nat → Nat → Int32) (J : Nat → Nat → Int64) (i e : Nat) (lo hi : Int32) (hg : MG g) (hka : KA D (MA g)) (hi2 : i < 45) (hx : PY e x) : Ct l yX2_gauge cX2_gauge 4 (some .int) { frames := 8, cells := 0, slots := 0, locals := 162 } D [.ref (g 0), .ref (D.2.2 i), .int (lo), .int (hi)] (fun H => MR D g x I J H ∧ KH D H) (MA g) (fun v H H1 => v = some (.int (gav (I 1) e i lo hi x)) ∧ MR D g (gag (I 1) e i lo hi x) I J H1) := by
  refine Ct.of (by decide +kernel) (Nat.le_of_ble_eq_true rfl) (fun K Qf hkl X hM hQ => ?_)
  subst hkl
  obtain ⟨hM, hK⟩ := hM
  refine vv_sub (lv' := [(0, .ref (g 0)), (1, .ref (D.2.2 i)), (2, .int (lo)), (3, .int (hi))]) [0, 1, 2, 3] rfl ?_
  refine vv_aload_n X dX2_gauge_0 rfl 0 rfl ?_
  refine vv_aload_n X dX2_gauge_1 rfl 1 rfl ?_
  refine vv_callV X (mX2_keyword (kL K) D g x I J i e hg hka (by first | exact hi | exact hi2) hx) q3058 q3060 qs64 q144 q3061 nX2_keyword ⟨(Nat.le_of_ble_eq_true rfl), (Nat.le_of_ble_eq_true rfl)⟩ dX2_gauge_2 rfl (Nat.le_of_ble_eq_true rfl) (recv X hM.1 CL_X2) ⟨hM, hK⟩  (fun _ z => Or.inl z) ⟨(Nat.le_of_ble_eq_true rfl), (Nat.le_of_ble_eq_true rfl)⟩ (fun v_ H hq hz hk => ?_)
  obtain ⟨rfl, hM⟩ := hq
  replace hK := hK.keep hka hk
  clear hz hk
  replace hM : MR D g (kwd (I 1) e i x) I J H := hM
  replace hx : PY e (kwd (I 1) e i x) := PY_kwd hx
  refine vv_aload_n X dX2_gauge_5 rfl 0 rfl ?_
  refine vv_iload_n X dX2_gauge_6 rfl 2 rfl ?_
  refine vv_iload_n X dX2_gauge_7 rfl 3 rfl ?_
  refine vv_callV X (mX2_number (kL K) D g (kwd (I 1) e i x) I J hg e lo hi hx.1) q3091 q3093 qs69 q144 q3094 nX2_number ⟨(Nat.le_of_ble_eq_true rfl), (Nat.le_of_ble_eq_true rfl)⟩ dX2_gauge_8 rfl (Nat.le_of_ble_eq_true rfl) (recv X hM.1 CL_X2) hM  (fun _ z => Or.inl z) ⟨(Nat.le_of_ble_eq_true rfl), (Nat.le_of_ble_eq_true rfl)⟩ (fun v_ H hq hz hk => ?_)
  obtain ⟨rfl, hM⟩ := hq
  replace hK := hK.keep hka hk
  clear hz hk
  replace hM : MR D g (num (I 1) e lo hi (kwd (I 1) e i x)) I J H := hM
  replace hx : PY e (num (I 1) e lo hi (kwd (I 1) e i x)) := PY_num hx
  exact vv_iret X hQ dX2_gauge_11 (Nat.le_refl _) (Nat.le_refl _) (⟨rfl, hM⟩)
theorem nX2_readFirst : notMH yX2_readFirst 0 := by decide +kernel
set_option maxHeartbeats 800000 in
theorem mX2_readFirst (l : Launch) (D : DD) (g : Nat → Nat) (x : Nat → Int32) (I : Nat → Nat → Int32) (J : Nat → Nat → Int64) (P S : Nat → Int32) (e : Nat) (hg : MG g) (hka : KA D (MA g)) (hx : PY e x) : Ct l yX2_readFirst cX2_readFirst 1 none { frames := 9, cells := 0, slots := 0, locals := 185 } D [.ref (g 0)] (fun H => MR D g x (va_up (va_up I 11 P) 13 S) J H ∧ KH D H) (MA g) (fun v H H1 => v = none ∧ MR D g (fi4 (I 1) e x) (va_up (va_up I 11 (fiP (I 1) e x P)) 13 (S)) J H1) := by
  refine Ct.of (by decide +kernel) (Nat.le_of_ble_eq_true rfl) (fun K Qf hkl X hM hQ => ?_)
  subst hkl
  obtain ⟨hM, hK⟩ := hM
  refine vv_sub (lv' := [(0, .ref (g 0))]) [0] rfl ?_
  refine vv_aload_n X dX2_readFirst_0 rfl 0 rfl ?_
  refine vv_ldcS (tx := "camera") X 0 rfl dX2_readFirst_1 ?_
  refine vv_callV X (mX2_keyword (kL K) D g x (va_up (va_up I 11 P) 13 S) J 0 e hg hka (by decide) hx) q3058 q3060 qs64 q144 q3061 nX2_keyword ⟨(Nat.le_of_ble_eq_true rfl), (Nat.le_of_ble_eq_true rfl)⟩ dX2_readFirst_3 rfl (Nat.le_of_ble_eq_true rfl) (recv X hM.1 CL_X2) ⟨hM, hK⟩  (fun _ z => Or.inl z) ⟨(Nat.le_of_ble_eq_true rfl), (Nat.le_of_ble_eq_true rfl)⟩ (fun v_ H hq hz hk => ?_)
  obtain ⟨rfl, hM⟩ := hq
  replace hK := hK.keep hka hk
  clear hz hk
  replace hM : MR D g (fi0 (I 1) e x) (va_up (va_up I 11 P) 13 S) J H := hM
  replace hx : PY e (fi0 (I 1) e x) := PY_kwd hx
  refine vv_aload_n X dX2_readFirst_6 rfl 0 rfl ?_
  refine mg11 X rfl hM dX2_readFirst_7 ?_
  refine vv_iconst (v := nI 0) X dX2_readFirst_10 (by decide) ?_
  refine vv_aload_n X dX2_readFirst_11 rfl 0 rfl ?_
  refine vv_ldcS (tx := "distance") X 1 rfl dX2_readFirst_12 ?_
  refine vv_bipush (v := nI 100) X dX2_readFirst_14 (by decide) ?_
  refine vv_sipush (v := nI 5000) X dX2_readFirst_16 (by decide) ?_
  refine vv_callV X (mX2_gauge (kL K) D g (fi0 (I 1) e x) (va_up (va_up I 11 P) 13 S) J 1 e (nI 100) (nI 5000) hg hka (by decide) hx) q3087 q3089 qs68 q144 q3090 nX2_gauge ⟨(Nat.le_of_ble_eq_true rfl), (Nat.le_of_ble_eq_true rfl)⟩ dX2_readFirst_19 rfl (Nat.le_of_ble_eq_true rfl) (recv X hM.1 CL_X2) ⟨hM, hK⟩  (fun _ z => Or.inl z) ⟨(Nat.le_of_ble_eq_true rfl), (Nat.le_of_ble_eq_true rfl)⟩ (fun v_ H hq hz hk => ?_)
  obtain ⟨rfl, hM⟩ := hq
  replace hK := hK.keep hka hk
  clear hz hk
  replace hM : MR D g (fi1 (I 1) e x) (va_up (va_up I 11 P) 13 S) J H := hM
  replace hx : PY e (fi1 (I 1) e x) := PY_gag hx
  refine mk11 X hM hK hka hg (0) (by omega) rfl (Or.inl (MA.in (by decide))) dX2_readFirst_22 (fun H hM hK => ?_)
  rw [up_sw (by decide)] at hM
  replace hM : MR D g (fi1 (I 1) e x) (va_up (va_up I 11 (va_up P 0 (gav (I 1) e 1 (nI 100) (nI 5000) (fi0 (I 1) e x)))) 13 S) J H := hM
  refine vv_aload_n X dX2_readFirst_23 rfl 0 rfl ?_
  refine mg11 X rfl hM dX2_readFirst_24 ?_
  refine vv_iconst (v := nI 1) X dX2_readFirst_27 (by decide) ?_
  refine vv_aload_n X dX2_readFirst_28 rfl 0 rfl ?_
  refine vv_ldcS (tx := "step") X 2 rfl dX2_readFirst_29 ?_
  refine vv_iconst (v := nI 1) X dX2_readFirst_31 (by decide) ?_
  refine vv_bipush (v := nI 99) X dX2_readFirst_32 (by decide) ?_
  refine vv_callV X (mX2_gauge (kL K) D g (fi1 (I 1) e x) (va_up (va_up I 11 (va_up P 0 (gav (I 1) e 1 (nI 100) (nI 5000) (fi0 (I 1) e x)))) 13 S) J 2 e (nI 1) (nI 99) hg hka (by decide) hx) q3087 q3089 qs68 q144 q3090 nX2_gauge ⟨(Nat.le_of_ble_eq_true rfl), (Nat.le_of_ble_eq_true rfl)⟩ dX2_readFirst_34 rfl (Nat.le_of_ble_eq_true rfl) (recv X hM.1 CL_X2) ⟨hM, hK⟩  (fun _ z => Or.inl z) ⟨(Nat.le_of_ble_eq_true rfl), (Nat.le_of_ble_eq_true rfl)⟩ (fun v_ H hq hz hk => ?_)
  obtain ⟨rfl, hM⟩ := hq
  replace hK := hK.keep hka hk
  clear hz hk
  replace hM : MR D g (fi2 (I 1) e x) (va_up (va_up I 11 (va_up P 0 (gav (I 1) e 1 (nI 100) (nI 5000) (fi0 (I 1) e x)))) 13 S) J H := hM
  replace hx : PY e (fi2 (I 1) e x) := PY_gag hx
  refine mk11 X hM hK hka hg (1) (by omega) rfl (Or.inl (MA.in (by decide))) dX2_readFirst_37 (fun H hM hK => ?_)
  rw [up_sw (by decide)] at hM
  replace hM : MR D g (fi2 (I 1) e x) (va_up (va_up I 11 (va_up (va_up P 0 (gav (I 1) e 1 (nI 100) (nI 5000) (fi0 (I 1) e x))) 1 (gav (I 1) e 2 (nI 1) (nI 99) (fi1 (I 1) e x)))) 13 S) J H := hM
  refine vv_aload_n X dX2_readFirst_38 rfl 0 rfl ?_
  refine mg11 X rfl hM dX2_readFirst_39 ?_
  refine vv_iconst (v := nI 2) X dX2_readFirst_42 (by decide) ?_
  refine vv_aload_n X dX2_readFirst_43 rfl 0 rfl ?_
  refine vv_ldcS (tx := "samples") X 3 rfl dX2_readFirst_44 ?_
  refine vv_bipush (v := nI 32) X dX2_readFirst_46 (by decide) ?_
  refine vv_sipush (v := nI 200) X dX2_readFirst_48 (by decide) ?_
  refine vv_callV X (mX2_gauge (kL K) D g (fi2 (I 1) e x) (va_up (va_up I 11 (va_up (va_up P 0 (gav (I 1) e 1 (nI 100) (nI 5000) (fi0 (I 1) e x))) 1 (gav (I 1) e 2 (nI 1) (nI 99) (fi1 (I 1) e x)))) 13 S) J 3 e (nI 32) (nI 200) hg hka (by decide) hx) q3087 q3089 qs68 q144 q3090 nX2_gauge ⟨(Nat.le_of_ble_eq_true rfl), (Nat.le_of_ble_eq_true rfl)⟩ dX2_readFirst_51 rfl (Nat.le_of_ble_eq_true rfl) (recv X hM.1 CL_X2) ⟨hM, hK⟩  (fun _ z => Or.inl z) ⟨(Nat.le_of_ble_eq_true rfl), (Nat.le_of_ble_eq_true rfl)⟩ (fun v_ H hq hz hk => ?_)
  obtain ⟨rfl, hM⟩ := hq
  replace hK := hK.keep hka hk
  clear hz hk
  replace hM : MR D g (fi3 (I 1) e x) (va_up (va_up I 11 (va_up (va_up P 0 (gav (I 1) e 1 (nI 100) (nI 5000) (fi0 (I 1) e x))) 1 (gav (I 1) e 2 (nI 1) (nI 99) (fi1 (I 1) e x)))) 13 S) J H := hM
  replace hx : PY e (fi3 (I 1) e x) := PY_gag hx
  refine mk11 X hM hK hka hg (2) (by omega) rfl (Or.inl (MA.in (by decide))) dX2_readFirst_54 (fun H hM hK => ?_)
  rw [up_sw (by decide)] at hM
  replace hM : MR D g (fi3 (I 1) e x) (va_up (va_up I 11 (va_up (va_up (va_up P 0 (gav (I 1) e 1 (nI 100) (nI 5000) (fi0 (I 1) e x))) 1 (gav (I 1) e 2 (nI 1) (nI 99) (fi1 (I 1) e x))) 2 (gav (I 1) e 3 (nI 32) (nI 200) (fi2 (I 1) e x)))) 13 S) J H := hM
  refine vv_aload_n X dX2_readFirst_55 rfl 0 rfl ?_
  refine mg11 X rfl hM dX2_readFirst_56 ?_
  refine vv_iconst (v := nI 3) X dX2_readFirst_59 (by decide) ?_
  refine vv_aload_n X dX2_readFirst_60 rfl 0 rfl ?_
  refine vv_ldcS (tx := "limit") X 4 rfl dX2_readFirst_61 ?_
  refine vv_iconst (v := nI 1) X dX2_readFirst_63 (by decide) ?_
  refine vv_sipush (v := nI 9999) X dX2_readFirst_64 (by decide) ?_
  refine vv_callV X (mX2_gauge (kL K) D g (fi3 (I 1) e x) (va_up (va_up I 11 (va_up (va_up (va_up P 0 (gav (I 1) e 1 (nI 100) (nI 5000) (fi0 (I 1) e x))) 1 (gav (I 1) e 2 (nI 1) (nI 99) (fi1 (I 1) e x))) 2 (gav (I 1) e 3 (nI 32) (nI 200) (fi2 (I 1) e x)))) 13 S) J 4 e (nI 1) (nI 9999) hg hka (by decide) hx) q3087 q3089 qs68 q144 q3090 nX2_gauge ⟨(Nat.le_of_ble_eq_true rfl), (Nat.le_of_ble_eq_true rfl)⟩ dX2_readFirst_67 rfl (Nat.le_of_ble_eq_true rfl) (recv X hM.1 CL_X2) ⟨hM, hK⟩  (fun _ z => Or.inl z) ⟨(Nat.le_of_ble_eq_true rfl), (Nat.le_of_ble_eq_true rfl)⟩ (fun v_ H hq hz hk => ?_)
  obtain ⟨rfl, hM⟩ := hq
  replace hK := hK.keep hka hk
  clear hz hk
  replace hM : MR D g (fi4 (I 1) e x) (va_up (va_up I 11 (va_up (va_up (va_up P 0 (gav (I 1) e 1 (nI 100) (nI 5000) (fi0 (I 1) e x))) 1 (gav (I 1) e 2 (nI 1) (nI 99) (fi1 (I 1) e x))) 2 (gav (I 1) e 3 (nI 32) (nI 200) (fi2 (I 1) e x)))) 13 S) J H := hM
  replace hx : PY e (fi4 (I 1) e x) := PY_gag hx
  refine mk11 X hM hK hka hg (3) (by omega) rfl (Or.inl (MA.in (by decide))) dX2_readFirst_70 (fun H hM hK => ?_)
  rw [up_sw (by decide)] at hM
  replace hM : MR D g (fi4 (I 1) e x) (va_up (va_up I 11 (va_up (va_up (va_up (va_up P 0 (gav (I 1) e 1 (nI 100) (nI 5000) (fi0 (I 1) e x))) 1 (gav (I 1) e 2 (nI 1) (nI 99) (fi1 (I 1) e x))) 2 (gav (I 1) e 3 (nI 32) (nI 200) (fi2 (I 1) e x))) 3 (gav (I 1) e 4 (nI 1) (nI 9999) (fi3 (I 1) e x)))) 13 S) J H := hM
  exact vv_vret X hQ dX2_readFirst_71 (Nat.le_refl _) (Nat.le_refl _) (⟨rfl, hM⟩)
theorem nX2_readMic : notMH yX2_readMic 0 := by decide +kernel
set_option maxHeartbeats 800000 in
theorem mX2_readMic (l : Launch) (D : DD) (g : Nat → Nat) (x : Nat → Int32) (I : Nat → Nat → Int32) (J : Nat → Nat → Int64) (P S : Nat → Int32) (e : Nat) (hg : MG g) (hka : KA D (MA g)) (hP : VP P) (hx : PY e x) : Ct l yX2_readMic cX2_readMic 5 none { frames := 5, cells := 0, slots := 0, locals := 102 } D [.ref (g 0)] (fun H => MR D g x (va_up (va_up I 11 P) 13 S) J H ∧ KH D H) (MA g) (fun v H H1 => v = none ∧ MR D g (miX (I 1) e x P) (va_up (va_up I 11 (miP (I 1) e x P)) 13 (S)) J H1) := by
  refine Ct.of (by decide +kernel) (Nat.le_of_ble_eq_true rfl) (fun K Qf hkl X hM hQ => ?_)
  subst hkl
  obtain ⟨hM, hK⟩ := hM
  have l4 := hP.l4
  refine vv_sub (lv' := [(0, .ref (g 0))]) [0] rfl ?_
  refine vv_aload_n X dX2_readMic_0 rfl 0 rfl ?_
  refine mg11 X rfl hM dX2_readMic_1 ?_
  refine vv_iconst (v := nI 4) X dX2_readMic_4 (by decide) ?_
  refine vv_iald X hM.a11 (4) (by omega) (by decide) rfl dX2_readMic_5 ?_
  refine vv_eqi hP.e4 ?_
  refine vv_istore_n (lv' := [(1, .int (nI (nM P))), (0, .ref (g 0))]) X dX2_readMic_6 rfl (by decide) rfl ?_
  have jn_1 : ∀ (H : Heap), MR D g (mi0 (I 1) e x P) (va_up (va_up I 11 P) 13 S) J H → KH D H → V K 5 (MA g) H 0 0 Qf 22 [(0, .ref (g 0)), (1, .int (nI (nM P)))] [] := by
    intro H hM hK
    replace hx : PY e (mi0 (I 1) e x P) := PY_bgn hx (by decide)
    refine vv_aload_n X dX2_readMic_22 rfl 0 rfl ?_
    refine vv_sipush (v := -500) X dX2_readMic_23 (by decide) ?_
    refine vv_sipush (v := nI 500) X dX2_readMic_26 (by decide) ?_
    refine vv_callV X (mX2_signed (kL K) D g (mi0 (I 1) e x P) (va_up (va_up I 11 P) 13 S) J hg e (-500) (nI 500) hx.1) q3115 q3117 qs74 q144 q3118 nX2_signed ⟨(Nat.le_of_ble_eq_true rfl), (Nat.le_of_ble_eq_true rfl)⟩ dX2_readMic_29 rfl (Nat.le_of_ble_eq_true rfl) (recv X hM.1 CL_X2) hM  (fun _ z => Or.inl z) ⟨(Nat.le_of_ble_eq_true rfl), (Nat.le_of_ble_eq_true rfl)⟩ (fun v_ H hq hz hk => ?_)
    obtain ⟨rfl, hM⟩ := hq
    replace hK := hK.keep hka hk
    clear hz hk
    replace hM : MR D g (mi1 (I 1) e x P) (va_up (va_up I 11 P) 13 S) J H := hM
    replace hx : PY e (mi1 (I 1) e x P) := PY_sgd hx
    refine vv_istore_n (lv' := [(2, .int (sgv (I 1) e (-500) (nI 500) (mi0 (I 1) e x P))), (0, .ref (g 0)), (1, .int (nI (nM P)))]) X dX2_readMic_32 rfl (by decide) rfl ?_
    refine vv_aload_n X dX2_readMic_33 rfl 1 rfl ?_
    refine vv_sipush (v := -500) X dX2_readMic_34 (by decide) ?_
    refine vv_sipush (v := nI 500) X dX2_readMic_37 (by decide) ?_
    refine vv_callV X (mX2_signed (kL K) D g (mi1 (I 1) e x P) (va_up (va_up I 11 P) 13 S) J hg e (-500) (nI 500) hx.1) q3115 q3117 qs74 q144 q3118 nX2_signed ⟨(Nat.le_of_ble_eq_true rfl), (Nat.le_of_ble_eq_true rfl)⟩ dX2_readMic_40 rfl (Nat.le_of_ble_eq_true rfl) (recv X hM.1 CL_X2) hM  (fun _ z => Or.inl z) ⟨(Nat.le_of_ble_eq_true rfl), (Nat.le_of_ble_eq_true rfl)⟩ (fun v_ H hq hz hk => ?_)
    obtain ⟨rfl, hM⟩ := hq
    replace hK := hK.keep hka hk
    clear hz hk
    replace hM : MR D g (mi2 (I 1) e x P) (va_up (va_up I 11 P) 13 S) J H := hM
    replace hx : PY e (mi2 (I 1) e x P) := PY_sgd hx
    refine vv_istore_n (lv' := [(3, .int (sgv (I 1) e (-500) (nI 500) (mi1 (I 1) e x P))), (2, .int (sgv (I 1) e (-500) (nI 500) (mi0 (I 1) e x P))), (0, .ref (g 0)), (1, .int (nI (nM P)))]) X dX2_readMic_43 rfl (by decide) rfl ?_
    refine vv_aload_n X dX2_readMic_44 rfl 2 rfl ?_
    refine vv_iconst (v := nI 1) X dX2_readMic_45 (by decide) ?_
    refine vv_bipush (v := nI 9) X dX2_readMic_46 (by decide) ?_
    refine vv_callV X (mX2_number (kL K) D g (mi2 (I 1) e x P) (va_up (va_up I 11 P) 13 S) J hg e (nI 1) (nI 9) hx.1) q3091 q3093 qs69 q144 q3094 nX2_number ⟨(Nat.le_of_ble_eq_true rfl), (Nat.le_of_ble_eq_true rfl)⟩ dX2_readMic_48 rfl (Nat.le_of_ble_eq_true rfl) (recv X hM.1 CL_X2) hM  (fun _ z => Or.inl z) ⟨(Nat.le_of_ble_eq_true rfl), (Nat.le_of_ble_eq_true rfl)⟩ (fun v_ H hq hz hk => ?_)
    obtain ⟨rfl, hM⟩ := hq
    replace hK := hK.keep hka hk
    clear hz hk
    replace hM : MR D g (miX (I 1) e x P) (va_up (va_up I 11 P) 13 S) J H := hM
    replace hx : PY e (miX (I 1) e x P) := PY_num hx
    refine vv_istore (lv' := [(4, .int (lov (nI 1) (nI 9) (mi2 (I 1) e x P))), (3, .int (sgv (I 1) e (-500) (nI 500) (mi1 (I 1) e x P))), (2, .int (sgv (I 1) e (-500) (nI 500) (mi0 (I 1) e x P))), (0, .ref (g 0)), (1, .int (nI (nM P)))]) X dX2_readMic_51 (by decide) rfl ?_
    refine vv_aload_n X dX2_readMic_53 rfl 3 rfl ?_
    refine mg5 X rfl hM dX2_readMic_54 ?_
    refine vv_if_le (tgt := 61) X dX2_readMic_57 (by decide) (fun c_57 => ?_) (fun c_57 => ?_)
    · refine vv_aload_n X dX2_readMic_61 rfl 3 rfl ?_
      refine mg11 X rfl hM dX2_readMic_62 ?_
      refine vv_bipush (v := nI 11) X dX2_readMic_65 (by decide) ?_
      refine vv_iload_n X dX2_readMic_67 rfl 4 rfl ?_
      refine vn_add X dX2_readMic_68 ?_
      refine vv_iload_n X dX2_readMic_69 rfl 2 rfl ?_
      refine mk11 X hM hK hka hg (11 + (nM P)) (by omega) rfl (Or.inl (MA.in (by decide))) dX2_readMic_70 (fun H hM hK => ?_)
      rw [up_sw (by decide)] at hM
      replace hM : MR D g (miX (I 1) e x P) (va_up (va_up I 11 (va_up P (11 + (nM P)) (sgv (I 1) e (-500) (nI 500) (mi0 (I 1) e x P)))) 13 S) J H := hM
      refine vv_aload_n X dX2_readMic_71 rfl 3 rfl ?_
      refine mg11 X rfl hM dX2_readMic_72 ?_
      refine vv_bipush (v := nI 23) X dX2_readMic_75 (by decide) ?_
      refine vv_iload_n X dX2_readMic_77 rfl 4 rfl ?_
      refine vn_add X dX2_readMic_78 ?_
      refine vv_iload_n X dX2_readMic_79 rfl 1 rfl ?_
      refine mk11 X hM hK hka hg (23 + (nM P)) (by omega) rfl (Or.inl (MA.in (by decide))) dX2_readMic_80 (fun H hM hK => ?_)
      rw [up_sw (by decide)] at hM
      replace hM : MR D g (miX (I 1) e x P) (va_up (va_up I 11 (va_up (va_up P (11 + (nM P)) (sgv (I 1) e (-500) (nI 500) (mi0 (I 1) e x P))) (23 + (nM P)) (sgv (I 1) e (-500) (nI 500) (mi1 (I 1) e x P)))) 13 S) J H := hM
      refine vv_aload_n X dX2_readMic_81 rfl 3 rfl ?_
      refine mg11 X rfl hM dX2_readMic_82 ?_
      refine vv_bipush (v := nI 35) X dX2_readMic_85 (by decide) ?_
      refine vv_iload_n X dX2_readMic_87 rfl 4 rfl ?_
      refine vn_add X dX2_readMic_88 ?_
      refine vv_iload X dX2_readMic_89 0 rfl ?_
      refine mk11 X hM hK hka hg (35 + (nM P)) (by omega) rfl (Or.inl (MA.in (by decide))) dX2_readMic_91 (fun H hM hK => ?_)
      rw [up_sw (by decide)] at hM
      replace hM : MR D g (miX (I 1) e x P) (va_up (va_up I 11 (va_up (va_up (va_up P (11 + (nM P)) (sgv (I 1) e (-500) (nI 500) (mi0 (I 1) e x P))) (23 + (nM P)) (sgv (I 1) e (-500) (nI 500) (mi1 (I 1) e x P))) (35 + (nM P)) (lov (nI 1) (nI 9) (mi2 (I 1) e x P)))) 13 S) J H := hM
      refine vv_aload_n X dX2_readMic_92 rfl 3 rfl ?_
      refine mg11 X rfl hM dX2_readMic_93 ?_
      refine vv_iconst (v := nI 4) X dX2_readMic_96 (by decide) ?_
      refine vv_dup2_11 X dX2_readMic_97 rfl rfl ?_
      refine vv_iald X hM.a11 (4) (by omega) (by decide) rfl dX2_readMic_98 ?_
      refine vv_eqi (show _ = nI (nM P) from (by show (va_up (va_up (va_up P (11 + (nM P)) (sgv (I 1) e (-500) (nI 500) (mi0 (I 1) e x P))) (23 + (nM P)) (sgv (I 1) e (-500) (nI 500) (mi1 (I 1) e x P))) (35 + (nM P)) (lov (nI 1) (nI 9) (mi2 (I 1) e x P))) 4 = _; rw [va_up_ne _ _ (show (4 : Nat) ≠ 35 + nM P by omega), va_up_ne _ _ (show (4 : Nat) ≠ 23 + nM P by omega), va_up_ne _ _ (show (4 : Nat) ≠ 11 + nM P by omega)]; exact hP.e4)) ?_
      refine vv_iconst (v := nI 1) X dX2_readMic_99 (by decide) ?_
      refine vn_add X dX2_readMic_100 ?_
      refine mk11 X hM hK hka hg (4) (by omega) rfl (Or.inl (MA.in (by decide))) dX2_readMic_101 (fun H hM hK => ?_)
      rw [up_sw (by decide)] at hM
      replace hM : MR D g (miX (I 1) e x P) (va_up (va_up I 11 (va_up (va_up (va_up (va_up P (11 + (nM P)) (sgv (I 1) e (-500) (nI 500) (mi0 (I 1) e x P))) (23 + (nM P)) (sgv (I 1) e (-500) (nI 500) (mi1 (I 1) e x P))) (35 + (nM P)) (lov (nI 1) (nI 9) (mi2 (I 1) e x P))) 4 (nI ((nM P) + 1)))) 13 S) J H := hM
      exact vv_vret X hQ dX2_readMic_102 (Nat.le_refl _) (Nat.le_refl _) (⟨rfl, by unfold miP; rw [if_neg (Int32.not_lt.mpr c_57)]; exact hM⟩)
    · exact vv_vret X hQ dX2_readMic_60 (Nat.le_refl _) (Nat.le_refl _) (⟨rfl, by unfold miP; rw [if_pos (Int32.not_le.mp c_57)]; exact hM⟩)
  refine vv_iload_n X dX2_readMic_7 rfl 0 rfl ?_
  refine vv_bipush (v := nI 12) X dX2_readMic_8 (by decide) ?_
  refine vn_ne (tgt := 18) X (by omega) (by omega) dX2_readMic_10 (by decide) (fun c_10 => ?_) (fun c_10 => ?_)
  · refine vv_aload_n X dX2_readMic_18 rfl 1 rfl ?_
    refine vv_callV X (mX2_nextToken (kL K) D g x (va_up (va_up I 11 P) 13 S) J hg e hx.1) q3042 q3044 qs61 q144 q3045 nX2_nextToken ⟨(Nat.le_of_ble_eq_true rfl), (Nat.le_of_ble_eq_true rfl)⟩ dX2_readMic_19 rfl (Nat.le_of_ble_eq_true rfl) (recv X hM.1 CL_X2) hM  (fun _ z => Or.inl z) ⟨(Nat.le_of_ble_eq_true rfl), (Nat.le_of_ble_eq_true rfl)⟩ (fun v_ H hq hz hk => ?_)
    obtain ⟨rfl, hM⟩ := hq
    replace hK := hK.keep hka hk
    clear hz hk
    replace hM : MR D g (nxt (I 1) e x) (va_up (va_up I 11 P) 13 S) J H := hM
    replace hx : PY e (nxt (I 1) e x) := PY_nxt hx
    refine vv_sub [1, 0] rfl ?_
    exact jn_1 H (by unfold mi0; rw [bgn_n (by omega)]; exact hM) hK
  · refine vv_aload_n X dX2_readMic_13 rfl 1 rfl ?_
    refine vv_iconst (v := nI 4) X dX2_readMic_14 (by decide) ?_
    refine vv_callV X (mX2_faults (kL K) D g x (va_up (va_up I 11 P) 13 S) J hg 4) q3082 q3084 qs67 q144 q3085 nX2_faults ⟨(Nat.le_of_ble_eq_true rfl), (Nat.le_of_ble_eq_true rfl)⟩ dX2_readMic_15 rfl (Nat.le_of_ble_eq_true rfl) (recv X hM.1 CL_X2) hM  (fun _ z => Or.inl z) ⟨(Nat.le_of_ble_eq_true rfl), (Nat.le_of_ble_eq_true rfl)⟩ (fun v_ H hq hz hk => ?_)
    obtain ⟨rfl, hM⟩ := hq
    replace hK := hK.keep hka hk
    clear hz hk
    replace hM : MR D g (fau 4 x) (va_up (va_up I 11 P) 13 S) J H := hM
    replace hx : PY e (fau 4 x) := PY_fau hx (by decide)
    refine vv_aload_n X dX2_readMic_18 rfl 1 rfl ?_
    refine vv_callV X (mX2_nextToken (kL K) D g (fau 4 x) (va_up (va_up I 11 P) 13 S) J hg e hx.1) q3042 q3044 qs61 q144 q3045 nX2_nextToken ⟨(Nat.le_of_ble_eq_true rfl), (Nat.le_of_ble_eq_true rfl)⟩ dX2_readMic_19 rfl (Nat.le_of_ble_eq_true rfl) (recv X hM.1 CL_X2) hM  (fun _ z => Or.inl z) ⟨(Nat.le_of_ble_eq_true rfl), (Nat.le_of_ble_eq_true rfl)⟩ (fun v_ H hq hz hk => ?_)
    obtain ⟨rfl, hM⟩ := hq
    replace hK := hK.keep hka hk
    clear hz hk
    replace hM : MR D g (nxt (I 1) e (fau 4 x)) (va_up (va_up I 11 P) 13 S) J H := hM
    replace hx : PY e (nxt (I 1) e (fau 4 x)) := PY_nxt hx
    refine vv_sub [1, 0] rfl ?_
    exact jn_1 H (by unfold mi0; rw [bgn_y (by omega)]; exact hM) hK
theorem nX2_readMap : notMH yX2_readMap 0 := by decide +kernel
set_option maxHeartbeats 800000 in
theorem mX2_readMap (l : Launch) (D : DD) (g : Nat → Nat) (x : Nat → Int32) (I : Nat → Nat → Int32) (J : Nat → Nat → Int64) (P S : Nat → Int32) (e : Nat) (hg : MG g) (hka : KA D (MA g)) (hP : VP P) (hx : PY e x) : Ct l yX2_readMap cX2_readMap 6 none { frames := 5, cells := 0, slots := 0, locals := 102 } D [.ref (g 0)] (fun H => MR D g x (va_up (va_up I 11 P) 13 S) J H ∧ KH D H) (MA g) (fun v H H1 => v = none ∧ MR D g (maX (I 1) e x P) (va_up (va_up I 11 (maP (I 1) e x P)) 13 (S)) J H1) := by
  refine Ct.of (by decide +kernel) (Nat.le_of_ble_eq_true rfl) (fun K Qf hkl X hM hQ => ?_)
  subst hkl
  obtain ⟨hM, hK⟩ := hM
  have l8 := hP.l8
  refine vv_sub (lv' := [(0, .ref (g 0))]) [0] rfl ?_
  have jn_1 : ∀ (H : Heap), MR D g (ma0 (I 1) e x P) (va_up (va_up I 11 P) 13 S) J H → KH D H → V K 6 (MA g) H 0 0 Qf 19 [(0, .ref (g 0))] [] := by
    intro H hM hK
    replace hx : PY e (ma0 (I 1) e x P) := PY_bgn hx (by decide)
    refine vv_aload_n X dX2_readMap_19 rfl 0 rfl ?_
    refine vv_sipush (v := -999) X dX2_readMap_20 (by decide) ?_
    refine vv_sipush (v := nI 999) X dX2_readMap_23 (by decide) ?_
    refine vv_callV X (mX2_signed (kL K) D g (ma0 (I 1) e x P) (va_up (va_up I 11 P) 13 S) J hg e (-999) (nI 999) hx.1) q3115 q3117 qs74 q144 q3118 nX2_signed ⟨(Nat.le_of_ble_eq_true rfl), (Nat.le_of_ble_eq_true rfl)⟩ dX2_readMap_26 rfl (Nat.le_of_ble_eq_true rfl) (recv X hM.1 CL_X2) hM  (fun _ z => Or.inl z) ⟨(Nat.le_of_ble_eq_true rfl), (Nat.le_of_ble_eq_true rfl)⟩ (fun v_ H hq hz hk => ?_)
    obtain ⟨rfl, hM⟩ := hq
    replace hK := hK.keep hka hk
    clear hz hk
    replace hM : MR D g (ma1 (I 1) e x P) (va_up (va_up I 11 P) 13 S) J H := hM
    replace hx : PY e (ma1 (I 1) e x P) := PY_sgd hx
    refine vv_istore_n (lv' := [(1, .int (sgv (I 1) e (-999) (nI 999) (ma0 (I 1) e x P))), (0, .ref (g 0))]) X dX2_readMap_29 rfl (by decide) rfl ?_
    refine vv_aload_n X dX2_readMap_30 rfl 1 rfl ?_
    refine vv_sipush (v := -999) X dX2_readMap_31 (by decide) ?_
    refine vv_sipush (v := nI 999) X dX2_readMap_34 (by decide) ?_
    refine vv_callV X (mX2_signed (kL K) D g (ma1 (I 1) e x P) (va_up (va_up I 11 P) 13 S) J hg e (-999) (nI 999) hx.1) q3115 q3117 qs74 q144 q3118 nX2_signed ⟨(Nat.le_of_ble_eq_true rfl), (Nat.le_of_ble_eq_true rfl)⟩ dX2_readMap_37 rfl (Nat.le_of_ble_eq_true rfl) (recv X hM.1 CL_X2) hM  (fun _ z => Or.inl z) ⟨(Nat.le_of_ble_eq_true rfl), (Nat.le_of_ble_eq_true rfl)⟩ (fun v_ H hq hz hk => ?_)
    obtain ⟨rfl, hM⟩ := hq
    replace hK := hK.keep hka hk
    clear hz hk
    replace hM : MR D g (ma2 (I 1) e x P) (va_up (va_up I 11 P) 13 S) J H := hM
    replace hx : PY e (ma2 (I 1) e x P) := PY_sgd hx
    refine vv_istore_n (lv' := [(2, .int (sgv (I 1) e (-999) (nI 999) (ma1 (I 1) e x P))), (1, .int (sgv (I 1) e (-999) (nI 999) (ma0 (I 1) e x P))), (0, .ref (g 0))]) X dX2_readMap_40 rfl (by decide) rfl ?_
    refine vv_aload_n X dX2_readMap_41 rfl 2 rfl ?_
    refine vv_iconst (v := nI 1) X dX2_readMap_42 (by decide) ?_
    refine vv_bipush (v := nI 99) X dX2_readMap_43 (by decide) ?_
    refine vv_callV X (mX2_number (kL K) D g (ma2 (I 1) e x P) (va_up (va_up I 11 P) 13 S) J hg e (nI 1) (nI 99) hx.1) q3091 q3093 qs69 q144 q3094 nX2_number ⟨(Nat.le_of_ble_eq_true rfl), (Nat.le_of_ble_eq_true rfl)⟩ dX2_readMap_45 rfl (Nat.le_of_ble_eq_true rfl) (recv X hM.1 CL_X2) hM  (fun _ z => Or.inl z) ⟨(Nat.le_of_ble_eq_true rfl), (Nat.le_of_ble_eq_true rfl)⟩ (fun v_ H hq hz hk => ?_)
    obtain ⟨rfl, hM⟩ := hq
    replace hK := hK.keep hka hk
    clear hz hk
    replace hM : MR D g (ma3 (I 1) e x P) (va_up (va_up I 11 P) 13 S) J H := hM
    replace hx : PY e (ma3 (I 1) e x P) := PY_num hx
    refine vv_istore_n (lv' := [(3, .int (lov (nI 1) (nI 99) (ma2 (I 1) e x P))), (2, .int (sgv (I 1) e (-999) (nI 999) (ma1 (I 1) e x P))), (1, .int (sgv (I 1) e (-999) (nI 999) (ma0 (I 1) e x P))), (0, .ref (g 0))]) X dX2_readMap_48 rfl (by decide) rfl ?_
    refine vv_aload_n X dX2_readMap_49 rfl 3 rfl ?_
    refine vv_iconst (v := nI 1) X dX2_readMap_50 (by decide) ?_
    refine vv_bipush (v := nI 12) X dX2_readMap_51 (by decide) ?_
    refine vv_callV X (mX2_number (kL K) D g (ma3 (I 1) e x P) (va_up (va_up I 11 P) 13 S) J hg e (nI 1) (nI 12) hx.1) q3091 q3093 qs69 q144 q3094 nX2_number ⟨(Nat.le_of_ble_eq_true rfl), (Nat.le_of_ble_eq_true rfl)⟩ dX2_readMap_53 rfl (Nat.le_of_ble_eq_true rfl) (recv X hM.1 CL_X2) hM  (fun _ z => Or.inl z) ⟨(Nat.le_of_ble_eq_true rfl), (Nat.le_of_ble_eq_true rfl)⟩ (fun v_ H hq hz hk => ?_)
    obtain ⟨rfl, hM⟩ := hq
    replace hK := hK.keep hka hk
    clear hz hk
    replace hM : MR D g (ma4 (I 1) e x P) (va_up (va_up I 11 P) 13 S) J H := hM
    replace hx : PY e (ma4 (I 1) e x P) := PY_num hx
    refine vv_istore (lv' := [(4, .int (lov (nI 1) (nI 12) (ma3 (I 1) e x P))), (3, .int (lov (nI 1) (nI 99) (ma2 (I 1) e x P))), (2, .int (sgv (I 1) e (-999) (nI 999) (ma1 (I 1) e x P))), (1, .int (sgv (I 1) e (-999) (nI 999) (ma0 (I 1) e x P))), (0, .ref (g 0))]) X dX2_readMap_56 (by decide) rfl ?_
    refine vv_aload_n X dX2_readMap_58 rfl 4 rfl ?_
    refine vv_iconst (v := nI 1) X dX2_readMap_59 (by decide) ?_
    refine vv_bipush (v := nI 12) X dX2_readMap_60 (by decide) ?_
    refine vv_callV X (mX2_number (kL K) D g (ma4 (I 1) e x P) (va_up (va_up I 11 P) 13 S) J hg e (nI 1) (nI 12) hx.1) q3091 q3093 qs69 q144 q3094 nX2_number ⟨(Nat.le_of_ble_eq_true rfl), (Nat.le_of_ble_eq_true rfl)⟩ dX2_readMap_62 rfl (Nat.le_of_ble_eq_true rfl) (recv X hM.1 CL_X2) hM  (fun _ z => Or.inl z) ⟨(Nat.le_of_ble_eq_true rfl), (Nat.le_of_ble_eq_true rfl)⟩ (fun v_ H hq hz hk => ?_)
    obtain ⟨rfl, hM⟩ := hq
    replace hK := hK.keep hka hk
    clear hz hk
    replace hM : MR D g (maX (I 1) e x P) (va_up (va_up I 11 P) 13 S) J H := hM
    replace hx : PY e (maX (I 1) e x P) := PY_num hx
    refine vv_istore (lv' := [(5, .int (lov (nI 1) (nI 12) (ma4 (I 1) e x P))), (4, .int (lov (nI 1) (nI 12) (ma3 (I 1) e x P))), (3, .int (lov (nI 1) (nI 99) (ma2 (I 1) e x P))), (2, .int (sgv (I 1) e (-999) (nI 999) (ma1 (I 1) e x P))), (1, .int (sgv (I 1) e (-999) (nI 999) (ma0 (I 1) e x P))), (0, .ref (g 0))]) X dX2_readMap_65 (by decide) rfl ?_
    refine vv_aload_n X dX2_readMap_67 rfl 5 rfl ?_
    refine mg5 X rfl hM dX2_readMap_68 ?_
    refine vv_if_le (tgt := 75) X dX2_readMap_71 (by decide) (fun c_71 => ?_) (fun c_71 => ?_)
    · refine vv_aload_n X dX2_readMap_75 rfl 5 rfl ?_
      refine mg11 X rfl hM dX2_readMap_76 ?_
      refine vv_bipush (v := nI 6) X dX2_readMap_79 (by decide) ?_
      refine vv_iload_n X dX2_readMap_81 rfl 4 rfl ?_
      refine mk11 X hM hK hka hg (6) (by omega) rfl (Or.inl (MA.in (by decide))) dX2_readMap_82 (fun H hM hK => ?_)
      rw [up_sw (by decide)] at hM
      replace hM : MR D g (maX (I 1) e x P) (va_up (va_up I 11 (va_up P 6 (sgv (I 1) e (-999) (nI 999) (ma0 (I 1) e x P)))) 13 S) J H := hM
      refine vv_aload_n X dX2_readMap_83 rfl 5 rfl ?_
      refine mg11 X rfl hM dX2_readMap_84 ?_
      refine vv_bipush (v := nI 7) X dX2_readMap_87 (by decide) ?_
      refine vv_iload_n X dX2_readMap_89 rfl 3 rfl ?_
      refine mk11 X hM hK hka hg (7) (by omega) rfl (Or.inl (MA.in (by decide))) dX2_readMap_90 (fun H hM hK => ?_)
      rw [up_sw (by decide)] at hM
      replace hM : MR D g (maX (I 1) e x P) (va_up (va_up I 11 (va_up (va_up P 6 (sgv (I 1) e (-999) (nI 999) (ma0 (I 1) e x P))) 7 (sgv (I 1) e (-999) (nI 999) (ma1 (I 1) e x P)))) 13 S) J H := hM
      refine vv_aload_n X dX2_readMap_91 rfl 5 rfl ?_
      refine mg11 X rfl hM dX2_readMap_92 ?_
      refine vv_bipush (v := nI 8) X dX2_readMap_95 (by decide) ?_
      refine vv_iload_n X dX2_readMap_97 rfl 2 rfl ?_
      refine mk11 X hM hK hka hg (8) (by omega) rfl (Or.inl (MA.in (by decide))) dX2_readMap_98 (fun H hM hK => ?_)
      rw [up_sw (by decide)] at hM
      replace hM : MR D g (maX (I 1) e x P) (va_up (va_up I 11 (va_up (va_up (va_up P 6 (sgv (I 1) e (-999) (nI 999) (ma0 (I 1) e x P))) 7 (sgv (I 1) e (-999) (nI 999) (ma1 (I 1) e x P))) 8 (lov (nI 1) (nI 99) (ma2 (I 1) e x P)))) 13 S) J H := hM
      refine vv_aload_n X dX2_readMap_99 rfl 5 rfl ?_
      refine mg11 X rfl hM dX2_readMap_100 ?_
      refine vv_bipush (v := nI 9) X dX2_readMap_103 (by decide) ?_
      refine vv_iload X dX2_readMap_105 1 rfl ?_
      refine mk11 X hM hK hka hg (9) (by omega) rfl (Or.inl (MA.in (by decide))) dX2_readMap_107 (fun H hM hK => ?_)
      rw [up_sw (by decide)] at hM
      replace hM : MR D g (maX (I 1) e x P) (va_up (va_up I 11 (va_up (va_up (va_up (va_up P 6 (sgv (I 1) e (-999) (nI 999) (ma0 (I 1) e x P))) 7 (sgv (I 1) e (-999) (nI 999) (ma1 (I 1) e x P))) 8 (lov (nI 1) (nI 99) (ma2 (I 1) e x P))) 9 (lov (nI 1) (nI 12) (ma3 (I 1) e x P)))) 13 S) J H := hM
      refine vv_aload_n X dX2_readMap_108 rfl 5 rfl ?_
      refine mg11 X rfl hM dX2_readMap_109 ?_
      refine vv_bipush (v := nI 10) X dX2_readMap_112 (by decide) ?_
      refine vv_iload X dX2_readMap_114 0 rfl ?_
      refine mk11 X hM hK hka hg (10) (by omega) rfl (Or.inl (MA.in (by decide))) dX2_readMap_116 (fun H hM hK => ?_)
      rw [up_sw (by decide)] at hM
      replace hM : MR D g (maX (I 1) e x P) (va_up (va_up I 11 (va_up (va_up (va_up (va_up (va_up P 6 (sgv (I 1) e (-999) (nI 999) (ma0 (I 1) e x P))) 7 (sgv (I 1) e (-999) (nI 999) (ma1 (I 1) e x P))) 8 (lov (nI 1) (nI 99) (ma2 (I 1) e x P))) 9 (lov (nI 1) (nI 12) (ma3 (I 1) e x P))) 10 (lov (nI 1) (nI 12) (ma4 (I 1) e x P)))) 13 S) J H := hM
      exact vv_vret X hQ dX2_readMap_117 (Nat.le_refl _) (Nat.le_refl _) (⟨rfl, by unfold maP; rw [if_neg (Int32.not_lt.mpr c_71)]; exact hM⟩)
    · exact vv_vret X hQ dX2_readMap_74 (Nat.le_refl _) (Nat.le_refl _) (⟨rfl, by unfold maP; rw [if_pos (Int32.not_le.mp c_71)]; exact hM⟩)
  refine vv_aload_n X dX2_readMap_0 rfl 0 rfl ?_
  refine mg11 X rfl hM dX2_readMap_1 ?_
  refine vv_bipush (v := nI 8) X dX2_readMap_4 (by decide) ?_
  refine vv_iald X hM.a11 (8) (by omega) (by decide) rfl dX2_readMap_6 ?_
  refine vv_eqi hP.e8 ?_
  refine vn_if_le (tgt := 15) X (by omega) dX2_readMap_7 (by decide) (fun c_7 => ?_) (fun c_7 => ?_)
  · refine vv_aload_n X dX2_readMap_15 rfl 0 rfl ?_
    refine vv_callV X (mX2_nextToken (kL K) D g x (va_up (va_up I 11 P) 13 S) J hg e hx.1) q3042 q3044 qs61 q144 q3045 nX2_nextToken ⟨(Nat.le_of_ble_eq_true rfl), (Nat.le_of_ble_eq_true rfl)⟩ dX2_readMap_16 rfl (Nat.le_of_ble_eq_true rfl) (recv X hM.1 CL_X2) hM  (fun _ z => Or.inl z) ⟨(Nat.le_of_ble_eq_true rfl), (Nat.le_of_ble_eq_true rfl)⟩ (fun v_ H hq hz hk => ?_)
    obtain ⟨rfl, hM⟩ := hq
    replace hK := hK.keep hka hk
    clear hz hk
    replace hM : MR D g (nxt (I 1) e x) (va_up (va_up I 11 P) 13 S) J H := hM
    replace hx : PY e (nxt (I 1) e x) := PY_nxt hx
    refine vv_sub [0] rfl ?_
    exact jn_1 H (by unfold ma0; rw [bgn_n (by omega)]; exact hM) hK
  · refine vv_aload_n X dX2_readMap_10 rfl 0 rfl ?_
    refine vv_iconst (v := nI 3) X dX2_readMap_11 (by decide) ?_
    refine vv_callV X (mX2_faults (kL K) D g x (va_up (va_up I 11 P) 13 S) J hg 3) q3082 q3084 qs67 q144 q3085 nX2_faults ⟨(Nat.le_of_ble_eq_true rfl), (Nat.le_of_ble_eq_true rfl)⟩ dX2_readMap_12 rfl (Nat.le_of_ble_eq_true rfl) (recv X hM.1 CL_X2) hM  (fun _ z => Or.inl z) ⟨(Nat.le_of_ble_eq_true rfl), (Nat.le_of_ble_eq_true rfl)⟩ (fun v_ H hq hz hk => ?_)
    obtain ⟨rfl, hM⟩ := hq
    replace hK := hK.keep hka hk
    clear hz hk
    replace hM : MR D g (fau 3 x) (va_up (va_up I 11 P) 13 S) J H := hM
    replace hx : PY e (fau 3 x) := PY_fau hx (by decide)
    refine vv_aload_n X dX2_readMap_15 rfl 0 rfl ?_
    refine vv_callV X (mX2_nextToken (kL K) D g (fau 3 x) (va_up (va_up I 11 P) 13 S) J hg e hx.1) q3042 q3044 qs61 q144 q3045 nX2_nextToken ⟨(Nat.le_of_ble_eq_true rfl), (Nat.le_of_ble_eq_true rfl)⟩ dX2_readMap_16 rfl (Nat.le_of_ble_eq_true rfl) (recv X hM.1 CL_X2) hM  (fun _ z => Or.inl z) ⟨(Nat.le_of_ble_eq_true rfl), (Nat.le_of_ble_eq_true rfl)⟩ (fun v_ H hq hz hk => ?_)
    obtain ⟨rfl, hM⟩ := hq
    replace hK := hK.keep hka hk
    clear hz hk
    replace hM : MR D g (nxt (I 1) e (fau 3 x)) (va_up (va_up I 11 P) 13 S) J H := hM
    replace hx : PY e (nxt (I 1) e (fau 3 x)) := PY_nxt hx
    refine vv_sub [0] rfl ?_
    exact jn_1 H (by unfold ma0; rw [bgn_y (by omega)]; exact hM) hK
theorem nX2_readWall : notMH yX2_readWall 0 := by decide +kernel
set_option maxHeartbeats 800000 in
theorem mX2_readWall (l : Launch) (D : DD) (g : Nat → Nat) (x : Nat → Int32) (I : Nat → Nat → Int32) (J : Nat → Nat → Int64) (P S : Nat → Int32) (e : Nat) (hg : MG g) (hka : KA D (MA g)) (hP : VP P) (hx : PY e x) : Ct l yX2_readWall cX2_readWall 4 none { frames := 5, cells := 0, slots := 0, locals := 102 } D [.ref (g 0)] (fun H => MR D g x (va_up (va_up I 11 P) 13 S) J H ∧ KH D H) (MA g) (fun v H H1 => v = none ∧ MR D g (waX (I 1) e x P) (va_up (va_up I 11 (waP (I 1) e x P)) 13 (S)) J H1) := by
  refine Ct.of (by decide +kernel) (Nat.le_of_ble_eq_true rfl) (fun K Qf hkl X hM hQ => ?_)
  subst hkl
  obtain ⟨hM, hK⟩ := hM
  have l71 := hP.l71
  refine vv_sub (lv' := [(0, .ref (g 0))]) [0] rfl ?_
  refine vv_aload_n X dX2_readWall_0 rfl 0 rfl ?_
  refine mg11 X rfl hM dX2_readWall_1 ?_
  refine vv_bipush (v := nI 71) X dX2_readWall_4 (by decide) ?_
  refine vv_iald X hM.a11 (71) (by omega) (by decide) rfl dX2_readWall_6 ?_
  refine vv_eqi hP.e71 ?_
  refine vv_istore_n (lv' := [(1, .int (nI (nW P))), (0, .ref (g 0))]) X dX2_readWall_7 rfl (by decide) rfl ?_
  have jn_1 : ∀ (H : Heap), MR D g (wa0 (I 1) e x P) (va_up (va_up I 11 P) 13 S) J H → KH D H → V K 4 (MA g) H 0 0 Qf 22 [(0, .ref (g 0)), (1, .int (nI (nW P)))] [] := by
    intro H hM hK
    replace hx : PY e (wa0 (I 1) e x P) := PY_bgn hx (by decide)
    refine vv_aload_n X dX2_readWall_22 rfl 0 rfl ?_
    refine vv_sipush (v := -2000) X dX2_readWall_23 (by decide) ?_
    refine vv_sipush (v := nI 2000) X dX2_readWall_26 (by decide) ?_
    refine vv_callV X (mX2_signed (kL K) D g (wa0 (I 1) e x P) (va_up (va_up I 11 P) 13 S) J hg e (-2000) (nI 2000) hx.1) q3115 q3117 qs74 q144 q3118 nX2_signed ⟨(Nat.le_of_ble_eq_true rfl), (Nat.le_of_ble_eq_true rfl)⟩ dX2_readWall_29 rfl (Nat.le_of_ble_eq_true rfl) (recv X hM.1 CL_X2) hM  (fun _ z => Or.inl z) ⟨(Nat.le_of_ble_eq_true rfl), (Nat.le_of_ble_eq_true rfl)⟩ (fun v_ H hq hz hk => ?_)
    obtain ⟨rfl, hM⟩ := hq
    replace hK := hK.keep hka hk
    clear hz hk
    replace hM : MR D g (wa1 (I 1) e x P) (va_up (va_up I 11 P) 13 S) J H := hM
    replace hx : PY e (wa1 (I 1) e x P) := PY_sgd hx
    refine vv_istore_n (lv' := [(2, .int (sgv (I 1) e (-2000) (nI 2000) (wa0 (I 1) e x P))), (0, .ref (g 0)), (1, .int (nI (nW P)))]) X dX2_readWall_32 rfl (by decide) rfl ?_
    refine vv_aload_n X dX2_readWall_33 rfl 1 rfl ?_
    refine vv_iconst (v := nI 1) X dX2_readWall_34 (by decide) ?_
    refine vv_bipush (v := nI 100) X dX2_readWall_35 (by decide) ?_
    refine vv_callV X (mX2_number (kL K) D g (wa1 (I 1) e x P) (va_up (va_up I 11 P) 13 S) J hg e (nI 1) (nI 100) hx.1) q3091 q3093 qs69 q144 q3094 nX2_number ⟨(Nat.le_of_ble_eq_true rfl), (Nat.le_of_ble_eq_true rfl)⟩ dX2_readWall_37 rfl (Nat.le_of_ble_eq_true rfl) (recv X hM.1 CL_X2) hM  (fun _ z => Or.inl z) ⟨(Nat.le_of_ble_eq_true rfl), (Nat.le_of_ble_eq_true rfl)⟩ (fun v_ H hq hz hk => ?_)
    obtain ⟨rfl, hM⟩ := hq
    replace hK := hK.keep hka hk
    clear hz hk
    replace hM : MR D g (waX (I 1) e x P) (va_up (va_up I 11 P) 13 S) J H := hM
    replace hx : PY e (waX (I 1) e x P) := PY_num hx
    refine vv_istore_n (lv' := [(3, .int (lov (nI 1) (nI 100) (wa1 (I 1) e x P))), (2, .int (sgv (I 1) e (-2000) (nI 2000) (wa0 (I 1) e x P))), (0, .ref (g 0)), (1, .int (nI (nW P)))]) X dX2_readWall_40 rfl (by decide) rfl ?_
    refine vv_aload_n X dX2_readWall_41 rfl 2 rfl ?_
    refine mg5 X rfl hM dX2_readWall_42 ?_
    refine vv_if_le (tgt := 49) X dX2_readWall_45 (by decide) (fun c_45 => ?_) (fun c_45 => ?_)
    · refine vv_aload_n X dX2_readWall_49 rfl 2 rfl ?_
      refine mg11 X rfl hM dX2_readWall_50 ?_
      refine vv_bipush (v := nI 72) X dX2_readWall_53 (by decide) ?_
      refine vv_iload_n X dX2_readWall_55 rfl 3 rfl ?_
      refine vn_add X dX2_readWall_56 ?_
      refine vv_iload_n X dX2_readWall_57 rfl 1 rfl ?_
      refine mk11 X hM hK hka hg (72 + (nW P)) (by omega) rfl (Or.inl (MA.in (by decide))) dX2_readWall_58 (fun H hM hK => ?_)
      rw [up_sw (by decide)] at hM
      replace hM : MR D g (waX (I 1) e x P) (va_up (va_up I 11 (va_up P (72 + (nW P)) (sgv (I 1) e (-2000) (nI 2000) (wa0 (I 1) e x P)))) 13 S) J H := hM
      refine vv_aload_n X dX2_readWall_59 rfl 2 rfl ?_
      refine mg11 X rfl hM dX2_readWall_60 ?_
      refine vv_bipush (v := nI 74) X dX2_readWall_63 (by decide) ?_
      refine vv_iload_n X dX2_readWall_65 rfl 3 rfl ?_
      refine vn_add X dX2_readWall_66 ?_
      refine vv_iload_n X dX2_readWall_67 rfl 0 rfl ?_
      refine mk11 X hM hK hka hg (74 + (nW P)) (by omega) rfl (Or.inl (MA.in (by decide))) dX2_readWall_68 (fun H hM hK => ?_)
      rw [up_sw (by decide)] at hM
      replace hM : MR D g (waX (I 1) e x P) (va_up (va_up I 11 (va_up (va_up P (72 + (nW P)) (sgv (I 1) e (-2000) (nI 2000) (wa0 (I 1) e x P))) (74 + (nW P)) (lov (nI 1) (nI 100) (wa1 (I 1) e x P)))) 13 S) J H := hM
      refine vv_aload_n X dX2_readWall_69 rfl 2 rfl ?_
      refine mg11 X rfl hM dX2_readWall_70 ?_
      refine vv_bipush (v := nI 71) X dX2_readWall_73 (by decide) ?_
      refine vv_dup2_11 X dX2_readWall_75 rfl rfl ?_
      refine vv_iald X hM.a11 (71) (by omega) (by decide) rfl dX2_readWall_76 ?_
      refine vv_eqi (show _ = nI (nW P) from (by show (va_up (va_up P (72 + (nW P)) (sgv (I 1) e (-2000) (nI 2000) (wa0 (I 1) e x P))) (74 + (nW P)) (lov (nI 1) (nI 100) (wa1 (I 1) e x P))) 71 = _; rw [va_up_ne _ _ (show (71 : Nat) ≠ 74 + nW P by omega), va_up_ne _ _ (show (71 : Nat) ≠ 72 + nW P by omega)]; exact hP.e71)) ?_
      refine vv_iconst (v := nI 1) X dX2_readWall_77 (by decide) ?_
      refine vn_add X dX2_readWall_78 ?_
      refine mk11 X hM hK hka hg (71) (by omega) rfl (Or.inl (MA.in (by decide))) dX2_readWall_79 (fun H hM hK => ?_)
      rw [up_sw (by decide)] at hM
      replace hM : MR D g (waX (I 1) e x P) (va_up (va_up I 11 (va_up (va_up (va_up P (72 + (nW P)) (sgv (I 1) e (-2000) (nI 2000) (wa0 (I 1) e x P))) (74 + (nW P)) (lov (nI 1) (nI 100) (wa1 (I 1) e x P))) 71 (nI ((nW P) + 1)))) 13 S) J H := hM
      exact vv_vret X hQ dX2_readWall_80 (Nat.le_refl _) (Nat.le_refl _) (⟨rfl, by unfold waP; rw [if_neg (Int32.not_lt.mpr c_45)]; exact hM⟩)
    · exact vv_vret X hQ dX2_readWall_48 (Nat.le_refl _) (Nat.le_refl _) (⟨rfl, by unfold waP; rw [if_pos (Int32.not_le.mp c_45)]; exact hM⟩)
  refine vv_iload_n X dX2_readWall_8 rfl 0 rfl ?_
  refine vv_iconst (v := nI 2) X dX2_readWall_9 (by decide) ?_
  refine vn_ne (tgt := 18) X (by omega) (by omega) dX2_readWall_10 (by decide) (fun c_10 => ?_) (fun c_10 => ?_)
  · refine vv_aload_n X dX2_readWall_18 rfl 1 rfl ?_
    refine vv_callV X (mX2_nextToken (kL K) D g x (va_up (va_up I 11 P) 13 S) J hg e hx.1) q3042 q3044 qs61 q144 q3045 nX2_nextToken ⟨(Nat.le_of_ble_eq_true rfl), (Nat.le_of_ble_eq_true rfl)⟩ dX2_readWall_19 rfl (Nat.le_of_ble_eq_true rfl) (recv X hM.1 CL_X2) hM  (fun _ z => Or.inl z) ⟨(Nat.le_of_ble_eq_true rfl), (Nat.le_of_ble_eq_true rfl)⟩ (fun v_ H hq hz hk => ?_)
    obtain ⟨rfl, hM⟩ := hq
    replace hK := hK.keep hka hk
    clear hz hk
    replace hM : MR D g (nxt (I 1) e x) (va_up (va_up I 11 P) 13 S) J H := hM
    replace hx : PY e (nxt (I 1) e x) := PY_nxt hx
    refine vv_sub [1, 0] rfl ?_
    exact jn_1 H (by unfold wa0; rw [bgn_n (by omega)]; exact hM) hK
  · refine vv_aload_n X dX2_readWall_13 rfl 1 rfl ?_
    refine vv_iconst (v := nI 4) X dX2_readWall_14 (by decide) ?_
    refine vv_callV X (mX2_faults (kL K) D g x (va_up (va_up I 11 P) 13 S) J hg 4) q3082 q3084 qs67 q144 q3085 nX2_faults ⟨(Nat.le_of_ble_eq_true rfl), (Nat.le_of_ble_eq_true rfl)⟩ dX2_readWall_15 rfl (Nat.le_of_ble_eq_true rfl) (recv X hM.1 CL_X2) hM  (fun _ z => Or.inl z) ⟨(Nat.le_of_ble_eq_true rfl), (Nat.le_of_ble_eq_true rfl)⟩ (fun v_ H hq hz hk => ?_)
    obtain ⟨rfl, hM⟩ := hq
    replace hK := hK.keep hka hk
    clear hz hk
    replace hM : MR D g (fau 4 x) (va_up (va_up I 11 P) 13 S) J H := hM
    replace hx : PY e (fau 4 x) := PY_fau hx (by decide)
    refine vv_aload_n X dX2_readWall_18 rfl 1 rfl ?_
    refine vv_callV X (mX2_nextToken (kL K) D g (fau 4 x) (va_up (va_up I 11 P) 13 S) J hg e hx.1) q3042 q3044 qs61 q144 q3045 nX2_nextToken ⟨(Nat.le_of_ble_eq_true rfl), (Nat.le_of_ble_eq_true rfl)⟩ dX2_readWall_19 rfl (Nat.le_of_ble_eq_true rfl) (recv X hM.1 CL_X2) hM  (fun _ z => Or.inl z) ⟨(Nat.le_of_ble_eq_true rfl), (Nat.le_of_ble_eq_true rfl)⟩ (fun v_ H hq hz hk => ?_)
    obtain ⟨rfl, hM⟩ := hq
    replace hK := hK.keep hka hk
    clear hz hk
    replace hM : MR D g (nxt (I 1) e (fau 4 x)) (va_up (va_up I 11 P) 13 S) J H := hM
    replace hx : PY e (nxt (I 1) e (fau 4 x)) := PY_nxt hx
    refine vv_sub [1, 0] rfl ?_
    exact jn_1 H (by unfold wa0; rw [bgn_y (by omega)]; exact hM) hK
theorem nX2_readFade : notMH yX2_readFade 0 := by decide +kernel
set_option maxHeartbeats 800000 in
theorem mX2_readFade (l : Launch) (D : DD) (g : Nat → Nat) (x : Nat → Int32) (I : Nat → Nat → Int32) (J : Nat → Nat → Int64) (P S : Nat → Int32) (e : Nat) (hg : MG g) (hka : KA D (MA g)) (hP : VP P) (hx : PY e x) : Ct l yX2_readFade cX2_readFade 2 none { frames := 4, cells := 0, slots := 0, locals := 79 } D [.ref (g 0)] (fun H => MR D g x (va_up (va_up I 11 P) 13 S) J H ∧ KH D H) (MA g) (fun v H H1 => v = none ∧ MR D g (faX (I 1) e x P) (va_up (va_up I 11 (faP (I 1) e x P)) 13 (S)) J H1) := by
  refine Ct.of (by decide +kernel) (Nat.le_of_ble_eq_true rfl) (fun K Qf hkl X hM hQ => ?_)
  subst hkl
  obtain ⟨hM, hK⟩ := hM
  have l76 := hP.l76
  refine vv_sub (lv' := [(0, .ref (g 0))]) [0] rfl ?_
  have jn_1 : ∀ (H : Heap), MR D g (fa0 (I 1) e x P) (va_up (va_up I 11 P) 13 S) J H → KH D H → V K 2 (MA g) H 0 0 Qf 19 [(0, .ref (g 0))] [] := by
    intro H hM hK
    replace hx : PY e (fa0 (I 1) e x P) := PY_bgn hx (by decide)
    refine vv_aload_n X dX2_readFade_19 rfl 0 rfl ?_
    refine vv_iconst (v := nI 1) X dX2_readFade_20 (by decide) ?_
    refine vv_sipush (v := nI 999) X dX2_readFade_21 (by decide) ?_
    refine vv_callV X (mX2_number (kL K) D g (fa0 (I 1) e x P) (va_up (va_up I 11 P) 13 S) J hg e (nI 1) (nI 999) hx.1) q3091 q3093 qs69 q144 q3094 nX2_number ⟨(Nat.le_of_ble_eq_true rfl), (Nat.le_of_ble_eq_true rfl)⟩ dX2_readFade_24 rfl (Nat.le_of_ble_eq_true rfl) (recv X hM.1 CL_X2) hM  (fun _ z => Or.inl z) ⟨(Nat.le_of_ble_eq_true rfl), (Nat.le_of_ble_eq_true rfl)⟩ (fun v_ H hq hz hk => ?_)
    obtain ⟨rfl, hM⟩ := hq
    replace hK := hK.keep hka hk
    clear hz hk
    replace hM : MR D g (faX (I 1) e x P) (va_up (va_up I 11 P) 13 S) J H := hM
    replace hx : PY e (faX (I 1) e x P) := PY_num hx
    refine vv_istore_n (lv' := [(1, .int (lov (nI 1) (nI 999) (fa0 (I 1) e x P))), (0, .ref (g 0))]) X dX2_readFade_27 rfl (by decide) rfl ?_
    refine vv_aload_n X dX2_readFade_28 rfl 1 rfl ?_
    refine mg5 X rfl hM dX2_readFade_29 ?_
    refine vv_if_ne (tgt := 43) X dX2_readFade_32 (by decide) (fun c_32 => ?_) (fun c_32 => ?_)
    · exact vv_vret X hQ dX2_readFade_43 (Nat.le_refl _) (Nat.le_refl _) (⟨rfl, by unfold faP; rw [if_pos (px5p hx.1 c_32)]; exact hM⟩)
    · refine vv_aload_n X dX2_readFade_35 rfl 1 rfl ?_
      refine mg11 X rfl hM dX2_readFade_36 ?_
      refine vv_bipush (v := nI 76) X dX2_readFade_39 (by decide) ?_
      refine vv_iload_n X dX2_readFade_41 rfl 0 rfl ?_
      refine mk11 X hM hK hka hg (76) (by omega) rfl (Or.inl (MA.in (by decide))) dX2_readFade_42 (fun H hM hK => ?_)
      rw [up_sw (by decide)] at hM
      replace hM : MR D g (faX (I 1) e x P) (va_up (va_up I 11 (va_up P 76 (lov (nI 1) (nI 999) (fa0 (I 1) e x P)))) 13 S) J H := hM
      exact vv_vret X hQ dX2_readFade_43 (Nat.le_refl _) (Nat.le_refl _) (⟨rfl, by unfold faP; rw [if_neg (px5n c_32)]; exact hM⟩)
  refine vv_aload_n X dX2_readFade_0 rfl 0 rfl ?_
  refine mg11 X rfl hM dX2_readFade_1 ?_
  refine vv_bipush (v := nI 76) X dX2_readFade_4 (by decide) ?_
  refine vv_iald X hM.a11 (76) (by omega) (by decide) rfl dX2_readFade_6 ?_
  refine vv_eqi hP.e76 ?_
  refine vn_if_le (tgt := 15) X (by omega) dX2_readFade_7 (by decide) (fun c_7 => ?_) (fun c_7 => ?_)
  · refine vv_aload_n X dX2_readFade_15 rfl 0 rfl ?_
    refine vv_callV X (mX2_nextToken (kL K) D g x (va_up (va_up I 11 P) 13 S) J hg e hx.1) q3042 q3044 qs61 q144 q3045 nX2_nextToken ⟨(Nat.le_of_ble_eq_true rfl), (Nat.le_of_ble_eq_true rfl)⟩ dX2_readFade_16 rfl (Nat.le_of_ble_eq_true rfl) (recv X hM.1 CL_X2) hM  (fun _ z => Or.inl z) ⟨(Nat.le_of_ble_eq_true rfl), (Nat.le_of_ble_eq_true rfl)⟩ (fun v_ H hq hz hk => ?_)
    obtain ⟨rfl, hM⟩ := hq
    replace hK := hK.keep hka hk
    clear hz hk
    replace hM : MR D g (nxt (I 1) e x) (va_up (va_up I 11 P) 13 S) J H := hM
    replace hx : PY e (nxt (I 1) e x) := PY_nxt hx
    refine vv_sub [0] rfl ?_
    exact jn_1 H (by unfold fa0; rw [bgn_n (by omega)]; exact hM) hK
  · refine vv_aload_n X dX2_readFade_10 rfl 0 rfl ?_
    refine vv_iconst (v := nI 3) X dX2_readFade_11 (by decide) ?_
    refine vv_callV X (mX2_faults (kL K) D g x (va_up (va_up I 11 P) 13 S) J hg 3) q3082 q3084 qs67 q144 q3085 nX2_faults ⟨(Nat.le_of_ble_eq_true rfl), (Nat.le_of_ble_eq_true rfl)⟩ dX2_readFade_12 rfl (Nat.le_of_ble_eq_true rfl) (recv X hM.1 CL_X2) hM  (fun _ z => Or.inl z) ⟨(Nat.le_of_ble_eq_true rfl), (Nat.le_of_ble_eq_true rfl)⟩ (fun v_ H hq hz hk => ?_)
    obtain ⟨rfl, hM⟩ := hq
    replace hK := hK.keep hka hk
    clear hz hk
    replace hM : MR D g (fau 3 x) (va_up (va_up I 11 P) 13 S) J H := hM
    replace hx : PY e (fau 3 x) := PY_fau hx (by decide)
    refine vv_aload_n X dX2_readFade_15 rfl 0 rfl ?_
    refine vv_callV X (mX2_nextToken (kL K) D g (fau 3 x) (va_up (va_up I 11 P) 13 S) J hg e hx.1) q3042 q3044 qs61 q144 q3045 nX2_nextToken ⟨(Nat.le_of_ble_eq_true rfl), (Nat.le_of_ble_eq_true rfl)⟩ dX2_readFade_16 rfl (Nat.le_of_ble_eq_true rfl) (recv X hM.1 CL_X2) hM  (fun _ z => Or.inl z) ⟨(Nat.le_of_ble_eq_true rfl), (Nat.le_of_ble_eq_true rfl)⟩ (fun v_ H hq hz hk => ?_)
    obtain ⟨rfl, hM⟩ := hq
    replace hK := hK.keep hka hk
    clear hz hk
    replace hM : MR D g (nxt (I 1) e (fau 3 x)) (va_up (va_up I 11 P) 13 S) J H := hM
    replace hx : PY e (nxt (I 1) e (fau 3 x)) := PY_nxt hx
    refine vv_sub [0] rfl ?_
    exact jn_1 H (by unfold fa0; rw [bgn_y (by omega)]; exact hM) hK
theorem nX2_readZone : notMH yX2_readZone 0 := by decide +kernel
set_option maxHeartbeats 800000 in
theorem mX2_readZone (l : Launch) (D : DD) (g : Nat → Nat) (x : Nat → Int32) (I : Nat → Nat → Int32) (J : Nat → Nat → Int64) (P S : Nat → Int32) (e : Nat) (hg : MG g) (hka : KA D (MA g)) (hP : VP P) (hx : PY e x) : Ct l yX2_readZone cX2_readZone 7 none { frames := 4, cells := 0, slots := 0, locals := 79 } D [.ref (g 0)] (fun H => MR D g x (va_up (va_up I 11 P) 13 S) J H ∧ KH D H) (MA g) (fun v H H1 => v = none ∧ MR D g (zoX (I 1) e x P) (va_up (va_up I 11 (zoP (I 1) e x P)) 13 (S)) J H1) := by
  refine Ct.of (by decide +kernel) (Nat.le_of_ble_eq_true rfl) (fun K Qf hkl X hM hQ => ?_)
  subst hkl
  obtain ⟨hM, hK⟩ := hM
  have l101 := hP.l101
  have l9 := hP.l9
  have l10 := hP.l10
  refine vv_sub (lv' := [(0, .ref (g 0))]) [0] rfl ?_
  refine vv_aload_n X dX2_readZone_0 rfl 0 rfl ?_
  refine mg11 X rfl hM dX2_readZone_1 ?_
  refine vv_bipush (v := nI 101) X dX2_readZone_4 (by decide) ?_
  refine vv_iald X hM.a11 (101) (by omega) (by decide) rfl dX2_readZone_6 ?_
  refine vv_eqi hP.e101 ?_
  refine vv_istore_n (lv' := [(1, .int (nI (nZ P))), (0, .ref (g 0))]) X dX2_readZone_7 rfl (by decide) rfl ?_
  have jn_1 : ∀ (H : Heap), MR D g (zo0 (I 1) e x P) (va_up (va_up I 11 P) 13 S) J H → KH D H → V K 7 (MA g) H 0 0 Qf 22 [(0, .ref (g 0)), (1, .int (nI (nZ P)))] [] := by
    intro H hM hK
    replace hx : PY e (zo0 (I 1) e x P) := PY_bgn hx (by decide)
    refine vv_aload_n X dX2_readZone_22 rfl 0 rfl ?_
    refine vv_iconst (v := nI 0) X dX2_readZone_23 (by decide) ?_
    refine vv_aload_n X dX2_readZone_24 rfl 0 rfl ?_
    refine mg11 X rfl hM dX2_readZone_25 ?_
    refine vv_bipush (v := nI 9) X dX2_readZone_28 (by decide) ?_
    refine vv_iald X hM.a11 (9) (by omega) (by decide) rfl dX2_readZone_30 ?_
    refine vv_eqi hP.e9 ?_
    refine vv_iconst (v := nI 1) X dX2_readZone_31 (by decide) ?_
    refine vv_isub X dX2_readZone_32 ?_
    refine vv_callV X (mX2_number (kL K) D g (zo0 (I 1) e x P) (va_up (va_up I 11 P) 13 S) J hg e (nI 0) ((nI (nX P)) - (nI 1)) hx.1) q3091 q3093 qs69 q144 q3094 nX2_number ⟨(Nat.le_of_ble_eq_true rfl), (Nat.le_of_ble_eq_true rfl)⟩ dX2_readZone_33 rfl (Nat.le_of_ble_eq_true rfl) (recv X hM.1 CL_X2) hM  (fun _ z => Or.inl z) ⟨(Nat.le_of_ble_eq_true rfl), (Nat.le_of_ble_eq_true rfl)⟩ (fun v_ H hq hz hk => ?_)
    obtain ⟨rfl, hM⟩ := hq
    replace hK := hK.keep hka hk
    clear hz hk
    replace hM : MR D g (zo1 (I 1) e x P) (va_up (va_up I 11 P) 13 S) J H := hM
    replace hx : PY e (zo1 (I 1) e x P) := PY_num hx
    refine vv_istore_n (lv' := [(2, .int (lov (nI 0) ((nI (nX P)) - (nI 1)) (zo0 (I 1) e x P))), (0, .ref (g 0)), (1, .int (nI (nZ P)))]) X dX2_readZone_36 rfl (by decide) rfl ?_
    refine vv_aload_n X dX2_readZone_37 rfl 1 rfl ?_
    refine vv_iconst (v := nI 0) X dX2_readZone_38 (by decide) ?_
    refine vv_aload_n X dX2_readZone_39 rfl 1 rfl ?_
    refine mg11 X rfl hM dX2_readZone_40 ?_
    refine vv_bipush (v := nI 10) X dX2_readZone_43 (by decide) ?_
    refine vv_iald X hM.a11 (10) (by omega) (by decide) rfl dX2_readZone_45 ?_
    refine vv_eqi hP.e10 ?_
    refine vv_iconst (v := nI 1) X dX2_readZone_46 (by decide) ?_
    refine vv_isub X dX2_readZone_47 ?_
    refine vv_callV X (mX2_number (kL K) D g (zo1 (I 1) e x P) (va_up (va_up I 11 P) 13 S) J hg e (nI 0) ((nI (nY P)) - (nI 1)) hx.1) q3091 q3093 qs69 q144 q3094 nX2_number ⟨(Nat.le_of_ble_eq_true rfl), (Nat.le_of_ble_eq_true rfl)⟩ dX2_readZone_48 rfl (Nat.le_of_ble_eq_true rfl) (recv X hM.1 CL_X2) hM  (fun _ z => Or.inl z) ⟨(Nat.le_of_ble_eq_true rfl), (Nat.le_of_ble_eq_true rfl)⟩ (fun v_ H hq hz hk => ?_)
    obtain ⟨rfl, hM⟩ := hq
    replace hK := hK.keep hka hk
    clear hz hk
    replace hM : MR D g (zo2 (I 1) e x P) (va_up (va_up I 11 P) 13 S) J H := hM
    replace hx : PY e (zo2 (I 1) e x P) := PY_num hx
    refine vv_istore_n (lv' := [(3, .int (lov (nI 0) ((nI (nY P)) - (nI 1)) (zo1 (I 1) e x P))), (2, .int (lov (nI 0) ((nI (nX P)) - (nI 1)) (zo0 (I 1) e x P))), (0, .ref (g 0)), (1, .int (nI (nZ P)))]) X dX2_readZone_51 rfl (by decide) rfl ?_
    refine vv_aload_n X dX2_readZone_52 rfl 2 rfl ?_
    refine vv_iload_n X dX2_readZone_53 rfl 1 rfl ?_
    refine vv_aload_n X dX2_readZone_54 rfl 2 rfl ?_
    refine mg11 X rfl hM dX2_readZone_55 ?_
    refine vv_bipush (v := nI 9) X dX2_readZone_58 (by decide) ?_
    refine vv_iald X hM.a11 (9) (by omega) (by decide) rfl dX2_readZone_60 ?_
    refine vv_eqi hP.e9 ?_
    refine vv_iconst (v := nI 1) X dX2_readZone_61 (by decide) ?_
    refine vv_isub X dX2_readZone_62 ?_
    refine vv_callV X (mX2_number (kL K) D g (zo2 (I 1) e x P) (va_up (va_up I 11 P) 13 S) J hg e (lov (nI 0) ((nI (nX P)) - (nI 1)) (zo0 (I 1) e x P)) ((nI (nX P)) - (nI 1)) hx.1) q3091 q3093 qs69 q144 q3094 nX2_number ⟨(Nat.le_of_ble_eq_true rfl), (Nat.le_of_ble_eq_true rfl)⟩ dX2_readZone_63 rfl (Nat.le_of_ble_eq_true rfl) (recv X hM.1 CL_X2) hM  (fun _ z => Or.inl z) ⟨(Nat.le_of_ble_eq_true rfl), (Nat.le_of_ble_eq_true rfl)⟩ (fun v_ H hq hz hk => ?_)
    obtain ⟨rfl, hM⟩ := hq
    replace hK := hK.keep hka hk
    clear hz hk
    replace hM : MR D g (zo3 (I 1) e x P) (va_up (va_up I 11 P) 13 S) J H := hM
    replace hx : PY e (zo3 (I 1) e x P) := PY_num hx
    refine vv_istore (lv' := [(4, .int (lov (lov (nI 0) ((nI (nX P)) - (nI 1)) (zo0 (I 1) e x P)) ((nI (nX P)) - (nI 1)) (zo2 (I 1) e x P))), (3, .int (lov (nI 0) ((nI (nY P)) - (nI 1)) (zo1 (I 1) e x P))), (2, .int (lov (nI 0) ((nI (nX P)) - (nI 1)) (zo0 (I 1) e x P))), (0, .ref (g 0)), (1, .int (nI (nZ P)))]) X dX2_readZone_66 (by decide) rfl ?_
    refine vv_aload_n X dX2_readZone_68 rfl 3 rfl ?_
    refine vv_iload_n X dX2_readZone_69 rfl 1 rfl ?_
    refine vv_aload_n X dX2_readZone_70 rfl 3 rfl ?_
    refine mg11 X rfl hM dX2_readZone_71 ?_
    refine vv_bipush (v := nI 10) X dX2_readZone_74 (by decide) ?_
    refine vv_iald X hM.a11 (10) (by omega) (by decide) rfl dX2_readZone_76 ?_
    refine vv_eqi hP.e10 ?_
    refine vv_iconst (v := nI 1) X dX2_readZone_77 (by decide) ?_
    refine vv_isub X dX2_readZone_78 ?_
    refine vv_callV X (mX2_number (kL K) D g (zo3 (I 1) e x P) (va_up (va_up I 11 P) 13 S) J hg e (lov (nI 0) ((nI (nY P)) - (nI 1)) (zo1 (I 1) e x P)) ((nI (nY P)) - (nI 1)) hx.1) q3091 q3093 qs69 q144 q3094 nX2_number ⟨(Nat.le_of_ble_eq_true rfl), (Nat.le_of_ble_eq_true rfl)⟩ dX2_readZone_79 rfl (Nat.le_of_ble_eq_true rfl) (recv X hM.1 CL_X2) hM  (fun _ z => Or.inl z) ⟨(Nat.le_of_ble_eq_true rfl), (Nat.le_of_ble_eq_true rfl)⟩ (fun v_ H hq hz hk => ?_)
    obtain ⟨rfl, hM⟩ := hq
    replace hK := hK.keep hka hk
    clear hz hk
    replace hM : MR D g (zoX (I 1) e x P) (va_up (va_up I 11 P) 13 S) J H := hM
    replace hx : PY e (zoX (I 1) e x P) := PY_num hx
    refine vv_istore (lv' := [(5, .int (lov (lov (nI 0) ((nI (nY P)) - (nI 1)) (zo1 (I 1) e x P)) ((nI (nY P)) - (nI 1)) (zo3 (I 1) e x P))), (4, .int (lov (lov (nI 0) ((nI (nX P)) - (nI 1)) (zo0 (I 1) e x P)) ((nI (nX P)) - (nI 1)) (zo2 (I 1) e x P))), (3, .int (lov (nI 0) ((nI (nY P)) - (nI 1)) (zo1 (I 1) e x P))), (2, .int (lov (nI 0) ((nI (nX P)) - (nI 1)) (zo0 (I 1) e x P))), (0, .ref (g 0)), (1, .int (nI (nZ P)))]) X dX2_readZone_82 (by decide) rfl ?_
    refine vv_aload_n X dX2_readZone_84 rfl 4 rfl ?_
    refine mg5 X rfl hM dX2_readZone_85 ?_
    refine vv_if_le (tgt := 92) X dX2_readZone_88 (by decide) (fun c_88 => ?_) (fun c_88 => ?_)
    · refine vv_bipush (v := nI 102) X dX2_readZone_92 (by decide) ?_
      refine vv_iconst (v := nI 4) X dX2_readZone_94 (by decide) ?_
      refine vv_iload_n X dX2_readZone_95 rfl 5 rfl ?_
      refine vn_mul X dX2_readZone_96 ?_
      refine vn_add X dX2_readZone_97 ?_
      refine vv_istore (lv' := [(6, .int (nI (102 + (4 * (nZ P))))), (5, .int (lov (lov (nI 0) ((nI (nY P)) - (nI 1)) (zo1 (I 1) e x P)) ((nI (nY P)) - (nI 1)) (zo3 (I 1) e x P))), (4, .int (lov (lov (nI 0) ((nI (nX P)) - (nI 1)) (zo0 (I 1) e x P)) ((nI (nX P)) - (nI 1)) (zo2 (I 1) e x P))), (3, .int (lov (nI 0) ((nI (nY P)) - (nI 1)) (zo1 (I 1) e x P))), (2, .int (lov (nI 0) ((nI (nX P)) - (nI 1)) (zo0 (I 1) e x P))), (0, .ref (g 0)), (1, .int (nI (nZ P)))]) X dX2_readZone_98 (by decide) rfl ?_
      refine vv_aload_n X dX2_readZone_100 rfl 5 rfl ?_
      refine mg11 X rfl hM dX2_readZone_101 ?_
      refine vv_iload X dX2_readZone_104 0 rfl ?_
      refine vv_iload_n X dX2_readZone_106 rfl 4 rfl ?_
      refine mk11 X hM hK hka hg (102 + (4 * (nZ P))) (by omega) rfl (Or.inl (MA.in (by decide))) dX2_readZone_107 (fun H hM hK => ?_)
      rw [up_sw (by decide)] at hM
      replace hM : MR D g (zoX (I 1) e x P) (va_up (va_up I 11 (va_up P (102 + (4 * (nZ P))) (lov (nI 0) ((nI (nX P)) - (nI 1)) (zo0 (I 1) e x P)))) 13 S) J H := hM
      refine vv_aload_n X dX2_readZone_108 rfl 5 rfl ?_
      refine mg11 X rfl hM dX2_readZone_109 ?_
      refine vv_iload X dX2_readZone_112 0 rfl ?_
      refine vv_iconst (v := nI 1) X dX2_readZone_114 (by decide) ?_
      refine vn_add X dX2_readZone_115 ?_
      refine vv_iload_n X dX2_readZone_116 rfl 3 rfl ?_
      refine mk11 X hM hK hka hg ((102 + (4 * (nZ P))) + 1) (by omega) rfl (Or.inl (MA.in (by decide))) dX2_readZone_117 (fun H hM hK => ?_)
      rw [up_sw (by decide)] at hM
      replace hM : MR D g (zoX (I 1) e x P) (va_up (va_up I 11 (va_up (va_up P (102 + (4 * (nZ P))) (lov (nI 0) ((nI (nX P)) - (nI 1)) (zo0 (I 1) e x P))) ((102 + (4 * (nZ P))) + 1) (lov (nI 0) ((nI (nY P)) - (nI 1)) (zo1 (I 1) e x P)))) 13 S) J H := hM
      refine vv_aload_n X dX2_readZone_118 rfl 5 rfl ?_
      refine mg11 X rfl hM dX2_readZone_119 ?_
      refine vv_iload X dX2_readZone_122 0 rfl ?_
      refine vv_iconst (v := nI 2) X dX2_readZone_124 (by decide) ?_
      refine vn_add X dX2_readZone_125 ?_
      refine vv_iload X dX2_readZone_126 2 rfl ?_
      refine mk11 X hM hK hka hg ((102 + (4 * (nZ P))) + 2) (by omega) rfl (Or.inl (MA.in (by decide))) dX2_readZone_128 (fun H hM hK => ?_)
      rw [up_sw (by decide)] at hM
      replace hM : MR D g (zoX (I 1) e x P) (va_up (va_up I 11 (va_up (va_up (va_up P (102 + (4 * (nZ P))) (lov (nI 0) ((nI (nX P)) - (nI 1)) (zo0 (I 1) e x P))) ((102 + (4 * (nZ P))) + 1) (lov (nI 0) ((nI (nY P)) - (nI 1)) (zo1 (I 1) e x P))) ((102 + (4 * (nZ P))) + 2) (lov (lov (nI 0) ((nI (nX P)) - (nI 1)) (zo0 (I 1) e x P)) ((nI (nX P)) - (nI 1)) (zo2 (I 1) e x P)))) 13 S) J H := hM
      refine vv_aload_n X dX2_readZone_129 rfl 5 rfl ?_
      refine mg11 X rfl hM dX2_readZone_130 ?_
      refine vv_iload X dX2_readZone_133 0 rfl ?_
      refine vv_iconst (v := nI 3) X dX2_readZone_135 (by decide) ?_
      refine vn_add X dX2_readZone_136 ?_
      refine vv_iload X dX2_readZone_137 1 rfl ?_
      refine mk11 X hM hK hka hg ((102 + (4 * (nZ P))) + 3) (by omega) rfl (Or.inl (MA.in (by decide))) dX2_readZone_139 (fun H hM hK => ?_)
      rw [up_sw (by decide)] at hM
      replace hM : MR D g (zoX (I 1) e x P) (va_up (va_up I 11 (va_up (va_up (va_up (va_up P (102 + (4 * (nZ P))) (lov (nI 0) ((nI (nX P)) - (nI 1)) (zo0 (I 1) e x P))) ((102 + (4 * (nZ P))) + 1) (lov (nI 0) ((nI (nY P)) - (nI 1)) (zo1 (I 1) e x P))) ((102 + (4 * (nZ P))) + 2) (lov (lov (nI 0) ((nI (nX P)) - (nI 1)) (zo0 (I 1) e x P)) ((nI (nX P)) - (nI 1)) (zo2 (I 1) e x P))) ((102 + (4 * (nZ P))) + 3) (lov (lov (nI 0) ((nI (nY P)) - (nI 1)) (zo1 (I 1) e x P)) ((nI (nY P)) - (nI 1)) (zo3 (I 1) e x P)))) 13 S) J H := hM
      refine vv_aload_n X dX2_readZone_140 rfl 5 rfl ?_
      refine mg11 X rfl hM dX2_readZone_141 ?_
      refine vv_bipush (v := nI 101) X dX2_readZone_144 (by decide) ?_
      refine vv_dup2_11 X dX2_readZone_146 rfl rfl ?_
      refine vv_iald X hM.a11 (101) (by omega) (by decide) rfl dX2_readZone_147 ?_
      refine vv_eqi (show _ = nI (nZ P) from (by show (va_up (va_up (va_up (va_up P (102 + (4 * (nZ P))) (lov (nI 0) ((nI (nX P)) - (nI 1)) (zo0 (I 1) e x P))) ((102 + (4 * (nZ P))) + 1) (lov (nI 0) ((nI (nY P)) - (nI 1)) (zo1 (I 1) e x P))) ((102 + (4 * (nZ P))) + 2) (lov (lov (nI 0) ((nI (nX P)) - (nI 1)) (zo0 (I 1) e x P)) ((nI (nX P)) - (nI 1)) (zo2 (I 1) e x P))) ((102 + (4 * (nZ P))) + 3) (lov (lov (nI 0) ((nI (nY P)) - (nI 1)) (zo1 (I 1) e x P)) ((nI (nY P)) - (nI 1)) (zo3 (I 1) e x P))) 101 = _; rw [va_up_ne _ _ (show (101 : Nat) ≠ 102 + 4 * nZ P + 3 by omega), va_up_ne _ _ (show (101 : Nat) ≠ 102 + 4 * nZ P + 2 by omega), va_up_ne _ _ (show (101 : Nat) ≠ 102 + 4 * nZ P + 1 by omega), va_up_ne _ _ (show (101 : Nat) ≠ 102 + 4 * nZ P by omega)]; exact hP.e101)) ?_
      refine vv_iconst (v := nI 1) X dX2_readZone_148 (by decide) ?_
      refine vn_add X dX2_readZone_149 ?_
      refine mk11 X hM hK hka hg (101) (by omega) rfl (Or.inl (MA.in (by decide))) dX2_readZone_150 (fun H hM hK => ?_)
      rw [up_sw (by decide)] at hM
      replace hM : MR D g (zoX (I 1) e x P) (va_up (va_up I 11 (va_up (va_up (va_up (va_up (va_up P (102 + (4 * (nZ P))) (lov (nI 0) ((nI (nX P)) - (nI 1)) (zo0 (I 1) e x P))) ((102 + (4 * (nZ P))) + 1) (lov (nI 0) ((nI (nY P)) - (nI 1)) (zo1 (I 1) e x P))) ((102 + (4 * (nZ P))) + 2) (lov (lov (nI 0) ((nI (nX P)) - (nI 1)) (zo0 (I 1) e x P)) ((nI (nX P)) - (nI 1)) (zo2 (I 1) e x P))) ((102 + (4 * (nZ P))) + 3) (lov (lov (nI 0) ((nI (nY P)) - (nI 1)) (zo1 (I 1) e x P)) ((nI (nY P)) - (nI 1)) (zo3 (I 1) e x P))) 101 (nI ((nZ P) + 1)))) 13 S) J H := hM
      exact vv_vret X hQ dX2_readZone_151 (Nat.le_refl _) (Nat.le_refl _) (⟨rfl, by unfold zoP; rw [if_neg (Int32.not_lt.mpr c_88)]; exact hM⟩)
    · exact vv_vret X hQ dX2_readZone_91 (Nat.le_refl _) (Nat.le_refl _) (⟨rfl, by unfold zoP; rw [if_pos (Int32.not_le.mp c_88)]; exact hM⟩)
  refine vv_iload_n X dX2_readZone_8 rfl 0 rfl ?_
  refine vv_iconst (v := nI 4) X dX2_readZone_9 (by decide) ?_
  refine vn_ne (tgt := 18) X (by omega) (by omega) dX2_readZone_10 (by decide) (fun c_10 => ?_) (fun c_10 => ?_)
  · refine vv_aload_n X dX2_readZone_18 rfl 1 rfl ?_
    refine vv_callV X (mX2_nextToken (kL K) D g x (va_up (va_up I 11 P) 13 S) J hg e hx.1) q3042 q3044 qs61 q144 q3045 nX2_nextToken ⟨(Nat.le_of_ble_eq_true rfl), (Nat.le_of_ble_eq_true rfl)⟩ dX2_readZone_19 rfl (Nat.le_of_ble_eq_true rfl) (recv X hM.1 CL_X2) hM  (fun _ z => Or.inl z) ⟨(Nat.le_of_ble_eq_true rfl), (Nat.le_of_ble_eq_true rfl)⟩ (fun v_ H hq hz hk => ?_)
    obtain ⟨rfl, hM⟩ := hq
    replace hK := hK.keep hka hk
    clear hz hk
    replace hM : MR D g (nxt (I 1) e x) (va_up (va_up I 11 P) 13 S) J H := hM
    replace hx : PY e (nxt (I 1) e x) := PY_nxt hx
    refine vv_sub [1, 0] rfl ?_
    exact jn_1 H (by unfold zo0; rw [bgn_n (by omega)]; exact hM) hK
  · refine vv_aload_n X dX2_readZone_13 rfl 1 rfl ?_
    refine vv_iconst (v := nI 4) X dX2_readZone_14 (by decide) ?_
    refine vv_callV X (mX2_faults (kL K) D g x (va_up (va_up I 11 P) 13 S) J hg 4) q3082 q3084 qs67 q144 q3085 nX2_faults ⟨(Nat.le_of_ble_eq_true rfl), (Nat.le_of_ble_eq_true rfl)⟩ dX2_readZone_15 rfl (Nat.le_of_ble_eq_true rfl) (recv X hM.1 CL_X2) hM  (fun _ z => Or.inl z) ⟨(Nat.le_of_ble_eq_true rfl), (Nat.le_of_ble_eq_true rfl)⟩ (fun v_ H hq hz hk => ?_)
    obtain ⟨rfl, hM⟩ := hq
    replace hK := hK.keep hka hk
    clear hz hk
    replace hM : MR D g (fau 4 x) (va_up (va_up I 11 P) 13 S) J H := hM
    replace hx : PY e (fau 4 x) := PY_fau hx (by decide)
    refine vv_aload_n X dX2_readZone_18 rfl 1 rfl ?_
    refine vv_callV X (mX2_nextToken (kL K) D g (fau 4 x) (va_up (va_up I 11 P) 13 S) J hg e hx.1) q3042 q3044 qs61 q144 q3045 nX2_nextToken ⟨(Nat.le_of_ble_eq_true rfl), (Nat.le_of_ble_eq_true rfl)⟩ dX2_readZone_19 rfl (Nat.le_of_ble_eq_true rfl) (recv X hM.1 CL_X2) hM  (fun _ z => Or.inl z) ⟨(Nat.le_of_ble_eq_true rfl), (Nat.le_of_ble_eq_true rfl)⟩ (fun v_ H hq hz hk => ?_)
    obtain ⟨rfl, hM⟩ := hq
    replace hK := hK.keep hka hk
    clear hz hk
    replace hM : MR D g (nxt (I 1) e (fau 4 x)) (va_up (va_up I 11 P) 13 S) J H := hM
    replace hx : PY e (nxt (I 1) e (fau 4 x)) := PY_nxt hx
    refine vv_sub [1, 0] rfl ?_
    exact jn_1 H (by unfold zo0; rw [bgn_y (by omega)]; exact hM) hK
theorem nX2_readClock : notMH yX2_readClock 0 := by decide +kernel
set_option maxHeartbeats 800000 in
theorem mX2_readClock (l : Launch) (D : DD) (g : Nat → Nat) (x : Nat → Int32) (I : Nat → Nat → Int32) (J : Nat → Nat → Int64) (P S : Nat → Int32) (e : Nat) (hg : MG g) (hka : KA D (MA g)) (hP : VP P) (hx : PY e x) : Ct l yX2_readClock cX2_readClock 3 none { frames := 4, cells := 0, slots := 0, locals := 79 } D [.ref (g 0)] (fun H => MR D g x (va_up (va_up I 11 P) 13 S) J H ∧ KH D H) (MA g) (fun v H H1 => v = none ∧ MR D g (ckX (I 1) e x P) (va_up (va_up I 11 (ckP (I 1) e x P)) 13 (S)) J H1) := by
  refine Ct.of (by decide +kernel) (Nat.le_of_ble_eq_true rfl) (fun K Qf hkl X hM hQ => ?_)
  subst hkl
  obtain ⟨hM, hK⟩ := hM
  have l4 := hP.l4
  refine vv_sub (lv' := [(0, .ref (g 0))]) [0] rfl ?_
  refine vv_aload_n X dX2_readClock_0 rfl 0 rfl ?_
  refine vv_callV X (mX2_nextToken (kL K) D g x (va_up (va_up I 11 P) 13 S) J hg e hx.1) q3042 q3044 qs61 q144 q3045 nX2_nextToken ⟨(Nat.le_of_ble_eq_true rfl), (Nat.le_of_ble_eq_true rfl)⟩ dX2_readClock_1 rfl (Nat.le_of_ble_eq_true rfl) (recv X hM.1 CL_X2) hM  (fun _ z => Or.inl z) ⟨(Nat.le_of_ble_eq_true rfl), (Nat.le_of_ble_eq_true rfl)⟩ (fun v_ H hq hz hk => ?_)
  obtain ⟨rfl, hM⟩ := hq
  replace hK := hK.keep hka hk
  clear hz hk
  replace hM : MR D g (ck0 (I 1) e x) (va_up (va_up I 11 P) 13 S) J H := hM
  replace hx : PY e (ck0 (I 1) e x) := PY_nxt hx
  refine vv_aload_n X dX2_readClock_4 rfl 0 rfl ?_
  refine vv_iconst (v := nI 0) X dX2_readClock_5 (by decide) ?_
  refine vv_aload_n X dX2_readClock_6 rfl 0 rfl ?_
  refine mg11 X rfl hM dX2_readClock_7 ?_
  refine vv_iconst (v := nI 4) X dX2_readClock_10 (by decide) ?_
  refine vv_iald X hM.a11 (4) (by omega) (by decide) rfl dX2_readClock_11 ?_
  refine vv_eqi hP.e4 ?_
  refine vv_iconst (v := nI 1) X dX2_readClock_12 (by decide) ?_
  refine vv_isub X dX2_readClock_13 ?_
  refine vv_callV X (mX2_look (kL K) D g (ck0 (I 1) e x) (va_up (va_up I 11 P) 13 S) J hg e (nI 0) ((nI (nM P)) - (nI 1)) hx.1) q3095 q3097 qs70 q144 q3098 nX2_look ⟨(Nat.le_of_ble_eq_true rfl), (Nat.le_of_ble_eq_true rfl)⟩ dX2_readClock_14 rfl (Nat.le_of_ble_eq_true rfl) (recv X hM.1 CL_X2) hM  (fun _ z => Or.inl z) ⟨(Nat.le_of_ble_eq_true rfl), (Nat.le_of_ble_eq_true rfl)⟩ (fun v_ H hq hz hk => ?_)
  obtain ⟨rfl, hM⟩ := hq
  replace hK := hK.keep hka hk
  clear hz hk
  replace hM : MR D g (ck1 (I 1) e x P) (va_up (va_up I 11 P) 13 S) J H := hM
  replace hx : PY e (ck1 (I 1) e x P) := PY_lok hx
  refine vv_istore_n (lv' := [(1, .int (lov (nI 0) ((nI (nM P)) - (nI 1)) (ck0 (I 1) e x))), (0, .ref (g 0))]) X dX2_readClock_17 rfl (by decide) rfl ?_
  have hx1 := hx
  have jn_1 : ∀ (H : Heap), MR D g (ck2 (I 1) e x P) (va_up (va_up I 11 P) 13 S) J H → KH D H → V K 3 (MA g) H 0 0 Qf 46 [(0, .ref (g 0)), (1, .int (ckv (I 1) e x P))] [] := by
    intro H hM hK
    replace hx : PY e (ck2 (I 1) e x P) := PY_bgn hx (by decide)
    refine vv_aload_n X dX2_readClock_46 rfl 0 rfl ?_
    refine vv_iconst (v := nI 1) X dX2_readClock_47 (by decide) ?_
    refine vv_bipush (v := nI 31) X dX2_readClock_48 (by decide) ?_
    refine vv_callV X (mX2_number (kL K) D g (ck2 (I 1) e x P) (va_up (va_up I 11 P) 13 S) J hg e (nI 1) (nI 31) hx.1) q3091 q3093 qs69 q144 q3094 nX2_number ⟨(Nat.le_of_ble_eq_true rfl), (Nat.le_of_ble_eq_true rfl)⟩ dX2_readClock_50 rfl (Nat.le_of_ble_eq_true rfl) (recv X hM.1 CL_X2) hM  (fun _ z => Or.inl z) ⟨(Nat.le_of_ble_eq_true rfl), (Nat.le_of_ble_eq_true rfl)⟩ (fun v_ H hq hz hk => ?_)
    obtain ⟨rfl, hM⟩ := hq
    replace hK := hK.keep hka hk
    clear hz hk
    replace hM : MR D g (ckX (I 1) e x P) (va_up (va_up I 11 P) 13 S) J H := hM
    replace hx : PY e (ckX (I 1) e x P) := PY_num hx
    refine vv_istore_n (lv' := [(2, .int (lov (nI 1) (nI 31) (ck2 (I 1) e x P))), (0, .ref (g 0)), (1, .int (ckv (I 1) e x P))]) X dX2_readClock_53 rfl (by decide) rfl ?_
    refine vv_aload_n X dX2_readClock_54 rfl 1 rfl ?_
    refine mg5 X rfl hM dX2_readClock_55 ?_
    refine vv_if_ne (tgt := 71) X dX2_readClock_58 (by decide) (fun c_58 => ?_) (fun c_58 => ?_)
    · exact vv_vret X hQ dX2_readClock_71 (Nat.le_refl _) (Nat.le_refl _) (⟨rfl, by unfold ckP; rw [if_neg (show ¬ _ = nI 0 from c_58)]; exact hM⟩)
    · obtain ⟨j, hj, ej⟩ : ∃ j, j < nM P ∧ ckv (I 1) e x P = nI j := lov_nat (by omega) (bgn_50 (x := ck1 (I 1) e x P) (by decide) (lok_50 (num_50 c_58))).2
      have ec : cl (ckv (I 1) e x P) = j := by rw [ej]; exact cl_I (by omega)
      rw [ej]
      refine vv_aload_n X dX2_readClock_61 rfl 1 rfl ?_
      refine mg11 X rfl hM dX2_readClock_62 ?_
      refine vv_bipush (v := nI 83) X dX2_readClock_65 (by decide) ?_
      refine vv_iload_n X dX2_readClock_67 rfl 2 rfl ?_
      refine vn_add X dX2_readClock_68 ?_
      refine vv_iload_n X dX2_readClock_69 rfl 0 rfl ?_
      refine mk11 X hM hK hka hg (83 + j) (by omega) rfl (Or.inl (MA.in (by decide))) dX2_readClock_70 (fun H hM hK => ?_)
      rw [up_sw (by decide)] at hM
      replace hM : MR D g (ckX (I 1) e x P) (va_up (va_up I 11 (va_up P (83 + j) (lov (nI 1) (nI 31) (ck2 (I 1) e x P)))) 13 S) J H := hM
      exact vv_vret X hQ dX2_readClock_71 (Nat.le_refl _) (Nat.le_refl _) (⟨rfl, by unfold ckP; rw [if_pos (show _ = nI 0 from c_58), ec]; exact hM⟩)
  refine vv_aload_n X dX2_readClock_18 rfl 1 rfl ?_
  refine mg5 X rfl hM dX2_readClock_19 ?_
  refine vv_if_ne (tgt := 42) X dX2_readClock_22 (by decide) (fun c_22 => ?_) (fun c_22 => ?_)
  · refine vv_aload_n X dX2_readClock_42 rfl 1 rfl ?_
    refine vv_callV X (mX2_nextToken (kL K) D g (ck1 (I 1) e x P) (va_up (va_up I 11 P) 13 S) J hg e hx.1) q3042 q3044 qs61 q144 q3045 nX2_nextToken ⟨(Nat.le_of_ble_eq_true rfl), (Nat.le_of_ble_eq_true rfl)⟩ dX2_readClock_43 rfl (Nat.le_of_ble_eq_true rfl) (recv X hM.1 CL_X2) hM  (fun _ z => Or.inl z) ⟨(Nat.le_of_ble_eq_true rfl), (Nat.le_of_ble_eq_true rfl)⟩ (fun v_ H hq hz hk => ?_)
    obtain ⟨rfl, hM⟩ := hq
    replace hK := hK.keep hka hk
    clear hz hk
    replace hM : MR D g (nxt (I 1) e (ck1 (I 1) e x P)) (va_up (va_up I 11 P) 13 S) J H := hM
    replace hx : PY e (nxt (I 1) e (ck1 (I 1) e x P)) := PY_nxt hx
    refine vv_sub [1, 0] rfl ?_
    exact jn_1 H (by unfold ck2; rw [bgn_n (fun z => c_22 z.1)]; exact hM) hK
  · obtain ⟨j, hj, ej⟩ : ∃ j, j < nM P ∧ lov (nI 0) ((nI (nM P)) - (nI 1)) (ck0 (I 1) e x) = nI j := lov_nat (by omega) c_22
    have ej1 : ckv (I 1) e x P = nI j := ej
    have ec : cl (ckv (I 1) e x P) = j := by rw [ej1]; exact cl_I (by omega)
    rw [ej]
    refine vv_aload_n X dX2_readClock_25 rfl 1 rfl ?_
    refine mg11 X rfl hM dX2_readClock_26 ?_
    refine vv_bipush (v := nI 83) X dX2_readClock_29 (by decide) ?_
    refine vv_iload_n X dX2_readClock_31 rfl 0 rfl ?_
    refine vn_add X dX2_readClock_32 ?_
    refine vv_iald X hM.a11 (83 + j) (by omega) (by decide) rfl dX2_readClock_33 ?_
    refine vv_if_le (tgt := 42) X dX2_readClock_34 (by decide) (fun c_34 => ?_) (fun c_34 => ?_)
    · refine vv_aload_n X dX2_readClock_42 rfl 1 rfl ?_
      refine vv_callV X (mX2_nextToken (kL K) D g (ck1 (I 1) e x P) (va_up (va_up I 11 P) 13 S) J hg e hx.1) q3042 q3044 qs61 q144 q3045 nX2_nextToken ⟨(Nat.le_of_ble_eq_true rfl), (Nat.le_of_ble_eq_true rfl)⟩ dX2_readClock_43 rfl (Nat.le_of_ble_eq_true rfl) (recv X hM.1 CL_X2) hM  (fun _ z => Or.inl z) ⟨(Nat.le_of_ble_eq_true rfl), (Nat.le_of_ble_eq_true rfl)⟩ (fun v_ H hq hz hk => ?_)
      obtain ⟨rfl, hM⟩ := hq
      replace hK := hK.keep hka hk
      clear hz hk
      replace hM : MR D g (nxt (I 1) e (ck1 (I 1) e x P)) (va_up (va_up I 11 P) 13 S) J H := hM
      replace hx : PY e (nxt (I 1) e (ck1 (I 1) e x P)) := PY_nxt hx
      have jn' := jn_1
      rw [ej1] at jn'
      refine vv_sub [1, 0] rfl ?_
      exact jn' H (by unfold ck2; rw [bgn_n (fun z => by rw [ec] at z; exact Int32.not_lt.mpr c_34 z.2)]; exact hM) hK
    · refine vv_aload_n X dX2_readClock_37 rfl 1 rfl ?_
      refine vv_iconst (v := nI 3) X dX2_readClock_38 (by decide) ?_
      refine vv_callV X (mX2_faults (kL K) D g (ck1 (I 1) e x P) (va_up (va_up I 11 P) 13 S) J hg 3) q3082 q3084 qs67 q144 q3085 nX2_faults ⟨(Nat.le_of_ble_eq_true rfl), (Nat.le_of_ble_eq_true rfl)⟩ dX2_readClock_39 rfl (Nat.le_of_ble_eq_true rfl) (recv X hM.1 CL_X2) hM  (fun _ z => Or.inl z) ⟨(Nat.le_of_ble_eq_true rfl), (Nat.le_of_ble_eq_true rfl)⟩ (fun v_ H hq hz hk => ?_)
      obtain ⟨rfl, hM⟩ := hq
      replace hK := hK.keep hka hk
      clear hz hk
      replace hM : MR D g (fau 3 (ck1 (I 1) e x P)) (va_up (va_up I 11 P) 13 S) J H := hM
      replace hx : PY e (fau 3 (ck1 (I 1) e x P)) := PY_fau hx (by decide)
      refine vv_aload_n X dX2_readClock_42 rfl 1 rfl ?_
      refine vv_callV X (mX2_nextToken (kL K) D g (fau 3 (ck1 (I 1) e x P)) (va_up (va_up I 11 P) 13 S) J hg e hx.1) q3042 q3044 qs61 q144 q3045 nX2_nextToken ⟨(Nat.le_of_ble_eq_true rfl), (Nat.le_of_ble_eq_true rfl)⟩ dX2_readClock_43 rfl (Nat.le_of_ble_eq_true rfl) (recv X hM.1 CL_X2) hM  (fun _ z => Or.inl z) ⟨(Nat.le_of_ble_eq_true rfl), (Nat.le_of_ble_eq_true rfl)⟩ (fun v_ H hq hz hk => ?_)
      obtain ⟨rfl, hM⟩ := hq
      replace hK := hK.keep hka hk
      clear hz hk
      replace hM : MR D g (nxt (I 1) e (fau 3 (ck1 (I 1) e x P))) (va_up (va_up I 11 P) 13 S) J H := hM
      replace hx : PY e (nxt (I 1) e (fau 3 (ck1 (I 1) e x P))) := PY_nxt hx
      have jn' := jn_1
      rw [ej1] at jn'
      refine vv_sub [1, 0] rfl ?_
      exact jn' H (by unfold ck2; rw [bgn_y ⟨c_22, by rw [ec]; exact Int32.not_le.mp c_34⟩]; exact hM) hK
theorem nX2_readOff : notMH yX2_readOff 0 := by decide +kernel
set_option maxHeartbeats 800000 in
theorem mX2_readOff (l : Launch) (D : DD) (g : Nat → Nat) (x : Nat → Int32) (I : Nat → Nat → Int32) (J : Nat → Nat → Int64) (P S : Nat → Int32) (e : Nat) (hg : MG g) (hka : KA D (MA g)) (hP : VP P) (hx : PY e x) : Ct l yX2_readOff cX2_readOff 2 none { frames := 3, cells := 0, slots := 0, locals := 56 } D [.ref (g 0)] (fun H => MR D g x (va_up (va_up I 11 P) 13 S) J H ∧ KH D H) (MA g) (fun v H H1 => v = none ∧ MR D g (ofX (I 1) e x P S) (va_up (va_up I 11 (P)) 13 (ofS (I 1) e x P S)) J H1) := by
  refine Ct.of (by decide +kernel) (Nat.le_of_ble_eq_true rfl) (fun K Qf hkl X hM hQ => ?_)
  subst hkl
  obtain ⟨hM, hK⟩ := hM
  have l5 := hP.l5
  refine vv_sub (lv' := [(0, .ref (g 0))]) [0] rfl ?_
  refine vv_aload_n X dX2_readOff_0 rfl 0 rfl ?_
  refine vv_callV X (mX2_nextToken (kL K) D g x (va_up (va_up I 11 P) 13 S) J hg e hx.1) q3042 q3044 qs61 q144 q3045 nX2_nextToken ⟨(Nat.le_of_ble_eq_true rfl), (Nat.le_of_ble_eq_true rfl)⟩ dX2_readOff_1 rfl (Nat.le_of_ble_eq_true rfl) (recv X hM.1 CL_X2) hM  (fun _ z => Or.inl z) ⟨(Nat.le_of_ble_eq_true rfl), (Nat.le_of_ble_eq_true rfl)⟩ (fun v_ H hq hz hk => ?_)
  obtain ⟨rfl, hM⟩ := hq
  replace hK := hK.keep hka hk
  clear hz hk
  replace hM : MR D g (ck0 (I 1) e x) (va_up (va_up I 11 P) 13 S) J H := hM
  replace hx : PY e (ck0 (I 1) e x) := PY_nxt hx
  refine vv_aload_n X dX2_readOff_4 rfl 0 rfl ?_
  refine vv_iconst (v := nI 0) X dX2_readOff_5 (by decide) ?_
  refine vv_aload_n X dX2_readOff_6 rfl 0 rfl ?_
  refine mg11 X rfl hM dX2_readOff_7 ?_
  refine vv_iconst (v := nI 5) X dX2_readOff_10 (by decide) ?_
  refine vv_iald X hM.a11 (5) (by omega) (by decide) rfl dX2_readOff_11 ?_
  refine vv_eqi hP.e5 ?_
  refine vv_iconst (v := nI 1) X dX2_readOff_12 (by decide) ?_
  refine vv_isub X dX2_readOff_13 ?_
  refine vv_callV X (mX2_look (kL K) D g (ck0 (I 1) e x) (va_up (va_up I 11 P) 13 S) J hg e (nI 0) ((nI (nS P)) - (nI 1)) hx.1) q3095 q3097 qs70 q144 q3098 nX2_look ⟨(Nat.le_of_ble_eq_true rfl), (Nat.le_of_ble_eq_true rfl)⟩ dX2_readOff_14 rfl (Nat.le_of_ble_eq_true rfl) (recv X hM.1 CL_X2) hM  (fun _ z => Or.inl z) ⟨(Nat.le_of_ble_eq_true rfl), (Nat.le_of_ble_eq_true rfl)⟩ (fun v_ H hq hz hk => ?_)
  obtain ⟨rfl, hM⟩ := hq
  replace hK := hK.keep hka hk
  clear hz hk
  replace hM : MR D g (of1 (I 1) e x P) (va_up (va_up I 11 P) 13 S) J H := hM
  replace hx : PY e (of1 (I 1) e x P) := PY_lok hx
  refine vv_istore_n (lv' := [(1, .int (lov (nI 0) ((nI (nS P)) - (nI 1)) (ck0 (I 1) e x))), (0, .ref (g 0))]) X dX2_readOff_17 rfl (by decide) rfl ?_
  have hx1 := hx
  have jn_1 : ∀ (H : Heap), MR D g (ofX (I 1) e x P S) (va_up (va_up I 11 P) 13 S) J H → KH D H → V K 2 (MA g) H 0 0 Qf 46 [(0, .ref (g 0)), (1, .int (ofv (I 1) e x P))] [] := by
    intro H hM hK
    replace hx : PY e (ofX (I 1) e x P S) := PY_bgn hx (by decide)
    refine vv_aload_n X dX2_readOff_46 rfl 0 rfl ?_
    refine mg5 X rfl hM dX2_readOff_47 ?_
    refine vv_if_ne (tgt := 63) X dX2_readOff_50 (by decide) (fun c_50 => ?_) (fun c_50 => ?_)
    · exact vv_vret X hQ dX2_readOff_63 (Nat.le_refl _) (Nat.le_refl _) (⟨rfl, by unfold ofS; rw [if_neg (show ¬ _ = nI 0 from c_50)]; exact hM⟩)
    · obtain ⟨j, hj, ej⟩ : ∃ j, j < nS P ∧ ofv (I 1) e x P = nI j := lov_nat (by omega) (bgn_50 (x := of1 (I 1) e x P) (by decide) c_50).2
      have ec : cl (ofv (I 1) e x P) = j := by rw [ej]; exact cl_I (by omega)
      rw [ej]
      refine vv_aload_n X dX2_readOff_53 rfl 0 rfl ?_
      refine mg13 X rfl hM dX2_readOff_54 ?_
      refine vv_bipush (v := nI 25) X dX2_readOff_57 (by decide) ?_
      refine vv_iload_n X dX2_readOff_59 rfl 1 rfl ?_
      refine vn_add X dX2_readOff_60 ?_
      refine vv_iconst (v := nI 0) X dX2_readOff_61 (by decide) ?_
      refine mk13 X hM hK hka hg (25 + j) (by omega) rfl (Or.inl (MA.in (by decide))) dX2_readOff_62 (fun H hM hK => ?_)
      rw [up_up] at hM
      replace hM : MR D g (ofX (I 1) e x P S) (va_up (va_up I 11 P) 13 (va_up S (25 + j) (nI 0))) J H := hM
      exact vv_vret X hQ dX2_readOff_63 (Nat.le_refl _) (Nat.le_refl _) (⟨rfl, by unfold ofS; rw [if_pos (show _ = nI 0 from c_50), ec]; exact hM⟩)
  refine vv_aload_n X dX2_readOff_18 rfl 1 rfl ?_
  refine mg5 X rfl hM dX2_readOff_19 ?_
  refine vv_if_ne (tgt := 42) X dX2_readOff_22 (by decide) (fun c_22 => ?_) (fun c_22 => ?_)
  · refine vv_aload_n X dX2_readOff_42 rfl 1 rfl ?_
    refine vv_callV X (mX2_nextToken (kL K) D g (of1 (I 1) e x P) (va_up (va_up I 11 P) 13 S) J hg e hx.1) q3042 q3044 qs61 q144 q3045 nX2_nextToken ⟨(Nat.le_of_ble_eq_true rfl), (Nat.le_of_ble_eq_true rfl)⟩ dX2_readOff_43 rfl (Nat.le_of_ble_eq_true rfl) (recv X hM.1 CL_X2) hM  (fun _ z => Or.inl z) ⟨(Nat.le_of_ble_eq_true rfl), (Nat.le_of_ble_eq_true rfl)⟩ (fun v_ H hq hz hk => ?_)
    obtain ⟨rfl, hM⟩ := hq
    replace hK := hK.keep hka hk
    clear hz hk
    replace hM : MR D g (nxt (I 1) e (of1 (I 1) e x P)) (va_up (va_up I 11 P) 13 S) J H := hM
    replace hx : PY e (nxt (I 1) e (of1 (I 1) e x P)) := PY_nxt hx
    refine vv_sub [1, 0] rfl ?_
    exact jn_1 H (by unfold ofX; rw [bgn_n (fun z => c_22 z.1)]; exact hM) hK
  · obtain ⟨j, hj, ej⟩ : ∃ j, j < nS P ∧ lov (nI 0) ((nI (nS P)) - (nI 1)) (ck0 (I 1) e x) = nI j := lov_nat (by omega) c_22
    have ej1 : ofv (I 1) e x P = nI j := ej
    have ec : cl (ofv (I 1) e x P) = j := by rw [ej1]; exact cl_I (by omega)
    rw [ej]
    refine vv_aload_n X dX2_readOff_25 rfl 1 rfl ?_
    refine mg13 X rfl hM dX2_readOff_26 ?_
    refine vv_bipush (v := nI 25) X dX2_readOff_29 (by decide) ?_
    refine vv_iload_n X dX2_readOff_31 rfl 0 rfl ?_
    refine vn_add X dX2_readOff_32 ?_
    refine vv_iald X hM.a13 (25 + j) (by omega) (by decide) rfl dX2_readOff_33 ?_
    refine vv_if_ne (tgt := 42) X dX2_readOff_34 (by decide) (fun c_34 => ?_) (fun c_34 => ?_)
    · refine vv_aload_n X dX2_readOff_42 rfl 1 rfl ?_
      refine vv_callV X (mX2_nextToken (kL K) D g (of1 (I 1) e x P) (va_up (va_up I 11 P) 13 S) J hg e hx.1) q3042 q3044 qs61 q144 q3045 nX2_nextToken ⟨(Nat.le_of_ble_eq_true rfl), (Nat.le_of_ble_eq_true rfl)⟩ dX2_readOff_43 rfl (Nat.le_of_ble_eq_true rfl) (recv X hM.1 CL_X2) hM  (fun _ z => Or.inl z) ⟨(Nat.le_of_ble_eq_true rfl), (Nat.le_of_ble_eq_true rfl)⟩ (fun v_ H hq hz hk => ?_)
      obtain ⟨rfl, hM⟩ := hq
      replace hK := hK.keep hka hk
      clear hz hk
      replace hM : MR D g (nxt (I 1) e (of1 (I 1) e x P)) (va_up (va_up I 11 P) 13 S) J H := hM
      replace hx : PY e (nxt (I 1) e (of1 (I 1) e x P)) := PY_nxt hx
      have jn' := jn_1
      rw [ej1] at jn'
      refine vv_sub [1, 0] rfl ?_
      exact jn' H (by unfold ofX; rw [bgn_n (fun z => c_34 (by rw [ec] at z; exact z.2))]; exact hM) hK
    · refine vv_aload_n X dX2_readOff_37 rfl 1 rfl ?_
      refine vv_iconst (v := nI 3) X dX2_readOff_38 (by decide) ?_
      refine vv_callV X (mX2_faults (kL K) D g (of1 (I 1) e x P) (va_up (va_up I 11 P) 13 S) J hg 3) q3082 q3084 qs67 q144 q3085 nX2_faults ⟨(Nat.le_of_ble_eq_true rfl), (Nat.le_of_ble_eq_true rfl)⟩ dX2_readOff_39 rfl (Nat.le_of_ble_eq_true rfl) (recv X hM.1 CL_X2) hM  (fun _ z => Or.inl z) ⟨(Nat.le_of_ble_eq_true rfl), (Nat.le_of_ble_eq_true rfl)⟩ (fun v_ H hq hz hk => ?_)
      obtain ⟨rfl, hM⟩ := hq
      replace hK := hK.keep hka hk
      clear hz hk
      replace hM : MR D g (fau 3 (of1 (I 1) e x P)) (va_up (va_up I 11 P) 13 S) J H := hM
      replace hx : PY e (fau 3 (of1 (I 1) e x P)) := PY_fau hx (by decide)
      refine vv_aload_n X dX2_readOff_42 rfl 1 rfl ?_
      refine vv_callV X (mX2_nextToken (kL K) D g (fau 3 (of1 (I 1) e x P)) (va_up (va_up I 11 P) 13 S) J hg e hx.1) q3042 q3044 qs61 q144 q3045 nX2_nextToken ⟨(Nat.le_of_ble_eq_true rfl), (Nat.le_of_ble_eq_true rfl)⟩ dX2_readOff_43 rfl (Nat.le_of_ble_eq_true rfl) (recv X hM.1 CL_X2) hM  (fun _ z => Or.inl z) ⟨(Nat.le_of_ble_eq_true rfl), (Nat.le_of_ble_eq_true rfl)⟩ (fun v_ H hq hz hk => ?_)
      obtain ⟨rfl, hM⟩ := hq
      replace hK := hK.keep hka hk
      clear hz hk
      replace hM : MR D g (nxt (I 1) e (fau 3 (of1 (I 1) e x P))) (va_up (va_up I 11 P) 13 S) J H := hM
      replace hx : PY e (nxt (I 1) e (fau 3 (of1 (I 1) e x P))) := PY_nxt hx
      have jn' := jn_1
      rw [ej1] at jn'
      refine vv_sub [1, 0] rfl ?_
      exact jn' H (by unfold ofX; rw [bgn_y ⟨c_22, by rw [ec]; exact c_34⟩]; exact hM) hK
theorem nX2_readSource : notMH yX2_readSource 0 := by decide +kernel
set_option maxHeartbeats 800000 in
theorem mX2_readSource (l : Launch) (D : DD) (g : Nat → Nat) (x : Nat → Int32) (I : Nat → Nat → Int32) (J : Nat → Nat → Int64) (P S : Nat → Int32) (e : Nat) (hg : MG g) (hka : KA D (MA g)) (hP : VP P) (hx : PY e x) : Ct l yX2_readSource cX2_readSource 11 none { frames := 7, cells := 0, slots := 0, locals := 141 } D [.ref (g 0)] (fun H => MR D g x (va_up (va_up I 11 P) 13 S) J H ∧ KH D H) (MA g) (fun v H H1 => v = none ∧ MR D g (soX (I 1) e x P) (va_up (va_up I 11 (soP (I 1) e x P)) 13 (soS (I 1) e x P S)) J H1) := by
  refine Ct.of (by decide +kernel) (Nat.le_of_ble_eq_true rfl) (fun K Qf hkl X hM hQ => ?_)
  subst hkl
  obtain ⟨hM, hK⟩ := hM
  have hx0 := hx
  have l5 := hP.l5
  refine vv_sub (lv' := [(0, .ref (g 0))]) [0] rfl ?_
  refine vv_aload_n X dX2_readSource_0 rfl 0 rfl ?_
  refine mg11 X rfl hM dX2_readSource_1 ?_
  refine vv_iconst (v := nI 5) X dX2_readSource_4 (by decide) ?_
  refine vv_iald X hM.a11 (5) (by omega) (by decide) rfl dX2_readSource_5 ?_
  refine vv_eqi hP.e5 ?_
  refine vv_istore_n (lv' := [(1, .int (nI (nS P))), (0, .ref (g 0))]) X dX2_readSource_6 rfl (by decide) rfl ?_
  have jn_1 : ∀ (H : Heap), MR D g (so0 (I 1) e x P) (va_up (va_up I 11 P) 13 S) J H → KH D H → V K 11 (MA g) H 0 0 Qf 22 [(0, .ref (g 0)), (1, .int (nI (nS P)))] [] := by
    intro H hM hK
    replace hx : PY e (so0 (I 1) e x P) := PY_bgn hx (by decide)
    refine vv_aload_n X dX2_readSource_22 rfl 0 rfl ?_
    have jn_2 : ∀ (H : Heap), MR D g (so0 (I 1) e x P) (va_up (va_up I 11 P) 13 S) J H → KH D H → V K 11 (MA g) H 0 0 Qf 76 [(0, .ref (g 0)), (1, .int (nI (nS P))), (2, .int (ski (I 1) (so0 (I 1) e x P)))] [] := by
      intro H hM hK
      refine vv_iload_n X dX2_readSource_76 rfl 2 rfl ?_
      have jn_3 : ∀ (H : Heap), MR D g (so1 (I 1) e x P) (va_up (va_up I 11 P) 13 S) J H → KH D H → V K 11 (MA g) H 0 0 Qf 90 [(0, .ref (g 0)), (1, .int (nI (nS P))), (2, .int (ski (I 1) (so0 (I 1) e x P)))] [] := by
        intro H hM hK
        replace hx : PY e (so1 (I 1) e x P) := PY_bgn hx (by decide)
        refine vv_aload_n X dX2_readSource_90 rfl 0 rfl ?_
        refine vv_sipush (v := -2000) X dX2_readSource_91 (by decide) ?_
        refine vv_sipush (v := nI 2000) X dX2_readSource_94 (by decide) ?_
        refine vv_callV X (mX2_signed (kL K) D g (so1 (I 1) e x P) (va_up (va_up I 11 P) 13 S) J hg e (-2000) (nI 2000) hx.1) q3115 q3117 qs74 q144 q3118 nX2_signed ⟨(Nat.le_of_ble_eq_true rfl), (Nat.le_of_ble_eq_true rfl)⟩ dX2_readSource_97 rfl (Nat.le_of_ble_eq_true rfl) (recv X hM.1 CL_X2) hM  (fun _ z => Or.inl z) ⟨(Nat.le_of_ble_eq_true rfl), (Nat.le_of_ble_eq_true rfl)⟩ (fun v_ H hq hz hk => ?_)
        obtain ⟨rfl, hM⟩ := hq
        replace hK := hK.keep hka hk
        clear hz hk
        replace hM : MR D g (so2 (I 1) e x P) (va_up (va_up I 11 P) 13 S) J H := hM
        replace hx : PY e (so2 (I 1) e x P) := PY_sgd hx
        refine vv_istore_n (lv' := [(3, .int (sgv (I 1) e (-2000) (nI 2000) (so1 (I 1) e x P))), (0, .ref (g 0)), (1, .int (nI (nS P))), (2, .int (ski (I 1) (so0 (I 1) e x P)))]) X dX2_readSource_100 rfl (by decide) rfl ?_
        refine vv_aload_n X dX2_readSource_101 rfl 1 rfl ?_
        refine vv_sipush (v := -2000) X dX2_readSource_102 (by decide) ?_
        refine vv_sipush (v := nI 2000) X dX2_readSource_105 (by decide) ?_
        refine vv_callV X (mX2_signed (kL K) D g (so2 (I 1) e x P) (va_up (va_up I 11 P) 13 S) J hg e (-2000) (nI 2000) hx.1) q3115 q3117 qs74 q144 q3118 nX2_signed ⟨(Nat.le_of_ble_eq_true rfl), (Nat.le_of_ble_eq_true rfl)⟩ dX2_readSource_108 rfl (Nat.le_of_ble_eq_true rfl) (recv X hM.1 CL_X2) hM  (fun _ z => Or.inl z) ⟨(Nat.le_of_ble_eq_true rfl), (Nat.le_of_ble_eq_true rfl)⟩ (fun v_ H hq hz hk => ?_)
        obtain ⟨rfl, hM⟩ := hq
        replace hK := hK.keep hka hk
        clear hz hk
        replace hM : MR D g (so3 (I 1) e x P) (va_up (va_up I 11 P) 13 S) J H := hM
        replace hx : PY e (so3 (I 1) e x P) := PY_sgd hx
        refine vv_istore (lv' := [(4, .int (sgv (I 1) e (-2000) (nI 2000) (so2 (I 1) e x P))), (3, .int (sgv (I 1) e (-2000) (nI 2000) (so1 (I 1) e x P))), (0, .ref (g 0)), (1, .int (nI (nS P))), (2, .int (ski (I 1) (so0 (I 1) e x P)))]) X dX2_readSource_111 (by decide) rfl ?_
        refine vv_aload_n X dX2_readSource_113 rfl 2 rfl ?_
        refine vv_sipush (v := -999) X dX2_readSource_114 (by decide) ?_
        refine vv_sipush (v := nI 999) X dX2_readSource_117 (by decide) ?_
        refine vv_callV X (mX2_signed (kL K) D g (so3 (I 1) e x P) (va_up (va_up I 11 P) 13 S) J hg e (-999) (nI 999) hx.1) q3115 q3117 qs74 q144 q3118 nX2_signed ⟨(Nat.le_of_ble_eq_true rfl), (Nat.le_of_ble_eq_true rfl)⟩ dX2_readSource_120 rfl (Nat.le_of_ble_eq_true rfl) (recv X hM.1 CL_X2) hM  (fun _ z => Or.inl z) ⟨(Nat.le_of_ble_eq_true rfl), (Nat.le_of_ble_eq_true rfl)⟩ (fun v_ H hq hz hk => ?_)
        obtain ⟨rfl, hM⟩ := hq
        replace hK := hK.keep hka hk
        clear hz hk
        replace hM : MR D g (so4 (I 1) e x P) (va_up (va_up I 11 P) 13 S) J H := hM
        replace hx : PY e (so4 (I 1) e x P) := PY_sgd hx
        refine vv_istore (lv' := [(5, .int (sgv (I 1) e (-999) (nI 999) (so3 (I 1) e x P))), (4, .int (sgv (I 1) e (-2000) (nI 2000) (so2 (I 1) e x P))), (3, .int (sgv (I 1) e (-2000) (nI 2000) (so1 (I 1) e x P))), (0, .ref (g 0)), (1, .int (nI (nS P))), (2, .int (ski (I 1) (so0 (I 1) e x P)))]) X dX2_readSource_123 (by decide) rfl ?_
        refine vv_aload_n X dX2_readSource_125 rfl 3 rfl ?_
        refine vv_sipush (v := -999) X dX2_readSource_126 (by decide) ?_
        refine vv_sipush (v := nI 999) X dX2_readSource_129 (by decide) ?_
        refine vv_callV X (mX2_signed (kL K) D g (so4 (I 1) e x P) (va_up (va_up I 11 P) 13 S) J hg e (-999) (nI 999) hx.1) q3115 q3117 qs74 q144 q3118 nX2_signed ⟨(Nat.le_of_ble_eq_true rfl), (Nat.le_of_ble_eq_true rfl)⟩ dX2_readSource_132 rfl (Nat.le_of_ble_eq_true rfl) (recv X hM.1 CL_X2) hM  (fun _ z => Or.inl z) ⟨(Nat.le_of_ble_eq_true rfl), (Nat.le_of_ble_eq_true rfl)⟩ (fun v_ H hq hz hk => ?_)
        obtain ⟨rfl, hM⟩ := hq
        replace hK := hK.keep hka hk
        clear hz hk
        replace hM : MR D g (so5 (I 1) e x P) (va_up (va_up I 11 P) 13 S) J H := hM
        replace hx : PY e (so5 (I 1) e x P) := PY_sgd hx
        refine vv_istore (lv' := [(6, .int (sgv (I 1) e (-999) (nI 999) (so4 (I 1) e x P))), (5, .int (sgv (I 1) e (-999) (nI 999) (so3 (I 1) e x P))), (4, .int (sgv (I 1) e (-2000) (nI 2000) (so2 (I 1) e x P))), (3, .int (sgv (I 1) e (-2000) (nI 2000) (so1 (I 1) e x P))), (0, .ref (g 0)), (1, .int (nI (nS P))), (2, .int (ski (I 1) (so0 (I 1) e x P)))]) X dX2_readSource_135 (by decide) rfl ?_
        refine vv_aload_n X dX2_readSource_137 rfl 4 rfl ?_
        refine vv_iconst (v := nI 1) X dX2_readSource_138 (by decide) ?_
        refine vv_sipush (v := nI 999) X dX2_readSource_139 (by decide) ?_
        refine vv_callV X (mX2_number (kL K) D g (so5 (I 1) e x P) (va_up (va_up I 11 P) 13 S) J hg e (nI 1) (nI 999) hx.1) q3091 q3093 qs69 q144 q3094 nX2_number ⟨(Nat.le_of_ble_eq_true rfl), (Nat.le_of_ble_eq_true rfl)⟩ dX2_readSource_142 rfl (Nat.le_of_ble_eq_true rfl) (recv X hM.1 CL_X2) hM  (fun _ z => Or.inl z) ⟨(Nat.le_of_ble_eq_true rfl), (Nat.le_of_ble_eq_true rfl)⟩ (fun v_ H hq hz hk => ?_)
        obtain ⟨rfl, hM⟩ := hq
        replace hK := hK.keep hka hk
        clear hz hk
        replace hM : MR D g (so6 (I 1) e x P) (va_up (va_up I 11 P) 13 S) J H := hM
        replace hx : PY e (so6 (I 1) e x P) := PY_num hx
        refine vv_istore (lv' := [(7, .int (lov (nI 1) (nI 999) (so5 (I 1) e x P))), (6, .int (sgv (I 1) e (-999) (nI 999) (so4 (I 1) e x P))), (5, .int (sgv (I 1) e (-999) (nI 999) (so3 (I 1) e x P))), (4, .int (sgv (I 1) e (-2000) (nI 2000) (so2 (I 1) e x P))), (3, .int (sgv (I 1) e (-2000) (nI 2000) (so1 (I 1) e x P))), (0, .ref (g 0)), (1, .int (nI (nS P))), (2, .int (ski (I 1) (so0 (I 1) e x P)))]) X dX2_readSource_145 (by decide) rfl ?_
        refine vv_aload_n X dX2_readSource_147 rfl 5 rfl ?_
        refine vv_iconst (v := nI 2) X dX2_readSource_148 (by decide) ?_
        refine vv_bipush (v := nI 99) X dX2_readSource_149 (by decide) ?_
        refine vv_callV X (mX2_number (kL K) D g (so6 (I 1) e x P) (va_up (va_up I 11 P) 13 S) J hg e (nI 2) (nI 99) hx.1) q3091 q3093 qs69 q144 q3094 nX2_number ⟨(Nat.le_of_ble_eq_true rfl), (Nat.le_of_ble_eq_true rfl)⟩ dX2_readSource_151 rfl (Nat.le_of_ble_eq_true rfl) (recv X hM.1 CL_X2) hM  (fun _ z => Or.inl z) ⟨(Nat.le_of_ble_eq_true rfl), (Nat.le_of_ble_eq_true rfl)⟩ (fun v_ H hq hz hk => ?_)
        obtain ⟨rfl, hM⟩ := hq
        replace hK := hK.keep hka hk
        clear hz hk
        replace hM : MR D g (so7 (I 1) e x P) (va_up (va_up I 11 P) 13 S) J H := hM
        replace hx : PY e (so7 (I 1) e x P) := PY_num hx
        refine vv_istore (lv' := [(8, .int (lov (nI 2) (nI 99) (so6 (I 1) e x P))), (7, .int (lov (nI 1) (nI 999) (so5 (I 1) e x P))), (6, .int (sgv (I 1) e (-999) (nI 999) (so4 (I 1) e x P))), (5, .int (sgv (I 1) e (-999) (nI 999) (so3 (I 1) e x P))), (4, .int (sgv (I 1) e (-2000) (nI 2000) (so2 (I 1) e x P))), (3, .int (sgv (I 1) e (-2000) (nI 2000) (so1 (I 1) e x P))), (0, .ref (g 0)), (1, .int (nI (nS P))), (2, .int (ski (I 1) (so0 (I 1) e x P)))]) X dX2_readSource_154 (by decide) rfl ?_
        refine vv_aload_n X dX2_readSource_156 rfl 6 rfl ?_
        refine vv_iconst (v := nI 0) X dX2_readSource_157 (by decide) ?_
        refine vv_bipush (v := nI 99) X dX2_readSource_158 (by decide) ?_
        refine vv_callV X (mX2_number (kL K) D g (so7 (I 1) e x P) (va_up (va_up I 11 P) 13 S) J hg e (nI 0) (nI 99) hx.1) q3091 q3093 qs69 q144 q3094 nX2_number ⟨(Nat.le_of_ble_eq_true rfl), (Nat.le_of_ble_eq_true rfl)⟩ dX2_readSource_160 rfl (Nat.le_of_ble_eq_true rfl) (recv X hM.1 CL_X2) hM  (fun _ z => Or.inl z) ⟨(Nat.le_of_ble_eq_true rfl), (Nat.le_of_ble_eq_true rfl)⟩ (fun v_ H hq hz hk => ?_)
        obtain ⟨rfl, hM⟩ := hq
        replace hK := hK.keep hka hk
        clear hz hk
        replace hM : MR D g (so8 (I 1) e x P) (va_up (va_up I 11 P) 13 S) J H := hM
        replace hx : PY e (so8 (I 1) e x P) := PY_num hx
        refine vv_istore (lv' := [(9, .int (lov (nI 0) (nI 99) (so7 (I 1) e x P))), (8, .int (lov (nI 2) (nI 99) (so6 (I 1) e x P))), (7, .int (lov (nI 1) (nI 999) (so5 (I 1) e x P))), (6, .int (sgv (I 1) e (-999) (nI 999) (so4 (I 1) e x P))), (5, .int (sgv (I 1) e (-999) (nI 999) (so3 (I 1) e x P))), (4, .int (sgv (I 1) e (-2000) (nI 2000) (so2 (I 1) e x P))), (3, .int (sgv (I 1) e (-2000) (nI 2000) (so1 (I 1) e x P))), (0, .ref (g 0)), (1, .int (nI (nS P))), (2, .int (ski (I 1) (so0 (I 1) e x P)))]) X dX2_readSource_163 (by decide) rfl ?_
        refine vv_aload_n X dX2_readSource_165 rfl 7 rfl ?_
        have jn_4 : ∀ (H : Heap), MR D g (soX (I 1) e x P) (va_up (va_up I 11 P) 13 S) J H → KH D H → V K 11 (MA g) H 0 0 Qf 188 [(0, .ref (g 0)), (1, .int (nI (nS P))), (2, .int (ski (I 1) (so0 (I 1) e x P))), (3, .int (sgv (I 1) e (-2000) (nI 2000) (so1 (I 1) e x P))), (4, .int (sgv (I 1) e (-2000) (nI 2000) (so2 (I 1) e x P))), (5, .int (sgv (I 1) e (-999) (nI 999) (so3 (I 1) e x P))), (6, .int (sgv (I 1) e (-999) (nI 999) (so4 (I 1) e x P))), (7, .int (lov (nI 1) (nI 999) (so5 (I 1) e x P))), (8, .int (lov (nI 2) (nI 99) (so6 (I 1) e x P))), (9, .int (lov (nI 0) (nI 99) (so7 (I 1) e x P))), (10, .int (soF (I 1) e x P))] [] := by
          intro H hM hK
          replace hx : PY e (soX (I 1) e x P) := PY_soX hx0
          refine vv_aload_n X dX2_readSource_188 rfl 0 rfl ?_
          refine mg5 X rfl hM dX2_readSource_189 ?_
          refine vv_if_le (tgt := 196) X dX2_readSource_192 (by decide) (fun c_192 => ?_) (fun c_192 => ?_)
          · refine vv_aload_n X dX2_readSource_196 rfl 0 rfl ?_
            refine mg11 X rfl hM dX2_readSource_197 ?_
            refine vv_bipush (v := nI 95) X dX2_readSource_200 (by decide) ?_
            refine vv_iload_n X dX2_readSource_202 rfl 1 rfl ?_
            refine vn_add X dX2_readSource_203 ?_
            refine vv_iload X dX2_readSource_204 10 rfl ?_
            refine mk11 X hM hK hka hg (95 + (nS P)) (by omega) rfl (Or.inl (MA.in (by decide))) dX2_readSource_206 (fun H hM hK => ?_)
            rw [up_sw (by decide)] at hM
            replace hM : MR D g (soX (I 1) e x P) (va_up (va_up I 11 (va_up P (95 + (nS P)) (soF (I 1) e x P))) 13 S) J H := hM
            refine vv_aload_n X dX2_readSource_207 rfl 0 rfl ?_
            refine mg13 X rfl hM dX2_readSource_208 ?_
            refine vv_bipush (v := nI 25) X dX2_readSource_211 (by decide) ?_
            refine vv_iload_n X dX2_readSource_213 rfl 1 rfl ?_
            refine vn_add X dX2_readSource_214 ?_
            refine vv_iconst (v := nI 1) X dX2_readSource_215 (by decide) ?_
            refine mk13 X hM hK hka hg (25 + (nS P)) (by omega) rfl (Or.inl (MA.in (by decide))) dX2_readSource_216 (fun H hM hK => ?_)
            rw [up_up] at hM
            replace hM : MR D g (soX (I 1) e x P) (va_up (va_up I 11 (va_up P (95 + (nS P)) (soF (I 1) e x P))) 13 (va_up S (25 + (nS P)) (nI 1))) J H := hM
            refine vv_aload_n X dX2_readSource_217 rfl 0 rfl ?_
            refine mg13 X rfl hM dX2_readSource_218 ?_
            refine vv_bipush (v := nI 31) X dX2_readSource_221 (by decide) ?_
            refine vv_iload_n X dX2_readSource_223 rfl 1 rfl ?_
            refine vn_add X dX2_readSource_224 ?_
            refine vv_iload_n X dX2_readSource_225 rfl 3 rfl ?_
            refine mk13 X hM hK hka hg (31 + (nS P)) (by omega) rfl (Or.inl (MA.in (by decide))) dX2_readSource_226 (fun H hM hK => ?_)
            rw [up_up] at hM
            replace hM : MR D g (soX (I 1) e x P) (va_up (va_up I 11 (va_up P (95 + (nS P)) (soF (I 1) e x P))) 13 (va_up (va_up S (25 + (nS P)) (nI 1)) (31 + (nS P)) (sgv (I 1) e (-2000) (nI 2000) (so1 (I 1) e x P)))) J H := hM
            refine vv_aload_n X dX2_readSource_227 rfl 0 rfl ?_
            refine mg13 X rfl hM dX2_readSource_228 ?_
            refine vv_bipush (v := nI 37) X dX2_readSource_231 (by decide) ?_
            refine vv_iload_n X dX2_readSource_233 rfl 1 rfl ?_
            refine vn_add X dX2_readSource_234 ?_
            refine vv_iload X dX2_readSource_235 4 rfl ?_
            refine mk13 X hM hK hka hg (37 + (nS P)) (by omega) rfl (Or.inl (MA.in (by decide))) dX2_readSource_237 (fun H hM hK => ?_)
            rw [up_up] at hM
            replace hM : MR D g (soX (I 1) e x P) (va_up (va_up I 11 (va_up P (95 + (nS P)) (soF (I 1) e x P))) 13 (va_up (va_up (va_up S (25 + (nS P)) (nI 1)) (31 + (nS P)) (sgv (I 1) e (-2000) (nI 2000) (so1 (I 1) e x P))) (37 + (nS P)) (sgv (I 1) e (-2000) (nI 2000) (so2 (I 1) e x P)))) J H := hM
            refine vv_aload_n X dX2_readSource_238 rfl 0 rfl ?_
            refine mg13 X rfl hM dX2_readSource_239 ?_
            refine vv_bipush (v := nI 43) X dX2_readSource_242 (by decide) ?_
            refine vv_iload_n X dX2_readSource_244 rfl 1 rfl ?_
            refine vn_add X dX2_readSource_245 ?_
            refine vv_iload X dX2_readSource_246 5 rfl ?_
            refine mk13 X hM hK hka hg (43 + (nS P)) (by omega) rfl (Or.inl (MA.in (by decide))) dX2_readSource_248 (fun H hM hK => ?_)
            rw [up_up] at hM
            replace hM : MR D g (soX (I 1) e x P) (va_up (va_up I 11 (va_up P (95 + (nS P)) (soF (I 1) e x P))) 13 (va_up (va_up (va_up (va_up S (25 + (nS P)) (nI 1)) (31 + (nS P)) (sgv (I 1) e (-2000) (nI 2000) (so1 (I 1) e x P))) (37 + (nS P)) (sgv (I 1) e (-2000) (nI 2000) (so2 (I 1) e x P))) (43 + (nS P)) (sgv (I 1) e (-999) (nI 999) (so3 (I 1) e x P)))) J H := hM
            refine vv_aload_n X dX2_readSource_249 rfl 0 rfl ?_
            refine mg13 X rfl hM dX2_readSource_250 ?_
            refine vv_bipush (v := nI 49) X dX2_readSource_253 (by decide) ?_
            refine vv_iload_n X dX2_readSource_255 rfl 1 rfl ?_
            refine vn_add X dX2_readSource_256 ?_
            refine vv_iload X dX2_readSource_257 6 rfl ?_
            refine mk13 X hM hK hka hg (49 + (nS P)) (by omega) rfl (Or.inl (MA.in (by decide))) dX2_readSource_259 (fun H hM hK => ?_)
            rw [up_up] at hM
            replace hM : MR D g (soX (I 1) e x P) (va_up (va_up I 11 (va_up P (95 + (nS P)) (soF (I 1) e x P))) 13 (va_up (va_up (va_up (va_up (va_up S (25 + (nS P)) (nI 1)) (31 + (nS P)) (sgv (I 1) e (-2000) (nI 2000) (so1 (I 1) e x P))) (37 + (nS P)) (sgv (I 1) e (-2000) (nI 2000) (so2 (I 1) e x P))) (43 + (nS P)) (sgv (I 1) e (-999) (nI 999) (so3 (I 1) e x P))) (49 + (nS P)) (sgv (I 1) e (-999) (nI 999) (so4 (I 1) e x P)))) J H := hM
            refine vv_aload_n X dX2_readSource_260 rfl 0 rfl ?_
            refine mg11 X rfl hM dX2_readSource_261 ?_
            refine vv_bipush (v := nI 47) X dX2_readSource_264 (by decide) ?_
            refine vv_iload_n X dX2_readSource_266 rfl 1 rfl ?_
            refine vn_add X dX2_readSource_267 ?_
            refine vv_iload_n X dX2_readSource_268 rfl 2 rfl ?_
            refine mk11 X hM hK hka hg (47 + (nS P)) (by omega) rfl (Or.inl (MA.in (by decide))) dX2_readSource_269 (fun H hM hK => ?_)
            rw [up_sw (by decide)] at hM
            replace hM : MR D g (soX (I 1) e x P) (va_up (va_up I 11 (va_up (va_up P (95 + (nS P)) (soF (I 1) e x P)) (47 + (nS P)) (ski (I 1) (so0 (I 1) e x P)))) 13 (va_up (va_up (va_up (va_up (va_up S (25 + (nS P)) (nI 1)) (31 + (nS P)) (sgv (I 1) e (-2000) (nI 2000) (so1 (I 1) e x P))) (37 + (nS P)) (sgv (I 1) e (-2000) (nI 2000) (so2 (I 1) e x P))) (43 + (nS P)) (sgv (I 1) e (-999) (nI 999) (so3 (I 1) e x P))) (49 + (nS P)) (sgv (I 1) e (-999) (nI 999) (so4 (I 1) e x P)))) J H := hM
            refine vv_aload_n X dX2_readSource_270 rfl 0 rfl ?_
            refine mg11 X rfl hM dX2_readSource_271 ?_
            refine vv_bipush (v := nI 53) X dX2_readSource_274 (by decide) ?_
            refine vv_iload_n X dX2_readSource_276 rfl 1 rfl ?_
            refine vn_add X dX2_readSource_277 ?_
            refine vv_iload X dX2_readSource_278 7 rfl ?_
            refine mk11 X hM hK hka hg (53 + (nS P)) (by omega) rfl (Or.inl (MA.in (by decide))) dX2_readSource_280 (fun H hM hK => ?_)
            rw [up_sw (by decide)] at hM
            replace hM : MR D g (soX (I 1) e x P) (va_up (va_up I 11 (va_up (va_up (va_up P (95 + (nS P)) (soF (I 1) e x P)) (47 + (nS P)) (ski (I 1) (so0 (I 1) e x P))) (53 + (nS P)) (lov (nI 1) (nI 999) (so5 (I 1) e x P)))) 13 (va_up (va_up (va_up (va_up (va_up S (25 + (nS P)) (nI 1)) (31 + (nS P)) (sgv (I 1) e (-2000) (nI 2000) (so1 (I 1) e x P))) (37 + (nS P)) (sgv (I 1) e (-2000) (nI 2000) (so2 (I 1) e x P))) (43 + (nS P)) (sgv (I 1) e (-999) (nI 999) (so3 (I 1) e x P))) (49 + (nS P)) (sgv (I 1) e (-999) (nI 999) (so4 (I 1) e x P)))) J H := hM
            refine vv_aload_n X dX2_readSource_281 rfl 0 rfl ?_
            refine mg11 X rfl hM dX2_readSource_282 ?_
            refine vv_bipush (v := nI 59) X dX2_readSource_285 (by decide) ?_
            refine vv_iload_n X dX2_readSource_287 rfl 1 rfl ?_
            refine vn_add X dX2_readSource_288 ?_
            refine vv_iload X dX2_readSource_289 8 rfl ?_
            refine mk11 X hM hK hka hg (59 + (nS P)) (by omega) rfl (Or.inl (MA.in (by decide))) dX2_readSource_291 (fun H hM hK => ?_)
            rw [up_sw (by decide)] at hM
            replace hM : MR D g (soX (I 1) e x P) (va_up (va_up I 11 (va_up (va_up (va_up (va_up P (95 + (nS P)) (soF (I 1) e x P)) (47 + (nS P)) (ski (I 1) (so0 (I 1) e x P))) (53 + (nS P)) (lov (nI 1) (nI 999) (so5 (I 1) e x P))) (59 + (nS P)) (lov (nI 2) (nI 99) (so6 (I 1) e x P)))) 13 (va_up (va_up (va_up (va_up (va_up S (25 + (nS P)) (nI 1)) (31 + (nS P)) (sgv (I 1) e (-2000) (nI 2000) (so1 (I 1) e x P))) (37 + (nS P)) (sgv (I 1) e (-2000) (nI 2000) (so2 (I 1) e x P))) (43 + (nS P)) (sgv (I 1) e (-999) (nI 999) (so3 (I 1) e x P))) (49 + (nS P)) (sgv (I 1) e (-999) (nI 999) (so4 (I 1) e x P)))) J H := hM
            refine vv_aload_n X dX2_readSource_292 rfl 0 rfl ?_
            refine mg11 X rfl hM dX2_readSource_293 ?_
            refine vv_bipush (v := nI 65) X dX2_readSource_296 (by decide) ?_
            refine vv_iload_n X dX2_readSource_298 rfl 1 rfl ?_
            refine vn_add X dX2_readSource_299 ?_
            refine vv_iload X dX2_readSource_300 9 rfl ?_
            refine mk11 X hM hK hka hg (65 + (nS P)) (by omega) rfl (Or.inl (MA.in (by decide))) dX2_readSource_302 (fun H hM hK => ?_)
            rw [up_sw (by decide)] at hM
            replace hM : MR D g (soX (I 1) e x P) (va_up (va_up I 11 (va_up (va_up (va_up (va_up (va_up P (95 + (nS P)) (soF (I 1) e x P)) (47 + (nS P)) (ski (I 1) (so0 (I 1) e x P))) (53 + (nS P)) (lov (nI 1) (nI 999) (so5 (I 1) e x P))) (59 + (nS P)) (lov (nI 2) (nI 99) (so6 (I 1) e x P))) (65 + (nS P)) (lov (nI 0) (nI 99) (so7 (I 1) e x P)))) 13 (va_up (va_up (va_up (va_up (va_up S (25 + (nS P)) (nI 1)) (31 + (nS P)) (sgv (I 1) e (-2000) (nI 2000) (so1 (I 1) e x P))) (37 + (nS P)) (sgv (I 1) e (-2000) (nI 2000) (so2 (I 1) e x P))) (43 + (nS P)) (sgv (I 1) e (-999) (nI 999) (so3 (I 1) e x P))) (49 + (nS P)) (sgv (I 1) e (-999) (nI 999) (so4 (I 1) e x P)))) J H := hM
            refine vv_aload_n X dX2_readSource_303 rfl 0 rfl ?_
            refine mg11 X rfl hM dX2_readSource_304 ?_
            refine vv_iconst (v := nI 5) X dX2_readSource_307 (by decide) ?_
            refine vv_dup2_11 X dX2_readSource_308 rfl rfl ?_
            refine vv_iald X hM.a11 (5) (by omega) (by decide) rfl dX2_readSource_309 ?_
            refine vv_eqi (show _ = nI (nS P) from (by show (va_up (va_up (va_up (va_up (va_up P (95 + (nS P)) (soF (I 1) e x P)) (47 + (nS P)) (ski (I 1) (so0 (I 1) e x P))) (53 + (nS P)) (lov (nI 1) (nI 999) (so5 (I 1) e x P))) (59 + (nS P)) (lov (nI 2) (nI 99) (so6 (I 1) e x P))) (65 + (nS P)) (lov (nI 0) (nI 99) (so7 (I 1) e x P))) 5 = _; rw [va_up_ne _ _ (show (5 : Nat) ≠ 65 + nS P by omega), va_up_ne _ _ (show (5 : Nat) ≠ 59 + nS P by omega), va_up_ne _ _ (show (5 : Nat) ≠ 53 + nS P by omega), va_up_ne _ _ (show (5 : Nat) ≠ 47 + nS P by omega), va_up_ne _ _ (show (5 : Nat) ≠ 95 + nS P by omega)]; exact hP.e5)) ?_
            refine vv_iconst (v := nI 1) X dX2_readSource_310 (by decide) ?_
            refine vn_add X dX2_readSource_311 ?_
            refine mk11 X hM hK hka hg (5) (by omega) rfl (Or.inl (MA.in (by decide))) dX2_readSource_312 (fun H hM hK => ?_)
            rw [up_sw (by decide)] at hM
            replace hM : MR D g (soX (I 1) e x P) (va_up (va_up I 11 (va_up (va_up (va_up (va_up (va_up (va_up P (95 + (nS P)) (soF (I 1) e x P)) (47 + (nS P)) (ski (I 1) (so0 (I 1) e x P))) (53 + (nS P)) (lov (nI 1) (nI 999) (so5 (I 1) e x P))) (59 + (nS P)) (lov (nI 2) (nI 99) (so6 (I 1) e x P))) (65 + (nS P)) (lov (nI 0) (nI 99) (so7 (I 1) e x P))) 5 (nI ((nS P) + 1)))) 13 (va_up (va_up (va_up (va_up (va_up S (25 + (nS P)) (nI 1)) (31 + (nS P)) (sgv (I 1) e (-2000) (nI 2000) (so1 (I 1) e x P))) (37 + (nS P)) (sgv (I 1) e (-2000) (nI 2000) (so2 (I 1) e x P))) (43 + (nS P)) (sgv (I 1) e (-999) (nI 999) (so3 (I 1) e x P))) (49 + (nS P)) (sgv (I 1) e (-999) (nI 999) (so4 (I 1) e x P)))) J H := hM
            exact vv_vret X hQ dX2_readSource_313 (Nat.le_refl _) (Nat.le_refl _) (⟨rfl, by unfold soP soS; rw [if_neg (Int32.not_lt.mpr c_192), if_neg (Int32.not_lt.mpr c_192)]; exact hM⟩)
          · exact vv_vret X hQ dX2_readSource_195 (Nat.le_refl _) (Nat.le_refl _) (⟨rfl, by unfold soP soS; rw [if_pos (Int32.not_le.mp c_192), if_pos (Int32.not_le.mp c_192)]; exact hM⟩)
        refine vv_ldcS (tx := "from") X 19 rfl dX2_readSource_166 ?_
        refine vv_callV X (mX2_takes (kL K) D g (so8 (I 1) e x P) (va_up (va_up I 11 P) 13 S) J 19 e hg hka (by decide) hx) q3062 q3064 qs65 q144 q3065 nX2_takes ⟨(Nat.le_of_ble_eq_true rfl), (Nat.le_of_ble_eq_true rfl)⟩ dX2_readSource_168 rfl (Nat.le_of_ble_eq_true rfl) (recv X hM.1 CL_X2) ⟨hM, hK⟩  (fun _ z => Or.inl z) ⟨(Nat.le_of_ble_eq_true rfl), (Nat.le_of_ble_eq_true rfl)⟩ (fun v_ H hq hz hk => ?_)
        obtain ⟨rfl, hM⟩ := hq
        replace hK := hK.keep hka hk
        clear hz hk
        replace hM : MR D g (so9 (I 1) e x P) (va_up (va_up I 11 P) 13 S) J H := hM
        replace hx : PY e (so9 (I 1) e x P) := PY_tks hx
        refine vb_eq (tgt := 185) X dX2_readSource_171 (by decide) (fun c_171 => ?_) (fun c_171 => ?_)
        · replace c_171 : ¬ wr (I 1) 19 (so8 (I 1) e x P) = true := c_171
          refine vv_iconst (v := nI 0) X dX2_readSource_185 (by decide) ?_
          refine vv_istore (lv' := [(10, .int (nI 0)), (9, .int (lov (nI 0) (nI 99) (so7 (I 1) e x P))), (8, .int (lov (nI 2) (nI 99) (so6 (I 1) e x P))), (7, .int (lov (nI 1) (nI 999) (so5 (I 1) e x P))), (6, .int (sgv (I 1) e (-999) (nI 999) (so4 (I 1) e x P))), (5, .int (sgv (I 1) e (-999) (nI 999) (so3 (I 1) e x P))), (4, .int (sgv (I 1) e (-2000) (nI 2000) (so2 (I 1) e x P))), (3, .int (sgv (I 1) e (-2000) (nI 2000) (so1 (I 1) e x P))), (0, .ref (g 0)), (1, .int (nI (nS P))), (2, .int (ski (I 1) (so0 (I 1) e x P)))]) X dX2_readSource_186 (by decide) rfl ?_
          have jn' := jn_4
          rw [show soF (I 1) e x P = nI 0 from by unfold soF; rw [if_neg c_171]] at jn'
          refine vv_sub [8, 9, 10, 7, 6, 5, 4, 3, 2, 1, 0] rfl ?_
          exact jn' H (by unfold soX; rw [if_neg c_171]; exact hM) hK
        · replace c_171 : wr (I 1) 19 (so8 (I 1) e x P) = true := c_171
          refine vv_aload_n X dX2_readSource_174 rfl 7 rfl ?_
          refine vv_iconst (v := nI 0) X dX2_readSource_175 (by decide) ?_
          refine vv_sipush (v := nI 199) X dX2_readSource_176 (by decide) ?_
          refine vv_callV X (mX2_number (kL K) D g (so9 (I 1) e x P) (va_up (va_up I 11 P) 13 S) J hg e (nI 0) (nI 199) hx.1) q3091 q3093 qs69 q144 q3094 nX2_number ⟨(Nat.le_of_ble_eq_true rfl), (Nat.le_of_ble_eq_true rfl)⟩ dX2_readSource_179 rfl (Nat.le_of_ble_eq_true rfl) (recv X hM.1 CL_X2) hM  (fun _ z => Or.inl z) ⟨(Nat.le_of_ble_eq_true rfl), (Nat.le_of_ble_eq_true rfl)⟩ (fun v_ H hq hz hk => ?_)
          obtain ⟨rfl, hM⟩ := hq
          replace hK := hK.keep hka hk
          clear hz hk
          replace hM : MR D g (num (I 1) e (nI 0) (nI 199) (so9 (I 1) e x P)) (va_up (va_up I 11 P) 13 S) J H := hM
          replace hx : PY e (num (I 1) e (nI 0) (nI 199) (so9 (I 1) e x P)) := PY_num hx
          refine vv_goto (tgt := 186) X dX2_readSource_182 (by decide) ?_
          refine vv_istore (lv' := [(10, .int (lov (nI 0) (nI 199) (so9 (I 1) e x P))), (9, .int (lov (nI 0) (nI 99) (so7 (I 1) e x P))), (8, .int (lov (nI 2) (nI 99) (so6 (I 1) e x P))), (7, .int (lov (nI 1) (nI 999) (so5 (I 1) e x P))), (6, .int (sgv (I 1) e (-999) (nI 999) (so4 (I 1) e x P))), (5, .int (sgv (I 1) e (-999) (nI 999) (so3 (I 1) e x P))), (4, .int (sgv (I 1) e (-2000) (nI 2000) (so2 (I 1) e x P))), (3, .int (sgv (I 1) e (-2000) (nI 2000) (so1 (I 1) e x P))), (0, .ref (g 0)), (1, .int (nI (nS P))), (2, .int (ski (I 1) (so0 (I 1) e x P)))]) X dX2_readSource_186 (by decide) rfl ?_
          have jn' := jn_4
          rw [show soF (I 1) e x P = lov (nI 0) (nI 199) (so9 (I 1) e x P) from by unfold soF; rw [if_pos c_171]] at jn'
          refine vv_sub [8, 9, 10, 7, 6, 5, 4, 3, 2, 1, 0] rfl ?_
          exact jn' H (by unfold soX; rw [if_pos c_171]; exact hM) hK
      refine vv_iconst (v := -1) X dX2_readSource_77 (by decide) ?_
      refine vv_icmp_ne (tgt := 86) X dX2_readSource_78 (by decide) (fun c_78 => ?_) (fun c_78 => ?_)
      · refine vv_aload_n X dX2_readSource_86 rfl 0 rfl ?_
        refine vv_callV X (mX2_nextToken (kL K) D g (so0 (I 1) e x P) (va_up (va_up I 11 P) 13 S) J hg e hx.1) q3042 q3044 qs61 q144 q3045 nX2_nextToken ⟨(Nat.le_of_ble_eq_true rfl), (Nat.le_of_ble_eq_true rfl)⟩ dX2_readSource_87 rfl (Nat.le_of_ble_eq_true rfl) (recv X hM.1 CL_X2) hM  (fun _ z => Or.inl z) ⟨(Nat.le_of_ble_eq_true rfl), (Nat.le_of_ble_eq_true rfl)⟩ (fun v_ H hq hz hk => ?_)
        obtain ⟨rfl, hM⟩ := hq
        replace hK := hK.keep hka hk
        clear hz hk
        replace hM : MR D g (nxt (I 1) e (so0 (I 1) e x P)) (va_up (va_up I 11 P) 13 S) J H := hM
        replace hx : PY e (nxt (I 1) e (so0 (I 1) e x P)) := PY_nxt hx
        refine vv_sub [0, 1, 2] rfl ?_
        exact jn_3 H (by unfold so1; rw [bgn_n c_78]; exact hM) hK
      · refine vv_aload_n X dX2_readSource_81 rfl 0 rfl ?_
        refine vv_iconst (v := nI 1) X dX2_readSource_82 (by decide) ?_
        refine vv_callV X (mX2_faults (kL K) D g (so0 (I 1) e x P) (va_up (va_up I 11 P) 13 S) J hg 1) q3082 q3084 qs67 q144 q3085 nX2_faults ⟨(Nat.le_of_ble_eq_true rfl), (Nat.le_of_ble_eq_true rfl)⟩ dX2_readSource_83 rfl (Nat.le_of_ble_eq_true rfl) (recv X hM.1 CL_X2) hM  (fun _ z => Or.inl z) ⟨(Nat.le_of_ble_eq_true rfl), (Nat.le_of_ble_eq_true rfl)⟩ (fun v_ H hq hz hk => ?_)
        obtain ⟨rfl, hM⟩ := hq
        replace hK := hK.keep hka hk
        clear hz hk
        replace hM : MR D g (fau 1 (so0 (I 1) e x P)) (va_up (va_up I 11 P) 13 S) J H := hM
        replace hx : PY e (fau 1 (so0 (I 1) e x P)) := PY_fau hx (by decide)
        refine vv_aload_n X dX2_readSource_86 rfl 0 rfl ?_
        refine vv_callV X (mX2_nextToken (kL K) D g (fau 1 (so0 (I 1) e x P)) (va_up (va_up I 11 P) 13 S) J hg e hx.1) q3042 q3044 qs61 q144 q3045 nX2_nextToken ⟨(Nat.le_of_ble_eq_true rfl), (Nat.le_of_ble_eq_true rfl)⟩ dX2_readSource_87 rfl (Nat.le_of_ble_eq_true rfl) (recv X hM.1 CL_X2) hM  (fun _ z => Or.inl z) ⟨(Nat.le_of_ble_eq_true rfl), (Nat.le_of_ble_eq_true rfl)⟩ (fun v_ H hq hz hk => ?_)
        obtain ⟨rfl, hM⟩ := hq
        replace hK := hK.keep hka hk
        clear hz hk
        replace hM : MR D g (nxt (I 1) e (fau 1 (so0 (I 1) e x P))) (va_up (va_up I 11 P) 13 S) J H := hM
        replace hx : PY e (nxt (I 1) e (fau 1 (so0 (I 1) e x P))) := PY_nxt hx
        refine vv_sub [0, 1, 2] rfl ?_
        exact jn_3 H (by unfold so1; rw [bgn_y c_78]; exact hM) hK
    refine vv_ldcS (tx := "square") X 15 rfl dX2_readSource_23 ?_
    refine vv_callVp X (mX2_isWord (kL K) D g (so0 (I 1) e x P) (va_up (va_up I 11 P) 13 S) J 15 e hka (by decide) hx) q3066 q3068 qs66 q144 q3069 nX2_isWord ⟨(Nat.le_of_ble_eq_true rfl), (Nat.le_of_ble_eq_true rfl)⟩ dX2_readSource_25 rfl (Nat.le_of_ble_eq_true rfl) (recv X hM.1 CL_X2) ⟨hM, hK⟩ ⟨(Nat.le_of_ble_eq_true rfl), (Nat.le_of_ble_eq_true rfl)⟩ ?_
    refine vb_eq (tgt := 35) X dX2_readSource_28 (by decide) (fun c_28 => ?_) (fun c_28 => ?_)
    · replace c_28 : ¬ wr (I 1) 15 (so0 (I 1) e x P) = true := c_28
      refine vv_aload_n X dX2_readSource_35 rfl 0 rfl ?_
      refine vv_ldcS (tx := "triangle") X 16 rfl dX2_readSource_36 ?_
      refine vv_callVp X (mX2_isWord (kL K) D g (so0 (I 1) e x P) (va_up (va_up I 11 P) 13 S) J 16 e hka (by decide) hx) q3066 q3068 qs66 q144 q3069 nX2_isWord ⟨(Nat.le_of_ble_eq_true rfl), (Nat.le_of_ble_eq_true rfl)⟩ dX2_readSource_38 rfl (Nat.le_of_ble_eq_true rfl) (recv X hM.1 CL_X2) ⟨hM, hK⟩ ⟨(Nat.le_of_ble_eq_true rfl), (Nat.le_of_ble_eq_true rfl)⟩ ?_
      refine vb_eq (tgt := 48) X dX2_readSource_41 (by decide) (fun c_41 => ?_) (fun c_41 => ?_)
      · replace c_41 : ¬ wr (I 1) 16 (so0 (I 1) e x P) = true := c_41
        refine vv_aload_n X dX2_readSource_48 rfl 0 rfl ?_
        refine vv_ldcS (tx := "pulse") X 17 rfl dX2_readSource_49 ?_
        refine vv_callVp X (mX2_isWord (kL K) D g (so0 (I 1) e x P) (va_up (va_up I 11 P) 13 S) J 17 e hka (by decide) hx) q3066 q3068 qs66 q144 q3069 nX2_isWord ⟨(Nat.le_of_ble_eq_true rfl), (Nat.le_of_ble_eq_true rfl)⟩ dX2_readSource_51 rfl (Nat.le_of_ble_eq_true rfl) (recv X hM.1 CL_X2) ⟨hM, hK⟩ ⟨(Nat.le_of_ble_eq_true rfl), (Nat.le_of_ble_eq_true rfl)⟩ ?_
        refine vb_eq (tgt := 61) X dX2_readSource_54 (by decide) (fun c_54 => ?_) (fun c_54 => ?_)
        · replace c_54 : ¬ wr (I 1) 17 (so0 (I 1) e x P) = true := c_54
          refine vv_aload_n X dX2_readSource_61 rfl 0 rfl ?_
          refine vv_ldcS (tx := "noise") X 18 rfl dX2_readSource_62 ?_
          refine vv_callVp X (mX2_isWord (kL K) D g (so0 (I 1) e x P) (va_up (va_up I 11 P) 13 S) J 18 e hka (by decide) hx) q3066 q3068 qs66 q144 q3069 nX2_isWord ⟨(Nat.le_of_ble_eq_true rfl), (Nat.le_of_ble_eq_true rfl)⟩ dX2_readSource_64 rfl (Nat.le_of_ble_eq_true rfl) (recv X hM.1 CL_X2) ⟨hM, hK⟩ ⟨(Nat.le_of_ble_eq_true rfl), (Nat.le_of_ble_eq_true rfl)⟩ ?_
          refine vb_eq (tgt := 74) X dX2_readSource_67 (by decide) (fun c_67 => ?_) (fun c_67 => ?_)
          · replace c_67 : ¬ wr (I 1) 18 (so0 (I 1) e x P) = true := c_67
            refine vv_iconst (v := -1) X dX2_readSource_74 (by decide) ?_
            have hsk : (-1) = ski (I 1) (so0 (I 1) e x P) := by unfold ski; rw [if_neg c_28, if_neg c_41, if_neg c_54, if_neg c_67]
            refine vv_eqi hsk ?_
            refine vv_istore_n (lv' := [(2, .int (ski (I 1) (so0 (I 1) e x P))), (0, .ref (g 0)), (1, .int (nI (nS P)))]) X dX2_readSource_75 rfl (by decide) rfl ?_
            refine vv_sub [1, 2, 0] rfl ?_
            exact jn_2 H (hM) hK
          · replace c_67 : wr (I 1) 18 (so0 (I 1) e x P) = true := c_67
            refine vv_iconst (v := nI 3) X dX2_readSource_70 (by decide) ?_
            refine vv_goto (tgt := 75) X dX2_readSource_71 (by decide) ?_
            have hsk : nI 3 = ski (I 1) (so0 (I 1) e x P) := by unfold ski; rw [if_neg c_28, if_neg c_41, if_neg c_54, if_pos c_67]
            refine vv_eqi hsk ?_
            refine vv_istore_n (lv' := [(2, .int (ski (I 1) (so0 (I 1) e x P))), (0, .ref (g 0)), (1, .int (nI (nS P)))]) X dX2_readSource_75 rfl (by decide) rfl ?_
            refine vv_sub [1, 2, 0] rfl ?_
            exact jn_2 H (hM) hK
        · replace c_54 : wr (I 1) 17 (so0 (I 1) e x P) = true := c_54
          refine vv_iconst (v := nI 2) X dX2_readSource_57 (by decide) ?_
          refine vv_goto (tgt := 75) X dX2_readSource_58 (by decide) ?_
          have hsk : nI 2 = ski (I 1) (so0 (I 1) e x P) := by unfold ski; rw [if_neg c_28, if_neg c_41, if_pos c_54]
          refine vv_eqi hsk ?_
          refine vv_istore_n (lv' := [(2, .int (ski (I 1) (so0 (I 1) e x P))), (0, .ref (g 0)), (1, .int (nI (nS P)))]) X dX2_readSource_75 rfl (by decide) rfl ?_
          refine vv_sub [1, 2, 0] rfl ?_
          exact jn_2 H (hM) hK
      · replace c_41 : wr (I 1) 16 (so0 (I 1) e x P) = true := c_41
        refine vv_iconst (v := nI 1) X dX2_readSource_44 (by decide) ?_
        refine vv_goto (tgt := 75) X dX2_readSource_45 (by decide) ?_
        have hsk : nI 1 = ski (I 1) (so0 (I 1) e x P) := by unfold ski; rw [if_neg c_28, if_pos c_41]
        refine vv_eqi hsk ?_
        refine vv_istore_n (lv' := [(2, .int (ski (I 1) (so0 (I 1) e x P))), (0, .ref (g 0)), (1, .int (nI (nS P)))]) X dX2_readSource_75 rfl (by decide) rfl ?_
        refine vv_sub [1, 2, 0] rfl ?_
        exact jn_2 H (hM) hK
    · replace c_28 : wr (I 1) 15 (so0 (I 1) e x P) = true := c_28
      refine vv_iconst (v := nI 0) X dX2_readSource_31 (by decide) ?_
      refine vv_goto (tgt := 75) X dX2_readSource_32 (by decide) ?_
      have hsk : nI 0 = ski (I 1) (so0 (I 1) e x P) := by unfold ski; rw [if_pos c_28]
      refine vv_eqi hsk ?_
      refine vv_istore_n (lv' := [(2, .int (ski (I 1) (so0 (I 1) e x P))), (0, .ref (g 0)), (1, .int (nI (nS P)))]) X dX2_readSource_75 rfl (by decide) rfl ?_
      refine vv_sub [1, 2, 0] rfl ?_
      exact jn_2 H (hM) hK
  refine vv_iload_n X dX2_readSource_7 rfl 0 rfl ?_
  refine vv_bipush (v := nI 6) X dX2_readSource_8 (by decide) ?_
  refine vn_ne (tgt := 18) X (by omega) (by omega) dX2_readSource_10 (by decide) (fun c_10 => ?_) (fun c_10 => ?_)
  · refine vv_aload_n X dX2_readSource_18 rfl 1 rfl ?_
    refine vv_callV X (mX2_nextToken (kL K) D g x (va_up (va_up I 11 P) 13 S) J hg e hx.1) q3042 q3044 qs61 q144 q3045 nX2_nextToken ⟨(Nat.le_of_ble_eq_true rfl), (Nat.le_of_ble_eq_true rfl)⟩ dX2_readSource_19 rfl (Nat.le_of_ble_eq_true rfl) (recv X hM.1 CL_X2) hM  (fun _ z => Or.inl z) ⟨(Nat.le_of_ble_eq_true rfl), (Nat.le_of_ble_eq_true rfl)⟩ (fun v_ H hq hz hk => ?_)
    obtain ⟨rfl, hM⟩ := hq
    replace hK := hK.keep hka hk
    clear hz hk
    replace hM : MR D g (nxt (I 1) e x) (va_up (va_up I 11 P) 13 S) J H := hM
    replace hx : PY e (nxt (I 1) e x) := PY_nxt hx
    refine vv_sub [1, 0] rfl ?_
    exact jn_1 H (by unfold so0; rw [bgn_n (by omega)]; exact hM) hK
  · refine vv_aload_n X dX2_readSource_13 rfl 1 rfl ?_
    refine vv_iconst (v := nI 4) X dX2_readSource_14 (by decide) ?_
    refine vv_callV X (mX2_faults (kL K) D g x (va_up (va_up I 11 P) 13 S) J hg 4) q3082 q3084 qs67 q144 q3085 nX2_faults ⟨(Nat.le_of_ble_eq_true rfl), (Nat.le_of_ble_eq_true rfl)⟩ dX2_readSource_15 rfl (Nat.le_of_ble_eq_true rfl) (recv X hM.1 CL_X2) hM  (fun _ z => Or.inl z) ⟨(Nat.le_of_ble_eq_true rfl), (Nat.le_of_ble_eq_true rfl)⟩ (fun v_ H hq hz hk => ?_)
    obtain ⟨rfl, hM⟩ := hq
    replace hK := hK.keep hka hk
    clear hz hk
    replace hM : MR D g (fau 4 x) (va_up (va_up I 11 P) 13 S) J H := hM
    replace hx : PY e (fau 4 x) := PY_fau hx (by decide)
    refine vv_aload_n X dX2_readSource_18 rfl 1 rfl ?_
    refine vv_callV X (mX2_nextToken (kL K) D g (fau 4 x) (va_up (va_up I 11 P) 13 S) J hg e hx.1) q3042 q3044 qs61 q144 q3045 nX2_nextToken ⟨(Nat.le_of_ble_eq_true rfl), (Nat.le_of_ble_eq_true rfl)⟩ dX2_readSource_19 rfl (Nat.le_of_ble_eq_true rfl) (recv X hM.1 CL_X2) hM  (fun _ z => Or.inl z) ⟨(Nat.le_of_ble_eq_true rfl), (Nat.le_of_ble_eq_true rfl)⟩ (fun v_ H hq hz hk => ?_)
    obtain ⟨rfl, hM⟩ := hq
    replace hK := hK.keep hka hk
    clear hz hk
    replace hM : MR D g (nxt (I 1) e (fau 4 x)) (va_up (va_up I 11 P) 13 S) J H := hM
    replace hx : PY e (nxt (I 1) e (fau 4 x)) := PY_nxt hx
    refine vv_sub [1, 0] rfl ?_
    exact jn_1 H (by unfold so0; rw [bgn_y (by omega)]; exact hM) hK
theorem nX2_readFilter : notMH yX2_readFilter 0 := by decide +kernel
set_option maxHeartbeats 800000 in
theorem mX2_readFilter (l : Launch) (D : DD) (g : Nat → Nat) (x : Nat → Int32) (I : Nat → Nat → Int32) (J : Nat → Nat → Int64) (P S : Nat → Int32) (e : Nat) (hg : MG g) (hka : KA D (MA g)) (hI : IV P) (hx : PY e x) : Ct l yX2_readFilter cX2_readFilter 3 none { frames := 5, cells := 0, slots := 0, locals := 102 } D [.ref (g 0)] (fun H => MR D g x (va_up (va_up I 11 P) 13 S) J H ∧ KH D H) (MA g) (fun v H H1 => v = none ∧ MR D g ((flA (I 1) e x P).1) (va_up (va_up I 11 ((flA (I 1) e x P).2)) 13 (S)) J H1) := by
  refine Ct.of (by decide +kernel) (Nat.le_of_ble_eq_true rfl) (fun K Qf hkl X hM hQ => ?_)
  subst hkl
  obtain ⟨hM, hK⟩ := hM
  have hP := hI.1
  have l77 := hP.l77
  have hx0 := hx
  refine vv_sub (lv' := [(0, .ref (g 0))]) [0] rfl ?_
  have jn_1 : ∀ (H : Heap), MR D g (flb (I 1) e x P) (va_up (va_up I 11 P) 13 S) J H → KH D H → V K 3 (MA g) H 0 0 Qf 19 [(0, .ref (g 0))] [] := by
    intro H hM hK
    replace hx : PY e (flb (I 1) e x P) := PY_bgn hx (by decide)
    clear hx0
    obtain ⟨R, hR0⟩ : ∃ R, flA (I 1) e x P = R := ⟨_, rfl⟩
    rw [hR0] at hQ
    have hlp : ∀ (n : Nat) (x P : Nat → Int32) (H : Heap), IV P → PY e x → nP P + n = 6 → fln (I 1) e n x P = R → MR D g x (va_up (va_up I 11 P) 13 S) J H → KH D H → V K 3 (MA g) H 0 0 Qf 19 [(0, .ref (g 0))] [] := by
      intro n
      induction n with
      | zero =>
        intro x P H hI hx hn
        have := hI.1.l77
        exact absurd hn (by omega)
      | succ n ih =>
        intro x P H hI hx hn hR hM hK
        have hP := hI.1
        have l77 := hP.l77
        rw [fln_s] at hR
        refine vv_aload_n X dX2_readFilter_19 rfl 0 rfl ?_
        have jn_2 : ∀ (H : Heap), MR D g (fl0 (I 1) e x P) (va_up (va_up I 11 P) 13 S) J H → KH D H → V K 3 (MA g) H 0 0 Qf 65 [(0, .ref (g 0))] [] := by
          intro H hM hK
          replace hx : PY e (fl0 (I 1) e x P) := PY_fl0 hx
          refine vv_aload_n X dX2_readFilter_65 rfl 0 rfl ?_
          refine vv_bipush (v := -9) X dX2_readFilter_66 (by decide) ?_
          refine vv_bipush (v := nI 9) X dX2_readFilter_68 (by decide) ?_
          refine vv_callV X (mX2_signed (kL K) D g (fl0 (I 1) e x P) (va_up (va_up I 11 P) 13 S) J hg e (-9) (nI 9) hx.1) q3115 q3117 qs74 q144 q3118 nX2_signed ⟨(Nat.le_of_ble_eq_true rfl), (Nat.le_of_ble_eq_true rfl)⟩ dX2_readFilter_70 rfl (Nat.le_of_ble_eq_true rfl) (recv X hM.1 CL_X2) hM  (fun _ z => Or.inl z) ⟨(Nat.le_of_ble_eq_true rfl), (Nat.le_of_ble_eq_true rfl)⟩ (fun v_ H hq hz hk => ?_)
          obtain ⟨rfl, hM⟩ := hq
          replace hK := hK.keep hka hk
          clear hz hk
          replace hM : MR D g (fl1 (I 1) e x P) (va_up (va_up I 11 P) 13 S) J H := hM
          replace hx : PY e (fl1 (I 1) e x P) := PY_sgd hx
          refine vv_istore_n (lv' := [(2, .int (sgv (I 1) e (-9) (nI 9) (fl0 (I 1) e x P))), (0, .ref (g 0))]) X dX2_readFilter_73 rfl (by decide) rfl ?_
          refine vv_aload_n X dX2_readFilter_74 rfl 1 rfl ?_
          refine mg5 X rfl hM dX2_readFilter_75 ?_
          refine vv_if_le (tgt := 82) X dX2_readFilter_78 (by decide) (fun c_78 => ?_) (fun c_78 => ?_)
          · refine vv_aload_n X dX2_readFilter_82 rfl 1 rfl ?_
            refine mg11 X rfl hM dX2_readFilter_83 ?_
            refine vv_bipush (v := nI 78) X dX2_readFilter_86 (by decide) ?_
            refine vv_aload_n X dX2_readFilter_88 rfl 1 rfl ?_
            refine mg11 X rfl hM dX2_readFilter_89 ?_
            refine vv_bipush (v := nI 77) X dX2_readFilter_92 (by decide) ?_
            refine vv_iald X hM.a11 (77) (by omega) (by decide) rfl dX2_readFilter_94 ?_
            refine vv_eqi (show _ = nI (nP P) from (by show P 77 = _; exact hP.e77)) ?_
            refine vn_add X dX2_readFilter_95 ?_
            refine vv_iload_n X dX2_readFilter_96 rfl 0 rfl ?_
            refine mk11 X hM hK hka hg (78 + (nP P)) (by omega) rfl (Or.inl (MA.in (by decide))) dX2_readFilter_97 (fun H hM hK => ?_)
            rw [up_sw (by decide)] at hM
            replace hM : MR D g (fl1 (I 1) e x P) (va_up (va_up I 11 (va_up P (78 + (nP P)) (sgv (I 1) e (-9) (nI 9) (fl0 (I 1) e x P)))) 13 S) J H := hM
            refine vv_aload_n X dX2_readFilter_98 rfl 1 rfl ?_
            refine mg11 X rfl hM dX2_readFilter_99 ?_
            refine vv_bipush (v := nI 77) X dX2_readFilter_102 (by decide) ?_
            refine vv_dup2_11 X dX2_readFilter_104 rfl rfl ?_
            refine vv_iald X hM.a11 (77) (by omega) (by decide) rfl dX2_readFilter_105 ?_
            refine vv_eqi (show _ = nI (nP P) from (by show (va_up P (78 + (nP P)) (sgv (I 1) e (-9) (nI 9) (fl0 (I 1) e x P))) 77 = _; rw [va_up_ne _ _ (show (77 : Nat) ≠ 78 + nP P by omega)]; exact hP.e77)) ?_
            refine vv_iconst (v := nI 1) X dX2_readFilter_106 (by decide) ?_
            refine vn_add X dX2_readFilter_107 ?_
            refine mk11 X hM hK hka hg (77) (by omega) rfl (Or.inl (MA.in (by decide))) dX2_readFilter_108 (fun H hM hK => ?_)
            rw [up_sw (by decide)] at hM
            replace hM : MR D g (fl1 (I 1) e x P) (va_up (va_up I 11 (va_up (va_up P (78 + (nP P)) (sgv (I 1) e (-9) (nI 9) (fl0 (I 1) e x P))) 77 (nI ((nP P) + 1)))) 13 S) J H := hM
            refine vv_aload_n X dX2_readFilter_109 rfl 1 rfl ?_
            refine mg7 X rfl hM dX2_readFilter_110 ?_
            refine vv_iconst (v := nI 3) X dX2_readFilter_113 (by decide) ?_
            refine vv_icmp_eq (tgt := 19) X dX2_readFilter_114 (by decide) (fun c_114 => ?_) (fun c_114 => ?_)
            · rw [if_neg (Int32.not_lt.mpr c_78), if_pos (Or.inl c_114)] at hR
              have hn5 := (fl1_50 (px50 hx.1 (Int32.not_lt.mpr c_78))).1
              refine vv_sub [1] rfl ?_
              exact ih _ _ _ (IV_flP hI (by omega)) hx (by rw [flP_n (by omega)]; omega) hR hM hK
            · refine vv_aload_n X dX2_readFilter_117 rfl 1 rfl ?_
              refine vv_bipush (v := nI 45) X dX2_readFilter_118 (by decide) ?_
              refine vv_callVp X (mX2_isSignHere (kL K) D g (fl1 (I 1) e x P) (va_up (va_up I 11 (va_up (va_up P (78 + (nP P)) (sgv (I 1) e (-9) (nI 9) (fl0 (I 1) e x P))) 77 (nI ((nP P) + 1)))) 13 S) J (nI 45)) q3102 q3104 qs71 q144 q3105 nX2_isSignHere ⟨(Nat.le_of_ble_eq_true rfl), (Nat.le_of_ble_eq_true rfl)⟩ dX2_readFilter_120 rfl (Nat.le_of_ble_eq_true rfl) (recv X hM.1 CL_X2) hM ⟨(Nat.le_of_ble_eq_true rfl), (Nat.le_of_ble_eq_true rfl)⟩ ?_
              refine vb_ne (tgt := 19) X dX2_readFilter_123 (by decide) (fun c_123 => ?_) (fun c_123 => ?_)
              · replace c_123 : sgh (nI 45) (fl1 (I 1) e x P) := c_123
                rw [if_neg (Int32.not_lt.mpr c_78), if_pos (Or.inr c_123)] at hR
                have hn5 := (fl1_50 (px50 hx.1 (Int32.not_lt.mpr c_78))).1
                refine vv_sub [1] rfl ?_
                exact ih _ _ _ (IV_flP hI (by omega)) hx (by rw [flP_n (by omega)]; omega) hR hM hK
              · replace c_123 : ¬ (sgh (nI 45) (fl1 (I 1) e x P)) := c_123
                exact vv_vret X hQ dX2_readFilter_126 (Nat.le_refl _) (Nat.le_refl _) (⟨rfl, by rw [if_neg (Int32.not_lt.mpr c_78), if_neg (fun z => z.elim c_114 c_123)] at hR; rw [← hR]; exact hM⟩)
          · exact vv_vret X hQ dX2_readFilter_81 (Nat.le_refl _) (Nat.le_refl _) (⟨rfl, by rw [if_pos (Int32.not_le.mp c_78)] at hR; rw [← hR]; exact hM⟩)
        refine mg11 X rfl hM dX2_readFilter_20 ?_
        refine vv_bipush (v := nI 77) X dX2_readFilter_23 (by decide) ?_
        refine vv_iald X hM.a11 (77) (by omega) (by decide) rfl dX2_readFilter_25 ?_
        refine vv_eqi hP.e77 ?_
        refine vv_iconst (v := nI 5) X dX2_readFilter_26 (by decide) ?_
        refine vn_ne (tgt := 34) X (by omega) (by omega) dX2_readFilter_27 (by decide) (fun c_27 => ?_) (fun c_27 => ?_)
        · refine vv_iconst (v := nI 0) X dX2_readFilter_34 (by decide) ?_
          refine vv_istore_n (lv' := [(1, .int (nI 0)), (0, .ref (g 0))]) X dX2_readFilter_35 rfl (by decide) rfl ?_
          refine vv_iload_n X dX2_readFilter_36 rfl 0 rfl ?_
          refine vn_if_eq (tgt := 56) X (by omega) dX2_readFilter_37 (by decide) (fun c_37 => ?_) (fun c_37 => ?_)
          · refine vv_iload_n X dX2_readFilter_56 rfl 0 rfl ?_
            refine vn_if_eq (tgt := 65) X (by omega) dX2_readFilter_57 (by decide) (fun c_57 => ?_) (fun c_57 => ?_)
            · refine vv_sub [1] rfl ?_
              exact jn_2 H (by unfold fl0; rw [if_neg c_27]; exact hM) hK
            · exact absurd c_57 (by decide)
          · exact absurd c_37 (by decide)
        · refine vv_iconst (v := nI 1) X dX2_readFilter_30 (by decide) ?_
          refine vv_goto (tgt := 35) X dX2_readFilter_31 (by decide) ?_
          refine vv_istore_n (lv' := [(1, .int (nI 1)), (0, .ref (g 0))]) X dX2_readFilter_35 rfl (by decide) rfl ?_
          refine vv_iload_n X dX2_readFilter_36 rfl 0 rfl ?_
          refine vn_if_eq (tgt := 56) X (by omega) dX2_readFilter_37 (by decide) (fun c_37 => ?_) (fun c_37 => ?_)
          · exact absurd c_37 (by decide)
          · refine vv_aload_n X dX2_readFilter_40 rfl 1 rfl ?_
            refine mg7 X rfl hM dX2_readFilter_41 ?_
            refine vv_iconst (v := nI 3) X dX2_readFilter_44 (by decide) ?_
            refine vv_icmp_ne (tgt := 56) X dX2_readFilter_45 (by decide) (fun c_45 => ?_) (fun c_45 => ?_)
            · refine vv_iload_n X dX2_readFilter_56 rfl 0 rfl ?_
              refine vn_if_eq (tgt := 65) X (by omega) dX2_readFilter_57 (by decide) (fun c_57 => ?_) (fun c_57 => ?_)
              · exact absurd c_57 (by decide)
              · refine vv_aload_n X dX2_readFilter_60 rfl 1 rfl ?_
                refine vv_iconst (v := nI 4) X dX2_readFilter_61 (by decide) ?_
                refine vv_callV X (mX2_faults (kL K) D g x (va_up (va_up I 11 P) 13 S) J hg 4) q3082 q3084 qs67 q144 q3085 nX2_faults ⟨(Nat.le_of_ble_eq_true rfl), (Nat.le_of_ble_eq_true rfl)⟩ dX2_readFilter_62 rfl (Nat.le_of_ble_eq_true rfl) (recv X hM.1 CL_X2) hM  (fun _ z => Or.inl z) ⟨(Nat.le_of_ble_eq_true rfl), (Nat.le_of_ble_eq_true rfl)⟩ (fun v_ H hq hz hk => ?_)
                obtain ⟨rfl, hM⟩ := hq
                replace hK := hK.keep hka hk
                clear hz hk
                replace hM : MR D g (fau 4 x) (va_up (va_up I 11 P) 13 S) J H := hM
                replace hx : PY e (fau 4 x) := PY_fau hx (by decide)
                refine vv_sub [1] rfl ?_
                exact jn_2 H (by unfold fl0; rw [if_pos c_27, if_neg c_45]; exact hM) hK
            · refine vv_aload_n X dX2_readFilter_48 rfl 1 rfl ?_
              refine vv_iconst (v := nI 0) X dX2_readFilter_49 (by decide) ?_
              refine vv_bipush (v := nI 9) X dX2_readFilter_50 (by decide) ?_
              refine vv_callV X (mX2_look (kL K) D g x (va_up (va_up I 11 P) 13 S) J hg e (nI 0) (nI 9) hx.1) q3095 q3097 qs70 q144 q3098 nX2_look ⟨(Nat.le_of_ble_eq_true rfl), (Nat.le_of_ble_eq_true rfl)⟩ dX2_readFilter_52 rfl (Nat.le_of_ble_eq_true rfl) (recv X hM.1 CL_X2) hM  (fun _ z => Or.inl z) ⟨(Nat.le_of_ble_eq_true rfl), (Nat.le_of_ble_eq_true rfl)⟩ (fun v_ H hq hz hk => ?_)
              obtain ⟨rfl, hM⟩ := hq
              replace hK := hK.keep hka hk
              clear hz hk
              replace hM : MR D g (lok (nI 0) (nI 9) x) (va_up (va_up I 11 P) 13 S) J H := hM
              replace hx : PY e (lok (nI 0) (nI 9) x) := PY_lok hx
              refine vv_pop X dX2_readFilter_55 rfl ?_
              refine vv_iload_n X dX2_readFilter_56 rfl 0 rfl ?_
              refine vn_if_eq (tgt := 65) X (by omega) dX2_readFilter_57 (by decide) (fun c_57 => ?_) (fun c_57 => ?_)
              · exact absurd c_57 (by decide)
              · refine vv_aload_n X dX2_readFilter_60 rfl 1 rfl ?_
                refine vv_iconst (v := nI 4) X dX2_readFilter_61 (by decide) ?_
                refine vv_callV X (mX2_faults (kL K) D g (lok (nI 0) (nI 9) x) (va_up (va_up I 11 P) 13 S) J hg 4) q3082 q3084 qs67 q144 q3085 nX2_faults ⟨(Nat.le_of_ble_eq_true rfl), (Nat.le_of_ble_eq_true rfl)⟩ dX2_readFilter_62 rfl (Nat.le_of_ble_eq_true rfl) (recv X hM.1 CL_X2) hM  (fun _ z => Or.inl z) ⟨(Nat.le_of_ble_eq_true rfl), (Nat.le_of_ble_eq_true rfl)⟩ (fun v_ H hq hz hk => ?_)
                obtain ⟨rfl, hM⟩ := hq
                replace hK := hK.keep hka hk
                clear hz hk
                replace hM : MR D g (fau 4 (lok (nI 0) (nI 9) x)) (va_up (va_up I 11 P) 13 S) J H := hM
                replace hx : PY e (fau 4 (lok (nI 0) (nI 9) x)) := PY_fau hx (by decide)
                refine vv_sub [1] rfl ?_
                exact jn_2 H (by unfold fl0; rw [if_pos c_27, if_pos c_45]; exact hM) hK
    exact hlp (6 - nP P) (flb (I 1) e x P) P H hI hx (by omega) hR0 hM hK
  refine vv_aload_n X dX2_readFilter_0 rfl 0 rfl ?_
  refine mg11 X rfl hM dX2_readFilter_1 ?_
  refine vv_bipush (v := nI 77) X dX2_readFilter_4 (by decide) ?_
  refine vv_iald X hM.a11 (77) (by omega) (by decide) rfl dX2_readFilter_6 ?_
  refine vv_eqi hP.e77 ?_
  refine vn_if_le (tgt := 15) X (by omega) dX2_readFilter_7 (by decide) (fun c_7 => ?_) (fun c_7 => ?_)
  · refine vv_aload_n X dX2_readFilter_15 rfl 0 rfl ?_
    refine vv_callV X (mX2_nextToken (kL K) D g x (va_up (va_up I 11 P) 13 S) J hg e hx.1) q3042 q3044 qs61 q144 q3045 nX2_nextToken ⟨(Nat.le_of_ble_eq_true rfl), (Nat.le_of_ble_eq_true rfl)⟩ dX2_readFilter_16 rfl (Nat.le_of_ble_eq_true rfl) (recv X hM.1 CL_X2) hM  (fun _ z => Or.inl z) ⟨(Nat.le_of_ble_eq_true rfl), (Nat.le_of_ble_eq_true rfl)⟩ (fun v_ H hq hz hk => ?_)
    obtain ⟨rfl, hM⟩ := hq
    replace hK := hK.keep hka hk
    clear hz hk
    replace hM : MR D g (nxt (I 1) e x) (va_up (va_up I 11 P) 13 S) J H := hM
    replace hx : PY e (nxt (I 1) e x) := PY_nxt hx
    refine vv_sub [0] rfl ?_
    exact jn_1 H (by unfold flb; rw [bgn_n (by omega)]; exact hM) hK
  · refine vv_aload_n X dX2_readFilter_10 rfl 0 rfl ?_
    refine vv_iconst (v := nI 3) X dX2_readFilter_11 (by decide) ?_
    refine vv_callV X (mX2_faults (kL K) D g x (va_up (va_up I 11 P) 13 S) J hg 3) q3082 q3084 qs67 q144 q3085 nX2_faults ⟨(Nat.le_of_ble_eq_true rfl), (Nat.le_of_ble_eq_true rfl)⟩ dX2_readFilter_12 rfl (Nat.le_of_ble_eq_true rfl) (recv X hM.1 CL_X2) hM  (fun _ z => Or.inl z) ⟨(Nat.le_of_ble_eq_true rfl), (Nat.le_of_ble_eq_true rfl)⟩ (fun v_ H hq hz hk => ?_)
    obtain ⟨rfl, hM⟩ := hq
    replace hK := hK.keep hka hk
    clear hz hk
    replace hM : MR D g (fau 3 x) (va_up (va_up I 11 P) 13 S) J H := hM
    replace hx : PY e (fau 3 x) := PY_fau hx (by decide)
    refine vv_aload_n X dX2_readFilter_15 rfl 0 rfl ?_
    refine vv_callV X (mX2_nextToken (kL K) D g (fau 3 x) (va_up (va_up I 11 P) 13 S) J hg e hx.1) q3042 q3044 qs61 q144 q3045 nX2_nextToken ⟨(Nat.le_of_ble_eq_true rfl), (Nat.le_of_ble_eq_true rfl)⟩ dX2_readFilter_16 rfl (Nat.le_of_ble_eq_true rfl) (recv X hM.1 CL_X2) hM  (fun _ z => Or.inl z) ⟨(Nat.le_of_ble_eq_true rfl), (Nat.le_of_ble_eq_true rfl)⟩ (fun v_ H hq hz hk => ?_)
    obtain ⟨rfl, hM⟩ := hq
    replace hK := hK.keep hka hk
    clear hz hk
    replace hM : MR D g (nxt (I 1) e (fau 3 x)) (va_up (va_up I 11 P) 13 S) J H := hM
    replace hx : PY e (nxt (I 1) e (fau 3 x)) := PY_nxt hx
    refine vv_sub [0] rfl ?_
    exact jn_1 H (by unfold flb; rw [bgn_y (by omega)]; exact hM) hK
theorem nX2_readShade : notMH yX2_readShade 0 := by decide +kernel
set_option maxHeartbeats 800000 in
theorem mX2_readShade (l : Launch) (D : DD) (g : Nat → Nat) (x : Nat → Int32) (I : Nat → Nat → Int32) (J : Nat → Nat → Int64) (P S : Nat → Int32) (e : Nat) (hg : MG g) (hka : KA D (MA g)) (hI : IV P) (hx : PY e x) : Ct l yX2_readShade cX2_readShade 2 none { frames := 3, cells := 0, slots := 0, locals := 56 } D [.ref (g 0)] (fun H => MR D g x (va_up (va_up I 11 P) 13 S) J H ∧ KH D H) (MA g) (fun v H H1 => v = none ∧ MR D g ((sdA (I 1) e x P).1) (va_up (va_up I 11 ((sdA (I 1) e x P).2)) 13 (S)) J H1) := by
  refine Ct.of (by decide +kernel) (Nat.le_of_ble_eq_true rfl) (fun K Qf hkl X hM hQ => ?_)
  subst hkl
  obtain ⟨hM, hK⟩ := hM
  have hP := hI.1
  have l118 := hP.l118
  have hx0 := hx
  refine vv_sub (lv' := [(0, .ref (g 0))]) [0] rfl ?_
  have jn_1 : ∀ (H : Heap), MR D g (sdb (I 1) e x P) (va_up (va_up I 11 P) 13 S) J H → KH D H → V K 2 (MA g) H 0 0 Qf 19 [(0, .ref (g 0))] [] := by
    intro H hM hK
    replace hx : PY e (sdb (I 1) e x P) := PY_bgn hx (by decide)
    clear hx0
    obtain ⟨R, hR0⟩ : ∃ R, sdA (I 1) e x P = R := ⟨_, rfl⟩
    rw [hR0] at hQ
    have hlp : ∀ (n : Nat) (x P : Nat → Int32) (H : Heap), IV P → PY e x → nH P + n = 13 → sdn (I 1) e n x P = R → MR D g x (va_up (va_up I 11 P) 13 S) J H → KH D H → V K 2 (MA g) H 0 0 Qf 19 [(0, .ref (g 0))] [] := by
      intro n
      induction n with
      | zero =>
        intro x P H hI hx hn
        have := hI.1.l118
        exact absurd hn (by omega)
      | succ n ih =>
        intro x P H hI hx hn hR hM hK
        have hP := hI.1
        have l118 := hP.l118
        rw [sdn_s] at hR
        refine vv_aload_n X dX2_readShade_19 rfl 0 rfl ?_
        have hxa := hx
        have jn_2 : ∀ (H : Heap), MR D g (sd0 (I 1) e x P) (va_up (va_up I 11 P) 13 S) J H → KH D H → V K 2 (MA g) H 0 0 Qf 48 [(0, .ref (g 0)), (1, .int (lov (nI 0) (nI 9) x))] [] := by
          intro H hM hK
          replace hx : PY e (sd0 (I 1) e x P) := PY_sd0 hx
          refine vv_aload_n X dX2_readShade_48 rfl 0 rfl ?_
          refine mg5 X rfl hM dX2_readShade_49 ?_
          refine vv_if_le (tgt := 56) X dX2_readShade_52 (by decide) (fun c_52 => ?_) (fun c_52 => ?_)
          · have hn5 := (sd0_50 (px50 hx.1 (Int32.not_lt.mpr c_52))).1
            refine vv_aload_n X dX2_readShade_56 rfl 0 rfl ?_
            refine mg11 X rfl hM dX2_readShade_57 ?_
            refine vv_bipush (v := nI 119) X dX2_readShade_60 (by decide) ?_
            refine vv_aload_n X dX2_readShade_62 rfl 0 rfl ?_
            refine mg11 X rfl hM dX2_readShade_63 ?_
            refine vv_bipush (v := nI 118) X dX2_readShade_66 (by decide) ?_
            refine vv_iald X hM.a11 (118) (by omega) (by decide) rfl dX2_readShade_68 ?_
            refine vv_eqi (show _ = nI (nH P) from (by show P 118 = _; exact hP.e118)) ?_
            refine vn_add X dX2_readShade_69 ?_
            refine vv_iload_n X dX2_readShade_70 rfl 1 rfl ?_
            refine mk11 X hM hK hka hg (119 + (nH P)) (by omega) rfl (Or.inl (MA.in (by decide))) dX2_readShade_71 (fun H hM hK => ?_)
            rw [up_sw (by decide)] at hM
            replace hM : MR D g (sd0 (I 1) e x P) (va_up (va_up I 11 (va_up P (119 + (nH P)) (lov (nI 0) (nI 9) x))) 13 S) J H := hM
            refine vv_aload_n X dX2_readShade_72 rfl 0 rfl ?_
            refine mg11 X rfl hM dX2_readShade_73 ?_
            refine vv_bipush (v := nI 118) X dX2_readShade_76 (by decide) ?_
            refine vv_dup2_11 X dX2_readShade_78 rfl rfl ?_
            refine vv_iald X hM.a11 (118) (by omega) (by decide) rfl dX2_readShade_79 ?_
            refine vv_eqi (show _ = nI (nH P) from (by show (va_up P (119 + (nH P)) (lov (nI 0) (nI 9) x)) 118 = _; rw [va_up_ne _ _ (show (118 : Nat) ≠ 119 + nH P by omega)]; exact hP.e118)) ?_
            refine vv_iconst (v := nI 1) X dX2_readShade_80 (by decide) ?_
            refine vn_add X dX2_readShade_81 ?_
            refine mk11 X hM hK hka hg (118) (by omega) rfl (Or.inl (MA.in (by decide))) dX2_readShade_82 (fun H hM hK => ?_)
            rw [up_sw (by decide)] at hM
            replace hM : MR D g (sd0 (I 1) e x P) (va_up (va_up I 11 (va_up (va_up P (119 + (nH P)) (lov (nI 0) (nI 9) x)) 118 (nI ((nH P) + 1)))) 13 S) J H := hM
            refine vv_aload_n X dX2_readShade_83 rfl 0 rfl ?_
            refine mg7 X rfl hM dX2_readShade_84 ?_
            refine vv_iconst (v := nI 3) X dX2_readShade_87 (by decide) ?_
            refine vv_icmp_eq (tgt := 19) X dX2_readShade_88 (by decide) (fun c_88 => ?_) (fun c_88 => ?_)
            · rw [if_neg (Int32.not_lt.mpr c_52), if_pos c_88] at hR
              have hn5 := (sd0_50 (px50 hx.1 (Int32.not_lt.mpr c_52))).1
              refine vv_sub [0] rfl ?_
              exact ih _ _ _ (IV_sdP (x := x) hI (by omega)) hx (by rw [sdP_n (by omega)]; omega) hR hM hK
            · exact vv_vret X hQ dX2_readShade_91 (Nat.le_refl _) (Nat.le_refl _) (⟨rfl, by rw [if_neg (Int32.not_lt.mpr c_52), if_neg c_88] at hR; rw [← hR]; exact hM⟩)
          · exact vv_vret X hQ dX2_readShade_55 (Nat.le_refl _) (Nat.le_refl _) (⟨rfl, by rw [if_pos (Int32.not_le.mp c_52)] at hR; rw [← hR]; exact hM⟩)
        refine vv_iconst (v := nI 0) X dX2_readShade_20 (by decide) ?_
        refine vv_bipush (v := nI 9) X dX2_readShade_21 (by decide) ?_
        refine vv_callV X (mX2_look (kL K) D g x (va_up (va_up I 11 P) 13 S) J hg e (nI 0) (nI 9) hx.1) q3095 q3097 qs70 q144 q3098 nX2_look ⟨(Nat.le_of_ble_eq_true rfl), (Nat.le_of_ble_eq_true rfl)⟩ dX2_readShade_23 rfl (Nat.le_of_ble_eq_true rfl) (recv X hM.1 CL_X2) hM  (fun _ z => Or.inl z) ⟨(Nat.le_of_ble_eq_true rfl), (Nat.le_of_ble_eq_true rfl)⟩ (fun v_ H hq hz hk => ?_)
        obtain ⟨rfl, hM⟩ := hq
        replace hK := hK.keep hka hk
        clear hz hk
        replace hM : MR D g (lok (nI 0) (nI 9) x) (va_up (va_up I 11 P) 13 S) J H := hM
        replace hx : PY e (lok (nI 0) (nI 9) x) := PY_lok hx
        refine vv_istore_n (lv' := [(1, .int (lov (nI 0) (nI 9) x)), (0, .ref (g 0))]) X dX2_readShade_26 rfl (by decide) rfl ?_
        refine vv_aload_n X dX2_readShade_27 rfl 1 rfl ?_
        refine mg11 X rfl hM dX2_readShade_28 ?_
        refine vv_bipush (v := nI 118) X dX2_readShade_31 (by decide) ?_
        refine vv_iald X hM.a11 (118) (by omega) (by decide) rfl dX2_readShade_33 ?_
        refine vv_eqi hP.e118 ?_
        refine vv_bipush (v := nI 12) X dX2_readShade_34 (by decide) ?_
        refine vn_ne (tgt := 44) X (by omega) (by omega) dX2_readShade_36 (by decide) (fun c_36 => ?_) (fun c_36 => ?_)
        · refine vv_aload_n X dX2_readShade_44 rfl 1 rfl ?_
          refine vv_callV X (mX2_nextToken (kL K) D g (lok (nI 0) (nI 9) x) (va_up (va_up I 11 P) 13 S) J hg e hx.1) q3042 q3044 qs61 q144 q3045 nX2_nextToken ⟨(Nat.le_of_ble_eq_true rfl), (Nat.le_of_ble_eq_true rfl)⟩ dX2_readShade_45 rfl (Nat.le_of_ble_eq_true rfl) (recv X hM.1 CL_X2) hM  (fun _ z => Or.inl z) ⟨(Nat.le_of_ble_eq_true rfl), (Nat.le_of_ble_eq_true rfl)⟩ (fun v_ H hq hz hk => ?_)
          obtain ⟨rfl, hM⟩ := hq
          replace hK := hK.keep hka hk
          clear hz hk
          replace hM : MR D g (nxt (I 1) e (lok (nI 0) (nI 9) x)) (va_up (va_up I 11 P) 13 S) J H := hM
          replace hx : PY e (nxt (I 1) e (lok (nI 0) (nI 9) x)) := PY_nxt hx
          refine vv_sub [1, 0] rfl ?_
          exact jn_2 H (by unfold sd0; rw [bgn_n (by omega)]; exact hM) hK
        · refine vv_aload_n X dX2_readShade_39 rfl 1 rfl ?_
          refine vv_iconst (v := nI 4) X dX2_readShade_40 (by decide) ?_
          refine vv_callV X (mX2_faults (kL K) D g (lok (nI 0) (nI 9) x) (va_up (va_up I 11 P) 13 S) J hg 4) q3082 q3084 qs67 q144 q3085 nX2_faults ⟨(Nat.le_of_ble_eq_true rfl), (Nat.le_of_ble_eq_true rfl)⟩ dX2_readShade_41 rfl (Nat.le_of_ble_eq_true rfl) (recv X hM.1 CL_X2) hM  (fun _ z => Or.inl z) ⟨(Nat.le_of_ble_eq_true rfl), (Nat.le_of_ble_eq_true rfl)⟩ (fun v_ H hq hz hk => ?_)
          obtain ⟨rfl, hM⟩ := hq
          replace hK := hK.keep hka hk
          clear hz hk
          replace hM : MR D g (fau 4 (lok (nI 0) (nI 9) x)) (va_up (va_up I 11 P) 13 S) J H := hM
          replace hx : PY e (fau 4 (lok (nI 0) (nI 9) x)) := PY_fau hx (by decide)
          refine vv_aload_n X dX2_readShade_44 rfl 1 rfl ?_
          refine vv_callV X (mX2_nextToken (kL K) D g (fau 4 (lok (nI 0) (nI 9) x)) (va_up (va_up I 11 P) 13 S) J hg e hx.1) q3042 q3044 qs61 q144 q3045 nX2_nextToken ⟨(Nat.le_of_ble_eq_true rfl), (Nat.le_of_ble_eq_true rfl)⟩ dX2_readShade_45 rfl (Nat.le_of_ble_eq_true rfl) (recv X hM.1 CL_X2) hM  (fun _ z => Or.inl z) ⟨(Nat.le_of_ble_eq_true rfl), (Nat.le_of_ble_eq_true rfl)⟩ (fun v_ H hq hz hk => ?_)
          obtain ⟨rfl, hM⟩ := hq
          replace hK := hK.keep hka hk
          clear hz hk
          replace hM : MR D g (nxt (I 1) e (fau 4 (lok (nI 0) (nI 9) x))) (va_up (va_up I 11 P) 13 S) J H := hM
          replace hx : PY e (nxt (I 1) e (fau 4 (lok (nI 0) (nI 9) x))) := PY_nxt hx
          refine vv_sub [1, 0] rfl ?_
          exact jn_2 H (by unfold sd0; rw [bgn_y (by omega)]; exact hM) hK
    exact hlp (13 - nH P) (sdb (I 1) e x P) P H hI hx (by omega) hR0 hM hK
  refine vv_aload_n X dX2_readShade_0 rfl 0 rfl ?_
  refine mg11 X rfl hM dX2_readShade_1 ?_
  refine vv_bipush (v := nI 118) X dX2_readShade_4 (by decide) ?_
  refine vv_iald X hM.a11 (118) (by omega) (by decide) rfl dX2_readShade_6 ?_
  refine vv_eqi hP.e118 ?_
  refine vn_if_le (tgt := 15) X (by omega) dX2_readShade_7 (by decide) (fun c_7 => ?_) (fun c_7 => ?_)
  · refine vv_aload_n X dX2_readShade_15 rfl 0 rfl ?_
    refine vv_callV X (mX2_nextToken (kL K) D g x (va_up (va_up I 11 P) 13 S) J hg e hx.1) q3042 q3044 qs61 q144 q3045 nX2_nextToken ⟨(Nat.le_of_ble_eq_true rfl), (Nat.le_of_ble_eq_true rfl)⟩ dX2_readShade_16 rfl (Nat.le_of_ble_eq_true rfl) (recv X hM.1 CL_X2) hM  (fun _ z => Or.inl z) ⟨(Nat.le_of_ble_eq_true rfl), (Nat.le_of_ble_eq_true rfl)⟩ (fun v_ H hq hz hk => ?_)
    obtain ⟨rfl, hM⟩ := hq
    replace hK := hK.keep hka hk
    clear hz hk
    replace hM : MR D g (nxt (I 1) e x) (va_up (va_up I 11 P) 13 S) J H := hM
    replace hx : PY e (nxt (I 1) e x) := PY_nxt hx
    refine vv_sub [0] rfl ?_
    exact jn_1 H (by unfold sdb; rw [bgn_n (by omega)]; exact hM) hK
  · refine vv_aload_n X dX2_readShade_10 rfl 0 rfl ?_
    refine vv_iconst (v := nI 3) X dX2_readShade_11 (by decide) ?_
    refine vv_callV X (mX2_faults (kL K) D g x (va_up (va_up I 11 P) 13 S) J hg 3) q3082 q3084 qs67 q144 q3085 nX2_faults ⟨(Nat.le_of_ble_eq_true rfl), (Nat.le_of_ble_eq_true rfl)⟩ dX2_readShade_12 rfl (Nat.le_of_ble_eq_true rfl) (recv X hM.1 CL_X2) hM  (fun _ z => Or.inl z) ⟨(Nat.le_of_ble_eq_true rfl), (Nat.le_of_ble_eq_true rfl)⟩ (fun v_ H hq hz hk => ?_)
    obtain ⟨rfl, hM⟩ := hq
    replace hK := hK.keep hka hk
    clear hz hk
    replace hM : MR D g (fau 3 x) (va_up (va_up I 11 P) 13 S) J H := hM
    replace hx : PY e (fau 3 x) := PY_fau hx (by decide)
    refine vv_aload_n X dX2_readShade_15 rfl 0 rfl ?_
    refine vv_callV X (mX2_nextToken (kL K) D g (fau 3 x) (va_up (va_up I 11 P) 13 S) J hg e hx.1) q3042 q3044 qs61 q144 q3045 nX2_nextToken ⟨(Nat.le_of_ble_eq_true rfl), (Nat.le_of_ble_eq_true rfl)⟩ dX2_readShade_16 rfl (Nat.le_of_ble_eq_true rfl) (recv X hM.1 CL_X2) hM  (fun _ z => Or.inl z) ⟨(Nat.le_of_ble_eq_true rfl), (Nat.le_of_ble_eq_true rfl)⟩ (fun v_ H hq hz hk => ?_)
    obtain ⟨rfl, hM⟩ := hq
    replace hK := hK.keep hka hk
    clear hz hk
    replace hM : MR D g (nxt (I 1) e (fau 3 x)) (va_up (va_up I 11 P) 13 S) J H := hM
    replace hx : PY e (nxt (I 1) e (fau 3 x)) := PY_nxt hx
    refine vv_sub [0] rfl ?_
    exact jn_1 H (by unfold sdb; rw [bgn_y (by omega)]; exact hM) hK
theorem nX2_readLine : notMH yX2_readLine 0 := by decide +kernel
set_option maxHeartbeats 800000 in
theorem mX2_readLine (l : Launch) (D : DD) (g : Nat → Nat) (x : Nat → Int32) (I : Nat → Nat → Int32) (J : Nat → Nat → Int64) (P S : Nat → Int32) (e : Nat) (hg : MG g) (hka : KA D (MA g)) (hI : IV P) (hx : PY e x) : Ct l yX2_readLine cX2_readLine 1 none { frames := 8, cells := 0, slots := 0, locals := 171 } D [.ref (g 0)] (fun H => MR D g x (va_up (va_up I 11 P) 13 S) J H ∧ KH D H) (MA g) (fun v H H1 => v = none ∧ MR D g ((liA (I 1) e x P S).1) (va_up (va_up I 11 ((liA (I 1) e x P S).2.1)) 13 ((liA (I 1) e x P S).2.2)) J H1) := by
  refine Ct.of (by decide +kernel) (Nat.le_of_ble_eq_true rfl) (fun K Qf hkl X hM hQ => ?_)
  subst hkl
  obtain ⟨hM, hK⟩ := hM
  have hP := hI.1
  refine vv_sub (lv' := [(0, .ref (g 0))]) [0] rfl ?_
  refine vv_aload_n X dX2_readLine_0 rfl 0 rfl ?_
  refine vv_ldcS (tx := "wall") X 5 rfl dX2_readLine_1 ?_
  refine vv_callVp X (mX2_isWord (kL K) D g x (va_up (va_up I 11 P) 13 S) J 5 e hka (by decide) hx) q3066 q3068 qs66 q144 q3069 nX2_isWord ⟨(Nat.le_of_ble_eq_true rfl), (Nat.le_of_ble_eq_true rfl)⟩ dX2_readLine_3 rfl (Nat.le_of_ble_eq_true rfl) (recv X hM.1 CL_X2) ⟨hM, hK⟩ ⟨(Nat.le_of_ble_eq_true rfl), (Nat.le_of_ble_eq_true rfl)⟩ ?_
  refine vb_eq (tgt := 16) X dX2_readLine_6 (by decide) (fun c_6 => ?_) (fun c_6 => ?_)
  · replace c_6 : ¬ wr (I 1) 5 x = true := c_6
    refine vv_aload_n X dX2_readLine_16 rfl 0 rfl ?_
    refine vv_ldcS (tx := "fade") X 6 rfl dX2_readLine_17 ?_
    refine vv_callVp X (mX2_isWord (kL K) D g x (va_up (va_up I 11 P) 13 S) J 6 e hka (by decide) hx) q3066 q3068 qs66 q144 q3069 nX2_isWord ⟨(Nat.le_of_ble_eq_true rfl), (Nat.le_of_ble_eq_true rfl)⟩ dX2_readLine_19 rfl (Nat.le_of_ble_eq_true rfl) (recv X hM.1 CL_X2) ⟨hM, hK⟩ ⟨(Nat.le_of_ble_eq_true rfl), (Nat.le_of_ble_eq_true rfl)⟩ ?_
    refine vb_eq (tgt := 32) X dX2_readLine_22 (by decide) (fun c_22 => ?_) (fun c_22 => ?_)
    · replace c_22 : ¬ wr (I 1) 6 x = true := c_22
      refine vv_aload_n X dX2_readLine_32 rfl 0 rfl ?_
      refine vv_ldcS (tx := "filter") X 7 rfl dX2_readLine_33 ?_
      refine vv_callVp X (mX2_isWord (kL K) D g x (va_up (va_up I 11 P) 13 S) J 7 e hka (by decide) hx) q3066 q3068 qs66 q144 q3069 nX2_isWord ⟨(Nat.le_of_ble_eq_true rfl), (Nat.le_of_ble_eq_true rfl)⟩ dX2_readLine_35 rfl (Nat.le_of_ble_eq_true rfl) (recv X hM.1 CL_X2) ⟨hM, hK⟩ ⟨(Nat.le_of_ble_eq_true rfl), (Nat.le_of_ble_eq_true rfl)⟩ ?_
      refine vb_eq (tgt := 48) X dX2_readLine_38 (by decide) (fun c_38 => ?_) (fun c_38 => ?_)
      · replace c_38 : ¬ wr (I 1) 7 x = true := c_38
        refine vv_aload_n X dX2_readLine_48 rfl 0 rfl ?_
        refine vv_ldcS (tx := "clock") X 8 rfl dX2_readLine_49 ?_
        refine vv_callVp X (mX2_isWord (kL K) D g x (va_up (va_up I 11 P) 13 S) J 8 e hka (by decide) hx) q3066 q3068 qs66 q144 q3069 nX2_isWord ⟨(Nat.le_of_ble_eq_true rfl), (Nat.le_of_ble_eq_true rfl)⟩ dX2_readLine_51 rfl (Nat.le_of_ble_eq_true rfl) (recv X hM.1 CL_X2) ⟨hM, hK⟩ ⟨(Nat.le_of_ble_eq_true rfl), (Nat.le_of_ble_eq_true rfl)⟩ ?_
        refine vb_eq (tgt := 64) X dX2_readLine_54 (by decide) (fun c_54 => ?_) (fun c_54 => ?_)
        · replace c_54 : ¬ wr (I 1) 8 x = true := c_54
          refine vv_aload_n X dX2_readLine_64 rfl 0 rfl ?_
          refine vv_ldcS (tx := "zone") X 9 rfl dX2_readLine_65 ?_
          refine vv_callVp X (mX2_isWord (kL K) D g x (va_up (va_up I 11 P) 13 S) J 9 e hka (by decide) hx) q3066 q3068 qs66 q144 q3069 nX2_isWord ⟨(Nat.le_of_ble_eq_true rfl), (Nat.le_of_ble_eq_true rfl)⟩ dX2_readLine_67 rfl (Nat.le_of_ble_eq_true rfl) (recv X hM.1 CL_X2) ⟨hM, hK⟩ ⟨(Nat.le_of_ble_eq_true rfl), (Nat.le_of_ble_eq_true rfl)⟩ ?_
          refine vb_eq (tgt := 80) X dX2_readLine_70 (by decide) (fun c_70 => ?_) (fun c_70 => ?_)
          · replace c_70 : ¬ wr (I 1) 9 x = true := c_70
            refine vv_aload_n X dX2_readLine_80 rfl 0 rfl ?_
            refine vv_ldcS (tx := "shade") X 10 rfl dX2_readLine_81 ?_
            refine vv_callVp X (mX2_isWord (kL K) D g x (va_up (va_up I 11 P) 13 S) J 10 e hka (by decide) hx) q3066 q3068 qs66 q144 q3069 nX2_isWord ⟨(Nat.le_of_ble_eq_true rfl), (Nat.le_of_ble_eq_true rfl)⟩ dX2_readLine_83 rfl (Nat.le_of_ble_eq_true rfl) (recv X hM.1 CL_X2) ⟨hM, hK⟩ ⟨(Nat.le_of_ble_eq_true rfl), (Nat.le_of_ble_eq_true rfl)⟩ ?_
            refine vb_eq (tgt := 96) X dX2_readLine_86 (by decide) (fun c_86 => ?_) (fun c_86 => ?_)
            · replace c_86 : ¬ wr (I 1) 10 x = true := c_86
              refine vv_aload_n X dX2_readLine_96 rfl 0 rfl ?_
              refine vv_ldcS (tx := "off") X 11 rfl dX2_readLine_97 ?_
              refine vv_callVp X (mX2_isWord (kL K) D g x (va_up (va_up I 11 P) 13 S) J 11 e hka (by decide) hx) q3066 q3068 qs66 q144 q3069 nX2_isWord ⟨(Nat.le_of_ble_eq_true rfl), (Nat.le_of_ble_eq_true rfl)⟩ dX2_readLine_99 rfl (Nat.le_of_ble_eq_true rfl) (recv X hM.1 CL_X2) ⟨hM, hK⟩ ⟨(Nat.le_of_ble_eq_true rfl), (Nat.le_of_ble_eq_true rfl)⟩ ?_
              refine vb_eq (tgt := 112) X dX2_readLine_102 (by decide) (fun c_102 => ?_) (fun c_102 => ?_)
              · replace c_102 : ¬ wr (I 1) 11 x = true := c_102
                refine vv_aload_n X dX2_readLine_112 rfl 0 rfl ?_
                refine vv_ldcS (tx := "mic") X 12 rfl dX2_readLine_113 ?_
                refine vv_callVp X (mX2_isWord (kL K) D g x (va_up (va_up I 11 P) 13 S) J 12 e hka (by decide) hx) q3066 q3068 qs66 q144 q3069 nX2_isWord ⟨(Nat.le_of_ble_eq_true rfl), (Nat.le_of_ble_eq_true rfl)⟩ dX2_readLine_115 rfl (Nat.le_of_ble_eq_true rfl) (recv X hM.1 CL_X2) ⟨hM, hK⟩ ⟨(Nat.le_of_ble_eq_true rfl), (Nat.le_of_ble_eq_true rfl)⟩ ?_
                refine vb_eq (tgt := 128) X dX2_readLine_118 (by decide) (fun c_118 => ?_) (fun c_118 => ?_)
                · replace c_118 : ¬ wr (I 1) 12 x = true := c_118
                  refine vv_aload_n X dX2_readLine_128 rfl 0 rfl ?_
                  refine vv_ldcS (tx := "map") X 13 rfl dX2_readLine_129 ?_
                  refine vv_callVp X (mX2_isWord (kL K) D g x (va_up (va_up I 11 P) 13 S) J 13 e hka (by decide) hx) q3066 q3068 qs66 q144 q3069 nX2_isWord ⟨(Nat.le_of_ble_eq_true rfl), (Nat.le_of_ble_eq_true rfl)⟩ dX2_readLine_131 rfl (Nat.le_of_ble_eq_true rfl) (recv X hM.1 CL_X2) ⟨hM, hK⟩ ⟨(Nat.le_of_ble_eq_true rfl), (Nat.le_of_ble_eq_true rfl)⟩ ?_
                  refine vb_eq (tgt := 144) X dX2_readLine_134 (by decide) (fun c_134 => ?_) (fun c_134 => ?_)
                  · replace c_134 : ¬ wr (I 1) 13 x = true := c_134
                    refine vv_aload_n X dX2_readLine_144 rfl 0 rfl ?_
                    refine vv_ldcS (tx := "source") X 14 rfl dX2_readLine_145 ?_
                    refine vv_callVp X (mX2_isWord (kL K) D g x (va_up (va_up I 11 P) 13 S) J 14 e hka (by decide) hx) q3066 q3068 qs66 q144 q3069 nX2_isWord ⟨(Nat.le_of_ble_eq_true rfl), (Nat.le_of_ble_eq_true rfl)⟩ dX2_readLine_147 rfl (Nat.le_of_ble_eq_true rfl) (recv X hM.1 CL_X2) ⟨hM, hK⟩ ⟨(Nat.le_of_ble_eq_true rfl), (Nat.le_of_ble_eq_true rfl)⟩ ?_
                    refine vb_eq (tgt := 160) X dX2_readLine_150 (by decide) (fun c_150 => ?_) (fun c_150 => ?_)
                    · replace c_150 : ¬ wr (I 1) 14 x = true := c_150
                      refine vv_aload_n X dX2_readLine_160 rfl 0 rfl ?_
                      refine vv_iconst (v := nI 1) X dX2_readLine_161 (by decide) ?_
                      refine vv_callV X (mX2_faults (kL K) D g x (va_up (va_up I 11 P) 13 S) J hg 1) q3082 q3084 qs67 q144 q3085 nX2_faults ⟨(Nat.le_of_ble_eq_true rfl), (Nat.le_of_ble_eq_true rfl)⟩ dX2_readLine_162 rfl (Nat.le_of_ble_eq_true rfl) (recv X hM.1 CL_X2) hM  (fun _ z => Or.inl z) ⟨(Nat.le_of_ble_eq_true rfl), (Nat.le_of_ble_eq_true rfl)⟩ (fun v_ H hq hz hk => ?_)
                      obtain ⟨rfl, hM⟩ := hq
                      replace hK := hK.keep hka hk
                      clear hz hk
                      replace hM : MR D g (fau 1 x) (va_up (va_up I 11 P) 13 S) J H := hM
                      replace hx : PY e (fau 1 x) := PY_fau hx (by decide)
                      exact vv_vret X hQ dX2_readLine_165 (Nat.le_refl _) (Nat.le_refl _) (⟨rfl, by unfold liA; rw [if_neg c_6, if_neg c_22, if_neg c_38, if_neg c_54, if_neg c_70, if_neg c_86, if_neg c_102, if_neg c_118, if_neg c_134, if_neg c_150]; dsimp only; exact hM⟩)
                    · replace c_150 : wr (I 1) 14 x = true := c_150
                      refine vv_aload_n X dX2_readLine_153 rfl 0 rfl ?_
                      refine vv_callV X (mX2_readSource (kL K) D g x I J P S e hg hka hP hx) q3160 q3162 qs83 q144 q3163 nX2_readSource ⟨(Nat.le_of_ble_eq_true rfl), (Nat.le_of_ble_eq_true rfl)⟩ dX2_readLine_154 rfl (Nat.le_of_ble_eq_true rfl) (recv X hM.1 CL_X2) ⟨hM, hK⟩  (fun _ z => Or.inl z) ⟨(Nat.le_of_ble_eq_true rfl), (Nat.le_of_ble_eq_true rfl)⟩ (fun v_ H hq hz hk => ?_)
                      obtain ⟨rfl, hM⟩ := hq
                      replace hK := hK.keep hka hk
                      clear hz hk
                      refine vv_goto (tgt := 165) X dX2_readLine_157 (by decide) ?_
                      exact vv_vret X hQ dX2_readLine_165 (Nat.le_refl _) (Nat.le_refl _) (⟨rfl, by unfold liA; rw [if_neg c_6, if_neg c_22, if_neg c_38, if_neg c_54, if_neg c_70, if_neg c_86, if_neg c_102, if_neg c_118, if_neg c_134, if_pos c_150]; dsimp only; exact hM⟩)
                  · replace c_134 : wr (I 1) 13 x = true := c_134
                    refine vv_aload_n X dX2_readLine_137 rfl 0 rfl ?_
                    refine vv_callV X (mX2_readMap (kL K) D g x I J P S e hg hka hP hx) q3155 q3157 qs82 q144 q3158 nX2_readMap ⟨(Nat.le_of_ble_eq_true rfl), (Nat.le_of_ble_eq_true rfl)⟩ dX2_readLine_138 rfl (Nat.le_of_ble_eq_true rfl) (recv X hM.1 CL_X2) ⟨hM, hK⟩  (fun _ z => Or.inl z) ⟨(Nat.le_of_ble_eq_true rfl), (Nat.le_of_ble_eq_true rfl)⟩ (fun v_ H hq hz hk => ?_)
                    obtain ⟨rfl, hM⟩ := hq
                    replace hK := hK.keep hka hk
                    clear hz hk
                    refine vv_goto (tgt := 165) X dX2_readLine_141 (by decide) ?_
                    exact vv_vret X hQ dX2_readLine_165 (Nat.le_refl _) (Nat.le_refl _) (⟨rfl, by unfold liA; rw [if_neg c_6, if_neg c_22, if_neg c_38, if_neg c_54, if_neg c_70, if_neg c_86, if_neg c_102, if_neg c_118, if_pos c_134]; dsimp only; exact hM⟩)
                · replace c_118 : wr (I 1) 12 x = true := c_118
                  refine vv_aload_n X dX2_readLine_121 rfl 0 rfl ?_
                  refine vv_callV X (mX2_readMic (kL K) D g x I J P S e hg hka hP hx) q3150 q3152 qs81 q144 q3153 nX2_readMic ⟨(Nat.le_of_ble_eq_true rfl), (Nat.le_of_ble_eq_true rfl)⟩ dX2_readLine_122 rfl (Nat.le_of_ble_eq_true rfl) (recv X hM.1 CL_X2) ⟨hM, hK⟩  (fun _ z => Or.inl z) ⟨(Nat.le_of_ble_eq_true rfl), (Nat.le_of_ble_eq_true rfl)⟩ (fun v_ H hq hz hk => ?_)
                  obtain ⟨rfl, hM⟩ := hq
                  replace hK := hK.keep hka hk
                  clear hz hk
                  refine vv_goto (tgt := 165) X dX2_readLine_125 (by decide) ?_
                  exact vv_vret X hQ dX2_readLine_165 (Nat.le_refl _) (Nat.le_refl _) (⟨rfl, by unfold liA; rw [if_neg c_6, if_neg c_22, if_neg c_38, if_neg c_54, if_neg c_70, if_neg c_86, if_neg c_102, if_pos c_118]; dsimp only; exact hM⟩)
              · replace c_102 : wr (I 1) 11 x = true := c_102
                refine vv_aload_n X dX2_readLine_105 rfl 0 rfl ?_
                refine vv_callV X (mX2_readOff (kL K) D g x I J P S e hg hka hP hx) q3145 q3147 qs80 q144 q3148 nX2_readOff ⟨(Nat.le_of_ble_eq_true rfl), (Nat.le_of_ble_eq_true rfl)⟩ dX2_readLine_106 rfl (Nat.le_of_ble_eq_true rfl) (recv X hM.1 CL_X2) ⟨hM, hK⟩  (fun _ z => Or.inl z) ⟨(Nat.le_of_ble_eq_true rfl), (Nat.le_of_ble_eq_true rfl)⟩ (fun v_ H hq hz hk => ?_)
                obtain ⟨rfl, hM⟩ := hq
                replace hK := hK.keep hka hk
                clear hz hk
                refine vv_goto (tgt := 165) X dX2_readLine_109 (by decide) ?_
                exact vv_vret X hQ dX2_readLine_165 (Nat.le_refl _) (Nat.le_refl _) (⟨rfl, by unfold liA; rw [if_neg c_6, if_neg c_22, if_neg c_38, if_neg c_54, if_neg c_70, if_neg c_86, if_pos c_102]; dsimp only; exact hM⟩)
            · replace c_86 : wr (I 1) 10 x = true := c_86
              refine vv_aload_n X dX2_readLine_89 rfl 0 rfl ?_
              refine vv_callV X (mX2_readShade (kL K) D g x I J P S e hg hka hI hx) q3140 q3142 qs79 q144 q3143 nX2_readShade ⟨(Nat.le_of_ble_eq_true rfl), (Nat.le_of_ble_eq_true rfl)⟩ dX2_readLine_90 rfl (Nat.le_of_ble_eq_true rfl) (recv X hM.1 CL_X2) ⟨hM, hK⟩  (fun _ z => Or.inl z) ⟨(Nat.le_of_ble_eq_true rfl), (Nat.le_of_ble_eq_true rfl)⟩ (fun v_ H hq hz hk => ?_)
              obtain ⟨rfl, hM⟩ := hq
              replace hK := hK.keep hka hk
              clear hz hk
              refine vv_goto (tgt := 165) X dX2_readLine_93 (by decide) ?_
              exact vv_vret X hQ dX2_readLine_165 (Nat.le_refl _) (Nat.le_refl _) (⟨rfl, by unfold liA; rw [if_neg c_6, if_neg c_22, if_neg c_38, if_neg c_54, if_neg c_70, if_pos c_86]; dsimp only; exact hM⟩)
          · replace c_70 : wr (I 1) 9 x = true := c_70
            refine vv_aload_n X dX2_readLine_73 rfl 0 rfl ?_
            refine vv_callV X (mX2_readZone (kL K) D g x I J P S e hg hka hP hx) q3135 q3137 qs78 q144 q3138 nX2_readZone ⟨(Nat.le_of_ble_eq_true rfl), (Nat.le_of_ble_eq_true rfl)⟩ dX2_readLine_74 rfl (Nat.le_of_ble_eq_true rfl) (recv X hM.1 CL_X2) ⟨hM, hK⟩  (fun _ z => Or.inl z) ⟨(Nat.le_of_ble_eq_true rfl), (Nat.le_of_ble_eq_true rfl)⟩ (fun v_ H hq hz hk => ?_)
            obtain ⟨rfl, hM⟩ := hq
            replace hK := hK.keep hka hk
            clear hz hk
            refine vv_goto (tgt := 165) X dX2_readLine_77 (by decide) ?_
            exact vv_vret X hQ dX2_readLine_165 (Nat.le_refl _) (Nat.le_refl _) (⟨rfl, by unfold liA; rw [if_neg c_6, if_neg c_22, if_neg c_38, if_neg c_54, if_pos c_70]; dsimp only; exact hM⟩)
        · replace c_54 : wr (I 1) 8 x = true := c_54
          refine vv_aload_n X dX2_readLine_57 rfl 0 rfl ?_
          refine vv_callV X (mX2_readClock (kL K) D g x I J P S e hg hka hP hx) q3130 q3132 qs77 q144 q3133 nX2_readClock ⟨(Nat.le_of_ble_eq_true rfl), (Nat.le_of_ble_eq_true rfl)⟩ dX2_readLine_58 rfl (Nat.le_of_ble_eq_true rfl) (recv X hM.1 CL_X2) ⟨hM, hK⟩  (fun _ z => Or.inl z) ⟨(Nat.le_of_ble_eq_true rfl), (Nat.le_of_ble_eq_true rfl)⟩ (fun v_ H hq hz hk => ?_)
          obtain ⟨rfl, hM⟩ := hq
          replace hK := hK.keep hka hk
          clear hz hk
          refine vv_goto (tgt := 165) X dX2_readLine_61 (by decide) ?_
          exact vv_vret X hQ dX2_readLine_165 (Nat.le_refl _) (Nat.le_refl _) (⟨rfl, by unfold liA; rw [if_neg c_6, if_neg c_22, if_neg c_38, if_pos c_54]; dsimp only; exact hM⟩)
      · replace c_38 : wr (I 1) 7 x = true := c_38
        refine vv_aload_n X dX2_readLine_41 rfl 0 rfl ?_
        refine vv_callV X (mX2_readFilter (kL K) D g x I J P S e hg hka hI hx) q3125 q3127 qs76 q144 q3128 nX2_readFilter ⟨(Nat.le_of_ble_eq_true rfl), (Nat.le_of_ble_eq_true rfl)⟩ dX2_readLine_42 rfl (Nat.le_of_ble_eq_true rfl) (recv X hM.1 CL_X2) ⟨hM, hK⟩  (fun _ z => Or.inl z) ⟨(Nat.le_of_ble_eq_true rfl), (Nat.le_of_ble_eq_true rfl)⟩ (fun v_ H hq hz hk => ?_)
        obtain ⟨rfl, hM⟩ := hq
        replace hK := hK.keep hka hk
        clear hz hk
        refine vv_goto (tgt := 165) X dX2_readLine_45 (by decide) ?_
        exact vv_vret X hQ dX2_readLine_165 (Nat.le_refl _) (Nat.le_refl _) (⟨rfl, by unfold liA; rw [if_neg c_6, if_neg c_22, if_pos c_38]; dsimp only; exact hM⟩)
    · replace c_22 : wr (I 1) 6 x = true := c_22
      refine vv_aload_n X dX2_readLine_25 rfl 0 rfl ?_
      refine vv_callV X (mX2_readFade (kL K) D g x I J P S e hg hka hP hx) q3120 q3122 qs75 q144 q3123 nX2_readFade ⟨(Nat.le_of_ble_eq_true rfl), (Nat.le_of_ble_eq_true rfl)⟩ dX2_readLine_26 rfl (Nat.le_of_ble_eq_true rfl) (recv X hM.1 CL_X2) ⟨hM, hK⟩  (fun _ z => Or.inl z) ⟨(Nat.le_of_ble_eq_true rfl), (Nat.le_of_ble_eq_true rfl)⟩ (fun v_ H hq hz hk => ?_)
      obtain ⟨rfl, hM⟩ := hq
      replace hK := hK.keep hka hk
      clear hz hk
      refine vv_goto (tgt := 165) X dX2_readLine_29 (by decide) ?_
      exact vv_vret X hQ dX2_readLine_165 (Nat.le_refl _) (Nat.le_refl _) (⟨rfl, by unfold liA; rw [if_neg c_6, if_pos c_22]; dsimp only; exact hM⟩)
  · replace c_6 : wr (I 1) 5 x = true := c_6
    refine vv_aload_n X dX2_readLine_9 rfl 0 rfl ?_
    refine vv_callV X (mX2_readWall (kL K) D g x I J P S e hg hka hP hx) q3111 q3113 qs73 q144 q3114 nX2_readWall ⟨(Nat.le_of_ble_eq_true rfl), (Nat.le_of_ble_eq_true rfl)⟩ dX2_readLine_10 rfl (Nat.le_of_ble_eq_true rfl) (recv X hM.1 CL_X2) ⟨hM, hK⟩  (fun _ z => Or.inl z) ⟨(Nat.le_of_ble_eq_true rfl), (Nat.le_of_ble_eq_true rfl)⟩ (fun v_ H hq hz hk => ?_)
    obtain ⟨rfl, hM⟩ := hq
    replace hK := hK.keep hka hk
    clear hz hk
    refine vv_goto (tgt := 165) X dX2_readLine_13 (by decide) ?_
    exact vv_vret X hQ dX2_readLine_165 (Nat.le_refl _) (Nat.le_refl _) (⟨rfl, by unfold liA; rw [if_pos c_6]; dsimp only; exact hM⟩)
/-- behind the lines: more text, or not enough told -/
def txG (z : (Nat → Int32) × (Nat → Int32) × (Nat → Int32)) : Nat → Int32 := if z.1 5 = nI 0 ∧ ¬ z.1 7 = nI 1 then fau 1 z.1 else z.1
def txF (z : (Nat → Int32) × (Nat → Int32) × (Nat → Int32)) : Nat → Int32 := if nM z.2.1 = 0 ∨ pC z.2.1 = 0 then fau 5 (txG z) else txG z
theorem MR.zero {D : DD} {g : Nat → Nat} {x : Nat → Int32} {I : Nat → Nat → Int32} {J : Nat → Nat → Int64} {H : Heap} {A B : Nat → Int32} (h : MR D g x (va_up (va_up I 11 (rz A (fun _ => nI 0) 131)) 13 (rz B (fun _ => nI 0) 2455)) J H) (hg : MG g) : MR D g x (va_up (va_up I 11 (fun _ => nI 0)) 13 (fun _ => nI 0)) J H := by
  have a := iA_cg (show iA D H (g 11) 131 (rz A (fun _ => nI 0) 131) from h.a11) (g := fun _ => nI 0) (fun j hj => rz_in hj)
  have b := iA_cg (show iA D H (g 13) 2455 (rz B (fun _ => nI 0) 2455) from h.a13) (g := fun _ => nI 0) (fun j hj => rz_in hj)
  have h1 := h.setI hg (k := 11) (n := 131) (by decide) ⟨rfl, fun _ _ => rfl⟩ a
  rw [up_sw (by decide)] at h1
  have h2 := h1.setI hg (k := 13) (n := 2455) (by decide) ⟨rfl, fun _ _ => rfl⟩ b
  rw [up_up] at h2
  exact h2
theorem nX2_readText : notMH yX2_readText 0 := by decide +kernel
set_option maxHeartbeats 800000 in
theorem mX2_readText (l : Launch) (D : DD) (g : Nat → Nat) (x : Nat → Int32) (I : Nat → Nat → Int32) (J : Nat → Nat → Int64) (e : Nat) (hg : MG g) (hka : KA D (MA g)) (hx0 : PX e x) (h50 : ¬ 0 < x 5) : Ct l yX2_readText cX2_readText 2 none { frames := 10, cells := 0, slots := 0, locals := 205 } D [.ref (g 0)] (fun H => MR D g x I J H ∧ KH D H) (MA g) (fun v H H1 => v = none ∧ MR D g (txF (txA (I 1) e x)) (va_up (va_up I 11 (txA (I 1) e x).2.1) 13 (txA (I 1) e x).2.2) J H1) := by
  refine Ct.of (by decide +kernel) (Nat.le_of_ble_eq_true rfl) (fun K Qf hkl X hM hQ => ?_)
  subst hkl
  obtain ⟨hM, hK⟩ := hM
  obtain ⟨R, hR0⟩ : ∃ R, txA (I 1) e x = R := ⟨_, rfl⟩
  rw [hR0] at hQ
  refine vv_sub (lv' := [(0, .ref (g 0))]) [0] rfl ?_
  refine vv_iconst (v := nI 0) X dX2_readText_0 (by decide) ?_
  refine vv_istore_n (lv' := [(1, .int (nI 0)), (0, .ref (g 0))]) X dX2_readText_1 rfl (by decide) rfl ?_
  have hx_1 : ∀ (H : Heap) (hM : MR D g x (va_up I 11 (rz (I 11) (fun _ => nI 0) 131)) J H) (hK : KH D H), V K 2 (MA g) H 0 0 Qf 22 [(0, .ref (g 0)), (1, .int (nI 131))] [] := by
    intro H hM hK
    refine vv_iconst (v := nI 0) X dX2_readText_22 (by decide) ?_
    refine vv_istore_n (lv' := [(1, .int (nI 0)), (0, .ref (g 0))]) X dX2_readText_23 rfl (by decide) rfl ?_
    have hx_2 : ∀ (H : Heap) (hM : MR D g x (va_up (va_up I 11 (rz (I 11) (fun _ => nI 0) 131)) 13 (rz (I 13) (fun _ => nI 0) 2455)) J H) (hK : KH D H), V K 2 (MA g) H 0 0 Qf 44 [(0, .ref (g 0)), (1, .int (nI 2455))] [] := by
      intro H hM hK
      replace hM := hM.zero hg
      replace hM : MR D g x (va_up (va_up I 11 (fun _ => nI 0)) 13 (fun _ => nI 0)) J H := hM
      refine vv_aload_n X dX2_readText_44 rfl 0 rfl ?_
      refine vv_callV X (mX2_nextToken (kL K) D g x (va_up (va_up I 11 (fun _ => nI 0)) 13 (fun _ => nI 0)) J hg e hx0) q3042 q3044 qs61 q144 q3045 nX2_nextToken ⟨(Nat.le_of_ble_eq_true rfl), (Nat.le_of_ble_eq_true rfl)⟩ dX2_readText_45 rfl (Nat.le_of_ble_eq_true rfl) (recv X hM.1 CL_X2) hM  (fun _ z => Or.inl z) ⟨(Nat.le_of_ble_eq_true rfl), (Nat.le_of_ble_eq_true rfl)⟩ (fun v_ H hq hz hk => ?_)
      obtain ⟨rfl, hM⟩ := hq
      replace hK := hK.keep hka hk
      clear hz hk
      replace hM : MR D g (nxt (I 1) e x) (va_up (va_up I 11 (fun _ => nI 0)) 13 (fun _ => nI 0)) J H := hM
      have hx : PY e (nxt (I 1) e x) := PY_tkX hx0 h50
      refine vv_aload_n X dX2_readText_48 rfl 0 rfl ?_
      refine vv_callV X (mX2_readFirst (kL K) D g (nxt (I 1) e x) I J (fun _ => nI 0) (fun _ => nI 0) e hg hka hx) q3053 q3055 qs63 q144 q3056 nX2_readFirst ⟨(Nat.le_of_ble_eq_true rfl), (Nat.le_of_ble_eq_true rfl)⟩ dX2_readText_49 rfl (Nat.le_of_ble_eq_true rfl) (recv X hM.1 CL_X2) ⟨hM, hK⟩  (fun _ z => Or.inl z) ⟨(Nat.le_of_ble_eq_true rfl), (Nat.le_of_ble_eq_true rfl)⟩ (fun v_ H hq hz hk => ?_)
      obtain ⟨rfl, hM⟩ := hq
      replace hK := hK.keep hka hk
      clear hz hk
      replace hx : PY e (fi4 (I 1) e (nxt (I 1) e x)) := PY_fi4 hx
      have hlp : ∀ (n : Nat) (x P S : Nat → Int32) (H : Heap), IV P → PY e x → (0 < x 5 ∨ e + 1 - cl (x 4) ≤ n) → lns (I 1) e n x P S = R → MR D g x (va_up (va_up I 11 P) 13 S) J H → KH D H → V K 2 (MA g) H 0 0 Qf 52 [(0, .ref (g 0))] [] := by
        intro n
        induction n with
        | zero =>
          intro x P S H hI hx hn hR hM hK
          have hP := hI.1
          have l4 := hP.l4
          have l8 := hP.l8
          have hxx := hx
          refine vv_aload_n X dX2_readText_52 rfl 0 rfl ?_
          refine vv_bipush (v := nI 59) X dX2_readText_53 (by decide) ?_
          refine vv_callVp X (mX2_isSignHere (kL K) D g x (va_up (va_up I 11 P) 13 S) J (nI 59)) q3102 q3104 qs71 q144 q3105 nX2_isSignHere ⟨(Nat.le_of_ble_eq_true rfl), (Nat.le_of_ble_eq_true rfl)⟩ dX2_readText_55 rfl (Nat.le_of_ble_eq_true rfl) (recv X hM.1 CL_X2) hM ⟨(Nat.le_of_ble_eq_true rfl), (Nat.le_of_ble_eq_true rfl)⟩ ?_
          refine vb_eq (tgt := 72) X dX2_readText_58 (by decide) (fun c_58 => ?_) (fun c_58 => ?_)
          · replace c_58 : ¬ (sgh (nI 59) x) := c_58
            rw [lns_n c_58] at hR
            subst hR
            refine vv_aload_n X dX2_readText_72 rfl 0 rfl ?_
            refine mg5 X rfl hM dX2_readText_73 ?_
            refine vv_if_ne (tgt := 92) X dX2_readText_76 (by decide) (fun c_76 => ?_) (fun c_76 => ?_)
            · refine vv_aload_n X dX2_readText_92 rfl 0 rfl ?_
              refine mg11 X rfl hM dX2_readText_93 ?_
              refine vv_iconst (v := nI 4) X dX2_readText_96 (by decide) ?_
              refine vv_iald X hM.a11 (4) (by omega) (by decide) rfl dX2_readText_97 ?_
              refine vv_eqi hP.e4 ?_
              refine vn_if_eq (tgt := 111) X (by omega) dX2_readText_98 (by decide) (fun c_98 => ?_) (fun c_98 => ?_)
              · refine vv_aload_n X dX2_readText_111 rfl 0 rfl ?_
                refine vv_iconst (v := nI 5) X dX2_readText_112 (by decide) ?_
                refine vv_callV X (mX2_faults (kL K) D g x (va_up (va_up I 11 P) 13 S) J hg 5) q3082 q3084 qs67 q144 q3085 nX2_faults ⟨(Nat.le_of_ble_eq_true rfl), (Nat.le_of_ble_eq_true rfl)⟩ dX2_readText_113 rfl (Nat.le_of_ble_eq_true rfl) (recv X hM.1 CL_X2) hM  (fun _ z => Or.inl z) ⟨(Nat.le_of_ble_eq_true rfl), (Nat.le_of_ble_eq_true rfl)⟩ (fun v_ H hq hz hk => ?_)
                obtain ⟨rfl, hM⟩ := hq
                replace hK := hK.keep hka hk
                clear hz hk
                replace hM : MR D g (fau 5 x) (va_up (va_up I 11 P) 13 S) J H := hM
                replace hx : PY e (fau 5 x) := PY_fau hx (by decide)
                exact vv_vret X hQ dX2_readText_116 (Nat.le_refl _) (Nat.le_refl _) (⟨rfl, by unfold txF txG; dsimp only; rw [if_pos (Or.inl (by omega)), if_neg (fun z => c_76 z.1)]; exact hM⟩)
              · refine vv_aload_n X dX2_readText_101 rfl 0 rfl ?_
                refine mg11 X rfl hM dX2_readText_102 ?_
                refine vv_bipush (v := nI 8) X dX2_readText_105 (by decide) ?_
                refine vv_iald X hM.a11 (8) (by omega) (by decide) rfl dX2_readText_107 ?_
                refine vv_eqi hP.e8 ?_
                refine vn_if_ne (tgt := 116) X (by omega) dX2_readText_108 (by decide) (fun c_108 => ?_) (fun c_108 => ?_)
                · exact vv_vret X hQ dX2_readText_116 (Nat.le_refl _) (Nat.le_refl _) (⟨rfl, by unfold txF txG; dsimp only; rw [if_neg (fun z => z.elim (fun y => by omega) (fun y => by omega)), if_neg (fun z => c_76 z.1)]; exact hM⟩)
                · refine vv_aload_n X dX2_readText_111 rfl 0 rfl ?_
                  refine vv_iconst (v := nI 5) X dX2_readText_112 (by decide) ?_
                  refine vv_callV X (mX2_faults (kL K) D g x (va_up (va_up I 11 P) 13 S) J hg 5) q3082 q3084 qs67 q144 q3085 nX2_faults ⟨(Nat.le_of_ble_eq_true rfl), (Nat.le_of_ble_eq_true rfl)⟩ dX2_readText_113 rfl (Nat.le_of_ble_eq_true rfl) (recv X hM.1 CL_X2) hM  (fun _ z => Or.inl z) ⟨(Nat.le_of_ble_eq_true rfl), (Nat.le_of_ble_eq_true rfl)⟩ (fun v_ H hq hz hk => ?_)
                  obtain ⟨rfl, hM⟩ := hq
                  replace hK := hK.keep hka hk
                  clear hz hk
                  replace hM : MR D g (fau 5 x) (va_up (va_up I 11 P) 13 S) J H := hM
                  replace hx : PY e (fau 5 x) := PY_fau hx (by decide)
                  exact vv_vret X hQ dX2_readText_116 (Nat.le_refl _) (Nat.le_refl _) (⟨rfl, by unfold txF txG; dsimp only; rw [if_pos (Or.inr (by omega)), if_neg (fun z => c_76 z.1)]; exact hM⟩)
            · refine vv_aload_n X dX2_readText_79 rfl 0 rfl ?_
              refine mg7 X rfl hM dX2_readText_80 ?_
              refine vv_iconst (v := nI 1) X dX2_readText_83 (by decide) ?_
              refine vv_icmp_eq (tgt := 92) X dX2_readText_84 (by decide) (fun c_84 => ?_) (fun c_84 => ?_)
              · refine vv_aload_n X dX2_readText_92 rfl 0 rfl ?_
                refine mg11 X rfl hM dX2_readText_93 ?_
                refine vv_iconst (v := nI 4) X dX2_readText_96 (by decide) ?_
                refine vv_iald X hM.a11 (4) (by omega) (by decide) rfl dX2_readText_97 ?_
                refine vv_eqi hP.e4 ?_
                refine vn_if_eq (tgt := 111) X (by omega) dX2_readText_98 (by decide) (fun c_98 => ?_) (fun c_98 => ?_)
                · refine vv_aload_n X dX2_readText_111 rfl 0 rfl ?_
                  refine vv_iconst (v := nI 5) X dX2_readText_112 (by decide) ?_
                  refine vv_callV X (mX2_faults (kL K) D g x (va_up (va_up I 11 P) 13 S) J hg 5) q3082 q3084 qs67 q144 q3085 nX2_faults ⟨(Nat.le_of_ble_eq_true rfl), (Nat.le_of_ble_eq_true rfl)⟩ dX2_readText_113 rfl (Nat.le_of_ble_eq_true rfl) (recv X hM.1 CL_X2) hM  (fun _ z => Or.inl z) ⟨(Nat.le_of_ble_eq_true rfl), (Nat.le_of_ble_eq_true rfl)⟩ (fun v_ H hq hz hk => ?_)
                  obtain ⟨rfl, hM⟩ := hq
                  replace hK := hK.keep hka hk
                  clear hz hk
                  replace hM : MR D g (fau 5 x) (va_up (va_up I 11 P) 13 S) J H := hM
                  replace hx : PY e (fau 5 x) := PY_fau hx (by decide)
                  exact vv_vret X hQ dX2_readText_116 (Nat.le_refl _) (Nat.le_refl _) (⟨rfl, by unfold txF txG; dsimp only; rw [if_pos (Or.inl (by omega)), if_neg (fun z => z.2 c_84)]; exact hM⟩)
                · refine vv_aload_n X dX2_readText_101 rfl 0 rfl ?_
                  refine mg11 X rfl hM dX2_readText_102 ?_
                  refine vv_bipush (v := nI 8) X dX2_readText_105 (by decide) ?_
                  refine vv_iald X hM.a11 (8) (by omega) (by decide) rfl dX2_readText_107 ?_
                  refine vv_eqi hP.e8 ?_
                  refine vn_if_ne (tgt := 116) X (by omega) dX2_readText_108 (by decide) (fun c_108 => ?_) (fun c_108 => ?_)
                  · exact vv_vret X hQ dX2_readText_116 (Nat.le_refl _) (Nat.le_refl _) (⟨rfl, by unfold txF txG; dsimp only; rw [if_neg (fun z => z.elim (fun y => by omega) (fun y => by omega)), if_neg (fun z => z.2 c_84)]; exact hM⟩)
                  · refine vv_aload_n X dX2_readText_111 rfl 0 rfl ?_
                    refine vv_iconst (v := nI 5) X dX2_readText_112 (by decide) ?_
                    refine vv_callV X (mX2_faults (kL K) D g x (va_up (va_up I 11 P) 13 S) J hg 5) q3082 q3084 qs67 q144 q3085 nX2_faults ⟨(Nat.le_of_ble_eq_true rfl), (Nat.le_of_ble_eq_true rfl)⟩ dX2_readText_113 rfl (Nat.le_of_ble_eq_true rfl) (recv X hM.1 CL_X2) hM  (fun _ z => Or.inl z) ⟨(Nat.le_of_ble_eq_true rfl), (Nat.le_of_ble_eq_true rfl)⟩ (fun v_ H hq hz hk => ?_)
                    obtain ⟨rfl, hM⟩ := hq
                    replace hK := hK.keep hka hk
                    clear hz hk
                    replace hM : MR D g (fau 5 x) (va_up (va_up I 11 P) 13 S) J H := hM
                    replace hx : PY e (fau 5 x) := PY_fau hx (by decide)
                    exact vv_vret X hQ dX2_readText_116 (Nat.le_refl _) (Nat.le_refl _) (⟨rfl, by unfold txF txG; dsimp only; rw [if_pos (Or.inr (by omega)), if_neg (fun z => z.2 c_84)]; exact hM⟩)
              · refine vv_aload_n X dX2_readText_87 rfl 0 rfl ?_
                refine vv_iconst (v := nI 1) X dX2_readText_88 (by decide) ?_
                refine vv_callV X (mX2_faults (kL K) D g x (va_up (va_up I 11 P) 13 S) J hg 1) q3082 q3084 qs67 q144 q3085 nX2_faults ⟨(Nat.le_of_ble_eq_true rfl), (Nat.le_of_ble_eq_true rfl)⟩ dX2_readText_89 rfl (Nat.le_of_ble_eq_true rfl) (recv X hM.1 CL_X2) hM  (fun _ z => Or.inl z) ⟨(Nat.le_of_ble_eq_true rfl), (Nat.le_of_ble_eq_true rfl)⟩ (fun v_ H hq hz hk => ?_)
                obtain ⟨rfl, hM⟩ := hq
                replace hK := hK.keep hka hk
                clear hz hk
                replace hM : MR D g (fau 1 x) (va_up (va_up I 11 P) 13 S) J H := hM
                replace hx : PY e (fau 1 x) := PY_fau hx (by decide)
                refine vv_aload_n X dX2_readText_92 rfl 0 rfl ?_
                refine mg11 X rfl hM dX2_readText_93 ?_
                refine vv_iconst (v := nI 4) X dX2_readText_96 (by decide) ?_
                refine vv_iald X hM.a11 (4) (by omega) (by decide) rfl dX2_readText_97 ?_
                refine vv_eqi hP.e4 ?_
                refine vn_if_eq (tgt := 111) X (by omega) dX2_readText_98 (by decide) (fun c_98 => ?_) (fun c_98 => ?_)
                · refine vv_aload_n X dX2_readText_111 rfl 0 rfl ?_
                  refine vv_iconst (v := nI 5) X dX2_readText_112 (by decide) ?_
                  refine vv_callV X (mX2_faults (kL K) D g (fau 1 x) (va_up (va_up I 11 P) 13 S) J hg 5) q3082 q3084 qs67 q144 q3085 nX2_faults ⟨(Nat.le_of_ble_eq_true rfl), (Nat.le_of_ble_eq_true rfl)⟩ dX2_readText_113 rfl (Nat.le_of_ble_eq_true rfl) (recv X hM.1 CL_X2) hM  (fun _ z => Or.inl z) ⟨(Nat.le_of_ble_eq_true rfl), (Nat.le_of_ble_eq_true rfl)⟩ (fun v_ H hq hz hk => ?_)
                  obtain ⟨rfl, hM⟩ := hq
                  replace hK := hK.keep hka hk
                  clear hz hk
                  replace hM : MR D g (fau 5 (fau 1 x)) (va_up (va_up I 11 P) 13 S) J H := hM
                  replace hx : PY e (fau 5 (fau 1 x)) := PY_fau hx (by decide)
                  exact vv_vret X hQ dX2_readText_116 (Nat.le_refl _) (Nat.le_refl _) (⟨rfl, by unfold txF txG; dsimp only; rw [if_pos (Or.inl (by omega)), if_pos ⟨c_76, c_84⟩]; exact hM⟩)
                · refine vv_aload_n X dX2_readText_101 rfl 0 rfl ?_
                  refine mg11 X rfl hM dX2_readText_102 ?_
                  refine vv_bipush (v := nI 8) X dX2_readText_105 (by decide) ?_
                  refine vv_iald X hM.a11 (8) (by omega) (by decide) rfl dX2_readText_107 ?_
                  refine vv_eqi hP.e8 ?_
                  refine vn_if_ne (tgt := 116) X (by omega) dX2_readText_108 (by decide) (fun c_108 => ?_) (fun c_108 => ?_)
                  · exact vv_vret X hQ dX2_readText_116 (Nat.le_refl _) (Nat.le_refl _) (⟨rfl, by unfold txF txG; dsimp only; rw [if_neg (fun z => z.elim (fun y => by omega) (fun y => by omega)), if_pos ⟨c_76, c_84⟩]; exact hM⟩)
                  · refine vv_aload_n X dX2_readText_111 rfl 0 rfl ?_
                    refine vv_iconst (v := nI 5) X dX2_readText_112 (by decide) ?_
                    refine vv_callV X (mX2_faults (kL K) D g (fau 1 x) (va_up (va_up I 11 P) 13 S) J hg 5) q3082 q3084 qs67 q144 q3085 nX2_faults ⟨(Nat.le_of_ble_eq_true rfl), (Nat.le_of_ble_eq_true rfl)⟩ dX2_readText_113 rfl (Nat.le_of_ble_eq_true rfl) (recv X hM.1 CL_X2) hM  (fun _ z => Or.inl z) ⟨(Nat.le_of_ble_eq_true rfl), (Nat.le_of_ble_eq_true rfl)⟩ (fun v_ H hq hz hk => ?_)
                    obtain ⟨rfl, hM⟩ := hq
                    replace hK := hK.keep hka hk
                    clear hz hk
                    replace hM : MR D g (fau 5 (fau 1 x)) (va_up (va_up I 11 P) 13 S) J H := hM
                    replace hx : PY e (fau 5 (fau 1 x)) := PY_fau hx (by decide)
                    exact vv_vret X hQ dX2_readText_116 (Nat.le_refl _) (Nat.le_refl _) (⟨rfl, by unfold txF txG; dsimp only; rw [if_pos (Or.inr (by omega)), if_pos ⟨c_76, c_84⟩]; exact hM⟩)
          · exact absurd hn (fun z => z.elim (px5n c_58.1) (fun z => by obtain ⟨_, p, s, _, hpe, h4, _⟩ := hx; have he2 := hxx.1.2.1; rw [h4, cl_I (by omega)] at z; omega))
        | succ n ih =>
          intro x P S H hI hx hn hR hM hK
          have hP := hI.1
          have l4 := hP.l4
          have l8 := hP.l8
          refine vv_aload_n X dX2_readText_52 rfl 0 rfl ?_
          refine vv_bipush (v := nI 59) X dX2_readText_53 (by decide) ?_
          refine vv_callVp X (mX2_isSignHere (kL K) D g x (va_up (va_up I 11 P) 13 S) J (nI 59)) q3102 q3104 qs71 q144 q3105 nX2_isSignHere ⟨(Nat.le_of_ble_eq_true rfl), (Nat.le_of_ble_eq_true rfl)⟩ dX2_readText_55 rfl (Nat.le_of_ble_eq_true rfl) (recv X hM.1 CL_X2) hM ⟨(Nat.le_of_ble_eq_true rfl), (Nat.le_of_ble_eq_true rfl)⟩ ?_
          refine vb_eq (tgt := 72) X dX2_readText_58 (by decide) (fun c_58 => ?_) (fun c_58 => ?_)
          · replace c_58 : ¬ (sgh (nI 59) x) := c_58
            rw [lns_n c_58] at hR
            subst hR
            refine vv_aload_n X dX2_readText_72 rfl 0 rfl ?_
            refine mg5 X rfl hM dX2_readText_73 ?_
            refine vv_if_ne (tgt := 92) X dX2_readText_76 (by decide) (fun c_76 => ?_) (fun c_76 => ?_)
            · refine vv_aload_n X dX2_readText_92 rfl 0 rfl ?_
              refine mg11 X rfl hM dX2_readText_93 ?_
              refine vv_iconst (v := nI 4) X dX2_readText_96 (by decide) ?_
              refine vv_iald X hM.a11 (4) (by omega) (by decide) rfl dX2_readText_97 ?_
              refine vv_eqi hP.e4 ?_
              refine vn_if_eq (tgt := 111) X (by omega) dX2_readText_98 (by decide) (fun c_98 => ?_) (fun c_98 => ?_)
              · refine vv_aload_n X dX2_readText_111 rfl 0 rfl ?_
                refine vv_iconst (v := nI 5) X dX2_readText_112 (by decide) ?_
                refine vv_callV X (mX2_faults (kL K) D g x (va_up (va_up I 11 P) 13 S) J hg 5) q3082 q3084 qs67 q144 q3085 nX2_faults ⟨(Nat.le_of_ble_eq_true rfl), (Nat.le_of_ble_eq_true rfl)⟩ dX2_readText_113 rfl (Nat.le_of_ble_eq_true rfl) (recv X hM.1 CL_X2) hM  (fun _ z => Or.inl z) ⟨(Nat.le_of_ble_eq_true rfl), (Nat.le_of_ble_eq_true rfl)⟩ (fun v_ H hq hz hk => ?_)
                obtain ⟨rfl, hM⟩ := hq
                replace hK := hK.keep hka hk
                clear hz hk
                replace hM : MR D g (fau 5 x) (va_up (va_up I 11 P) 13 S) J H := hM
                replace hx : PY e (fau 5 x) := PY_fau hx (by decide)
                exact vv_vret X hQ dX2_readText_116 (Nat.le_refl _) (Nat.le_refl _) (⟨rfl, by unfold txF txG; dsimp only; rw [if_pos (Or.inl (by omega)), if_neg (fun z => c_76 z.1)]; exact hM⟩)
              · refine vv_aload_n X dX2_readText_101 rfl 0 rfl ?_
                refine mg11 X rfl hM dX2_readText_102 ?_
                refine vv_bipush (v := nI 8) X dX2_readText_105 (by decide) ?_
                refine vv_iald X hM.a11 (8) (by omega) (by decide) rfl dX2_readText_107 ?_
                refine vv_eqi hP.e8 ?_
                refine vn_if_ne (tgt := 116) X (by omega) dX2_readText_108 (by decide) (fun c_108 => ?_) (fun c_108 => ?_)
                · exact vv_vret X hQ dX2_readText_116 (Nat.le_refl _) (Nat.le_refl _) (⟨rfl, by unfold txF txG; dsimp only; rw [if_neg (fun z => z.elim (fun y => by omega) (fun y => by omega)), if_neg (fun z => c_76 z.1)]; exact hM⟩)
                · refine vv_aload_n X dX2_readText_111 rfl 0 rfl ?_
                  refine vv_iconst (v := nI 5) X dX2_readText_112 (by decide) ?_
                  refine vv_callV X (mX2_faults (kL K) D g x (va_up (va_up I 11 P) 13 S) J hg 5) q3082 q3084 qs67 q144 q3085 nX2_faults ⟨(Nat.le_of_ble_eq_true rfl), (Nat.le_of_ble_eq_true rfl)⟩ dX2_readText_113 rfl (Nat.le_of_ble_eq_true rfl) (recv X hM.1 CL_X2) hM  (fun _ z => Or.inl z) ⟨(Nat.le_of_ble_eq_true rfl), (Nat.le_of_ble_eq_true rfl)⟩ (fun v_ H hq hz hk => ?_)
                  obtain ⟨rfl, hM⟩ := hq
                  replace hK := hK.keep hka hk
                  clear hz hk
                  replace hM : MR D g (fau 5 x) (va_up (va_up I 11 P) 13 S) J H := hM
                  replace hx : PY e (fau 5 x) := PY_fau hx (by decide)
                  exact vv_vret X hQ dX2_readText_116 (Nat.le_refl _) (Nat.le_refl _) (⟨rfl, by unfold txF txG; dsimp only; rw [if_pos (Or.inr (by omega)), if_neg (fun z => c_76 z.1)]; exact hM⟩)
            · refine vv_aload_n X dX2_readText_79 rfl 0 rfl ?_
              refine mg7 X rfl hM dX2_readText_80 ?_
              refine vv_iconst (v := nI 1) X dX2_readText_83 (by decide) ?_
              refine vv_icmp_eq (tgt := 92) X dX2_readText_84 (by decide) (fun c_84 => ?_) (fun c_84 => ?_)
              · refine vv_aload_n X dX2_readText_92 rfl 0 rfl ?_
                refine mg11 X rfl hM dX2_readText_93 ?_
                refine vv_iconst (v := nI 4) X dX2_readText_96 (by decide) ?_
                refine vv_iald X hM.a11 (4) (by omega) (by decide) rfl dX2_readText_97 ?_
                refine vv_eqi hP.e4 ?_
                refine vn_if_eq (tgt := 111) X (by omega) dX2_readText_98 (by decide) (fun c_98 => ?_) (fun c_98 => ?_)
                · refine vv_aload_n X dX2_readText_111 rfl 0 rfl ?_
                  refine vv_iconst (v := nI 5) X dX2_readText_112 (by decide) ?_
                  refine vv_callV X (mX2_faults (kL K) D g x (va_up (va_up I 11 P) 13 S) J hg 5) q3082 q3084 qs67 q144 q3085 nX2_faults ⟨(Nat.le_of_ble_eq_true rfl), (Nat.le_of_ble_eq_true rfl)⟩ dX2_readText_113 rfl (Nat.le_of_ble_eq_true rfl) (recv X hM.1 CL_X2) hM  (fun _ z => Or.inl z) ⟨(Nat.le_of_ble_eq_true rfl), (Nat.le_of_ble_eq_true rfl)⟩ (fun v_ H hq hz hk => ?_)
                  obtain ⟨rfl, hM⟩ := hq
                  replace hK := hK.keep hka hk
                  clear hz hk
                  replace hM : MR D g (fau 5 x) (va_up (va_up I 11 P) 13 S) J H := hM
                  replace hx : PY e (fau 5 x) := PY_fau hx (by decide)
                  exact vv_vret X hQ dX2_readText_116 (Nat.le_refl _) (Nat.le_refl _) (⟨rfl, by unfold txF txG; dsimp only; rw [if_pos (Or.inl (by omega)), if_neg (fun z => z.2 c_84)]; exact hM⟩)
                · refine vv_aload_n X dX2_readText_101 rfl 0 rfl ?_
                  refine mg11 X rfl hM dX2_readText_102 ?_
                  refine vv_bipush (v := nI 8) X dX2_readText_105 (by decide) ?_
                  refine vv_iald X hM.a11 (8) (by omega) (by decide) rfl dX2_readText_107 ?_
                  refine vv_eqi hP.e8 ?_
                  refine vn_if_ne (tgt := 116) X (by omega) dX2_readText_108 (by decide) (fun c_108 => ?_) (fun c_108 => ?_)
                  · exact vv_vret X hQ dX2_readText_116 (Nat.le_refl _) (Nat.le_refl _) (⟨rfl, by unfold txF txG; dsimp only; rw [if_neg (fun z => z.elim (fun y => by omega) (fun y => by omega)), if_neg (fun z => z.2 c_84)]; exact hM⟩)
                  · refine vv_aload_n X dX2_readText_111 rfl 0 rfl ?_
                    refine vv_iconst (v := nI 5) X dX2_readText_112 (by decide) ?_
                    refine vv_callV X (mX2_faults (kL K) D g x (va_up (va_up I 11 P) 13 S) J hg 5) q3082 q3084 qs67 q144 q3085 nX2_faults ⟨(Nat.le_of_ble_eq_true rfl), (Nat.le_of_ble_eq_true rfl)⟩ dX2_readText_113 rfl (Nat.le_of_ble_eq_true rfl) (recv X hM.1 CL_X2) hM  (fun _ z => Or.inl z) ⟨(Nat.le_of_ble_eq_true rfl), (Nat.le_of_ble_eq_true rfl)⟩ (fun v_ H hq hz hk => ?_)
                    obtain ⟨rfl, hM⟩ := hq
                    replace hK := hK.keep hka hk
                    clear hz hk
                    replace hM : MR D g (fau 5 x) (va_up (va_up I 11 P) 13 S) J H := hM
                    replace hx : PY e (fau 5 x) := PY_fau hx (by decide)
                    exact vv_vret X hQ dX2_readText_116 (Nat.le_refl _) (Nat.le_refl _) (⟨rfl, by unfold txF txG; dsimp only; rw [if_pos (Or.inr (by omega)), if_neg (fun z => z.2 c_84)]; exact hM⟩)
              · refine vv_aload_n X dX2_readText_87 rfl 0 rfl ?_
                refine vv_iconst (v := nI 1) X dX2_readText_88 (by decide) ?_
                refine vv_callV X (mX2_faults (kL K) D g x (va_up (va_up I 11 P) 13 S) J hg 1) q3082 q3084 qs67 q144 q3085 nX2_faults ⟨(Nat.le_of_ble_eq_true rfl), (Nat.le_of_ble_eq_true rfl)⟩ dX2_readText_89 rfl (Nat.le_of_ble_eq_true rfl) (recv X hM.1 CL_X2) hM  (fun _ z => Or.inl z) ⟨(Nat.le_of_ble_eq_true rfl), (Nat.le_of_ble_eq_true rfl)⟩ (fun v_ H hq hz hk => ?_)
                obtain ⟨rfl, hM⟩ := hq
                replace hK := hK.keep hka hk
                clear hz hk
                replace hM : MR D g (fau 1 x) (va_up (va_up I 11 P) 13 S) J H := hM
                replace hx : PY e (fau 1 x) := PY_fau hx (by decide)
                refine vv_aload_n X dX2_readText_92 rfl 0 rfl ?_
                refine mg11 X rfl hM dX2_readText_93 ?_
                refine vv_iconst (v := nI 4) X dX2_readText_96 (by decide) ?_
                refine vv_iald X hM.a11 (4) (by omega) (by decide) rfl dX2_readText_97 ?_
                refine vv_eqi hP.e4 ?_
                refine vn_if_eq (tgt := 111) X (by omega) dX2_readText_98 (by decide) (fun c_98 => ?_) (fun c_98 => ?_)
                · refine vv_aload_n X dX2_readText_111 rfl 0 rfl ?_
                  refine vv_iconst (v := nI 5) X dX2_readText_112 (by decide) ?_
                  refine vv_callV X (mX2_faults (kL K) D g (fau 1 x) (va_up (va_up I 11 P) 13 S) J hg 5) q3082 q3084 qs67 q144 q3085 nX2_faults ⟨(Nat.le_of_ble_eq_true rfl), (Nat.le_of_ble_eq_true rfl)⟩ dX2_readText_113 rfl (Nat.le_of_ble_eq_true rfl) (recv X hM.1 CL_X2) hM  (fun _ z => Or.inl z) ⟨(Nat.le_of_ble_eq_true rfl), (Nat.le_of_ble_eq_true rfl)⟩ (fun v_ H hq hz hk => ?_)
                  obtain ⟨rfl, hM⟩ := hq
                  replace hK := hK.keep hka hk
                  clear hz hk
                  replace hM : MR D g (fau 5 (fau 1 x)) (va_up (va_up I 11 P) 13 S) J H := hM
                  replace hx : PY e (fau 5 (fau 1 x)) := PY_fau hx (by decide)
                  exact vv_vret X hQ dX2_readText_116 (Nat.le_refl _) (Nat.le_refl _) (⟨rfl, by unfold txF txG; dsimp only; rw [if_pos (Or.inl (by omega)), if_pos ⟨c_76, c_84⟩]; exact hM⟩)
                · refine vv_aload_n X dX2_readText_101 rfl 0 rfl ?_
                  refine mg11 X rfl hM dX2_readText_102 ?_
                  refine vv_bipush (v := nI 8) X dX2_readText_105 (by decide) ?_
                  refine vv_iald X hM.a11 (8) (by omega) (by decide) rfl dX2_readText_107 ?_
                  refine vv_eqi hP.e8 ?_
                  refine vn_if_ne (tgt := 116) X (by omega) dX2_readText_108 (by decide) (fun c_108 => ?_) (fun c_108 => ?_)
                  · exact vv_vret X hQ dX2_readText_116 (Nat.le_refl _) (Nat.le_refl _) (⟨rfl, by unfold txF txG; dsimp only; rw [if_neg (fun z => z.elim (fun y => by omega) (fun y => by omega)), if_pos ⟨c_76, c_84⟩]; exact hM⟩)
                  · refine vv_aload_n X dX2_readText_111 rfl 0 rfl ?_
                    refine vv_iconst (v := nI 5) X dX2_readText_112 (by decide) ?_
                    refine vv_callV X (mX2_faults (kL K) D g (fau 1 x) (va_up (va_up I 11 P) 13 S) J hg 5) q3082 q3084 qs67 q144 q3085 nX2_faults ⟨(Nat.le_of_ble_eq_true rfl), (Nat.le_of_ble_eq_true rfl)⟩ dX2_readText_113 rfl (Nat.le_of_ble_eq_true rfl) (recv X hM.1 CL_X2) hM  (fun _ z => Or.inl z) ⟨(Nat.le_of_ble_eq_true rfl), (Nat.le_of_ble_eq_true rfl)⟩ (fun v_ H hq hz hk => ?_)
                    obtain ⟨rfl, hM⟩ := hq
                    replace hK := hK.keep hka hk
                    clear hz hk
                    replace hM : MR D g (fau 5 (fau 1 x)) (va_up (va_up I 11 P) 13 S) J H := hM
                    replace hx : PY e (fau 5 (fau 1 x)) := PY_fau hx (by decide)
                    exact vv_vret X hQ dX2_readText_116 (Nat.le_refl _) (Nat.le_refl _) (⟨rfl, by unfold txF txG; dsimp only; rw [if_pos (Or.inr (by omega)), if_pos ⟨c_76, c_84⟩]; exact hM⟩)
          · rw [lns_s, if_pos c_58] at hR
            have hadv := liA_adv (f := I 1) (S := S) hI hx
            have hx1 := hx
            refine vv_aload_n X dX2_readText_61 rfl 0 rfl ?_
            refine vv_callV X (mX2_nextToken (kL K) D g x (va_up (va_up I 11 P) 13 S) J hg e hx.1) q3042 q3044 qs61 q144 q3045 nX2_nextToken ⟨(Nat.le_of_ble_eq_true rfl), (Nat.le_of_ble_eq_true rfl)⟩ dX2_readText_62 rfl (Nat.le_of_ble_eq_true rfl) (recv X hM.1 CL_X2) hM  (fun _ z => Or.inl z) ⟨(Nat.le_of_ble_eq_true rfl), (Nat.le_of_ble_eq_true rfl)⟩ (fun v_ H hq hz hk => ?_)
            obtain ⟨rfl, hM⟩ := hq
            replace hK := hK.keep hka hk
            clear hz hk
            replace hM : MR D g (nxt (I 1) e x) (va_up (va_up I 11 P) 13 S) J H := hM
            replace hx : PY e (nxt (I 1) e x) := PY_nxt hx
            refine vv_aload_n X dX2_readText_65 rfl 0 rfl ?_
            refine vv_callV X (mX2_readLine (kL K) D g (nxt (I 1) e x) I J P S e hg hka hI hx) q3106 q3108 qs72 q144 q3109 nX2_readLine ⟨(Nat.le_of_ble_eq_true rfl), (Nat.le_of_ble_eq_true rfl)⟩ dX2_readText_66 rfl (Nat.le_of_ble_eq_true rfl) (recv X hM.1 CL_X2) ⟨hM, hK⟩  (fun _ z => Or.inl z) ⟨(Nat.le_of_ble_eq_true rfl), (Nat.le_of_ble_eq_true rfl)⟩ (fun v_ H hq hz hk => ?_)
            obtain ⟨rfl, hM⟩ := hq
            replace hK := hK.keep hka hk
            clear hz hk
            replace hx : PY e (liA (I 1) e (nxt (I 1) e x) P S).1 := PY_liA hI hx
            refine vv_goto (tgt := 52) X dX2_readText_69 (by decide) ?_
            refine vv_sub [0] rfl ?_
            exact ih _ _ _ _ (IV_liA hI (PY_nxt hx1)) hx (hadv.elim Or.inl (fun z => Or.inr (by rcases hn with y | y; exact absurd y (px5n c_58.1); omega))) hR hM hK
      refine vv_sub [0] rfl ?_
      exact hlp (e + 1) (fi4 (I 1) e (nxt (I 1) e x)) (fiP (I 1) e (nxt (I 1) e x) (fun _ => nI 0)) (fun _ => nI 0) H IV_fi hx (Or.inr (by omega)) hR0 hM hK
    have hl_3 : ∀ (n_i i : Nat) (H : Heap), i + n_i = 2455 → (MR D g x (va_up (va_up I 11 (rz (I 11) (fun _ => nI 0) 131)) 13 (rz (I 13) (fun _ => nI 0) i)) J H) → (KH D H) → V K 2 (MA g) H 0 0 Qf 24 [(0, .ref (g 0)), (1, .int (nI i))] [] := by
      intro n_i
      induction n_i with
      | zero =>
        intro i H hi hM hK
        obtain rfl : i = 2455 := by omega
        refine vv_iload_n X dX2_readText_24 rfl 1 rfl ?_
        refine vv_sipush (v := nI 2455) X dX2_readText_25 (by decide) ?_
        refine vn_ge (tgt := 44) X (by omega) (by omega) dX2_readText_28 (by decide) (fun c_28 => ?_) (fun c_28 => ?_)
        · exact hx_2 H hM hK
        · exact absurd c_28 (by omega)
      | succ n_i ihi =>
        intro i H hi hM hK
        refine vv_iload_n X dX2_readText_24 rfl 1 rfl ?_
        refine vv_sipush (v := nI 2455) X dX2_readText_25 (by decide) ?_
        refine vn_ge (tgt := 44) X (by omega) (by omega) dX2_readText_28 (by decide) (fun c_28 => ?_) (fun c_28 => ?_)
        · exact absurd hi (by omega)
        · refine vv_aload_n X dX2_readText_31 rfl 0 rfl ?_
          refine mg13 X rfl hM dX2_readText_32 ?_
          refine vv_iload_n X dX2_readText_35 rfl 1 rfl ?_
          refine vv_iconst (v := nI 0) X dX2_readText_36 (by decide) ?_
          refine mk13 X hM hK hka hg (i) (by omega) rfl (Or.inl (MA.in (by decide))) dX2_readText_37 (fun H hM hK => ?_)
          rw [up_up] at hM
          replace hM : MR D g x (va_up (va_up I 11 (rz (I 11) (fun _ => nI 0) 131)) 13 (va_up (rz (I 13) (fun _ => nI 0) i) i (nI 0))) J H := hM
          refine vv_iinc (v := nI (i + 1)) (lv' := [(1, .int (nI (i + 1))), (0, .ref (g 0))]) X dX2_readText_38 (k := 1) rfl (nI_add _ 1) (by decide) rfl ?_
          refine vv_goto (tgt := 24) X dX2_readText_41 (by decide) ?_
          refine vv_sub [1, 0] rfl ?_
          exact ihi (i + 1) H (by omega) (by rw [← rz_s (f := I 13) (g := fun _ => nI 0) (n := i) (v := nI 0) rfl]; exact hM) (hK)
    refine vv_sub [1, 0] rfl ?_
    exact hl_3 (2455) 0 H (by first | omega | assumption) (by rw [rz_0, show va_up (va_up I 11 (rz (I 11) (fun _ => nI 0) 131)) 13 (I 13) = va_up I 11 (rz (I 11) (fun _ => nI 0) 131) from @up_same _ (va_up I 11 (rz (I 11) (fun _ => nI 0) 131)) 13]; exact hM) (hK)
  have hl_4 : ∀ (n_i i : Nat) (H : Heap), i + n_i = 131 → (MR D g x (va_up I 11 (rz (I 11) (fun _ => nI 0) i)) J H) → (KH D H) → V K 2 (MA g) H 0 0 Qf 2 [(0, .ref (g 0)), (1, .int (nI i))] [] := by
    intro n_i
    induction n_i with
    | zero =>
      intro i H hi hM hK
      obtain rfl : i = 131 := by omega
      refine vv_iload_n X dX2_readText_2 rfl 1 rfl ?_
      refine vv_sipush (v := nI 131) X dX2_readText_3 (by decide) ?_
      refine vn_ge (tgt := 22) X (by omega) (by omega) dX2_readText_6 (by decide) (fun c_6 => ?_) (fun c_6 => ?_)
      · exact hx_1 H hM hK
      · exact absurd c_6 (by omega)
    | succ n_i ihi =>
      intro i H hi hM hK
      refine vv_iload_n X dX2_readText_2 rfl 1 rfl ?_
      refine vv_sipush (v := nI 131) X dX2_readText_3 (by decide) ?_
      refine vn_ge (tgt := 22) X (by omega) (by omega) dX2_readText_6 (by decide) (fun c_6 => ?_) (fun c_6 => ?_)
      · exact absurd hi (by omega)
      · refine vv_aload_n X dX2_readText_9 rfl 0 rfl ?_
        refine mg11 X rfl hM dX2_readText_10 ?_
        refine vv_iload_n X dX2_readText_13 rfl 1 rfl ?_
        refine vv_iconst (v := nI 0) X dX2_readText_14 (by decide) ?_
        refine mk11 X hM hK hka hg (i) (by omega) rfl (Or.inl (MA.in (by decide))) dX2_readText_15 (fun H hM hK => ?_)
        rw [up_up] at hM
        replace hM : MR D g x (va_up I 11 (va_up (rz (I 11) (fun _ => nI 0) i) i (nI 0))) J H := hM
        refine vv_iinc (v := nI (i + 1)) (lv' := [(1, .int (nI (i + 1))), (0, .ref (g 0))]) X dX2_readText_16 (k := 1) rfl (nI_add _ 1) (by decide) rfl ?_
        refine vv_goto (tgt := 2) X dX2_readText_19 (by decide) ?_
        refine vv_sub [1, 0] rfl ?_
        exact ihi (i + 1) H (by omega) (by rw [← rz_s (f := I 11) (g := fun _ => nI 0) (n := i) (v := nI 0) rfl]; exact hM) (hK)
  refine vv_sub [1, 0] rfl ?_
  exact hl_4 (131) 0 ((kS K).heap) (by first | omega | assumption) (by rw [rz_0, up_same]; exact hM) (hK)
