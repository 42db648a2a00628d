/-! the model's parser, second half: printed by gen/m7.py -/
set_option maxRecDepth 100000
theorem px50 {e : Nat} {x : Nat → Int32} (h : PX e x) (h5 : ¬ 0 < x 5) : x 5 = nI 0 := by
  obtain ⟨-, -, -, ⟨c, hc, h⟩, -⟩ := h
  rw [h] at h5 ⊢
  rcases (show c = 0 ∨ c = 1 ∨ c = 2 ∨ c = 3 ∨ c = 4 ∨ c = 5 by omega) with rfl | rfl | rfl | rfl | rfl | rfl
  · rfl
  all_goals exact absurd (by decide) h5
theorem px5p {e : Nat} {x : Nat → Int32} (h : PX e x) (h5 : ¬ x 5 = nI 0) : 0 < x 5 := Decidable.byContradiction fun z => h5 (px50 h z)
theorem px5n {x : Nat → Int32} (h : x 5 = nI 0) : ¬ 0 < x 5 := by rw [h]; decide
theorem wr_eq {f x : Nat → Int32} {i p s : Nat} (h4 : x 4 = nI p) (h8 : x 8 = nI s) (hp : p < 2 ^ 31) (hs : s < 2 ^ 31) : wr f i x = true ↔ (x 5 = nI 0 ∧ x 7 = nI 2 ∧ p - s = sln i ∧ ∀ k, k < sln i → f (s + k) = sby i k) := by
  have e4 : cl (x 4) = p := by rw [h4, cl_I hp]
  have e8 : cl (x 8) = s := by rw [h8, cl_I hs]
  refine ⟨fun h => ?_, fun h => wr_y ?_⟩
  · have h := wr_i h
    unfold wrd at h
    rw [e4, e8] at h
    exact h
  · unfold wrd
    rw [e4, e8]
    exact h
section MS
variable {D : DD} {g : Nat → Nat} {x : Nat → Int32} {I : Nat → Nat → Int32} {J : Nat → Nat → Int64} {H : Heap} {K : C_} {y : MethodName} {cc : ByteArray} {nL : Nat} {ret : Option FieldType} {rm : Room} {A : Nat → Prop} {cells slots : Nat} {Q : State → Prop} {pc : Nat} {lv : List (Nat × Value)} {rest : List Value}
theorem KH.ch1 {a : Nat} {H1 : Heap} (h : KH D H) (hka : KA D (MA g)) (ha : MA g a) (hc : Ch a H H1) : KH D H1 := h.keep hka (fun q _ hq => hc.2 q (fun z => hq (z ▸ ha)))
theorem mk11 (X : Fx K y cc nL ret rm D) (hM : MR D g x I J H) (hK : KH D H) (hka : KA D (MA g)) (hg : MG g) {i v : Int32} (k : Nat) (hk : k < 131) (e : i = nI k) (hA : kF K A (g 11)) (d : decode cc pc = .ok (.iastore, 1)) (kk : ∀ H1 : Heap, MR D g x (va_up I 11 (va_up (I 11) k v)) J H1 → KH D H1 → V K nL A H1 cells slots Q (pc + 1) lv rest) : V K nL A H cells slots Q pc lv (.int v :: .int i :: .ref (g 11) :: rest) := vv_iast X hM.a11 k hk (by decide) e hA d (fun H1 hc ha => kk H1 (hM.setI hg (by decide) hc ha) (hK.ch1 hka (MA.in (by decide)) hc))
theorem mk13 (X : Fx K y cc nL ret rm D) (hM : MR D g x I J H) (hK : KH D H) (hka : KA D (MA g)) (hg : MG g) {i v : Int32} (k : Nat) (hk : k < 2455) (e : i = nI k) (hA : kF K A (g 13)) (d : decode cc pc = .ok (.iastore, 1)) (kk : ∀ H1 : Heap, MR D g x (va_up I 13 (va_up (I 13) k v)) J H1 → KH D H1 → V K nL A H1 cells slots Q (pc + 1) lv rest) : V K nL A H cells slots Q pc lv (.int v :: .int i :: .ref (g 13) :: rest) := vv_iast X hM.a13 k hk (by decide) e hA d (fun H1 hc ha => kk H1 (hM.setI hg (by decide) hc ha) (hK.ch1 hka (MA.in (by decide)) hc))
end MS
theorem nX2_isWord : notMH yX2_isWord 1 := by decide +kernel
set_option maxHeartbeats 800000 in
theorem mX2_isWord (l : Launch) (D : DD) (g : Nat → Nat) (x : Nat → Int32) (I : Nat → Nat → Int32) (J : Nat → Nat → Int64) (i e : Nat) (hka : KA D (MA g)) (hi : i < 45) (hx : PY e x) : Cp l yX2_isWord cX2_isWord 3 (some .boolean) { frames := 5, cells := 0, slots := 0, locals := 97 } D [.ref (g 0), .ref (D.2.2 i)] (fun H => MR D g x I J H ∧ KH D H) (.int (b2 (wr (I 1) i x = true))) := by
  refine Ct.of (by decide +kernel) (Nat.le_of_ble_eq_true rfl) (fun K Qf hkl X hM hQ => ?_)
  subst hkl
  obtain ⟨hM, hK⟩ := hM
  have hx0 := hx
  obtain ⟨hpx, p, s, hsp, hpe, h4, h8⟩ := hx0
  have he2 : e ≤ 1000 := hpx.2.1
  have hsl := sln_le i hi
  refine vv_sub (lv' := [(0, .ref (g 0)), (1, .ref (D.2.2 i))]) [0, 1] rfl ?_
  refine vv_aload_n X dX2_isWord_0 rfl 0 rfl ?_
  refine mg5 X rfl hM dX2_isWord_1 ?_
  refine vv_if_gt (tgt := 31) X dX2_isWord_4 (by decide) (fun c_4 => ?_) (fun c_4 => ?_)
  · refine vv_iconst (v := nI 0) X dX2_isWord_31 (by decide) ?_
    exact vv_zret X (rfl) hQ dX2_isWord_32 (Nat.le_refl _) (Nat.le_refl _) (pq (b2_0 (fun z => px5n ((wr_eq h4 h8 (by omega) (by omega)).1 z).1 c_4)))
  · refine vv_aload_n X dX2_isWord_7 rfl 0 rfl ?_
    refine mg7 X rfl hM dX2_isWord_8 ?_
    refine vv_iconst (v := nI 2) X dX2_isWord_11 (by decide) ?_
    refine vv_icmp_ne (tgt := 31) X dX2_isWord_12 (by decide) (fun c_12 => ?_) (fun c_12 => ?_)
    · refine vv_iconst (v := nI 0) X dX2_isWord_31 (by decide) ?_
      exact vv_zret X (rfl) hQ dX2_isWord_32 (Nat.le_refl _) (Nat.le_refl _) (pq (b2_0 (fun z => c_12 ((wr_eq h4 h8 (by omega) (by omega)).1 z).2.1)))
    · refine vv_aload_n X dX2_isWord_15 rfl 0 rfl ?_
      refine mg4 X rfl hM dX2_isWord_16 ?_
      refine vv_eqi (h4) ?_
      refine vv_aload_n X dX2_isWord_19 rfl 0 rfl ?_
      refine mg8 X rfl hM dX2_isWord_20 ?_
      refine vv_eqi (h8) ?_
      refine vn_sub X (by omega) dX2_isWord_23 ?_
      refine vv_aload_n X dX2_isWord_24 rfl 1 rfl ?_
      refine vv_callVp X (mJ4_length (kL K) D (D.2.2 i) (D.2.2 (100 + i)) (sln i) (sby i) (shs i) (if sln i = 0 then 1 else 0) (Nat.lt_of_le_of_lt (sln_le i hi) (by decide))) q3070 q589 q590 q142 q591 nJ4_length ⟨(Nat.le_of_ble_eq_true rfl), (Nat.le_of_ble_eq_true rfl)⟩ dX2_isWord_25 rfl (Nat.le_of_ble_eq_true rfl) (recv X (hK.1 i hi).1 CL_J4) ⟨hK, (hK.1 i hi).1, (hK.1 i hi).2⟩ ⟨(Nat.le_of_ble_eq_true rfl), (Nat.le_of_ble_eq_true rfl)⟩ ?_
      refine vn_eq (tgt := 33) X (by omega) (by omega) dX2_isWord_28 (by decide) (fun c_28 => ?_) (fun c_28 => ?_)
      · refine vv_iconst (v := nI 0) X dX2_isWord_33 (by decide) ?_
        refine vv_istore_n (lv' := [(2, .int (nI 0)), (0, .ref (g 0)), (1, .ref (D.2.2 i))]) X dX2_isWord_34 rfl (by decide) rfl ?_
        have hx_1 : ∀ (hin : ∀ q, q < sln i → I 1 (s + q) = sby i q), V K 3 (fun _ => False) (kS K).heap 0 0 Qf 70 [(0, .ref (g 0)), (1, .ref (D.2.2 i)), (2, .int (nI (sln i)))] [] := by
          intro hin
          refine vv_iconst (v := nI 1) X dX2_isWord_70 (by decide) ?_
          exact vv_zret X (rfl) hQ dX2_isWord_71 (Nat.le_refl _) (Nat.le_refl _) (pq (b2_1 ((wr_eq h4 h8 (by omega) (by omega)).2 ⟨px50 hx.1 c_4, c_12, c_28, hin⟩)))
        have hl_2 : ∀ (n_k k : Nat), k + n_k = sln i → (∀ q, q < k → I 1 (s + q) = sby i q) → V K 3 (fun _ => False) (kS K).heap 0 0 Qf 35 [(0, .ref (g 0)), (1, .ref (D.2.2 i)), (2, .int (nI k))] [] := by
          intro n_k
          induction n_k with
          | zero =>
            intro k hk hin
            obtain rfl : k = sln i := by omega
            refine vv_iload_n X dX2_isWord_35 rfl 2 rfl ?_
            refine vv_aload_n X dX2_isWord_36 rfl 1 rfl ?_
            refine vv_callVp X (mJ4_length (kL K) D (D.2.2 i) (D.2.2 (100 + i)) (sln i) (sby i) (shs i) (if sln i = 0 then 1 else 0) (Nat.lt_of_le_of_lt (sln_le i hi) (by decide))) q3070 q589 q590 q142 q591 nJ4_length ⟨(Nat.le_of_ble_eq_true rfl), (Nat.le_of_ble_eq_true rfl)⟩ dX2_isWord_37 rfl (Nat.le_of_ble_eq_true rfl) (recv X (hK.1 i hi).1 CL_J4) ⟨hK, (hK.1 i hi).1, (hK.1 i hi).2⟩ ⟨(Nat.le_of_ble_eq_true rfl), (Nat.le_of_ble_eq_true rfl)⟩ ?_
            refine vn_ge (tgt := 70) X (by omega) (by omega) dX2_isWord_40 (by decide) (fun c_40 => ?_) (fun c_40 => ?_)
            · exact hx_1 hin
            · exact absurd c_40 (by omega)
          | succ n_k ihk =>
            intro k hk hin
            refine vv_iload_n X dX2_isWord_35 rfl 2 rfl ?_
            refine vv_aload_n X dX2_isWord_36 rfl 1 rfl ?_
            refine vv_callVp X (mJ4_length (kL K) D (D.2.2 i) (D.2.2 (100 + i)) (sln i) (sby i) (shs i) (if sln i = 0 then 1 else 0) (Nat.lt_of_le_of_lt (sln_le i hi) (by decide))) q3070 q589 q590 q142 q591 nJ4_length ⟨(Nat.le_of_ble_eq_true rfl), (Nat.le_of_ble_eq_true rfl)⟩ dX2_isWord_37 rfl (Nat.le_of_ble_eq_true rfl) (recv X (hK.1 i hi).1 CL_J4) ⟨hK, (hK.1 i hi).1, (hK.1 i hi).2⟩ ⟨(Nat.le_of_ble_eq_true rfl), (Nat.le_of_ble_eq_true rfl)⟩ ?_
            refine vn_ge (tgt := 70) X (by omega) (by omega) dX2_isWord_40 (by decide) (fun c_40 => ?_) (fun c_40 => ?_)
            · exact absurd hk (by omega)
            · refine vv_aload_n X dX2_isWord_43 rfl 0 rfl ?_
              refine mg1 X rfl hM dX2_isWord_44 ?_
              refine vv_aload_n X dX2_isWord_47 rfl 0 rfl ?_
              refine mg8 X rfl hM dX2_isWord_48 ?_
              refine vv_eqi (h8) ?_
              refine vv_iload_n X dX2_isWord_51 rfl 2 rfl ?_
              refine vn_add X dX2_isWord_52 ?_
              refine vv_iald X hM.a1 (s + k) (by omega) (by decide) rfl dX2_isWord_53 ?_
              refine vv_aload_n X dX2_isWord_54 rfl 1 rfl ?_
              refine vv_iload_n X dX2_isWord_55 rfl 2 rfl ?_
              refine vv_callVp X (mJ4_charAt (kL K) D (D.2.2 i) (D.2.2 (100 + i)) (sln i) k (sby i) (shs i) (if sln i = 0 then 1 else 0) (fun k => (sby i k).toNatClampNeg) (Nat.lt_of_le_of_lt (sln_le i hi) (by decide)) (sby_ok i hi) (by omega)) q3071 q3072 q3073 q142 q3074 nJ4_charAt ⟨(Nat.le_of_ble_eq_true rfl), (Nat.le_of_ble_eq_true rfl)⟩ dX2_isWord_56 rfl (Nat.le_of_ble_eq_true rfl) (recv X (hK.1 i hi).1 CL_J4) ⟨hK, (hK.1 i hi).1, (hK.1 i hi).2⟩ ⟨(Nat.le_of_ble_eq_true rfl), (Nat.le_of_ble_eq_true rfl)⟩ ?_
              refine vv_eqi ((sby_ok i hi k (by omega)).1.symm) ?_
              refine vv_icmp_eq (tgt := 64) X dX2_isWord_59 (by decide) (fun c_59 => ?_) (fun c_59 => ?_)
              · refine vv_iinc (v := nI (k + 1)) (lv' := [(2, .int (nI (k + 1))), (0, .ref (g 0)), (1, .ref (D.2.2 i))]) X dX2_isWord_64 (k := 2) rfl (nI_add _ 1) (by decide) rfl ?_
                refine vv_goto (tgt := 35) X dX2_isWord_67 (by decide) ?_
                refine vv_sub [1, 2, 0] rfl ?_
                exact ihk (k + 1) (by omega) (fun q z => by
                                  by_cases e1 : q = k
                                  · rw [e1]; exact c_59
                                  · exact hin q (by omega))
              · refine vv_iconst (v := nI 0) X dX2_isWord_62 (by decide) ?_
                exact vv_zret X (rfl) hQ dX2_isWord_63 (Nat.le_refl _) (Nat.le_refl _) (pq (b2_0 (fun z => c_59 (((wr_eq h4 h8 (by omega) (by omega)).1 z).2.2.2 k (by omega)))))
        refine vv_sub [1, 2, 0] rfl ?_
        exact hl_2 (sln i) 0 (by first | omega | assumption) (fun q z => absurd z (Nat.not_lt_zero _))
      · refine vv_iconst (v := nI 0) X dX2_isWord_31 (by decide) ?_
        exact vv_zret X (rfl) hQ dX2_isWord_32 (Nat.le_refl _) (Nat.le_refl _) (pq (b2_0 (fun z => c_28 ((wr_eq h4 h8 (by omega) (by omega)).1 z).2.2.1)))
theorem PY_tks {f : Nat → Int32} {e i : Nat} {x : Nat → Int32} (h : PY e x) : PY e (tks f e i x) := by
  unfold tks
  split
  · exact PY_nxt h
  · exact h
theorem PY_kwd {f : Nat → Int32} {e i : Nat} {x : Nat → Int32} (h : PY e x) : PY e (kwd f e i x) := by
  unfold kwd
  split
  · exact PY_nxt h
  · exact PY_fau h (by decide)
theorem PY_gag {f : Nat → Int32} {e i : Nat} {lo hi : Int32} {x : Nat → Int32} (h : PY e x) : PY e (gag f e i lo hi x) := PY_num (PY_kwd h)
theorem PY_bgn {f : Nat → Int32} {e : Nat} {p : Prop} [Decidable p] {k : Nat} {x : Nat → Int32} (h : PY e x) (hk : k ≤ 5) : PY e (bgn f e p k x) := by
  unfold bgn
  split
  · exact PY_nxt (PY_fau h hk)
  · exact PY_nxt h
theorem bgn_y {f : Nat → Int32} {e : Nat} {p : Prop} [Decidable p] {k : Nat} {x : Nat → Int32} (h : p) : bgn f e p k x = nxt f e (fau k x) := by unfold bgn; rw [if_pos h]
theorem bgn_n {f : Nat → Int32} {e : Nat} {p : Prop} [Decidable p] {k : Nat} {x : Nat → Int32} (h : ¬ p) : bgn f e p k x = nxt f e x := by unfold bgn; rw [if_neg h]
theorem tks_y {f : Nat → Int32} {e i : Nat} {x : Nat → Int32} (h : wr f i x = true) : tks f e i x = nxt f e x := if_pos h
theorem tks_n {f : Nat → Int32} {e i : Nat} {x : Nat → Int32} (h : ¬ wr f i x = true) : tks f e i x = x := if_neg h
theorem kwd_y {f : Nat → Int32} {e i : Nat} {x : Nat → Int32} (h : wr f i x = true) : kwd f e i x = nxt f e x := if_pos h
theorem kwd_n {f : Nat → Int32} {e i : Nat} {x : Nat → Int32} (h : ¬ wr f i x = true) : kwd f e i x = fau 1 x := if_neg h
theorem nX2_takes : notMH yX2_takes 1 := by decide +kernel
set_option maxHeartbeats 800000 in
theorem mX2_takes (l : Launch) (D : DD) (g : Nat → Nat) (x : Nat → Int32) (I : Nat → Nat → Int32) (J : Nat → Nat → Int64) (i e : Nat) (hg : MG g) (hka : KA D (MA g)) (hi : i < 45) (hx : PY e x) : Ct l yX2_takes cX2_takes 3 (some .boolean) { frames := 6, cells := 0, slots := 0, locals := 119 } D [.ref (g 0), .ref (D.2.2 i)] (fun H => MR D g x I J H ∧ KH D H) (MA g) (fun v H H1 => v = some (.int (b2 (wr (I 1) i x = true))) ∧ MR D g (tks (I 1) e i x) I J H1) := by
  refine Ct.of (by decide +kernel) (Nat.le_of_ble_eq_true rfl) (fun K Qf hkl X hM hQ => ?_)
  subst hkl
  obtain ⟨hM, hK⟩ := hM
  refine vv_sub (lv' := [(0, .ref (g 0)), (1, .ref (D.2.2 i))]) [0, 1] rfl ?_
  refine vv_aload_n X dX2_takes_0 rfl 0 rfl ?_
  refine vv_aload_n X dX2_takes_1 rfl 1 rfl ?_
  refine vv_callVp X (mX2_isWord (kL K) D g x I J i e hka (by first | exact hi | exact hi2) hx) q3066 q3068 qs66 q144 q3069 nX2_isWord ⟨(Nat.le_of_ble_eq_true rfl), (Nat.le_of_ble_eq_true rfl)⟩ dX2_takes_2 rfl (Nat.le_of_ble_eq_true rfl) (recv X hM.1 CL_X2) ⟨hM, hK⟩ ⟨(Nat.le_of_ble_eq_true rfl), (Nat.le_of_ble_eq_true rfl)⟩ ?_
  refine vv_istore_n (lv' := [(2, .int (b2 (wr (I 1) i x = true))), (0, .ref (g 0)), (1, .ref (D.2.2 i))]) X dX2_takes_5 rfl (by decide) rfl ?_
  refine vv_iload_n X dX2_takes_6 rfl 0 rfl ?_
  refine vb_eq (tgt := 14) X dX2_takes_7 (by decide) (fun c_7 => ?_) (fun c_7 => ?_)
  · refine vv_iload_n X dX2_takes_14 rfl 0 rfl ?_
    exact vv_zret X (b2_nar _) hQ dX2_takes_15 (Nat.le_refl _) (Nat.le_refl _) (⟨rfl, by rw [tks_n c_7]; exact hM⟩)
  · refine vv_aload_n X dX2_takes_10 rfl 1 rfl ?_
    refine vv_callV X (mX2_nextToken (kL K) D g x I J hg e hx.1) q3042 q3044 qs61 q144 q3045 nX2_nextToken ⟨(Nat.le_of_ble_eq_true rfl), (Nat.le_of_ble_eq_true rfl)⟩ dX2_takes_11 rfl (Nat.le_of_ble_eq_true rfl) (recv X hM.1 CL_X2) hM  (fun _ z => Or.inl z) ⟨(Nat.le_of_ble_eq_true rfl), (Nat.le_of_ble_eq_true rfl)⟩ (fun v_ H hq hz hk => ?_)
    obtain ⟨rfl, hM⟩ := hq
    replace hK := hK.keep hka hk
    clear hz hk
    replace hM : MR D g (nxt (I 1) e x) I J H := hM
    replace hx : PY e (nxt (I 1) e x) := PY_nxt hx
    refine vv_iload_n X dX2_takes_14 rfl 0 rfl ?_
    exact vv_zret X (b2_nar _) hQ dX2_takes_15 (Nat.le_refl _) (Nat.le_refl _) (⟨rfl, by rw [tks_y c_7]; exact hM⟩)
theorem nX2_keyword : notMH yX2_keyword 1 := by decide +kernel
set_option maxHeartbeats 800000 in
theorem mX2_keyword (l : Launch) (D : DD) (g : Nat → Nat) (x : Nat → Int32) (I : Nat → Nat → Int32) (J : Nat → Nat → Int64) (i e : Nat) (hg : MG g) (hka : KA D (MA g)) (hi : i < 45) (hx : PY e x) : Ct l yX2_keyword cX2_keyword 2 none { frames := 7, cells := 0, slots := 0, locals := 141 } D [.ref (g 0), .ref (D.2.2 i)] (fun H => MR D g x I J H ∧ KH D H) (MA g) (fun v H H1 => v = none ∧ MR D g (kwd (I 1) e i x) I J H1) := by
  refine Ct.of (by decide +kernel) (Nat.le_of_ble_eq_true rfl) (fun K Qf hkl X hM hQ => ?_)
  subst hkl
  obtain ⟨hM, hK⟩ := hM
  refine vv_sub (lv' := [(0, .ref (g 0)), (1, .ref (D.2.2 i))]) [0, 1] rfl ?_
  refine vv_aload_n X dX2_keyword_0 rfl 0 rfl ?_
  refine vv_aload_n X dX2_keyword_1 rfl 1 rfl ?_
  refine vv_callV X (mX2_takes (kL K) D g x I J i e hg hka (by first | exact hi | exact hi2) hx) q3062 q3064 qs65 q144 q3065 nX2_takes ⟨(Nat.le_of_ble_eq_true rfl), (Nat.le_of_ble_eq_true rfl)⟩ dX2_keyword_2 rfl (Nat.le_of_ble_eq_true rfl) (recv X hM.1 CL_X2) ⟨hM, hK⟩  (fun _ z => Or.inl z) ⟨(Nat.le_of_ble_eq_true rfl), (Nat.le_of_ble_eq_true rfl)⟩ (fun v_ H hq hz hk => ?_)
  obtain ⟨rfl, hM⟩ := hq
  replace hK := hK.keep hka hk
  clear hz hk
  replace hM : MR D g (tks (I 1) e i x) I J H := hM
  replace hx : PY e (tks (I 1) e i x) := PY_tks hx
  refine vb_ne (tgt := 13) X dX2_keyword_5 (by decide) (fun c_5 => ?_) (fun c_5 => ?_)
  · exact vv_vret X hQ dX2_keyword_13 (Nat.le_refl _) (Nat.le_refl _) (⟨rfl, by rw [kwd_y c_5, ← tks_y c_5]; exact hM⟩)
  · refine vv_aload_n X dX2_keyword_8 rfl 0 rfl ?_
    refine vv_iconst (v := nI 1) X dX2_keyword_9 (by decide) ?_
    refine vv_callV X (mX2_faults (kL K) D g (tks (I 1) e i x) I J hg 1) q3082 q3084 qs67 q144 q3085 nX2_faults ⟨(Nat.le_of_ble_eq_true rfl), (Nat.le_of_ble_eq_true rfl)⟩ dX2_keyword_10 rfl (Nat.le_of_ble_eq_true rfl) (recv X hM.1 CL_X2) hM  (fun _ z => Or.inl z) ⟨(Nat.le_of_ble_eq_true rfl), (Nat.le_of_ble_eq_true rfl)⟩ (fun v_ H hq hz hk => ?_)
    obtain ⟨rfl, hM⟩ := hq
    replace hK := hK.keep hka hk
    clear hz hk
    replace hM : MR D g (fau 1 (tks (I 1) e i x)) I J H := hM
    replace hx : PY e (fau 1 (tks (I 1) e i x)) := PY_fau hx (by decide)
    exact vv_vret X hQ dX2_keyword_13 (Nat.le_refl _) (Nat.le_refl _) (⟨rfl, by rw [kwd_n c_5, show fau 1 x = fau 1 (tks (I 1) e i x) by rw [tks_n c_5]]; exact hM⟩)
theorem nX2_gauge : notMH yX2_gauge 3 := by decide +kernel
set_option maxHeartbeats 800000 in
theorem mX2_gauge (l : Launch) (D : DD) (g : Nat → Nat) (x : Nat → Int32) (I : Nat → Nat → Int32) (J : Nat → Nat → Int64) (i e : Nat) (lo hi : Int32) (hg : MG g) (hka : KA D (MA g)) (hi2 : i < 45) (hx : PY e x) : Ct l yX2_gauge cX2_gauge 4 (some .int) { frames := 8, cells := 0, slots := 0, locals := 162 } D [.ref (g 0), .ref (D.2.2 i), .int (lo), .int (hi)] (fun H => MR D g x I J H ∧ KH D H) (MA g) (fun v H H1 => v = some (.int (gav (I 1) e i lo hi x)) ∧ MR D g (gag (I 1) e i lo hi x) I J H1) := by
  refine Ct.of (by decide +kernel) (Nat.le_of_ble_eq_true rfl) (fun K Qf hkl X hM hQ => ?_)
  subst hkl
  obtain ⟨hM, hK⟩ := hM
  refine vv_sub (lv' := [(0, .ref (g 0)), (1, .ref (D.2.2 i)), (2, .int (lo)), (3, .int (hi))]) [0, 1, 2, 3] rfl ?_
  refine vv_aload_n X dX2_gauge_0 rfl 0 rfl ?_
  refine vv_aload_n X dX2_gauge_1 rfl 1 rfl ?_
  refine vv_callV X (mX2_keyword (kL K) D g x I J i e hg hka (by first | exact hi | exact hi2) hx) q3058 q3060 qs64 q144 q3061 nX2_keyword ⟨(Nat.le_of_ble_eq_true rfl), (Nat.le_of_ble_eq_true rfl)⟩ dX2_gauge_2 rfl (Nat.le_of_ble_eq_true rfl) (recv X hM.1 CL_X2) ⟨hM, hK⟩  (fun _ z => Or.inl z) ⟨(Nat.le_of_ble_eq_true rfl), (Nat.le_of_ble_eq_true rfl)⟩ (fun v_ H hq hz hk => ?_)
  obtain ⟨rfl, hM⟩ := hq
  replace hK := hK.keep hka hk
  clear hz hk
  replace hM : MR D g (kwd (I 1) e i x) I J H := hM
  replace hx : PY e (kwd (I 1) e i x) := PY_kwd hx
  refine vv_aload_n X dX2_gauge_5 rfl 0 rfl ?_
  refine vv_iload_n X dX2_gauge_6 rfl 2 rfl ?_
  refine vv_iload_n X dX2_gauge_7 rfl 3 rfl ?_
  refine vv_callV X (mX2_number (kL K) D g (kwd (I 1) e i x) I J hg e lo hi hx.1) q3091 q3093 qs69 q144 q3094 nX2_number ⟨(Nat.le_of_ble_eq_true rfl), (Nat.le_of_ble_eq_true rfl)⟩ dX2_gauge_8 rfl (Nat.le_of_ble_eq_true rfl) (recv X hM.1 CL_X2) hM  (fun _ z => Or.inl z) ⟨(Nat.le_of_ble_eq_true rfl), (Nat.le_of_ble_eq_true rfl)⟩ (fun v_ H hq hz hk => ?_)
  obtain ⟨rfl, hM⟩ := hq
  replace hK := hK.keep hka hk
  clear hz hk
  replace hM : MR D g (num (I 1) e lo hi (kwd (I 1) e i x)) I J H := hM
  replace hx : PY e (num (I 1) e lo hi (kwd (I 1) e i x)) := PY_num hx
  exact vv_iret X hQ dX2_gauge_11 (Nat.le_refl _) (Nat.le_refl _) (⟨rfl, hM⟩)
theorem lok_in {lo hi : Int32} {x : Nat → Int32} (h : lok lo hi x 5 = nI 0) : x 7 = nI 3 ∧ lo ≤ x 9 ∧ x 9 ≤ hi ∧ lok lo hi x = x ∧ lov lo hi x = x 9 := by
  by_cases h5 : 0 < x 5
  · rw [lok_s h5] at h
    rw [h] at h5
    exact absurd h5 (by decide)
  by_cases h7 : x 7 = nI 3
  · by_cases h9 : lo ≤ x 9 ∧ x 9 ≤ hi
    · exact ⟨h7, h9.1, h9.2, lok_0 h5 h7 h9, lov_0 h5 h7 h9⟩
    · rw [lok_2 h5 h7 h9, fau_5 h5] at h
      exact absurd h (by decide)
  · rw [lok_1 h5 h7, fau_5 h5] at h
    exact absurd h (by decide)
theorem lov_nat {n : Nat} {x : Nat → Int32} (hn : n ≤ 200) (h : lok (nI 0) (nI n - nI 1) x 5 = nI 0) : ∃ j, j < n ∧ lov (nI 0) (nI n - nI 1) x = nI j := by
  obtain ⟨-, h1, h2, -, h3⟩ := lok_in h
  rw [h3]
  have a1 := Int32.le_iff_toInt_le.mp h1
  have a2 := Int32.le_iff_toInt_le.mp h2
  rw [nI_toInt (by decide)] at a1
  have e2 : (nI n - nI 1).toInt = (n : Int) - 1 := (show ∀ n : Nat, n ≤ 200 → (nI n - nI 1).toInt = (n : Int) - 1 by decide +kernel) n hn
  rw [e2] at a2
  refine ⟨(x 9).toInt.toNat, by omega, ?_⟩
  apply Int32.toInt_inj.mp
  rw [nI_toInt (by omega)]
  omega
theorem nX2_readFirst : notMH yX2_readFirst 0 := by decide +kernel
set_option maxHeartbeats 800000 in
theorem mX2_readFirst (l : Launch) (D : DD) (g : Nat → Nat) (x : Nat → Int32) (I : Nat → Nat → Int32) (J : Nat → Nat → Int64) (P S : Nat → Int32) (e : Nat) (hg : MG g) (hka : KA D (MA g)) (hx : PY e x) : Ct l yX2_readFirst cX2_readFirst 1 none { frames := 9, cells := 0, slots := 0, locals := 185 } D [.ref (g 0)] (fun H => MR D g x (va_up (va_up I 11 P) 13 S) J H ∧ KH D H) (MA g) (fun v H H1 => v = none ∧ MR D g (fi4 (I 1) e x) (va_up (va_up I 11 (fiP (I 1) e x P)) 13 (S)) J H1) := by
  refine Ct.of (by decide +kernel) (Nat.le_of_ble_eq_true rfl) (fun K Qf hkl X hM hQ => ?_)
  subst hkl
  obtain ⟨hM, hK⟩ := hM
  refine vv_sub (lv' := [(0, .ref (g 0))]) [0] rfl ?_
  refine vv_aload_n X dX2_readFirst_0 rfl 0 rfl ?_
  refine vv_ldcS (tx := "camera") X 0 rfl dX2_readFirst_1 ?_
  refine vv_callV X (mX2_keyword (kL K) D g x (va_up (va_up I 11 P) 13 S) J 0 e hg hka (by decide) hx) q3058 q3060 qs64 q144 q3061 nX2_keyword ⟨(Nat.le_of_ble_eq_true rfl), (Nat.le_of_ble_eq_true rfl)⟩ dX2_readFirst_3 rfl (Nat.le_of_ble_eq_true rfl) (recv X hM.1 CL_X2) ⟨hM, hK⟩  (fun _ z => Or.inl z) ⟨(Nat.le_of_ble_eq_true rfl), (Nat.le_of_ble_eq_true rfl)⟩ (fun v_ H hq hz hk => ?_)
  obtain ⟨rfl, hM⟩ := hq
  replace hK := hK.keep hka hk
  clear hz hk
  replace hM : MR D g (fi0 (I 1) e x) (va_up (va_up I 11 P) 13 S) J H := hM
  replace hx : PY e (fi0 (I 1) e x) := PY_kwd hx
  refine vv_aload_n X dX2_readFirst_6 rfl 0 rfl ?_
  refine mg11 X rfl hM dX2_readFirst_7 ?_
  refine vv_iconst (v := nI 0) X dX2_readFirst_10 (by decide) ?_
  refine vv_aload_n X dX2_readFirst_11 rfl 0 rfl ?_
  refine vv_ldcS (tx := "distance") X 1 rfl dX2_readFirst_12 ?_
  refine vv_bipush (v := nI 100) X dX2_readFirst_14 (by decide) ?_
  refine vv_sipush (v := nI 5000) X dX2_readFirst_16 (by decide) ?_
  refine vv_callV X (mX2_gauge (kL K) D g (fi0 (I 1) e x) (va_up (va_up I 11 P) 13 S) J 1 e (nI 100) (nI 5000) hg hka (by decide) hx) q3087 q3089 qs68 q144 q3090 nX2_gauge ⟨(Nat.le_of_ble_eq_true rfl), (Nat.le_of_ble_eq_true rfl)⟩ dX2_readFirst_19 rfl (Nat.le_of_ble_eq_true rfl) (recv X hM.1 CL_X2) ⟨hM, hK⟩  (fun _ z => Or.inl z) ⟨(Nat.le_of_ble_eq_true rfl), (Nat.le_of_ble_eq_true rfl)⟩ (fun v_ H hq hz hk => ?_)
  obtain ⟨rfl, hM⟩ := hq
  replace hK := hK.keep hka hk
  clear hz hk
  replace hM : MR D g (fi1 (I 1) e x) (va_up (va_up I 11 P) 13 S) J H := hM
  replace hx : PY e (fi1 (I 1) e x) := PY_gag hx
  refine mk11 X hM hK hka hg (0) (by omega) rfl (Or.inl (MA.in (by decide))) dX2_readFirst_22 (fun H hM hK => ?_)
  rw [up_sw (by decide)] at hM
  replace hM : MR D g (fi1 (I 1) e x) (va_up (va_up I 11 (va_up P 0 (gav (I 1) e 1 (nI 100) (nI 5000) (fi0 (I 1) e x)))) 13 S) J H := hM
  refine vv_aload_n X dX2_readFirst_23 rfl 0 rfl ?_
  refine mg11 X rfl hM dX2_readFirst_24 ?_
  refine vv_iconst (v := nI 1) X dX2_readFirst_27 (by decide) ?_
  refine vv_aload_n X dX2_readFirst_28 rfl 0 rfl ?_
  refine vv_ldcS (tx := "step") X 2 rfl dX2_readFirst_29 ?_
  refine vv_iconst (v := nI 1) X dX2_readFirst_31 (by decide) ?_
  refine vv_bipush (v := nI 99) X dX2_readFirst_32 (by decide) ?_
  refine vv_callV X (mX2_gauge (kL K) D g (fi1 (I 1) e x) (va_up (va_up I 11 (va_up P 0 (gav (I 1) e 1 (nI 100) (nI 5000) (fi0 (I 1) e x)))) 13 S) J 2 e (nI 1) (nI 99) hg hka (by decide) hx) q3087 q3089 qs68 q144 q3090 nX2_gauge ⟨(Nat.le_of_ble_eq_true rfl), (Nat.le_of_ble_eq_true rfl)⟩ dX2_readFirst_34 rfl (Nat.le_of_ble_eq_true rfl) (recv X hM.1 CL_X2) ⟨hM, hK⟩  (fun _ z => Or.inl z) ⟨(Nat.le_of_ble_eq_true rfl), (Nat.le_of_ble_eq_true rfl)⟩ (fun v_ H hq hz hk => ?_)
  obtain ⟨rfl, hM⟩ := hq
  replace hK := hK.keep hka hk
  clear hz hk
  replace hM : MR D g (fi2 (I 1) e x) (va_up (va_up I 11 (va_up P 0 (gav (I 1) e 1 (nI 100) (nI 5000) (fi0 (I 1) e x)))) 13 S) J H := hM
  replace hx : PY e (fi2 (I 1) e x) := PY_gag hx
  refine mk11 X hM hK hka hg (1) (by omega) rfl (Or.inl (MA.in (by decide))) dX2_readFirst_37 (fun H hM hK => ?_)
  rw [up_sw (by decide)] at hM
  replace hM : MR D g (fi2 (I 1) e x) (va_up (va_up I 11 (va_up (va_up P 0 (gav (I 1) e 1 (nI 100) (nI 5000) (fi0 (I 1) e x))) 1 (gav (I 1) e 2 (nI 1) (nI 99) (fi1 (I 1) e x)))) 13 S) J H := hM
  refine vv_aload_n X dX2_readFirst_38 rfl 0 rfl ?_
  refine mg11 X rfl hM dX2_readFirst_39 ?_
  refine vv_iconst (v := nI 2) X dX2_readFirst_42 (by decide) ?_
  refine vv_aload_n X dX2_readFirst_43 rfl 0 rfl ?_
  refine vv_ldcS (tx := "samples") X 3 rfl dX2_readFirst_44 ?_
  refine vv_bipush (v := nI 32) X dX2_readFirst_46 (by decide) ?_
  refine vv_sipush (v := nI 200) X dX2_readFirst_48 (by decide) ?_
  refine vv_callV X (mX2_gauge (kL K) D g (fi2 (I 1) e x) (va_up (va_up I 11 (va_up (va_up P 0 (gav (I 1) e 1 (nI 100) (nI 5000) (fi0 (I 1) e x))) 1 (gav (I 1) e 2 (nI 1) (nI 99) (fi1 (I 1) e x)))) 13 S) J 3 e (nI 32) (nI 200) hg hka (by decide) hx) q3087 q3089 qs68 q144 q3090 nX2_gauge ⟨(Nat.le_of_ble_eq_true rfl), (Nat.le_of_ble_eq_true rfl)⟩ dX2_readFirst_51 rfl (Nat.le_of_ble_eq_true rfl) (recv X hM.1 CL_X2) ⟨hM, hK⟩  (fun _ z => Or.inl z) ⟨(Nat.le_of_ble_eq_true rfl), (Nat.le_of_ble_eq_true rfl)⟩ (fun v_ H hq hz hk => ?_)
  obtain ⟨rfl, hM⟩ := hq
  replace hK := hK.keep hka hk
  clear hz hk
  replace hM : MR D g (fi3 (I 1) e x) (va_up (va_up I 11 (va_up (va_up P 0 (gav (I 1) e 1 (nI 100) (nI 5000) (fi0 (I 1) e x))) 1 (gav (I 1) e 2 (nI 1) (nI 99) (fi1 (I 1) e x)))) 13 S) J H := hM
  replace hx : PY e (fi3 (I 1) e x) := PY_gag hx
  refine mk11 X hM hK hka hg (2) (by omega) rfl (Or.inl (MA.in (by decide))) dX2_readFirst_54 (fun H hM hK => ?_)
  rw [up_sw (by decide)] at hM
  replace hM : MR D g (fi3 (I 1) e x) (va_up (va_up I 11 (va_up (va_up (va_up P 0 (gav (I 1) e 1 (nI 100) (nI 5000) (fi0 (I 1) e x))) 1 (gav (I 1) e 2 (nI 1) (nI 99) (fi1 (I 1) e x))) 2 (gav (I 1) e 3 (nI 32) (nI 200) (fi2 (I 1) e x)))) 13 S) J H := hM
  refine vv_aload_n X dX2_readFirst_55 rfl 0 rfl ?_
  refine mg11 X rfl hM dX2_readFirst_56 ?_
  refine vv_iconst (v := nI 3) X dX2_readFirst_59 (by decide) ?_
  refine vv_aload_n X dX2_readFirst_60 rfl 0 rfl ?_
  refine vv_ldcS (tx := "limit") X 4 rfl dX2_readFirst_61 ?_
  refine vv_iconst (v := nI 1) X dX2_readFirst_63 (by decide) ?_
  refine vv_sipush (v := nI 9999) X dX2_readFirst_64 (by decide) ?_
  refine vv_callV X (mX2_gauge (kL K) D g (fi3 (I 1) e x) (va_up (va_up I 11 (va_up (va_up (va_up P 0 (gav (I 1) e 1 (nI 100) (nI 5000) (fi0 (I 1) e x))) 1 (gav (I 1) e 2 (nI 1) (nI 99) (fi1 (I 1) e x))) 2 (gav (I 1) e 3 (nI 32) (nI 200) (fi2 (I 1) e x)))) 13 S) J 4 e (nI 1) (nI 9999) hg hka (by decide) hx) q3087 q3089 qs68 q144 q3090 nX2_gauge ⟨(Nat.le_of_ble_eq_true rfl), (Nat.le_of_ble_eq_true rfl)⟩ dX2_readFirst_67 rfl (Nat.le_of_ble_eq_true rfl) (recv X hM.1 CL_X2) ⟨hM, hK⟩  (fun _ z => Or.inl z) ⟨(Nat.le_of_ble_eq_true rfl), (Nat.le_of_ble_eq_true rfl)⟩ (fun v_ H hq hz hk => ?_)
  obtain ⟨rfl, hM⟩ := hq
  replace hK := hK.keep hka hk
  clear hz hk
  replace hM : MR D g (fi4 (I 1) e x) (va_up (va_up I 11 (va_up (va_up (va_up P 0 (gav (I 1) e 1 (nI 100) (nI 5000) (fi0 (I 1) e x))) 1 (gav (I 1) e 2 (nI 1) (nI 99) (fi1 (I 1) e x))) 2 (gav (I 1) e 3 (nI 32) (nI 200) (fi2 (I 1) e x)))) 13 S) J H := hM
  replace hx : PY e (fi4 (I 1) e x) := PY_gag hx
  refine mk11 X hM hK hka hg (3) (by omega) rfl (Or.inl (MA.in (by decide))) dX2_readFirst_70 (fun H hM hK => ?_)
  rw [up_sw (by decide)] at hM
  replace hM : MR D g (fi4 (I 1) e x) (va_up (va_up I 11 (va_up (va_up (va_up (va_up P 0 (gav (I 1) e 1 (nI 100) (nI 5000) (fi0 (I 1) e x))) 1 (gav (I 1) e 2 (nI 1) (nI 99) (fi1 (I 1) e x))) 2 (gav (I 1) e 3 (nI 32) (nI 200) (fi2 (I 1) e x))) 3 (gav (I 1) e 4 (nI 1) (nI 9999) (fi3 (I 1) e x)))) 13 S) J H := hM
  exact vv_vret X hQ dX2_readFirst_71 (Nat.le_refl _) (Nat.le_refl _) (⟨rfl, hM⟩)
theorem nX2_readMic : notMH yX2_readMic 0 := by decide +kernel
set_option maxHeartbeats 800000 in
theorem mX2_readMic (l : Launch) (D : DD) (g : Nat → Nat) (x : Nat → Int32) (I : Nat → Nat → Int32) (J : Nat → Nat → Int64) (P S : Nat → Int32) (e : Nat) (hg : MG g) (hka : KA D (MA g)) (hP : VP P) (hx : PY e x) : Ct l yX2_readMic cX2_readMic 5 none { frames := 5, cells := 0, slots := 0, locals := 102 } D [.ref (g 0)] (fun H => MR D g x (va_up (va_up I 11 P) 13 S) J H ∧ KH D H) (MA g) (fun v H H1 => v = none ∧ MR D g (miX (I 1) e x P) (va_up (va_up I 11 (miP (I 1) e x P)) 13 (S)) J H1) := by
  refine Ct.of (by decide +kernel) (Nat.le_of_ble_eq_true rfl) (fun K Qf hkl X hM hQ => ?_)
  subst hkl
  obtain ⟨hM, hK⟩ := hM
  have l4 := hP.l4
  refine vv_sub (lv' := [(0, .ref (g 0))]) [0] rfl ?_
  refine vv_aload_n X dX2_readMic_0 rfl 0 rfl ?_
  refine mg11 X rfl hM dX2_readMic_1 ?_
  refine vv_iconst (v := nI 4) X dX2_readMic_4 (by decide) ?_
  refine vv_iald X hM.a11 (4) (by omega) (by decide) rfl dX2_readMic_5 ?_
  refine vv_eqi hP.e4 ?_
  refine vv_istore_n (lv' := [(1, .int (nI (nM P))), (0, .ref (g 0))]) X dX2_readMic_6 rfl (by decide) rfl ?_
  have jn_1 : ∀ (H : Heap), MR D g (mi0 (I 1) e x P) (va_up (va_up I 11 P) 13 S) J H → KH D H → V K 5 (MA g) H 0 0 Qf 22 [(0, .ref (g 0)), (1, .int (nI (nM P)))] [] := by
    intro H hM hK
    replace hx : PY e (mi0 (I 1) e x P) := PY_bgn hx (by decide)
    refine vv_aload_n X dX2_readMic_22 rfl 0 rfl ?_
    refine vv_sipush (v := -500) X dX2_readMic_23 (by decide) ?_
    refine vv_sipush (v := nI 500) X dX2_readMic_26 (by decide) ?_
    refine vv_callV X (mX2_signed (kL K) D g (mi0 (I 1) e x P) (va_up (va_up I 11 P) 13 S) J hg e (-500) (nI 500) hx.1) q3115 q3117 qs74 q144 q3118 nX2_signed ⟨(Nat.le_of_ble_eq_true rfl), (Nat.le_of_ble_eq_true rfl)⟩ dX2_readMic_29 rfl (Nat.le_of_ble_eq_true rfl) (recv X hM.1 CL_X2) hM  (fun _ z => Or.inl z) ⟨(Nat.le_of_ble_eq_true rfl), (Nat.le_of_ble_eq_true rfl)⟩ (fun v_ H hq hz hk => ?_)
    obtain ⟨rfl, hM⟩ := hq
    replace hK := hK.keep hka hk
    clear hz hk
    replace hM : MR D g (mi1 (I 1) e x P) (va_up (va_up I 11 P) 13 S) J H := hM
    replace hx : PY e (mi1 (I 1) e x P) := PY_sgd hx
    refine vv_istore_n (lv' := [(2, .int (sgv (I 1) e (-500) (nI 500) (mi0 (I 1) e x P))), (0, .ref (g 0)), (1, .int (nI (nM P)))]) X dX2_readMic_32 rfl (by decide) rfl ?_
    refine vv_aload_n X dX2_readMic_33 rfl 1 rfl ?_
    refine vv_sipush (v := -500) X dX2_readMic_34 (by decide) ?_
    refine vv_sipush (v := nI 500) X dX2_readMic_37 (by decide) ?_
    refine vv_callV X (mX2_signed (kL K) D g (mi1 (I 1) e x P) (va_up (va_up I 11 P) 13 S) J hg e (-500) (nI 500) hx.1) q3115 q3117 qs74 q144 q3118 nX2_signed ⟨(Nat.le_of_ble_eq_true rfl), (Nat.le_of_ble_eq_true rfl)⟩ dX2_readMic_40 rfl (Nat.le_of_ble_eq_true rfl) (recv X hM.1 CL_X2) hM  (fun _ z => Or.inl z) ⟨(Nat.le_of_ble_eq_true rfl), (Nat.le_of_ble_eq_true rfl)⟩ (fun v_ H hq hz hk => ?_)
    obtain ⟨rfl, hM⟩ := hq
    replace hK := hK.keep hka hk
    clear hz hk
    replace hM : MR D g (mi2 (I 1) e x P) (va_up (va_up I 11 P) 13 S) J H := hM
    replace hx : PY e (mi2 (I 1) e x P) := PY_sgd hx
    refine vv_istore_n (lv' := [(3, .int (sgv (I 1) e (-500) (nI 500) (mi1 (I 1) e x P))), (2, .int (sgv (I 1) e (-500) (nI 500) (mi0 (I 1) e x P))), (0, .ref (g 0)), (1, .int (nI (nM P)))]) X dX2_readMic_43 rfl (by decide) rfl ?_
    refine vv_aload_n X dX2_readMic_44 rfl 2 rfl ?_
    refine vv_iconst (v := nI 1) X dX2_readMic_45 (by decide) ?_
    refine vv_bipush (v := nI 9) X dX2_readMic_46 (by decide) ?_
    refine vv_callV X (mX2_number (kL K) D g (mi2 (I 1) e x P) (va_up (va_up I 11 P) 13 S) J hg e (nI 1) (nI 9) hx.1) q3091 q3093 qs69 q144 q3094 nX2_number ⟨(Nat.le_of_ble_eq_true rfl), (Nat.le_of_ble_eq_true rfl)⟩ dX2_readMic_48 rfl (Nat.le_of_ble_eq_true rfl) (recv X hM.1 CL_X2) hM  (fun _ z => Or.inl z) ⟨(Nat.le_of_ble_eq_true rfl), (Nat.le_of_ble_eq_true rfl)⟩ (fun v_ H hq hz hk => ?_)
    obtain ⟨rfl, hM⟩ := hq
    replace hK := hK.keep hka hk
    clear hz hk
    replace hM : MR D g (miX (I 1) e x P) (va_up (va_up I 11 P) 13 S) J H := hM
    replace hx : PY e (miX (I 1) e x P) := PY_num hx
    refine vv_istore (lv' := [(4, .int (lov (nI 1) (nI 9) (mi2 (I 1) e x P))), (3, .int (sgv (I 1) e (-500) (nI 500) (mi1 (I 1) e x P))), (2, .int (sgv (I 1) e (-500) (nI 500) (mi0 (I 1) e x P))), (0, .ref (g 0)), (1, .int (nI (nM P)))]) X dX2_readMic_51 (by decide) rfl ?_
    refine vv_aload_n X dX2_readMic_53 rfl 3 rfl ?_
    refine mg5 X rfl hM dX2_readMic_54 ?_
    refine vv_if_le (tgt := 61) X dX2_readMic_57 (by decide) (fun c_57 => ?_) (fun c_57 => ?_)
    · refine vv_aload_n X dX2_readMic_61 rfl 3 rfl ?_
      refine mg11 X rfl hM dX2_readMic_62 ?_
      refine vv_bipush (v := nI 11) X dX2_readMic_65 (by decide) ?_
      refine vv_iload_n X dX2_readMic_67 rfl 4 rfl ?_
      refine vn_add X dX2_readMic_68 ?_
      refine vv_iload_n X dX2_readMic_69 rfl 2 rfl ?_
      refine mk11 X hM hK hka hg (11 + (nM P)) (by omega) rfl (Or.inl (MA.in (by decide))) dX2_readMic_70 (fun H hM hK => ?_)
      rw [up_sw (by decide)] at hM
      replace hM : MR D g (miX (I 1) e x P) (va_up (va_up I 11 (va_up P (11 + (nM P)) (sgv (I 1) e (-500) (nI 500) (mi0 (I 1) e x P)))) 13 S) J H := hM
      refine vv_aload_n X dX2_readMic_71 rfl 3 rfl ?_
      refine mg11 X rfl hM dX2_readMic_72 ?_
      refine vv_bipush (v := nI 23) X dX2_readMic_75 (by decide) ?_
      refine vv_iload_n X dX2_readMic_77 rfl 4 rfl ?_
      refine vn_add X dX2_readMic_78 ?_
      refine vv_iload_n X dX2_readMic_79 rfl 1 rfl ?_
      refine mk11 X hM hK hka hg (23 + (nM P)) (by omega) rfl (Or.inl (MA.in (by decide))) dX2_readMic_80 (fun H hM hK => ?_)
      rw [up_sw (by decide)] at hM
      replace hM : MR D g (miX (I 1) e x P) (va_up (va_up I 11 (va_up (va_up P (11 + (nM P)) (sgv (I 1) e (-500) (nI 500) (mi0 (I 1) e x P))) (23 + (nM P)) (sgv (I 1) e (-500) (nI 500) (mi1 (I 1) e x P)))) 13 S) J H := hM
      refine vv_aload_n X dX2_readMic_81 rfl 3 rfl ?_
      refine mg11 X rfl hM dX2_readMic_82 ?_
      refine vv_bipush (v := nI 35) X dX2_readMic_85 (by decide) ?_
      refine vv_iload_n X dX2_readMic_87 rfl 4 rfl ?_
      refine vn_add X dX2_readMic_88 ?_
      refine vv_iload X dX2_readMic_89 0 rfl ?_
      refine mk11 X hM hK hka hg (35 + (nM P)) (by omega) rfl (Or.inl (MA.in (by decide))) dX2_readMic_91 (fun H hM hK => ?_)
      rw [up_sw (by decide)] at hM
      replace hM : MR D g (miX (I 1) e x P) (va_up (va_up I 11 (va_up (va_up (va_up P (11 + (nM P)) (sgv (I 1) e (-500) (nI 500) (mi0 (I 1) e x P))) (23 + (nM P)) (sgv (I 1) e (-500) (nI 500) (mi1 (I 1) e x P))) (35 + (nM P)) (lov (nI 1) (nI 9) (mi2 (I 1) e x P)))) 13 S) J H := hM
      refine vv_aload_n X dX2_readMic_92 rfl 3 rfl ?_
      refine mg11 X rfl hM dX2_readMic_93 ?_
      refine vv_iconst (v := nI 4) X dX2_readMic_96 (by decide) ?_
      refine vv_dup2_11 X dX2_readMic_97 rfl rfl ?_
      refine vv_iald X hM.a11 (4) (by omega) (by decide) rfl dX2_readMic_98 ?_
      refine vv_eqi (show _ = nI (nM P) from (by show (va_up (va_up (va_up P (11 + (nM P)) (sgv (I 1) e (-500) (nI 500) (mi0 (I 1) e x P))) (23 + (nM P)) (sgv (I 1) e (-500) (nI 500) (mi1 (I 1) e x P))) (35 + (nM P)) (lov (nI 1) (nI 9) (mi2 (I 1) e x P))) 4 = _; rw [va_up_ne _ _ (show (4 : Nat) ≠ 35 + nM P by omega), va_up_ne _ _ (show (4 : Nat) ≠ 23 + nM P by omega), va_up_ne _ _ (show (4 : Nat) ≠ 11 + nM P by omega)]; exact hP.e4)) ?_
      refine vv_iconst (v := nI 1) X dX2_readMic_99 (by decide) ?_
      refine vn_add X dX2_readMic_100 ?_
      refine mk11 X hM hK hka hg (4) (by omega) rfl (Or.inl (MA.in (by decide))) dX2_readMic_101 (fun H hM hK => ?_)
      rw [up_sw (by decide)] at hM
      replace hM : MR D g (miX (I 1) e x P) (va_up (va_up I 11 (va_up (va_up (va_up (va_up P (11 + (nM P)) (sgv (I 1) e (-500) (nI 500) (mi0 (I 1) e x P))) (23 + (nM P)) (sgv (I 1) e (-500) (nI 500) (mi1 (I 1) e x P))) (35 + (nM P)) (lov (nI 1) (nI 9) (mi2 (I 1) e x P))) 4 (nI ((nM P) + 1)))) 13 S) J H := hM
      exact vv_vret X hQ dX2_readMic_102 (Nat.le_refl _) (Nat.le_refl _) (⟨rfl, by unfold miP; rw [if_neg (Int32.not_lt.mpr c_57)]; exact hM⟩)
    · exact vv_vret X hQ dX2_readMic_60 (Nat.le_refl _) (Nat.le_refl _) (⟨rfl, by unfold miP; rw [if_pos (Int32.not_le.mp c_57)]; exact hM⟩)
  refine vv_iload_n X dX2_readMic_7 rfl 0 rfl ?_
  refine vv_bipush (v := nI 12) X dX2_readMic_8 (by decide) ?_
  refine vn_ne (tgt := 18) X (by omega) (by omega) dX2_readMic_10 (by decide) (fun c_10 => ?_) (fun c_10 => ?_)
  · refine vv_aload_n X dX2_readMic_18 rfl 1 rfl ?_
    refine vv_callV X (mX2_nextToken (kL K) D g x (va_up (va_up I 11 P) 13 S) J hg e hx.1) q3042 q3044 qs61 q144 q3045 nX2_nextToken ⟨(Nat.le_of_ble_eq_true rfl), (Nat.le_of_ble_eq_true rfl)⟩ dX2_readMic_19 rfl (Nat.le_of_ble_eq_true rfl) (recv X hM.1 CL_X2) hM  (fun _ z => Or.inl z) ⟨(Nat.le_of_ble_eq_true rfl), (Nat.le_of_ble_eq_true rfl)⟩ (fun v_ H hq hz hk => ?_)
    obtain ⟨rfl, hM⟩ := hq
    replace hK := hK.keep hka hk
    clear hz hk
    replace hM : MR D g (nxt (I 1) e x) (va_up (va_up I 11 P) 13 S) J H := hM
    replace hx : PY e (nxt (I 1) e x) := PY_nxt hx
    refine vv_sub [1, 0] rfl ?_
    exact jn_1 H (by unfold mi0; rw [bgn_n (by omega)]; exact hM) hK
  · refine vv_aload_n X dX2_readMic_13 rfl 1 rfl ?_
    refine vv_iconst (v := nI 4) X dX2_readMic_14 (by decide) ?_
    refine vv_callV X (mX2_faults (kL K) D g x (va_up (va_up I 11 P) 13 S) J hg 4) q3082 q3084 qs67 q144 q3085 nX2_faults ⟨(Nat.le_of_ble_eq_true rfl), (Nat.le_of_ble_eq_true rfl)⟩ dX2_readMic_15 rfl (Nat.le_of_ble_eq_true rfl) (recv X hM.1 CL_X2) hM  (fun _ z => Or.inl z) ⟨(Nat.le_of_ble_eq_true rfl), (Nat.le_of_ble_eq_true rfl)⟩ (fun v_ H hq hz hk => ?_)
    obtain ⟨rfl, hM⟩ := hq
    replace hK := hK.keep hka hk
    clear hz hk
    replace hM : MR D g (fau 4 x) (va_up (va_up I 11 P) 13 S) J H := hM
    replace hx : PY e (fau 4 x) := PY_fau hx (by decide)
    refine vv_aload_n X dX2_readMic_18 rfl 1 rfl ?_
    refine vv_callV X (mX2_nextToken (kL K) D g (fau 4 x) (va_up (va_up I 11 P) 13 S) J hg e hx.1) q3042 q3044 qs61 q144 q3045 nX2_nextToken ⟨(Nat.le_of_ble_eq_true rfl), (Nat.le_of_ble_eq_true rfl)⟩ dX2_readMic_19 rfl (Nat.le_of_ble_eq_true rfl) (recv X hM.1 CL_X2) hM  (fun _ z => Or.inl z) ⟨(Nat.le_of_ble_eq_true rfl), (Nat.le_of_ble_eq_true rfl)⟩ (fun v_ H hq hz hk => ?_)
    obtain ⟨rfl, hM⟩ := hq
    replace hK := hK.keep hka hk
    clear hz hk
    replace hM : MR D g (nxt (I 1) e (fau 4 x)) (va_up (va_up I 11 P) 13 S) J H := hM
    replace hx : PY e (nxt (I 1) e (fau 4 x)) := PY_nxt hx
    refine vv_sub [1, 0] rfl ?_
    exact jn_1 H (by unfold mi0; rw [bgn_y (by omega)]; exact hM) hK
theorem nX2_readMap : notMH yX2_readMap 0 := by decide +kernel
set_option maxHeartbeats 800000 in
theorem mX2_readMap (l : Launch) (D : DD) (g : Nat → Nat) (x : Nat → Int32) (I : Nat → Nat → Int32) (J : Nat → Nat → Int64) (P S : Nat → Int32) (e : Nat) (hg : MG g) (hka : KA D (MA g)) (hP : VP P) (hx : PY e x) : Ct l yX2_readMap cX2_readMap 6 none { frames := 5, cells := 0, slots := 0, locals := 102 } D [.ref (g 0)] (fun H => MR D g x (va_up (va_up I 11 P) 13 S) J H ∧ KH D H) (MA g) (fun v H H1 => v = none ∧ MR D g (maX (I 1) e x P) (va_up (va_up I 11 (maP (I 1) e x P)) 13 (S)) J H1) := by
  refine Ct.of (by decide +kernel) (Nat.le_of_ble_eq_true rfl) (fun K Qf hkl X hM hQ => ?_)
  subst hkl
  obtain ⟨hM, hK⟩ := hM
  have l8 := hP.l8
  refine vv_sub (lv' := [(0, .ref (g 0))]) [0] rfl ?_
  have jn_1 : ∀ (H : Heap), MR D g (ma0 (I 1) e x P) (va_up (va_up I 11 P) 13 S) J H → KH D H → V K 6 (MA g) H 0 0 Qf 19 [(0, .ref (g 0))] [] := by
    intro H hM hK
    replace hx : PY e (ma0 (I 1) e x P) := PY_bgn hx (by decide)
    refine vv_aload_n X dX2_readMap_19 rfl 0 rfl ?_
    refine vv_sipush (v := -999) X dX2_readMap_20 (by decide) ?_
    refine vv_sipush (v := nI 999) X dX2_readMap_23 (by decide) ?_
    refine vv_callV X (mX2_signed (kL K) D g (ma0 (I 1) e x P) (va_up (va_up I 11 P) 13 S) J hg e (-999) (nI 999) hx.1) q3115 q3117 qs74 q144 q3118 nX2_signed ⟨(Nat.le_of_ble_eq_true rfl), (Nat.le_of_ble_eq_true rfl)⟩ dX2_readMap_26 rfl (Nat.le_of_ble_eq_true rfl) (recv X hM.1 CL_X2) hM  (fun _ z => Or.inl z) ⟨(Nat.le_of_ble_eq_true rfl), (Nat.le_of_ble_eq_true rfl)⟩ (fun v_ H hq hz hk => ?_)
    obtain ⟨rfl, hM⟩ := hq
    replace hK := hK.keep hka hk
    clear hz hk
    replace hM : MR D g (ma1 (I 1) e x P) (va_up (va_up I 11 P) 13 S) J H := hM
    replace hx : PY e (ma1 (I 1) e x P) := PY_sgd hx
    refine vv_istore_n (lv' := [(1, .int (sgv (I 1) e (-999) (nI 999) (ma0 (I 1) e x P))), (0, .ref (g 0))]) X dX2_readMap_29 rfl (by decide) rfl ?_
    refine vv_aload_n X dX2_readMap_30 rfl 1 rfl ?_
    refine vv_sipush (v := -999) X dX2_readMap_31 (by decide) ?_
    refine vv_sipush (v := nI 999) X dX2_readMap_34 (by decide) ?_
    refine vv_callV X (mX2_signed (kL K) D g (ma1 (I 1) e x P) (va_up (va_up I 11 P) 13 S) J hg e (-999) (nI 999) hx.1) q3115 q3117 qs74 q144 q3118 nX2_signed ⟨(Nat.le_of_ble_eq_true rfl), (Nat.le_of_ble_eq_true rfl)⟩ dX2_readMap_37 rfl (Nat.le_of_ble_eq_true rfl) (recv X hM.1 CL_X2) hM  (fun _ z => Or.inl z) ⟨(Nat.le_of_ble_eq_true rfl), (Nat.le_of_ble_eq_true rfl)⟩ (fun v_ H hq hz hk => ?_)
    obtain ⟨rfl, hM⟩ := hq
    replace hK := hK.keep hka hk
    clear hz hk
    replace hM : MR D g (ma2 (I 1) e x P) (va_up (va_up I 11 P) 13 S) J H := hM
    replace hx : PY e (ma2 (I 1) e x P) := PY_sgd hx
    refine vv_istore_n (lv' := [(2, .int (sgv (I 1) e (-999) (nI 999) (ma1 (I 1) e x P))), (1, .int (sgv (I 1) e (-999) (nI 999) (ma0 (I 1) e x P))), (0, .ref (g 0))]) X dX2_readMap_40 rfl (by decide) rfl ?_
    refine vv_aload_n X dX2_readMap_41 rfl 2 rfl ?_
    refine vv_iconst (v := nI 1) X dX2_readMap_42 (by decide) ?_
    refine vv_bipush (v := nI 99) X dX2_readMap_43 (by decide) ?_
    refine vv_callV X (mX2_number (kL K) D g (ma2 (I 1) e x P) (va_up (va_up I 11 P) 13 S) J hg e (nI 1) (nI 99) hx.1) q3091 q3093 qs69 q144 q3094 nX2_number ⟨(Nat.le_of_ble_eq_true rfl), (Nat.le_of_ble_eq_true rfl)⟩ dX2_readMap_45 rfl (Nat.le_of_ble_eq_true rfl) (recv X hM.1 CL_X2) hM  (fun _ z => Or.inl z) ⟨(Nat.le_of_ble_eq_true rfl), (Nat.le_of_ble_eq_true rfl)⟩ (fun v_ H hq hz hk => ?_)
    obtain ⟨rfl, hM⟩ := hq
    replace hK := hK.keep hka hk
    clear hz hk
    replace hM : MR D g (ma3 (I 1) e x P) (va_up (va_up I 11 P) 13 S) J H := hM
    replace hx : PY e (ma3 (I 1) e x P) := PY_num hx
    refine vv_istore_n (lv' := [(3, .int (lov (nI 1) (nI 99) (ma2 (I 1) e x P))), (2, .int (sgv (I 1) e (-999) (nI 999) (ma1 (I 1) e x P))), (1, .int (sgv (I 1) e (-999) (nI 999) (ma0 (I 1) e x P))), (0, .ref (g 0))]) X dX2_readMap_48 rfl (by decide) rfl ?_
    refine vv_aload_n X dX2_readMap_49 rfl 3 rfl ?_
    refine vv_iconst (v := nI 1) X dX2_readMap_50 (by decide) ?_
    refine vv_bipush (v := nI 12) X dX2_readMap_51 (by decide) ?_
    refine vv_callV X (mX2_number (kL K) D g (ma3 (I 1) e x P) (va_up (va_up I 11 P) 13 S) J hg e (nI 1) (nI 12) hx.1) q3091 q3093 qs69 q144 q3094 nX2_number ⟨(Nat.le_of_ble_eq_true rfl), (Nat.le_of_ble_eq_true rfl)⟩ dX2_readMap_53 rfl (Nat.le_of_ble_eq_true rfl) (recv X hM.1 CL_X2) hM  (fun _ z => Or.inl z) ⟨(Nat.le_of_ble_eq_true rfl), (Nat.le_of_ble_eq_true rfl)⟩ (fun v_ H hq hz hk => ?_)
    obtain ⟨rfl, hM⟩ := hq
    replace hK := hK.keep hka hk
    clear hz hk
    replace hM : MR D g (ma4 (I 1) e x P) (va_up (va_up I 11 P) 13 S) J H := hM
    replace hx : PY e (ma4 (I 1) e x P) := PY_num hx
    refine vv_istore (lv' := [(4, .int (lov (nI 1) (nI 12) (ma3 (I 1) e x P))), (3, .int (lov (nI 1) (nI 99) (ma2 (I 1) e x P))), (2, .int (sgv (I 1) e (-999) (nI 999) (ma1 (I 1) e x P))), (1, .int (sgv (I 1) e (-999) (nI 999) (ma0 (I 1) e x P))), (0, .ref (g 0))]) X dX2_readMap_56 (by decide) rfl ?_
    refine vv_aload_n X dX2_readMap_58 rfl 4 rfl ?_
    refine vv_iconst (v := nI 1) X dX2_readMap_59 (by decide) ?_
    refine vv_bipush (v := nI 12) X dX2_readMap_60 (by decide) ?_
    refine vv_callV X (mX2_number (kL K) D g (ma4 (I 1) e x P) (va_up (va_up I 11 P) 13 S) J hg e (nI 1) (nI 12) hx.1) q3091 q3093 qs69 q144 q3094 nX2_number ⟨(Nat.le_of_ble_eq_true rfl), (Nat.le_of_ble_eq_true rfl)⟩ dX2_readMap_62 rfl (Nat.le_of_ble_eq_true rfl) (recv X hM.1 CL_X2) hM  (fun _ z => Or.inl z) ⟨(Nat.le_of_ble_eq_true rfl), (Nat.le_of_ble_eq_true rfl)⟩ (fun v_ H hq hz hk => ?_)
    obtain ⟨rfl, hM⟩ := hq
    replace hK := hK.keep hka hk
    clear hz hk
    replace hM : MR D g (maX (I 1) e x P) (va_up (va_up I 11 P) 13 S) J H := hM
    replace hx : PY e (maX (I 1) e x P) := PY_num hx
    refine vv_istore (lv' := [(5, .int (lov (nI 1) (nI 12) (ma4 (I 1) e x P))), (4, .int (lov (nI 1) (nI 12) (ma3 (I 1) e x P))), (3, .int (lov (nI 1) (nI 99) (ma2 (I 1) e x P))), (2, .int (sgv (I 1) e (-999) (nI 999) (ma1 (I 1) e x P))), (1, .int (sgv (I 1) e (-999) (nI 999) (ma0 (I 1) e x P))), (0, .ref (g 0))]) X dX2_readMap_65 (by decide) rfl ?_
    refine vv_aload_n X dX2_readMap_67 rfl 5 rfl ?_
    refine mg5 X rfl hM dX2_readMap_68 ?_
    refine vv_if_le (tgt := 75) X dX2_readMap_71 (by decide) (fun c_71 => ?_) (fun c_71 => ?_)
    · refine vv_aload_n X dX2_readMap_75 rfl 5 rfl ?_
      refine mg11 X rfl hM dX2_readMap_76 ?_
      refine vv_bipush (v := nI 6) X dX2_readMap_79 (by decide) ?_
      refine vv_iload_n X dX2_readMap_81 rfl 4 rfl ?_
      refine mk11 X hM hK hka hg (6) (by omega) rfl (Or.inl (MA.in (by decide))) dX2_readMap_82 (fun H hM hK => ?_)
      rw [up_sw (by decide)] at hM
      replace hM : MR D g (maX (I 1) e x P) (va_up (va_up I 11 (va_up P 6 (sgv (I 1) e (-999) (nI 999) (ma0 (I 1) e x P)))) 13 S) J H := hM
      refine vv_aload_n X dX2_readMap_83 rfl 5 rfl ?_
      refine mg11 X rfl hM dX2_readMap_84 ?_
      refine vv_bipush (v := nI 7) X dX2_readMap_87 (by decide) ?_
      refine vv_iload_n X dX2_readMap_89 rfl 3 rfl ?_
      refine mk11 X hM hK hka hg (7) (by omega) rfl (Or.inl (MA.in (by decide))) dX2_readMap_90 (fun H hM hK => ?_)
      rw [up_sw (by decide)] at hM
      replace hM : MR D g (maX (I 1) e x P) (va_up (va_up I 11 (va_up (va_up P 6 (sgv (I 1) e (-999) (nI 999) (ma0 (I 1) e x P))) 7 (sgv (I 1) e (-999) (nI 999) (ma1 (I 1) e x P)))) 13 S) J H := hM
      refine vv_aload_n X dX2_readMap_91 rfl 5 rfl ?_
      refine mg11 X rfl hM dX2_readMap_92 ?_
      refine vv_bipush (v := nI 8) X dX2_readMap_95 (by decide) ?_
      refine vv_iload_n X dX2_readMap_97 rfl 2 rfl ?_
      refine mk11 X hM hK hka hg (8) (by omega) rfl (Or.inl (MA.in (by decide))) dX2_readMap_98 (fun H hM hK => ?_)
      rw [up_sw (by decide)] at hM
      replace hM : MR D g (maX (I 1) e x P) (va_up (va_up I 11 (va_up (va_up (va_up P 6 (sgv (I 1) e (-999) (nI 999) (ma0 (I 1) e x P))) 7 (sgv (I 1) e (-999) (nI 999) (ma1 (I 1) e x P))) 8 (lov (nI 1) (nI 99) (ma2 (I 1) e x P)))) 13 S) J H := hM
      refine vv_aload_n X dX2_readMap_99 rfl 5 rfl ?_
      refine mg11 X rfl hM dX2_readMap_100 ?_
      refine vv_bipush (v := nI 9) X dX2_readMap_103 (by decide) ?_
      refine vv_iload X dX2_readMap_105 1 rfl ?_
      refine mk11 X hM hK hka hg (9) (by omega) rfl (Or.inl (MA.in (by decide))) dX2_readMap_107 (fun H hM hK => ?_)
      rw [up_sw (by decide)] at hM
      replace hM : MR D g (maX (I 1) e x P) (va_up (va_up I 11 (va_up (va_up (va_up (va_up P 6 (sgv (I 1) e (-999) (nI 999) (ma0 (I 1) e x P))) 7 (sgv (I 1) e (-999) (nI 999) (ma1 (I 1) e x P))) 8 (lov (nI 1) (nI 99) (ma2 (I 1) e x P))) 9 (lov (nI 1) (nI 12) (ma3 (I 1) e x P)))) 13 S) J H := hM
      refine vv_aload_n X dX2_readMap_108 rfl 5 rfl ?_
      refine mg11 X rfl hM dX2_readMap_109 ?_
      refine vv_bipush (v := nI 10) X dX2_readMap_112 (by decide) ?_
      refine vv_iload X dX2_readMap_114 0 rfl ?_
      refine mk11 X hM hK hka hg (10) (by omega) rfl (Or.inl (MA.in (by decide))) dX2_readMap_116 (fun H hM hK => ?_)
      rw [up_sw (by decide)] at hM
      replace hM : MR D g (maX (I 1) e x P) (va_up (va_up I 11 (va_up (va_up (va_up (va_up (va_up P 6 (sgv (I 1) e (-999) (nI 999) (ma0 (I 1) e x P))) 7 (sgv (I 1) e (-999) (nI 999) (ma1 (I 1) e x P))) 8 (lov (nI 1) (nI 99) (ma2 (I 1) e x P))) 9 (lov (nI 1) (nI 12) (ma3 (I 1) e x P))) 10 (lov (nI 1) (nI 12) (ma4 (I 1) e x P)))) 13 S) J H := hM
      exact vv_vret X hQ dX2_readMap_117 (Nat.le_refl _) (Nat.le_refl _) (⟨rfl, by unfold maP; rw [if_neg (Int32.not_lt.mpr c_71)]; exact hM⟩)
    · exact vv_vret X hQ dX2_readMap_74 (Nat.le_refl _) (Nat.le_refl _) (⟨rfl, by unfold maP; rw [if_pos (Int32.not_le.mp c_71)]; exact hM⟩)
  refine vv_aload_n X dX2_readMap_0 rfl 0 rfl ?_
  refine mg11 X rfl hM dX2_readMap_1 ?_
  refine vv_bipush (v := nI 8) X dX2_readMap_4 (by decide) ?_
  refine vv_iald X hM.a11 (8) (by omega) (by decide) rfl dX2_readMap_6 ?_
  refine vv_eqi hP.e8 ?_
  refine vn_if_le (tgt := 15) X (by omega) dX2_readMap_7 (by decide) (fun c_7 => ?_) (fun c_7 => ?_)
  · refine vv_aload_n X dX2_readMap_15 rfl 0 rfl ?_
    refine vv_callV X (mX2_nextToken (kL K) D g x (va_up (va_up I 11 P) 13 S) J hg e hx.1) q3042 q3044 qs61 q144 q3045 nX2_nextToken ⟨(Nat.le_of_ble_eq_true rfl), (Nat.le_of_ble_eq_true rfl)⟩ dX2_readMap_16 rfl (Nat.le_of_ble_eq_true rfl) (recv X hM.1 CL_X2) hM  (fun _ z => Or.inl z) ⟨(Nat.le_of_ble_eq_true rfl), (Nat.le_of_ble_eq_true rfl)⟩ (fun v_ H hq hz hk => ?_)
    obtain ⟨rfl, hM⟩ := hq
    replace hK := hK.keep hka hk
    clear hz hk
    replace hM : MR D g (nxt (I 1) e x) (va_up (va_up I 11 P) 13 S) J H := hM
    replace hx : PY e (nxt (I 1) e x) := PY_nxt hx
    refine vv_sub [0] rfl ?_
    exact jn_1 H (by unfold ma0; rw [bgn_n (by omega)]; exact hM) hK
  · refine vv_aload_n X dX2_readMap_10 rfl 0 rfl ?_
    refine vv_iconst (v := nI 3) X dX2_readMap_11 (by decide) ?_
    refine vv_callV X (mX2_faults (kL K) D g x (va_up (va_up I 11 P) 13 S) J hg 3) q3082 q3084 qs67 q144 q3085 nX2_faults ⟨(Nat.le_of_ble_eq_true rfl), (Nat.le_of_ble_eq_true rfl)⟩ dX2_readMap_12 rfl (Nat.le_of_ble_eq_true rfl) (recv X hM.1 CL_X2) hM  (fun _ z => Or.inl z) ⟨(Nat.le_of_ble_eq_true rfl), (Nat.le_of_ble_eq_true rfl)⟩ (fun v_ H hq hz hk => ?_)
    obtain ⟨rfl, hM⟩ := hq
    replace hK := hK.keep hka hk
    clear hz hk
    replace hM : MR D g (fau 3 x) (va_up (va_up I 11 P) 13 S) J H := hM
    replace hx : PY e (fau 3 x) := PY_fau hx (by decide)
    refine vv_aload_n X dX2_readMap_15 rfl 0 rfl ?_
    refine vv_callV X (mX2_nextToken (kL K) D g (fau 3 x) (va_up (va_up I 11 P) 13 S) J hg e hx.1) q3042 q3044 qs61 q144 q3045 nX2_nextToken ⟨(Nat.le_of_ble_eq_true rfl), (Nat.le_of_ble_eq_true rfl)⟩ dX2_readMap_16 rfl (Nat.le_of_ble_eq_true rfl) (recv X hM.1 CL_X2) hM  (fun _ z => Or.inl z) ⟨(Nat.le_of_ble_eq_true rfl), (Nat.le_of_ble_eq_true rfl)⟩ (fun v_ H hq hz hk => ?_)
    obtain ⟨rfl, hM⟩ := hq
    replace hK := hK.keep hka hk
    clear hz hk
    replace hM : MR D g (nxt (I 1) e (fau 3 x)) (va_up (va_up I 11 P) 13 S) J H := hM
    replace hx : PY e (nxt (I 1) e (fau 3 x)) := PY_nxt hx
    refine vv_sub [0] rfl ?_
    exact jn_1 H (by unfold ma0; rw [bgn_y (by omega)]; exact hM) hK
theorem nX2_readWall : notMH yX2_readWall 0 := by decide +kernel
set_option maxHeartbeats 800000 in
theorem mX2_readWall (l : Launch) (D : DD) (g : Nat → Nat) (x : Nat → Int32) (I : Nat → Nat → Int32) (J : Nat → Nat → Int64) (P S : Nat → Int32) (e : Nat) (hg : MG g) (hka : KA D (MA g)) (hP : VP P) (hx : PY e x) : Ct l yX2_readWall cX2_readWall 4 none { frames := 5, cells := 0, slots := 0, locals := 102 } D [.ref (g 0)] (fun H => MR D g x (va_up (va_up I 11 P) 13 S) J H ∧ KH D H) (MA g) (fun v H H1 => v = none ∧ MR D g (waX (I 1) e x P) (va_up (va_up I 11 (waP (I 1) e x P)) 13 (S)) J H1) := by
  refine Ct.of (by decide +kernel) (Nat.le_of_ble_eq_true rfl) (fun K Qf hkl X hM hQ => ?_)
  subst hkl
  obtain ⟨hM, hK⟩ := hM
  have l71 := hP.l71
  refine vv_sub (lv' := [(0, .ref (g 0))]) [0] rfl ?_
  refine vv_aload_n X dX2_readWall_0 rfl 0 rfl ?_
  refine mg11 X rfl hM dX2_readWall_1 ?_
  refine vv_bipush (v := nI 71) X dX2_readWall_4 (by decide) ?_
  refine vv_iald X hM.a11 (71) (by omega) (by decide) rfl dX2_readWall_6 ?_
  refine vv_eqi hP.e71 ?_
  refine vv_istore_n (lv' := [(1, .int (nI (nW P))), (0, .ref (g 0))]) X dX2_readWall_7 rfl (by decide) rfl ?_
  have jn_1 : ∀ (H : Heap), MR D g (wa0 (I 1) e x P) (va_up (va_up I 11 P) 13 S) J H → KH D H → V K 4 (MA g) H 0 0 Qf 22 [(0, .ref (g 0)), (1, .int (nI (nW P)))] [] := by
    intro H hM hK
    replace hx : PY e (wa0 (I 1) e x P) := PY_bgn hx (by decide)
    refine vv_aload_n X dX2_readWall_22 rfl 0 rfl ?_
    refine vv_sipush (v := -2000) X dX2_readWall_23 (by decide) ?_
    refine vv_sipush (v := nI 2000) X dX2_readWall_26 (by decide) ?_
    refine vv_callV X (mX2_signed (kL K) D g (wa0 (I 1) e x P) (va_up (va_up I 11 P) 13 S) J hg e (-2000) (nI 2000) hx.1) q3115 q3117 qs74 q144 q3118 nX2_signed ⟨(Nat.le_of_ble_eq_true rfl), (Nat.le_of_ble_eq_true rfl)⟩ dX2_readWall_29 rfl (Nat.le_of_ble_eq_true rfl) (recv X hM.1 CL_X2) hM  (fun _ z => Or.inl z) ⟨(Nat.le_of_ble_eq_true rfl), (Nat.le_of_ble_eq_true rfl)⟩ (fun v_ H hq hz hk => ?_)
    obtain ⟨rfl, hM⟩ := hq
    replace hK := hK.keep hka hk
    clear hz hk
    replace hM : MR D g (wa1 (I 1) e x P) (va_up (va_up I 11 P) 13 S) J H := hM
    replace hx : PY e (wa1 (I 1) e x P) := PY_sgd hx
    refine vv_istore_n (lv' := [(2, .int (sgv (I 1) e (-2000) (nI 2000) (wa0 (I 1) e x P))), (0, .ref (g 0)), (1, .int (nI (nW P)))]) X dX2_readWall_32 rfl (by decide) rfl ?_
    refine vv_aload_n X dX2_readWall_33 rfl 1 rfl ?_
    refine vv_iconst (v := nI 1) X dX2_readWall_34 (by decide) ?_
    refine vv_bipush (v := nI 100) X dX2_readWall_35 (by decide) ?_
    refine vv_callV X (mX2_number (kL K) D g (wa1 (I 1) e x P) (va_up (va_up I 11 P) 13 S) J hg e (nI 1) (nI 100) hx.1) q3091 q3093 qs69 q144 q3094 nX2_number ⟨(Nat.le_of_ble_eq_true rfl), (Nat.le_of_ble_eq_true rfl)⟩ dX2_readWall_37 rfl (Nat.le_of_ble_eq_true rfl) (recv X hM.1 CL_X2) hM  (fun _ z => Or.inl z) ⟨(Nat.le_of_ble_eq_true rfl), (Nat.le_of_ble_eq_true rfl)⟩ (fun v_ H hq hz hk => ?_)
    obtain ⟨rfl, hM⟩ := hq
    replace hK := hK.keep hka hk
    clear hz hk
    replace hM : MR D g (waX (I 1) e x P) (va_up (va_up I 11 P) 13 S) J H := hM
    replace hx : PY e (waX (I 1) e x P) := PY_num hx
    refine vv_istore_n (lv' := [(3, .int (lov (nI 1) (nI 100) (wa1 (I 1) e x P))), (2, .int (sgv (I 1) e (-2000) (nI 2000) (wa0 (I 1) e x P))), (0, .ref (g 0)), (1, .int (nI (nW P)))]) X dX2_readWall_40 rfl (by decide) rfl ?_
    refine vv_aload_n X dX2_readWall_41 rfl 2 rfl ?_
    refine mg5 X rfl hM dX2_readWall_42 ?_
    refine vv_if_le (tgt := 49) X dX2_readWall_45 (by decide) (fun c_45 => ?_) (fun c_45 => ?_)
    · refine vv_aload_n X dX2_readWall_49 rfl 2 rfl ?_
      refine mg11 X rfl hM dX2_readWall_50 ?_
      refine vv_bipush (v := nI 72) X dX2_readWall_53 (by decide) ?_
      refine vv_iload_n X dX2_readWall_55 rfl 3 rfl ?_
      refine vn_add X dX2_readWall_56 ?_
      refine vv_iload_n X dX2_readWall_57 rfl 1 rfl ?_
      refine mk11 X hM hK hka hg (72 + (nW P)) (by omega) rfl (Or.inl (MA.in (by decide))) dX2_readWall_58 (fun H hM hK => ?_)
      rw [up_sw (by decide)] at hM
      replace hM : MR D g (waX (I 1) e x P) (va_up (va_up I 11 (va_up P (72 + (nW P)) (sgv (I 1) e (-2000) (nI 2000) (wa0 (I 1) e x P)))) 13 S) J H := hM
      refine vv_aload_n X dX2_readWall_59 rfl 2 rfl ?_
      refine mg11 X rfl hM dX2_readWall_60 ?_
      refine vv_bipush (v := nI 74) X dX2_readWall_63 (by decide) ?_
      refine vv_iload_n X dX2_readWall_65 rfl 3 rfl ?_
      refine vn_add X dX2_readWall_66 ?_
      refine vv_iload_n X dX2_readWall_67 rfl 0 rfl ?_
      refine mk11 X hM hK hka hg (74 + (nW P)) (by omega) rfl (Or.inl (MA.in (by decide))) dX2_readWall_68 (fun H hM hK => ?_)
      rw [up_sw (by decide)] at hM
      replace hM : MR D g (waX (I 1) e x P) (va_up (va_up I 11 (va_up (va_up P (72 + (nW P)) (sgv (I 1) e (-2000) (nI 2000) (wa0 (I 1) e x P))) (74 + (nW P)) (lov (nI 1) (nI 100) (wa1 (I 1) e x P)))) 13 S) J H := hM
      refine vv_aload_n X dX2_readWall_69 rfl 2 rfl ?_
      refine mg11 X rfl hM dX2_readWall_70 ?_
      refine vv_bipush (v := nI 71) X dX2_readWall_73 (by decide) ?_
      refine vv_dup2_11 X dX2_readWall_75 rfl rfl ?_
      refine vv_iald X hM.a11 (71) (by omega) (by decide) rfl dX2_readWall_76 ?_
      refine vv_eqi (show _ = nI (nW P) from (by show (va_up (va_up P (72 + (nW P)) (sgv (I 1) e (-2000) (nI 2000) (wa0 (I 1) e x P))) (74 + (nW P)) (lov (nI 1) (nI 100) (wa1 (I 1) e x P))) 71 = _; rw [va_up_ne _ _ (show (71 : Nat) ≠ 74 + nW P by omega), va_up_ne _ _ (show (71 : Nat) ≠ 72 + nW P by omega)]; exact hP.e71)) ?_
      refine vv_iconst (v := nI 1) X dX2_readWall_77 (by decide) ?_
      refine vn_add X dX2_readWall_78 ?_
      refine mk11 X hM hK hka hg (71) (by omega) rfl (Or.inl (MA.in (by decide))) dX2_readWall_79 (fun H hM hK => ?_)
      rw [up_sw (by decide)] at hM
      replace hM : MR D g (waX (I 1) e x P) (va_up (va_up I 11 (va_up (va_up (va_up P (72 + (nW P)) (sgv (I 1) e (-2000) (nI 2000) (wa0 (I 1) e x P))) (74 + (nW P)) (lov (nI 1) (nI 100) (wa1 (I 1) e x P))) 71 (nI ((nW P) + 1)))) 13 S) J H := hM
      exact vv_vret X hQ dX2_readWall_80 (Nat.le_refl _) (Nat.le_refl _) (⟨rfl, by unfold waP; rw [if_neg (Int32.not_lt.mpr c_45)]; exact hM⟩)
    · exact vv_vret X hQ dX2_readWall_48 (Nat.le_refl _) (Nat.le_refl _) (⟨rfl, by unfold waP; rw [if_pos (Int32.not_le.mp c_45)]; exact hM⟩)
  refine vv_iload_n X dX2_readWall_8 rfl 0 rfl ?_
  refine vv_iconst (v := nI 2) X dX2_readWall_9 (by decide) ?_
  refine vn_ne (tgt := 18) X (by omega) (by omega) dX2_readWall_10 (by decide) (fun c_10 => ?_) (fun c_10 => ?_)
  · refine vv_aload_n X dX2_readWall_18 rfl 1 rfl ?_
    refine vv_callV X (mX2_nextToken (kL K) D g x (va_up (va_up I 11 P) 13 S) J hg e hx.1) q3042 q3044 qs61 q144 q3045 nX2_nextToken ⟨(Nat.le_of_ble_eq_true rfl), (Nat.le_of_ble_eq_true rfl)⟩ dX2_readWall_19 rfl (Nat.le_of_ble_eq_true rfl) (recv X hM.1 CL_X2) hM  (fun _ z => Or.inl z) ⟨(Nat.le_of_ble_eq_true rfl), (Nat.le_of_ble_eq_true rfl)⟩ (fun v_ H hq hz hk => ?_)
    obtain ⟨rfl, hM⟩ := hq
    replace hK := hK.keep hka hk
    clear hz hk
    replace hM : MR D g (nxt (I 1) e x) (va_up (va_up I 11 P) 13 S) J H := hM
    replace hx : PY e (nxt (I 1) e x) := PY_nxt hx
    refine vv_sub [1, 0] rfl ?_
    exact jn_1 H (by unfold wa0; rw [bgn_n (by omega)]; exact hM) hK
  · refine vv_aload_n X dX2_readWall_13 rfl 1 rfl ?_
    refine vv_iconst (v := nI 4) X dX2_readWall_14 (by decide) ?_
    refine vv_callV X (mX2_faults (kL K) D g x (va_up (va_up I 11 P) 13 S) J hg 4) q3082 q3084 qs67 q144 q3085 nX2_faults ⟨(Nat.le_of_ble_eq_true rfl), (Nat.le_of_ble_eq_true rfl)⟩ dX2_readWall_15 rfl (Nat.le_of_ble_eq_true rfl) (recv X hM.1 CL_X2) hM  (fun _ z => Or.inl z) ⟨(Nat.le_of_ble_eq_true rfl), (Nat.le_of_ble_eq_true rfl)⟩ (fun v_ H hq hz hk => ?_)
    obtain ⟨rfl, hM⟩ := hq
    replace hK := hK.keep hka hk
    clear hz hk
    replace hM : MR D g (fau 4 x) (va_up (va_up I 11 P) 13 S) J H := hM
    replace hx : PY e (fau 4 x) := PY_fau hx (by decide)
    refine vv_aload_n X dX2_readWall_18 rfl 1 rfl ?_
    refine vv_callV X (mX2_nextToken (kL K) D g (fau 4 x) (va_up (va_up I 11 P) 13 S) J hg e hx.1) q3042 q3044 qs61 q144 q3045 nX2_nextToken ⟨(Nat.le_of_ble_eq_true rfl), (Nat.le_of_ble_eq_true rfl)⟩ dX2_readWall_19 rfl (Nat.le_of_ble_eq_true rfl) (recv X hM.1 CL_X2) hM  (fun _ z => Or.inl z) ⟨(Nat.le_of_ble_eq_true rfl), (Nat.le_of_ble_eq_true rfl)⟩ (fun v_ H hq hz hk => ?_)
    obtain ⟨rfl, hM⟩ := hq
    replace hK := hK.keep hka hk
    clear hz hk
    replace hM : MR D g (nxt (I 1) e (fau 4 x)) (va_up (va_up I 11 P) 13 S) J H := hM
    replace hx : PY e (nxt (I 1) e (fau 4 x)) := PY_nxt hx
    refine vv_sub [1, 0] rfl ?_
    exact jn_1 H (by unfold wa0; rw [bgn_y (by omega)]; exact hM) hK
theorem nX2_readFade : notMH yX2_readFade 0 := by decide +kernel
set_option maxHeartbeats 800000 in
theorem mX2_readFade (l : Launch) (D : DD) (g : Nat → Nat) (x : Nat → Int32) (I : Nat → Nat → Int32) (J : Nat → Nat → Int64) (P S : Nat → Int32) (e : Nat) (hg : MG g) (hka : KA D (MA g)) (hP : VP P) (hx : PY e x) : Ct l yX2_readFade cX2_readFade 2 none { frames := 4, cells := 0, slots := 0, locals := 79 } D [.ref (g 0)] (fun H => MR D g x (va_up (va_up I 11 P) 13 S) J H ∧ KH D H) (MA g) (fun v H H1 => v = none ∧ MR D g (faX (I 1) e x P) (va_up (va_up I 11 (faP (I 1) e x P)) 13 (S)) J H1) := by
  refine Ct.of (by decide +kernel) (Nat.le_of_ble_eq_true rfl) (fun K Qf hkl X hM hQ => ?_)
  subst hkl
  obtain ⟨hM, hK⟩ := hM
  have l76 := hP.l76
  refine vv_sub (lv' := [(0, .ref (g 0))]) [0] rfl ?_
  have jn_1 : ∀ (H : Heap), MR D g (fa0 (I 1) e x P) (va_up (va_up I 11 P) 13 S) J H → KH D H → V K 2 (MA g) H 0 0 Qf 19 [(0, .ref (g 0))] [] := by
    intro H hM hK
    replace hx : PY e (fa0 (I 1) e x P) := PY_bgn hx (by decide)
    refine vv_aload_n X dX2_readFade_19 rfl 0 rfl ?_
    refine vv_iconst (v := nI 1) X dX2_readFade_20 (by decide) ?_
    refine vv_sipush (v := nI 999) X dX2_readFade_21 (by decide) ?_
    refine vv_callV X (mX2_number (kL K) D g (fa0 (I 1) e x P) (va_up (va_up I 11 P) 13 S) J hg e (nI 1) (nI 999) hx.1) q3091 q3093 qs69 q144 q3094 nX2_number ⟨(Nat.le_of_ble_eq_true rfl), (Nat.le_of_ble_eq_true rfl)⟩ dX2_readFade_24 rfl (Nat.le_of_ble_eq_true rfl) (recv X hM.1 CL_X2) hM  (fun _ z => Or.inl z) ⟨(Nat.le_of_ble_eq_true rfl), (Nat.le_of_ble_eq_true rfl)⟩ (fun v_ H hq hz hk => ?_)
    obtain ⟨rfl, hM⟩ := hq
    replace hK := hK.keep hka hk
    clear hz hk
    replace hM : MR D g (faX (I 1) e x P) (va_up (va_up I 11 P) 13 S) J H := hM
    replace hx : PY e (faX (I 1) e x P) := PY_num hx
    refine vv_istore_n (lv' := [(1, .int (lov (nI 1) (nI 999) (fa0 (I 1) e x P))), (0, .ref (g 0))]) X dX2_readFade_27 rfl (by decide) rfl ?_
    refine vv_aload_n X dX2_readFade_28 rfl 1 rfl ?_
    refine mg5 X rfl hM dX2_readFade_29 ?_
    refine vv_if_ne (tgt := 43) X dX2_readFade_32 (by decide) (fun c_32 => ?_) (fun c_32 => ?_)
    · exact vv_vret X hQ dX2_readFade_43 (Nat.le_refl _) (Nat.le_refl _) (⟨rfl, by unfold faP; rw [if_pos (px5p hx.1 c_32)]; exact hM⟩)
    · refine vv_aload_n X dX2_readFade_35 rfl 1 rfl ?_
      refine mg11 X rfl hM dX2_readFade_36 ?_
      refine vv_bipush (v := nI 76) X dX2_readFade_39 (by decide) ?_
      refine vv_iload_n X dX2_readFade_41 rfl 0 rfl ?_
      refine mk11 X hM hK hka hg (76) (by omega) rfl (Or.inl (MA.in (by decide))) dX2_readFade_42 (fun H hM hK => ?_)
      rw [up_sw (by decide)] at hM
      replace hM : MR D g (faX (I 1) e x P) (va_up (va_up I 11 (va_up P 76 (lov (nI 1) (nI 999) (fa0 (I 1) e x P)))) 13 S) J H := hM
      exact vv_vret X hQ dX2_readFade_43 (Nat.le_refl _) (Nat.le_refl _) (⟨rfl, by unfold faP; rw [if_neg (px5n c_32)]; exact hM⟩)
  refine vv_aload_n X dX2_readFade_0 rfl 0 rfl ?_
  refine mg11 X rfl hM dX2_readFade_1 ?_
  refine vv_bipush (v := nI 76) X dX2_readFade_4 (by decide) ?_
  refine vv_iald X hM.a11 (76) (by omega) (by decide) rfl dX2_readFade_6 ?_
  refine vv_eqi hP.e76 ?_
  refine vn_if_le (tgt := 15) X (by omega) dX2_readFade_7 (by decide) (fun c_7 => ?_) (fun c_7 => ?_)
  · refine vv_aload_n X dX2_readFade_15 rfl 0 rfl ?_
    refine vv_callV X (mX2_nextToken (kL K) D g x (va_up (va_up I 11 P) 13 S) J hg e hx.1) q3042 q3044 qs61 q144 q3045 nX2_nextToken ⟨(Nat.le_of_ble_eq_true rfl), (Nat.le_of_ble_eq_true rfl)⟩ dX2_readFade_16 rfl (Nat.le_of_ble_eq_true rfl) (recv X hM.1 CL_X2) hM  (fun _ z => Or.inl z) ⟨(Nat.le_of_ble_eq_true rfl), (Nat.le_of_ble_eq_true rfl)⟩ (fun v_ H hq hz hk => ?_)
    obtain ⟨rfl, hM⟩ := hq
    replace hK := hK.keep hka hk
    clear hz hk
    replace hM : MR D g (nxt (I 1) e x) (va_up (va_up I 11 P) 13 S) J H := hM
    replace hx : PY e (nxt (I 1) e x) := PY_nxt hx
    refine vv_sub [0] rfl ?_
    exact jn_1 H (by unfold fa0; rw [bgn_n (by omega)]; exact hM) hK
  · refine vv_aload_n X dX2_readFade_10 rfl 0 rfl ?_
    refine vv_iconst (v := nI 3) X dX2_readFade_11 (by decide) ?_
    refine vv_callV X (mX2_faults (kL K) D g x (va_up (va_up I 11 P) 13 S) J hg 3) q3082 q3084 qs67 q144 q3085 nX2_faults ⟨(Nat.le_of_ble_eq_true rfl), (Nat.le_of_ble_eq_true rfl)⟩ dX2_readFade_12 rfl (Nat.le_of_ble_eq_true rfl) (recv X hM.1 CL_X2) hM  (fun _ z => Or.inl z) ⟨(Nat.le_of_ble_eq_true rfl), (Nat.le_of_ble_eq_true rfl)⟩ (fun v_ H hq hz hk => ?_)
    obtain ⟨rfl, hM⟩ := hq
    replace hK := hK.keep hka hk
    clear hz hk
    replace hM : MR D g (fau 3 x) (va_up (va_up I 11 P) 13 S) J H := hM
    replace hx : PY e (fau 3 x) := PY_fau hx (by decide)
    refine vv_aload_n X dX2_readFade_15 rfl 0 rfl ?_
    refine vv_callV X (mX2_nextToken (kL K) D g (fau 3 x) (va_up (va_up I 11 P) 13 S) J hg e hx.1) q3042 q3044 qs61 q144 q3045 nX2_nextToken ⟨(Nat.le_of_ble_eq_true rfl), (Nat.le_of_ble_eq_true rfl)⟩ dX2_readFade_16 rfl (Nat.le_of_ble_eq_true rfl) (recv X hM.1 CL_X2) hM  (fun _ z => Or.inl z) ⟨(Nat.le_of_ble_eq_true rfl), (Nat.le_of_ble_eq_true rfl)⟩ (fun v_ H hq hz hk => ?_)
    obtain ⟨rfl, hM⟩ := hq
    replace hK := hK.keep hka hk
    clear hz hk
    replace hM : MR D g (nxt (I 1) e (fau 3 x)) (va_up (va_up I 11 P) 13 S) J H := hM
    replace hx : PY e (nxt (I 1) e (fau 3 x)) := PY_nxt hx
    refine vv_sub [0] rfl ?_
    exact jn_1 H (by unfold fa0; rw [bgn_y (by omega)]; exact hM) hK
theorem nX2_readZone : notMH yX2_readZone 0 := by decide +kernel
set_option maxHeartbeats 800000 in
theorem mX2_readZone (l : Launch) (D : DD) (g : Nat → Nat) (x : Nat → Int32) (I : Nat → Nat → Int32) (J : Nat → Nat → Int64) (P S : Nat → Int32) (e : Nat) (hg : MG g) (hka : KA D (MA g)) (hP : VP P) (hx : PY e x) : Ct l yX2_readZone cX2_readZone 7 none { frames := 4, cells := 0, slots := 0, locals := 79 } D [.ref (g 0)] (fun H => MR D g x (va_up (va_up I 11 P) 13 S) J H ∧ KH D H) (MA g) (fun v H H1 => v = none ∧ MR D g (zoX (I 1) e x P) (va_up (va_up I 11 (zoP (I 1) e x P)) 13 (S)) J H1) := by
  refine Ct.of (by decide +kernel) (Nat.le_of_ble_eq_true rfl) (fun K Qf hkl X hM hQ => ?_)
  subst hkl
  obtain ⟨hM, hK⟩ := hM
  have l101 := hP.l101
  have l9 := hP.l9
  have l10 := hP.l10
  refine vv_sub (lv' := [(0, .ref (g 0))]) [0] rfl ?_
  refine vv_aload_n X dX2_readZone_0 rfl 0 rfl ?_
  refine mg11 X rfl hM dX2_readZone_1 ?_
  refine vv_bipush (v := nI 101) X dX2_readZone_4 (by decide) ?_
  refine vv_iald X hM.a11 (101) (by omega) (by decide) rfl dX2_readZone_6 ?_
  refine vv_eqi hP.e101 ?_
  refine vv_istore_n (lv' := [(1, .int (nI (nZ P))), (0, .ref (g 0))]) X dX2_readZone_7 rfl (by decide) rfl ?_
  have jn_1 : ∀ (H : Heap), MR D g (zo0 (I 1) e x P) (va_up (va_up I 11 P) 13 S) J H → KH D H → V K 7 (MA g) H 0 0 Qf 22 [(0, .ref (g 0)), (1, .int (nI (nZ P)))] [] := by
    intro H hM hK
    replace hx : PY e (zo0 (I 1) e x P) := PY_bgn hx (by decide)
    refine vv_aload_n X dX2_readZone_22 rfl 0 rfl ?_
    refine vv_iconst (v := nI 0) X dX2_readZone_23 (by decide) ?_
    refine vv_aload_n X dX2_readZone_24 rfl 0 rfl ?_
    refine mg11 X rfl hM dX2_readZone_25 ?_
    refine vv_bipush (v := nI 9) X dX2_readZone_28 (by decide) ?_
    refine vv_iald X hM.a11 (9) (by omega) (by decide) rfl dX2_readZone_30 ?_
    refine vv_eqi hP.e9 ?_
    refine vv_iconst (v := nI 1) X dX2_readZone_31 (by decide) ?_
    refine vv_isub X dX2_readZone_32 ?_
    refine vv_callV X (mX2_number (kL K) D g (zo0 (I 1) e x P) (va_up (va_up I 11 P) 13 S) J hg e (nI 0) ((nI (nX P)) - (nI 1)) hx.1) q3091 q3093 qs69 q144 q3094 nX2_number ⟨(Nat.le_of_ble_eq_true rfl), (Nat.le_of_ble_eq_true rfl)⟩ dX2_readZone_33 rfl (Nat.le_of_ble_eq_true rfl) (recv X hM.1 CL_X2) hM  (fun _ z => Or.inl z) ⟨(Nat.le_of_ble_eq_true rfl), (Nat.le_of_ble_eq_true rfl)⟩ (fun v_ H hq hz hk => ?_)
    obtain ⟨rfl, hM⟩ := hq
    replace hK := hK.keep hka hk
    clear hz hk
    replace hM : MR D g (zo1 (I 1) e x P) (va_up (va_up I 11 P) 13 S) J H := hM
    replace hx : PY e (zo1 (I 1) e x P) := PY_num hx
    refine vv_istore_n (lv' := [(2, .int (lov (nI 0) ((nI (nX P)) - (nI 1)) (zo0 (I 1) e x P))), (0, .ref (g 0)), (1, .int (nI (nZ P)))]) X dX2_readZone_36 rfl (by decide) rfl ?_
    refine vv_aload_n X dX2_readZone_37 rfl 1 rfl ?_
    refine vv_iconst (v := nI 0) X dX2_readZone_38 (by decide) ?_
    refine vv_aload_n X dX2_readZone_39 rfl 1 rfl ?_
    refine mg11 X rfl hM dX2_readZone_40 ?_
    refine vv_bipush (v := nI 10) X dX2_readZone_43 (by decide) ?_
    refine vv_iald X hM.a11 (10) (by omega) (by decide) rfl dX2_readZone_45 ?_
    refine vv_eqi hP.e10 ?_
    refine vv_iconst (v := nI 1) X dX2_readZone_46 (by decide) ?_
    refine vv_isub X dX2_readZone_47 ?_
    refine vv_callV X (mX2_number (kL K) D g (zo1 (I 1) e x P) (va_up (va_up I 11 P) 13 S) J hg e (nI 0) ((nI (nY P)) - (nI 1)) hx.1) q3091 q3093 qs69 q144 q3094 nX2_number ⟨(Nat.le_of_ble_eq_true rfl), (Nat.le_of_ble_eq_true rfl)⟩ dX2_readZone_48 rfl (Nat.le_of_ble_eq_true rfl) (recv X hM.1 CL_X2) hM  (fun _ z => Or.inl z) ⟨(Nat.le_of_ble_eq_true rfl), (Nat.le_of_ble_eq_true rfl)⟩ (fun v_ H hq hz hk => ?_)
    obtain ⟨rfl, hM⟩ := hq
    replace hK := hK.keep hka hk
    clear hz hk
    replace hM : MR D g (zo2 (I 1) e x P) (va_up (va_up I 11 P) 13 S) J H := hM
    replace hx : PY e (zo2 (I 1) e x P) := PY_num hx
    refine vv_istore_n (lv' := [(3, .int (lov (nI 0) ((nI (nY P)) - (nI 1)) (zo1 (I 1) e x P))), (2, .int (lov (nI 0) ((nI (nX P)) - (nI 1)) (zo0 (I 1) e x P))), (0, .ref (g 0)), (1, .int (nI (nZ P)))]) X dX2_readZone_51 rfl (by decide) rfl ?_
    refine vv_aload_n X dX2_readZone_52 rfl 2 rfl ?_
    refine vv_iload_n X dX2_readZone_53 rfl 1 rfl ?_
    refine vv_aload_n X dX2_readZone_54 rfl 2 rfl ?_
    refine mg11 X rfl hM dX2_readZone_55 ?_
    refine vv_bipush (v := nI 9) X dX2_readZone_58 (by decide) ?_
    refine vv_iald X hM.a11 (9) (by omega) (by decide) rfl dX2_readZone_60 ?_
    refine vv_eqi hP.e9 ?_
    refine vv_iconst (v := nI 1) X dX2_readZone_61 (by decide) ?_
    refine vv_isub X dX2_readZone_62 ?_
    refine vv_callV X (mX2_number (kL K) D g (zo2 (I 1) e x P) (va_up (va_up I 11 P) 13 S) J hg e (lov (nI 0) ((nI (nX P)) - (nI 1)) (zo0 (I 1) e x P)) ((nI (nX P)) - (nI 1)) hx.1) q3091 q3093 qs69 q144 q3094 nX2_number ⟨(Nat.le_of_ble_eq_true rfl), (Nat.le_of_ble_eq_true rfl)⟩ dX2_readZone_63 rfl (Nat.le_of_ble_eq_true rfl) (recv X hM.1 CL_X2) hM  (fun _ z => Or.inl z) ⟨(Nat.le_of_ble_eq_true rfl), (Nat.le_of_ble_eq_true rfl)⟩ (fun v_ H hq hz hk => ?_)
    obtain ⟨rfl, hM⟩ := hq
    replace hK := hK.keep hka hk
    clear hz hk
    replace hM : MR D g (zo3 (I 1) e x P) (va_up (va_up I 11 P) 13 S) J H := hM
    replace hx : PY e (zo3 (I 1) e x P) := PY_num hx
    refine vv_istore (lv' := [(4, .int (lov (lov (nI 0) ((nI (nX P)) - (nI 1)) (zo0 (I 1) e x P)) ((nI (nX P)) - (nI 1)) (zo2 (I 1) e x P))), (3, .int (lov (nI 0) ((nI (nY P)) - (nI 1)) (zo1 (I 1) e x P))), (2, .int (lov (nI 0) ((nI (nX P)) - (nI 1)) (zo0 (I 1) e x P))), (0, .ref (g 0)), (1, .int (nI (nZ P)))]) X dX2_readZone_66 (by decide) rfl ?_
    refine vv_aload_n X dX2_readZone_68 rfl 3 rfl ?_
    refine vv_iload_n X dX2_readZone_69 rfl 1 rfl ?_
    refine vv_aload_n X dX2_readZone_70 rfl 3 rfl ?_
    refine mg11 X rfl hM dX2_readZone_71 ?_
    refine vv_bipush (v := nI 10) X dX2_readZone_74 (by decide) ?_
    refine vv_iald X hM.a11 (10) (by omega) (by decide) rfl dX2_readZone_76 ?_
    refine vv_eqi hP.e10 ?_
    refine vv_iconst (v := nI 1) X dX2_readZone_77 (by decide) ?_
    refine vv_isub X dX2_readZone_78 ?_
    refine vv_callV X (mX2_number (kL K) D g (zo3 (I 1) e x P) (va_up (va_up I 11 P) 13 S) J hg e (lov (nI 0) ((nI (nY P)) - (nI 1)) (zo1 (I 1) e x P)) ((nI (nY P)) - (nI 1)) hx.1) q3091 q3093 qs69 q144 q3094 nX2_number ⟨(Nat.le_of_ble_eq_true rfl), (Nat.le_of_ble_eq_true rfl)⟩ dX2_readZone_79 rfl (Nat.le_of_ble_eq_true rfl) (recv X hM.1 CL_X2) hM  (fun _ z => Or.inl z) ⟨(Nat.le_of_ble_eq_true rfl), (Nat.le_of_ble_eq_true rfl)⟩ (fun v_ H hq hz hk => ?_)
    obtain ⟨rfl, hM⟩ := hq
    replace hK := hK.keep hka hk
    clear hz hk
    replace hM : MR D g (zoX (I 1) e x P) (va_up (va_up I 11 P) 13 S) J H := hM
    replace hx : PY e (zoX (I 1) e x P) := PY_num hx
    refine vv_istore (lv' := [(5, .int (lov (lov (nI 0) ((nI (nY P)) - (nI 1)) (zo1 (I 1) e x P)) ((nI (nY P)) - (nI 1)) (zo3 (I 1) e x P))), (4, .int (lov (lov (nI 0) ((nI (nX P)) - (nI 1)) (zo0 (I 1) e x P)) ((nI (nX P)) - (nI 1)) (zo2 (I 1) e x P))), (3, .int (lov (nI 0) ((nI (nY P)) - (nI 1)) (zo1 (I 1) e x P))), (2, .int (lov (nI 0) ((nI (nX P)) - (nI 1)) (zo0 (I 1) e x P))), (0, .ref (g 0)), (1, .int (nI (nZ P)))]) X dX2_readZone_82 (by decide) rfl ?_
    refine vv_aload_n X dX2_readZone_84 rfl 4 rfl ?_
    refine mg5 X rfl hM dX2_readZone_85 ?_
    refine vv_if_le (tgt := 92) X dX2_readZone_88 (by decide) (fun c_88 => ?_) (fun c_88 => ?_)
    · refine vv_bipush (v := nI 102) X dX2_readZone_92 (by decide) ?_
      refine vv_iconst (v := nI 4) X dX2_readZone_94 (by decide) ?_
      refine vv_iload_n X dX2_readZone_95 rfl 5 rfl ?_
      refine vn_mul X dX2_readZone_96 ?_
      refine vn_add X dX2_readZone_97 ?_
      refine vv_istore (lv' := [(6, .int (nI (102 + (4 * (nZ P))))), (5, .int (lov (lov (nI 0) ((nI (nY P)) - (nI 1)) (zo1 (I 1) e x P)) ((nI (nY P)) - (nI 1)) (zo3 (I 1) e x P))), (4, .int (lov (lov (nI 0) ((nI (nX P)) - (nI 1)) (zo0 (I 1) e x P)) ((nI (nX P)) - (nI 1)) (zo2 (I 1) e x P))), (3, .int (lov (nI 0) ((nI (nY P)) - (nI 1)) (zo1 (I 1) e x P))), (2, .int (lov (nI 0) ((nI (nX P)) - (nI 1)) (zo0 (I 1) e x P))), (0, .ref (g 0)), (1, .int (nI (nZ P)))]) X dX2_readZone_98 (by decide) rfl ?_
      refine vv_aload_n X dX2_readZone_100 rfl 5 rfl ?_
      refine mg11 X rfl hM dX2_readZone_101 ?_
      refine vv_iload X dX2_readZone_104 0 rfl ?_
      refine vv_iload_n X dX2_readZone_106 rfl 4 rfl ?_
      refine mk11 X hM hK hka hg (102 + (4 * (nZ P))) (by omega) rfl (Or.inl (MA.in (by decide))) dX2_readZone_107 (fun H hM hK => ?_)
      rw [up_sw (by decide)] at hM
      replace hM : MR D g (zoX (I 1) e x P) (va_up (va_up I 11 (va_up P (102 + (4 * (nZ P))) (lov (nI 0) ((nI (nX P)) - (nI 1)) (zo0 (I 1) e x P)))) 13 S) J H := hM
      refine vv_aload_n X dX2_readZone_108 rfl 5 rfl ?_
      refine mg11 X rfl hM dX2_readZone_109 ?_
      refine vv_iload X dX2_readZone_112 0 rfl ?_
      refine vv_iconst (v := nI 1) X dX2_readZone_114 (by decide) ?_
      refine vn_add X dX2_readZone_115 ?_
      refine vv_iload_n X dX2_readZone_116 rfl 3 rfl ?_
      refine mk11 X hM hK hka hg ((102 + (4 * (nZ P))) + 1) (by omega) rfl (Or.inl (MA.in (by decide))) dX2_readZone_117 (fun H hM hK => ?_)
      rw [up_sw (by decide)] at hM
      replace hM : MR D g (zoX (I 1) e x P) (va_up (va_up I 11 (va_up (va_up P (102 + (4 * (nZ P))) (lov (nI 0) ((nI (nX P)) - (nI 1)) (zo0 (I 1) e x P))) ((102 + (4 * (nZ P))) + 1) (lov (nI 0) ((nI (nY P)) - (nI 1)) (zo1 (I 1) e x P)))) 13 S) J H := hM
      refine vv_aload_n X dX2_readZone_118 rfl 5 rfl ?_
      refine mg11 X rfl hM dX2_readZone_119 ?_
      refine vv_iload X dX2_readZone_122 0 rfl ?_
      refine vv_iconst (v := nI 2) X dX2_readZone_124 (by decide) ?_
      refine vn_add X dX2_readZone_125 ?_
      refine vv_iload X dX2_readZone_126 2 rfl ?_
      refine mk11 X hM hK hka hg ((102 + (4 * (nZ P))) + 2) (by omega) rfl (Or.inl (MA.in (by decide))) dX2_readZone_128 (fun H hM hK => ?_)
      rw [up_sw (by decide)] at hM
      replace hM : MR D g (zoX (I 1) e x P) (va_up (va_up I 11 (va_up (va_up (va_up P (102 + (4 * (nZ P))) (lov (nI 0) ((nI (nX P)) - (nI 1)) (zo0 (I 1) e x P))) ((102 + (4 * (nZ P))) + 1) (lov (nI 0) ((nI (nY P)) - (nI 1)) (zo1 (I 1) e x P))) ((102 + (4 * (nZ P))) + 2) (lov (lov (nI 0) ((nI (nX P)) - (nI 1)) (zo0 (I 1) e x P)) ((nI (nX P)) - (nI 1)) (zo2 (I 1) e x P)))) 13 S) J H := hM
      refine vv_aload_n X dX2_readZone_129 rfl 5 rfl ?_
      refine mg11 X rfl hM dX2_readZone_130 ?_
      refine vv_iload X dX2_readZone_133 0 rfl ?_
      refine vv_iconst (v := nI 3) X dX2_readZone_135 (by decide) ?_
      refine vn_add X dX2_readZone_136 ?_
      refine vv_iload X dX2_readZone_137 1 rfl ?_
      refine mk11 X hM hK hka hg ((102 + (4 * (nZ P))) + 3) (by omega) rfl (Or.inl (MA.in (by decide))) dX2_readZone_139 (fun H hM hK => ?_)
      rw [up_sw (by decide)] at hM
      replace hM : MR D g (zoX (I 1) e x P) (va_up (va_up I 11 (va_up (va_up (va_up (va_up P (102 + (4 * (nZ P))) (lov (nI 0) ((nI (nX P)) - (nI 1)) (zo0 (I 1) e x P))) ((102 + (4 * (nZ P))) + 1) (lov (nI 0) ((nI (nY P)) - (nI 1)) (zo1 (I 1) e x P))) ((102 + (4 * (nZ P))) + 2) (lov (lov (nI 0) ((nI (nX P)) - (nI 1)) (zo0 (I 1) e x P)) ((nI (nX P)) - (nI 1)) (zo2 (I 1) e x P))) ((102 + (4 * (nZ P))) + 3) (lov (lov (nI 0) ((nI (nY P)) - (nI 1)) (zo1 (I 1) e x P)) ((nI (nY P)) - (nI 1)) (zo3 (I 1) e x P)))) 13 S) J H := hM
      refine vv_aload_n X dX2_readZone_140 rfl 5 rfl ?_
      refine mg11 X rfl hM dX2_readZone_141 ?_
      refine vv_bipush (v := nI 101) X dX2_readZone_144 (by decide) ?_
      refine vv_dup2_11 X dX2_readZone_146 rfl rfl ?_
      refine vv_iald X hM.a11 (101) (by omega) (by decide) rfl dX2_readZone_147 ?_
      refine vv_eqi (show _ = nI (nZ P) from (by show (va_up (va_up (va_up (va_up P (102 + (4 * (nZ P))) (lov (nI 0) ((nI (nX P)) - (nI 1)) (zo0 (I 1) e x P))) ((102 + (4 * (nZ P))) + 1) (lov (nI 0) ((nI (nY P)) - (nI 1)) (zo1 (I 1) e x P))) ((102 + (4 * (nZ P))) + 2) (lov (lov (nI 0) ((nI (nX P)) - (nI 1)) (zo0 (I 1) e x P)) ((nI (nX P)) - (nI 1)) (zo2 (I 1) e x P))) ((102 + (4 * (nZ P))) + 3) (lov (lov (nI 0) ((nI (nY P)) - (nI 1)) (zo1 (I 1) e x P)) ((nI (nY P)) - (nI 1)) (zo3 (I 1) e x P))) 101 = _; rw [va_up_ne _ _ (show (101 : Nat) ≠ 102 + 4 * nZ P + 3 by omega), va_up_ne _ _ (show (101 : Nat) ≠ 102 + 4 * nZ P + 2 by omega), va_up_ne _ _ (show (101 : Nat) ≠ 102 + 4 * nZ P + 1 by omega), va_up_ne _ _ (show (101 : Nat) ≠ 102 + 4 * nZ P by omega)]; exact hP.e101)) ?_
      refine vv_iconst (v := nI 1) X dX2_readZone_148 (by decide) ?_
      refine vn_add X dX2_readZone_149 ?_
      refine mk11 X hM hK hka hg (101) (by omega) rfl (Or.inl (MA.in (by decide))) dX2_readZone_150 (fun H hM hK => ?_)
      rw [up_sw (by decide)] at hM
      replace hM : MR D g (zoX (I 1) e x P) (va_up (va_up I 11 (va_up (va_up (va_up (va_up (va_up P (102 + (4 * (nZ P))) (lov (nI 0) ((nI (nX P)) - (nI 1)) (zo0 (I 1) e x P))) ((102 + (4 * (nZ P))) + 1) (lov (nI 0) ((nI (nY P)) - (nI 1)) (zo1 (I 1) e x P))) ((102 + (4 * (nZ P))) + 2) (lov (lov (nI 0) ((nI (nX P)) - (nI 1)) (zo0 (I 1) e x P)) ((nI (nX P)) - (nI 1)) (zo2 (I 1) e x P))) ((102 + (4 * (nZ P))) + 3) (lov (lov (nI 0) ((nI (nY P)) - (nI 1)) (zo1 (I 1) e x P)) ((nI (nY P)) - (nI 1)) (zo3 (I 1) e x P))) 101 (nI ((nZ P) + 1)))) 13 S) J H := hM
      exact vv_vret X hQ dX2_readZone_151 (Nat.le_refl _) (Nat.le_refl _) (⟨rfl, by unfold zoP; rw [if_neg (Int32.not_lt.mpr c_88)]; exact hM⟩)
    · exact vv_vret X hQ dX2_readZone_91 (Nat.le_refl _) (Nat.le_refl _) (⟨rfl, by unfold zoP; rw [if_pos (Int32.not_le.mp c_88)]; exact hM⟩)
  refine vv_iload_n X dX2_readZone_8 rfl 0 rfl ?_
  refine vv_iconst (v := nI 4) X dX2_readZone_9 (by decide) ?_
  refine vn_ne (tgt := 18) X (by omega) (by omega) dX2_readZone_10 (by decide) (fun c_10 => ?_) (fun c_10 => ?_)
  · refine vv_aload_n X dX2_readZone_18 rfl 1 rfl ?_
    refine vv_callV X (mX2_nextToken (kL K) D g x (va_up (va_up I 11 P) 13 S) J hg e hx.1) q3042 q3044 qs61 q144 q3045 nX2_nextToken ⟨(Nat.le_of_ble_eq_true rfl), (Nat.le_of_ble_eq_true rfl)⟩ dX2_readZone_19 rfl (Nat.le_of_ble_eq_true rfl) (recv X hM.1 CL_X2) hM  (fun _ z => Or.inl z) ⟨(Nat.le_of_ble_eq_true rfl), (Nat.le_of_ble_eq_true rfl)⟩ (fun v_ H hq hz hk => ?_)
    obtain ⟨rfl, hM⟩ := hq
    replace hK := hK.keep hka hk
    clear hz hk
    replace hM : MR D g (nxt (I 1) e x) (va_up (va_up I 11 P) 13 S) J H := hM
    replace hx : PY e (nxt (I 1) e x) := PY_nxt hx
    refine vv_sub [1, 0] rfl ?_
    exact jn_1 H (by unfold zo0; rw [bgn_n (by omega)]; exact hM) hK
  · refine vv_aload_n X dX2_readZone_13 rfl 1 rfl ?_
    refine vv_iconst (v := nI 4) X dX2_readZone_14 (by decide) ?_
    refine vv_callV X (mX2_faults (kL K) D g x (va_up (va_up I 11 P) 13 S) J hg 4) q3082 q3084 qs67 q144 q3085 nX2_faults ⟨(Nat.le_of_ble_eq_true rfl), (Nat.le_of_ble_eq_true rfl)⟩ dX2_readZone_15 rfl (Nat.le_of_ble_eq_true rfl) (recv X hM.1 CL_X2) hM  (fun _ z => Or.inl z) ⟨(Nat.le_of_ble_eq_true rfl), (Nat.le_of_ble_eq_true rfl)⟩ (fun v_ H hq hz hk => ?_)
    obtain ⟨rfl, hM⟩ := hq
    replace hK := hK.keep hka hk
    clear hz hk
    replace hM : MR D g (fau 4 x) (va_up (va_up I 11 P) 13 S) J H := hM
    replace hx : PY e (fau 4 x) := PY_fau hx (by decide)
    refine vv_aload_n X dX2_readZone_18 rfl 1 rfl ?_
    refine vv_callV X (mX2_nextToken (kL K) D g (fau 4 x) (va_up (va_up I 11 P) 13 S) J hg e hx.1) q3042 q3044 qs61 q144 q3045 nX2_nextToken ⟨(Nat.le_of_ble_eq_true rfl), (Nat.le_of_ble_eq_true rfl)⟩ dX2_readZone_19 rfl (Nat.le_of_ble_eq_true rfl) (recv X hM.1 CL_X2) hM  (fun _ z => Or.inl z) ⟨(Nat.le_of_ble_eq_true rfl), (Nat.le_of_ble_eq_true rfl)⟩ (fun v_ H hq hz hk => ?_)
    obtain ⟨rfl, hM⟩ := hq
    replace hK := hK.keep hka hk
    clear hz hk
    replace hM : MR D g (nxt (I 1) e (fau 4 x)) (va_up (va_up I 11 P) 13 S) J H := hM
    replace hx : PY e (nxt (I 1) e (fau 4 x)) := PY_nxt hx
    refine vv_sub [1, 0] rfl ?_
    exact jn_1 H (by unfold zo0; rw [bgn_y (by omega)]; exact hM) hK
theorem nxt_50 {f : Nat → Int32} {e : Nat} {x : Nat → Int32} (h : nxt f e x 5 = nI 0) : x 5 = nI 0 := by rw [nxt_5] at h; exact h
theorem fau_50 {e k : Nat} {x : Nat → Int32} (hx : PX e x) (hk : k = 1 ∨ k = 2 ∨ k = 3 ∨ k = 4 ∨ k = 5) (h : fau k x 5 = nI 0) : False := by
  by_cases h5 : 0 < x 5
  · rw [fau_s h5] at h; rw [h] at h5; exact absurd h5 (by decide)
  · rw [fau_5 h5] at h
    rcases hk with rfl | rfl | rfl | rfl | rfl <;> exact absurd h (by decide)
theorem lok_50 {lo hi : Int32} {x : Nat → Int32} (h : lok lo hi x 5 = nI 0) : x 5 = nI 0 := by rw [(lok_in h).2.2.2.1] at h; exact h
theorem num_50 {f : Nat → Int32} {e : Nat} {lo hi : Int32} {x : Nat → Int32} (h : num f e lo hi x 5 = nI 0) : lok lo hi x 5 = nI 0 := nxt_50 h
theorem bgn_50 {f : Nat → Int32} {e : Nat} {p : Prop} [Decidable p] {k : Nat} {x : Nat → Int32} (hx : PX e x) (hk : k = 1 ∨ k = 2 ∨ k = 3 ∨ k = 4 ∨ k = 5) (h : bgn f e p k x 5 = nI 0) : ¬ p ∧ x 5 = nI 0 := by
  by_cases hp : p
  · rw [bgn_y hp] at h
    exact (fau_50 hx hk (nxt_50 h)).elim
  · rw [bgn_n hp] at h
    exact ⟨hp, nxt_50 h⟩
theorem nX2_readClock : notMH yX2_readClock 0 := by decide +kernel
set_option maxHeartbeats 800000 in
theorem mX2_readClock (l : Launch) (D : DD) (g : Nat → Nat) (x : Nat → Int32) (I : Nat → Nat → Int32) (J : Nat → Nat → Int64) (P S : Nat → Int32) (e : Nat) (hg : MG g) (hka : KA D (MA g)) (hP : VP P) (hx : PY e x) : Ct l yX2_readClock cX2_readClock 3 none { frames := 4, cells := 0, slots := 0, locals := 79 } D [.ref (g 0)] (fun H => MR D g x (va_up (va_up I 11 P) 13 S) J H ∧ KH D H) (MA g) (fun v H H1 => v = none ∧ MR D g (ckX (I 1) e x P) (va_up (va_up I 11 (ckP (I 1) e x P)) 13 (S)) J H1) := by
  refine Ct.of (by decide +kernel) (Nat.le_of_ble_eq_true rfl) (fun K Qf hkl X hM hQ => ?_)
  subst hkl
  obtain ⟨hM, hK⟩ := hM
  have l4 := hP.l4
  refine vv_sub (lv' := [(0, .ref (g 0))]) [0] rfl ?_
  refine vv_aload_n X dX2_readClock_0 rfl 0 rfl ?_
  refine vv_callV X (mX2_nextToken (kL K) D g x (va_up (va_up I 11 P) 13 S) J hg e hx.1) q3042 q3044 qs61 q144 q3045 nX2_nextToken ⟨(Nat.le_of_ble_eq_true rfl), (Nat.le_of_ble_eq_true rfl)⟩ dX2_readClock_1 rfl (Nat.le_of_ble_eq_true rfl) (recv X hM.1 CL_X2) hM  (fun _ z => Or.inl z) ⟨(Nat.le_of_ble_eq_true rfl), (Nat.le_of_ble_eq_true rfl)⟩ (fun v_ H hq hz hk => ?_)
  obtain ⟨rfl, hM⟩ := hq
  replace hK := hK.keep hka hk
  clear hz hk
  replace hM : MR D g (ck0 (I 1) e x) (va_up (va_up I 11 P) 13 S) J H := hM
  replace hx : PY e (ck0 (I 1) e x) := PY_nxt hx
  refine vv_aload_n X dX2_readClock_4 rfl 0 rfl ?_
  refine vv_iconst (v := nI 0) X dX2_readClock_5 (by decide) ?_
  refine vv_aload_n X dX2_readClock_6 rfl 0 rfl ?_
  refine mg11 X rfl hM dX2_readClock_7 ?_
  refine vv_iconst (v := nI 4) X dX2_readClock_10 (by decide) ?_
  refine vv_iald X hM.a11 (4) (by omega) (by decide) rfl dX2_readClock_11 ?_
  refine vv_eqi hP.e4 ?_
  refine vv_iconst (v := nI 1) X dX2_readClock_12 (by decide) ?_
  refine vv_isub X dX2_readClock_13 ?_
  refine vv_callV X (mX2_look (kL K) D g (ck0 (I 1) e x) (va_up (va_up I 11 P) 13 S) J hg e (nI 0) ((nI (nM P)) - (nI 1)) hx.1) q3095 q3097 qs70 q144 q3098 nX2_look ⟨(Nat.le_of_ble_eq_true rfl), (Nat.le_of_ble_eq_true rfl)⟩ dX2_readClock_14 rfl (Nat.le_of_ble_eq_true rfl) (recv X hM.1 CL_X2) hM  (fun _ z => Or.inl z) ⟨(Nat.le_of_ble_eq_true rfl), (Nat.le_of_ble_eq_true rfl)⟩ (fun v_ H hq hz hk => ?_)
  obtain ⟨rfl, hM⟩ := hq
  replace hK := hK.keep hka hk
  clear hz hk
  replace hM : MR D g (ck1 (I 1) e x P) (va_up (va_up I 11 P) 13 S) J H := hM
  replace hx : PY e (ck1 (I 1) e x P) := PY_lok hx
  refine vv_istore_n (lv' := [(1, .int (lov (nI 0) ((nI (nM P)) - (nI 1)) (ck0 (I 1) e x))), (0, .ref (g 0))]) X dX2_readClock_17 rfl (by decide) rfl ?_
  have hx1 := hx
  have jn_1 : ∀ (H : Heap), MR D g (ck2 (I 1) e x P) (va_up (va_up I 11 P) 13 S) J H → KH D H → V K 3 (MA g) H 0 0 Qf 46 [(0, .ref (g 0)), (1, .int (ckv (I 1) e x P))] [] := by
    intro H hM hK
    replace hx : PY e (ck2 (I 1) e x P) := PY_bgn hx (by decide)
    refine vv_aload_n X dX2_readClock_46 rfl 0 rfl ?_
    refine vv_iconst (v := nI 1) X dX2_readClock_47 (by decide) ?_
    refine vv_bipush (v := nI 31) X dX2_readClock_48 (by decide) ?_
    refine vv_callV X (mX2_number (kL K) D g (ck2 (I 1) e x P) (va_up (va_up I 11 P) 13 S) J hg e (nI 1) (nI 31) hx.1) q3091 q3093 qs69 q144 q3094 nX2_number ⟨(Nat.le_of_ble_eq_true rfl), (Nat.le_of_ble_eq_true rfl)⟩ dX2_readClock_50 rfl (Nat.le_of_ble_eq_true rfl) (recv X hM.1 CL_X2) hM  (fun _ z => Or.inl z) ⟨(Nat.le_of_ble_eq_true rfl), (Nat.le_of_ble_eq_true rfl)⟩ (fun v_ H hq hz hk => ?_)
    obtain ⟨rfl, hM⟩ := hq
    replace hK := hK.keep hka hk
    clear hz hk
    replace hM : MR D g (ckX (I 1) e x P) (va_up (va_up I 11 P) 13 S) J H := hM
    replace hx : PY e (ckX (I 1) e x P) := PY_num hx
    refine vv_istore_n (lv' := [(2, .int (lov (nI 1) (nI 31) (ck2 (I 1) e x P))), (0, .ref (g 0)), (1, .int (ckv (I 1) e x P))]) X dX2_readClock_53 rfl (by decide) rfl ?_
    refine vv_aload_n X dX2_readClock_54 rfl 1 rfl ?_
    refine mg5 X rfl hM dX2_readClock_55 ?_
    refine vv_if_ne (tgt := 71) X dX2_readClock_58 (by decide) (fun c_58 => ?_) (fun c_58 => ?_)
    · exact vv_vret X hQ dX2_readClock_71 (Nat.le_refl _) (Nat.le_refl _) (⟨rfl, by unfold ckP; rw [if_neg (show ¬ _ = nI 0 from c_58)]; exact hM⟩)
    · obtain ⟨j, hj, ej⟩ : ∃ j, j < nM P ∧ ckv (I 1) e x P = nI j := lov_nat (by omega) (bgn_50 (x := ck1 (I 1) e x P) hx1.1 (by decide) (lok_50 (num_50 c_58))).2
      have ec : cl (ckv (I 1) e x P) = j := by rw [ej]; exact cl_I (by omega)
      rw [ej]
      refine vv_aload_n X dX2_readClock_61 rfl 1 rfl ?_
      refine mg11 X rfl hM dX2_readClock_62 ?_
      refine vv_bipush (v := nI 83) X dX2_readClock_65 (by decide) ?_
      refine vv_iload_n X dX2_readClock_67 rfl 2 rfl ?_
      refine vn_add X dX2_readClock_68 ?_
      refine vv_iload_n X dX2_readClock_69 rfl 0 rfl ?_
      refine mk11 X hM hK hka hg (83 + j) (by omega) rfl (Or.inl (MA.in (by decide))) dX2_readClock_70 (fun H hM hK => ?_)
      rw [up_sw (by decide)] at hM
      replace hM : MR D g (ckX (I 1) e x P) (va_up (va_up I 11 (va_up P (83 + j) (lov (nI 1) (nI 31) (ck2 (I 1) e x P)))) 13 S) J H := hM
      exact vv_vret X hQ dX2_readClock_71 (Nat.le_refl _) (Nat.le_refl _) (⟨rfl, by unfold ckP; rw [if_pos (show _ = nI 0 from c_58), ec]; exact hM⟩)
  refine vv_aload_n X dX2_readClock_18 rfl 1 rfl ?_
  refine mg5 X rfl hM dX2_readClock_19 ?_
  refine vv_if_ne (tgt := 42) X dX2_readClock_22 (by decide) (fun c_22 => ?_) (fun c_22 => ?_)
  · refine vv_aload_n X dX2_readClock_42 rfl 1 rfl ?_
    refine vv_callV X (mX2_nextToken (kL K) D g (ck1 (I 1) e x P) (va_up (va_up I 11 P) 13 S) J hg e hx.1) q3042 q3044 qs61 q144 q3045 nX2_nextToken ⟨(Nat.le_of_ble_eq_true rfl), (Nat.le_of_ble_eq_true rfl)⟩ dX2_readClock_43 rfl (Nat.le_of_ble_eq_true rfl) (recv X hM.1 CL_X2) hM  (fun _ z => Or.inl z) ⟨(Nat.le_of_ble_eq_true rfl), (Nat.le_of_ble_eq_true rfl)⟩ (fun v_ H hq hz hk => ?_)
    obtain ⟨rfl, hM⟩ := hq
    replace hK := hK.keep hka hk
    clear hz hk
    replace hM : MR D g (nxt (I 1) e (ck1 (I 1) e x P)) (va_up (va_up I 11 P) 13 S) J H := hM
    replace hx : PY e (nxt (I 1) e (ck1 (I 1) e x P)) := PY_nxt hx
    refine vv_sub [1, 0] rfl ?_
    exact jn_1 H (by unfold ck2; rw [bgn_n (fun z => c_22 z.1)]; exact hM) hK
  · obtain ⟨j, hj, ej⟩ : ∃ j, j < nM P ∧ lov (nI 0) ((nI (nM P)) - (nI 1)) (ck0 (I 1) e x) = nI j := lov_nat (by omega) c_22
    have ej1 : ckv (I 1) e x P = nI j := ej
    have ec : cl (ckv (I 1) e x P) = j := by rw [ej1]; exact cl_I (by omega)
    rw [ej]
    refine vv_aload_n X dX2_readClock_25 rfl 1 rfl ?_
    refine mg11 X rfl hM dX2_readClock_26 ?_
    refine vv_bipush (v := nI 83) X dX2_readClock_29 (by decide) ?_
    refine vv_iload_n X dX2_readClock_31 rfl 0 rfl ?_
    refine vn_add X dX2_readClock_32 ?_
    refine vv_iald X hM.a11 (83 + j) (by omega) (by decide) rfl dX2_readClock_33 ?_
    refine vv_if_le (tgt := 42) X dX2_readClock_34 (by decide) (fun c_34 => ?_) (fun c_34 => ?_)
    · refine vv_aload_n X dX2_readClock_42 rfl 1 rfl ?_
      refine vv_callV X (mX2_nextToken (kL K) D g (ck1 (I 1) e x P) (va_up (va_up I 11 P) 13 S) J hg e hx.1) q3042 q3044 qs61 q144 q3045 nX2_nextToken ⟨(Nat.le_of_ble_eq_true rfl), (Nat.le_of_ble_eq_true rfl)⟩ dX2_readClock_43 rfl (Nat.le_of_ble_eq_true rfl) (recv X hM.1 CL_X2) hM  (fun _ z => Or.inl z) ⟨(Nat.le_of_ble_eq_true rfl), (Nat.le_of_ble_eq_true rfl)⟩ (fun v_ H hq hz hk => ?_)
      obtain ⟨rfl, hM⟩ := hq
      replace hK := hK.keep hka hk
      clear hz hk
      replace hM : MR D g (nxt (I 1) e (ck1 (I 1) e x P)) (va_up (va_up I 11 P) 13 S) J H := hM
      replace hx : PY e (nxt (I 1) e (ck1 (I 1) e x P)) := PY_nxt hx
      have jn' := jn_1
      rw [ej1] at jn'
      refine vv_sub [1, 0] rfl ?_
      exact jn' H (by unfold ck2; rw [bgn_n (fun z => by rw [ec] at z; exact Int32.not_lt.mpr c_34 z.2)]; exact hM) hK
    · refine vv_aload_n X dX2_readClock_37 rfl 1 rfl ?_
      refine vv_iconst (v := nI 3) X dX2_readClock_38 (by decide) ?_
      refine vv_callV X (mX2_faults (kL K) D g (ck1 (I 1) e x P) (va_up (va_up I 11 P) 13 S) J hg 3) q3082 q3084 qs67 q144 q3085 nX2_faults ⟨(Nat.le_of_ble_eq_true rfl), (Nat.le_of_ble_eq_true rfl)⟩ dX2_readClock_39 rfl (Nat.le_of_ble_eq_true rfl) (recv X hM.1 CL_X2) hM  (fun _ z => Or.inl z) ⟨(Nat.le_of_ble_eq_true rfl), (Nat.le_of_ble_eq_true rfl)⟩ (fun v_ H hq hz hk => ?_)
      obtain ⟨rfl, hM⟩ := hq
      replace hK := hK.keep hka hk
      clear hz hk
      replace hM : MR D g (fau 3 (ck1 (I 1) e x P)) (va_up (va_up I 11 P) 13 S) J H := hM
      replace hx : PY e (fau 3 (ck1 (I 1) e x P)) := PY_fau hx (by decide)
      refine vv_aload_n X dX2_readClock_42 rfl 1 rfl ?_
      refine vv_callV X (mX2_nextToken (kL K) D g (fau 3 (ck1 (I 1) e x P)) (va_up (va_up I 11 P) 13 S) J hg e hx.1) q3042 q3044 qs61 q144 q3045 nX2_nextToken ⟨(Nat.le_of_ble_eq_true rfl), (Nat.le_of_ble_eq_true rfl)⟩ dX2_readClock_43 rfl (Nat.le_of_ble_eq_true rfl) (recv X hM.1 CL_X2) hM  (fun _ z => Or.inl z) ⟨(Nat.le_of_ble_eq_true rfl), (Nat.le_of_ble_eq_true rfl)⟩ (fun v_ H hq hz hk => ?_)
      obtain ⟨rfl, hM⟩ := hq
      replace hK := hK.keep hka hk
      clear hz hk
      replace hM : MR D g (nxt (I 1) e (fau 3 (ck1 (I 1) e x P))) (va_up (va_up I 11 P) 13 S) J H := hM
      replace hx : PY e (nxt (I 1) e (fau 3 (ck1 (I 1) e x P))) := PY_nxt hx
      have jn' := jn_1
      rw [ej1] at jn'
      refine vv_sub [1, 0] rfl ?_
      exact jn' H (by unfold ck2; rw [bgn_y ⟨c_22, by rw [ec]; exact Int32.not_le.mp c_34⟩]; exact hM) hK
theorem nX2_readOff : notMH yX2_readOff 0 := by decide +kernel
set_option maxHeartbeats 800000 in
theorem mX2_readOff (l : Launch) (D : DD) (g : Nat → Nat) (x : Nat → Int32) (I : Nat → Nat → Int32) (J : Nat → Nat → Int64) (P S : Nat → Int32) (e : Nat) (hg : MG g) (hka : KA D (MA g)) (hP : VP P) (hx : PY e x) : Ct l yX2_readOff cX2_readOff 2 none { frames := 3, cells := 0, slots := 0, locals := 56 } D [.ref (g 0)] (fun H => MR D g x (va_up (va_up I 11 P) 13 S) J H ∧ KH D H) (MA g) (fun v H H1 => v = none ∧ MR D g (ofX (I 1) e x P S) (va_up (va_up I 11 (P)) 13 (ofS (I 1) e x P S)) J H1) := by
  refine Ct.of (by decide +kernel) (Nat.le_of_ble_eq_true rfl) (fun K Qf hkl X hM hQ => ?_)
  subst hkl
  obtain ⟨hM, hK⟩ := hM
  have l5 := hP.l5
  refine vv_sub (lv' := [(0, .ref (g 0))]) [0] rfl ?_
  refine vv_aload_n X dX2_readOff_0 rfl 0 rfl ?_
  refine vv_callV X (mX2_nextToken (kL K) D g x (va_up (va_up I 11 P) 13 S) J hg e hx.1) q3042 q3044 qs61 q144 q3045 nX2_nextToken ⟨(Nat.le_of_ble_eq_true rfl), (Nat.le_of_ble_eq_true rfl)⟩ dX2_readOff_1 rfl (Nat.le_of_ble_eq_true rfl) (recv X hM.1 CL_X2) hM  (fun _ z => Or.inl z) ⟨(Nat.le_of_ble_eq_true rfl), (Nat.le_of_ble_eq_true rfl)⟩ (fun v_ H hq hz hk => ?_)
  obtain ⟨rfl, hM⟩ := hq
  replace hK := hK.keep hka hk
  clear hz hk
  replace hM : MR D g (ck0 (I 1) e x) (va_up (va_up I 11 P) 13 S) J H := hM
  replace hx : PY e (ck0 (I 1) e x) := PY_nxt hx
  refine vv_aload_n X dX2_readOff_4 rfl 0 rfl ?_
  refine vv_iconst (v := nI 0) X dX2_readOff_5 (by decide) ?_
  refine vv_aload_n X dX2_readOff_6 rfl 0 rfl ?_
  refine mg11 X rfl hM dX2_readOff_7 ?_
  refine vv_iconst (v := nI 5) X dX2_readOff_10 (by decide) ?_
  refine vv_iald X hM.a11 (5) (by omega) (by decide) rfl dX2_readOff_11 ?_
  refine vv_eqi hP.e5 ?_
  refine vv_iconst (v := nI 1) X dX2_readOff_12 (by decide) ?_
  refine vv_isub X dX2_readOff_13 ?_
  refine vv_callV X (mX2_look (kL K) D g (ck0 (I 1) e x) (va_up (va_up I 11 P) 13 S) J hg e (nI 0) ((nI (nS P)) - (nI 1)) hx.1) q3095 q3097 qs70 q144 q3098 nX2_look ⟨(Nat.le_of_ble_eq_true rfl), (Nat.le_of_ble_eq_true rfl)⟩ dX2_readOff_14 rfl (Nat.le_of_ble_eq_true rfl) (recv X hM.1 CL_X2) hM  (fun _ z => Or.inl z) ⟨(Nat.le_of_ble_eq_true rfl), (Nat.le_of_ble_eq_true rfl)⟩ (fun v_ H hq hz hk => ?_)
  obtain ⟨rfl, hM⟩ := hq
  replace hK := hK.keep hka hk
  clear hz hk
  replace hM : MR D g (of1 (I 1) e x P) (va_up (va_up I 11 P) 13 S) J H := hM
  replace hx : PY e (of1 (I 1) e x P) := PY_lok hx
  refine vv_istore_n (lv' := [(1, .int (lov (nI 0) ((nI (nS P)) - (nI 1)) (ck0 (I 1) e x))), (0, .ref (g 0))]) X dX2_readOff_17 rfl (by decide) rfl ?_
  have hx1 := hx
  have jn_1 : ∀ (H : Heap), MR D g (ofX (I 1) e x P S) (va_up (va_up I 11 P) 13 S) J H → KH D H → V K 2 (MA g) H 0 0 Qf 46 [(0, .ref (g 0)), (1, .int (ofv (I 1) e x P))] [] := by
    intro H hM hK
    replace hx : PY e (ofX (I 1) e x P S) := PY_bgn hx (by decide)
    refine vv_aload_n X dX2_readOff_46 rfl 0 rfl ?_
    refine mg5 X rfl hM dX2_readOff_47 ?_
    refine vv_if_ne (tgt := 63) X dX2_readOff_50 (by decide) (fun c_50 => ?_) (fun c_50 => ?_)
    · exact vv_vret X hQ dX2_readOff_63 (Nat.le_refl _) (Nat.le_refl _) (⟨rfl, by unfold ofS; rw [if_neg (show ¬ _ = nI 0 from c_50)]; exact hM⟩)
    · obtain ⟨j, hj, ej⟩ : ∃ j, j < nS P ∧ ofv (I 1) e x P = nI j := lov_nat (by omega) (bgn_50 (x := of1 (I 1) e x P) hx1.1 (by decide) c_50).2
      have ec : cl (ofv (I 1) e x P) = j := by rw [ej]; exact cl_I (by omega)
      rw [ej]
      refine vv_aload_n X dX2_readOff_53 rfl 0 rfl ?_
      refine mg13 X rfl hM dX2_readOff_54 ?_
      refine vv_bipush (v := nI 25) X dX2_readOff_57 (by decide) ?_
      refine vv_iload_n X dX2_readOff_59 rfl 1 rfl ?_
      refine vn_add X dX2_readOff_60 ?_
      refine vv_iconst (v := nI 0) X dX2_readOff_61 (by decide) ?_
      refine mk13 X hM hK hka hg (25 + j) (by omega) rfl (Or.inl (MA.in (by decide))) dX2_readOff_62 (fun H hM hK => ?_)
      rw [up_up] at hM
      replace hM : MR D g (ofX (I 1) e x P S) (va_up (va_up I 11 P) 13 (va_up S (25 + j) (nI 0))) J H := hM
      exact vv_vret X hQ dX2_readOff_63 (Nat.le_refl _) (Nat.le_refl _) (⟨rfl, by unfold ofS; rw [if_pos (show _ = nI 0 from c_50), ec]; exact hM⟩)
  refine vv_aload_n X dX2_readOff_18 rfl 1 rfl ?_
  refine mg5 X rfl hM dX2_readOff_19 ?_
  refine vv_if_ne (tgt := 42) X dX2_readOff_22 (by decide) (fun c_22 => ?_) (fun c_22 => ?_)
  · refine vv_aload_n X dX2_readOff_42 rfl 1 rfl ?_
    refine vv_callV X (mX2_nextToken (kL K) D g (of1 (I 1) e x P) (va_up (va_up I 11 P) 13 S) J hg e hx.1) q3042 q3044 qs61 q144 q3045 nX2_nextToken ⟨(Nat.le_of_ble_eq_true rfl), (Nat.le_of_ble_eq_true rfl)⟩ dX2_readOff_43 rfl (Nat.le_of_ble_eq_true rfl) (recv X hM.1 CL_X2) hM  (fun _ z => Or.inl z) ⟨(Nat.le_of_ble_eq_true rfl), (Nat.le_of_ble_eq_true rfl)⟩ (fun v_ H hq hz hk => ?_)
    obtain ⟨rfl, hM⟩ := hq
    replace hK := hK.keep hka hk
    clear hz hk
    replace hM : MR D g (nxt (I 1) e (of1 (I 1) e x P)) (va_up (va_up I 11 P) 13 S) J H := hM
    replace hx : PY e (nxt (I 1) e (of1 (I 1) e x P)) := PY_nxt hx
    refine vv_sub [1, 0] rfl ?_
    exact jn_1 H (by unfold ofX; rw [bgn_n (fun z => c_22 z.1)]; exact hM) hK
  · obtain ⟨j, hj, ej⟩ : ∃ j, j < nS P ∧ lov (nI 0) ((nI (nS P)) - (nI 1)) (ck0 (I 1) e x) = nI j := lov_nat (by omega) c_22
    have ej1 : ofv (I 1) e x P = nI j := ej
    have ec : cl (ofv (I 1) e x P) = j := by rw [ej1]; exact cl_I (by omega)
    rw [ej]
    refine vv_aload_n X dX2_readOff_25 rfl 1 rfl ?_
    refine mg13 X rfl hM dX2_readOff_26 ?_
    refine vv_bipush (v := nI 25) X dX2_readOff_29 (by decide) ?_
    refine vv_iload_n X dX2_readOff_31 rfl 0 rfl ?_
    refine vn_add X dX2_readOff_32 ?_
    refine vv_iald X hM.a13 (25 + j) (by omega) (by decide) rfl dX2_readOff_33 ?_
    refine vv_if_ne (tgt := 42) X dX2_readOff_34 (by decide) (fun c_34 => ?_) (fun c_34 => ?_)
    · refine vv_aload_n X dX2_readOff_42 rfl 1 rfl ?_
      refine vv_callV X (mX2_nextToken (kL K) D g (of1 (I 1) e x P) (va_up (va_up I 11 P) 13 S) J hg e hx.1) q3042 q3044 qs61 q144 q3045 nX2_nextToken ⟨(Nat.le_of_ble_eq_true rfl), (Nat.le_of_ble_eq_true rfl)⟩ dX2_readOff_43 rfl (Nat.le_of_ble_eq_true rfl) (recv X hM.1 CL_X2) hM  (fun _ z => Or.inl z) ⟨(Nat.le_of_ble_eq_true rfl), (Nat.le_of_ble_eq_true rfl)⟩ (fun v_ H hq hz hk => ?_)
      obtain ⟨rfl, hM⟩ := hq
      replace hK := hK.keep hka hk
      clear hz hk
      replace hM : MR D g (nxt (I 1) e (of1 (I 1) e x P)) (va_up (va_up I 11 P) 13 S) J H := hM
      replace hx : PY e (nxt (I 1) e (of1 (I 1) e x P)) := PY_nxt hx
      have jn' := jn_1
      rw [ej1] at jn'
      refine vv_sub [1, 0] rfl ?_
      exact jn' H (by unfold ofX; rw [bgn_n (fun z => c_34 (by rw [ec] at z; exact z.2))]; exact hM) hK
    · refine vv_aload_n X dX2_readOff_37 rfl 1 rfl ?_
      refine vv_iconst (v := nI 3) X dX2_readOff_38 (by decide) ?_
      refine vv_callV X (mX2_faults (kL K) D g (of1 (I 1) e x P) (va_up (va_up I 11 P) 13 S) J hg 3) q3082 q3084 qs67 q144 q3085 nX2_faults ⟨(Nat.le_of_ble_eq_true rfl), (Nat.le_of_ble_eq_true rfl)⟩ dX2_readOff_39 rfl (Nat.le_of_ble_eq_true rfl) (recv X hM.1 CL_X2) hM  (fun _ z => Or.inl z) ⟨(Nat.le_of_ble_eq_true rfl), (Nat.le_of_ble_eq_true rfl)⟩ (fun v_ H hq hz hk => ?_)
      obtain ⟨rfl, hM⟩ := hq
      replace hK := hK.keep hka hk
      clear hz hk
      replace hM : MR D g (fau 3 (of1 (I 1) e x P)) (va_up (va_up I 11 P) 13 S) J H := hM
      replace hx : PY e (fau 3 (of1 (I 1) e x P)) := PY_fau hx (by decide)
      refine vv_aload_n X dX2_readOff_42 rfl 1 rfl ?_
      refine vv_callV X (mX2_nextToken (kL K) D g (fau 3 (of1 (I 1) e x P)) (va_up (va_up I 11 P) 13 S) J hg e hx.1) q3042 q3044 qs61 q144 q3045 nX2_nextToken ⟨(Nat.le_of_ble_eq_true rfl), (Nat.le_of_ble_eq_true rfl)⟩ dX2_readOff_43 rfl (Nat.le_of_ble_eq_true rfl) (recv X hM.1 CL_X2) hM  (fun _ z => Or.inl z) ⟨(Nat.le_of_ble_eq_true rfl), (Nat.le_of_ble_eq_true rfl)⟩ (fun v_ H hq hz hk => ?_)
      obtain ⟨rfl, hM⟩ := hq
      replace hK := hK.keep hka hk
      clear hz hk
      replace hM : MR D g (nxt (I 1) e (fau 3 (of1 (I 1) e x P))) (va_up (va_up I 11 P) 13 S) J H := hM
      replace hx : PY e (nxt (I 1) e (fau 3 (of1 (I 1) e x P))) := PY_nxt hx
      have jn' := jn_1
      rw [ej1] at jn'
      refine vv_sub [1, 0] rfl ?_
      exact jn' H (by unfold ofX; rw [bgn_y ⟨c_22, by rw [ec]; exact c_34⟩]; exact hM) hK
