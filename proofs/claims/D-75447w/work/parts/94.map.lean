/-! AcousticCamera: writeMap, mapByte: printed by gen/s41.py -/
set_option maxRecDepth 100000
theorem nJ2_length : notMH yJ2_length 0 := by decide +kernel
set_option maxHeartbeats 800000 in
theorem mJ2_length (l : Launch) (D : DD) (b v n : Nat) (g : Nat → Nat) (hn : n < 190) : Cp l yJ2_length cJ2_length 1 (some .int) { frames := 1, cells := 0, slots := 0, locals := 12 } D [.ref b] (fun H => SB D H b v n g) (.int (nI n)) := by
  refine Ct.of (by decide +kernel) (Nat.le_of_ble_eq_true rfl) (fun K Qf hkl X hM hQ => ?_)
  subst hkl
  have hB := hM
  refine vv_sub (lv' := [(0, .ref b)]) [0] rfl ?_
  obtain ⟨q, f, z, hs, hv, hnq, hq, hff, hfg, hg8⟩ := id hB
  refine vv_aload_n X dJ2_length_0 rfl 0 rfl ?_
  refine vv_getf (C := RJ3) (T := TJ3) (N := 4) (ref := "java/lang/AbstractStringBuilder") X hs in_J3 CL_J3 3 (by decide) q245 rfl rfl dJ2_length_1 ?_
  exact vv_iret X hQ dJ2_length_4 (Nat.le_of_ble_eq_true rfl) (Nat.le_of_ble_eq_true rfl) (pq (rfl))
theorem nJ3_length : notMH yJ3_length 0 := by decide +kernel
set_option maxHeartbeats 800000 in
theorem mJ3_length (l : Launch) (D : DD) (b v n : Nat) (g : Nat → Nat) (hn : n < 190) : Cp l yJ3_length cJ3_length 1 (some .int) { frames := 2, cells := 0, slots := 0, locals := 32 } D [.ref b] (fun H => SB D H b v n g) (.int (nI n)) := by
  refine Ct.of (by decide +kernel) (Nat.le_of_ble_eq_true rfl) (fun K Qf hkl X hM hQ => ?_)
  subst hkl
  have hB := hM
  refine vv_sub (lv' := [(0, .ref b)]) [0] rfl ?_
  obtain ⟨q, f, z, hs, hv, hnq, hq, hff, hfg, hg8⟩ := id hB
  refine vv_aload_n X dJ3_length_0 rfl 0 rfl ?_
  refine vv_callSUp X (mJ2_length (kL K) D b v n g hn) q679 q675 q254 q674 q140 q680 (show "length" ≠ "<init>" ∧ (parseMethodDescriptor "()I").map (fun d => d.parameters.length) = some 0 by decide +kernel) ⟨(Nat.le_of_ble_eq_true rfl), (Nat.le_of_ble_eq_true rfl)⟩ dJ3_length_1 rfl (Nat.le_of_ble_eq_true rfl) hs CL_J3 hB ⟨(Nat.le_of_ble_eq_true rfl), (Nat.le_of_ble_eq_true rfl)⟩ ?_
  exact vv_iret X hQ dJ3_length_4 (Nat.le_of_ble_eq_true rfl) (Nat.le_of_ble_eq_true rfl) (pq (rfl))
theorem nJ2_charAt : notMH yJ2_charAt 1 := by decide +kernel
set_option maxHeartbeats 800000 in
theorem mJ2_charAt (l : Launch) (D : DD) (b v n : Nat) (g : Nat → Nat) (i : Nat) (hn : n < 190) (hi : i < n) : Cp l yJ2_charAt cJ2_charAt 5 (some .char) { frames := 3, cells := 0, slots := 0, locals := 55 } D [.ref b, .int (nI i)] (fun H => KH D H ∧ SB D H b v n g) (.int (nI (g i))) := by
  refine Ct.of (by decide +kernel) (Nat.le_of_ble_eq_true rfl) (fun K Qf hkl X hM hQ => ?_)
  subst hkl
  obtain ⟨hK, hB⟩ := hM
  refine vv_sub (lv' := [(0, .ref b), (1, .int (nI i))]) [0, 1] rfl ?_
  obtain ⟨q, f, z, hs, hv, hnq, hq, hff, hfg, hg8⟩ := id hB
  refine vv_aload_n X dJ2_charAt_0 rfl 0 rfl ?_
  refine vv_getf (C := RJ3) (T := TJ3) (N := 4) (ref := "java/lang/AbstractStringBuilder") X hs in_J3 CL_J3 1 (by decide) q242 rfl rfl dJ2_charAt_1 ?_
  refine vv_istore_n (lv' := [(2, .int (nI 0)), (0, .ref b), (1, .int (nI i))]) X dJ2_charAt_4 rfl (by decide) rfl ?_
  refine vv_aload_n X dJ2_charAt_5 rfl 1 rfl ?_
  refine vv_getf (C := RJ3) (T := TJ3) (N := 4) (ref := "java/lang/AbstractStringBuilder") X hs in_J3 CL_J3 0 (by decide) q241 rfl rfl dJ2_charAt_6 ?_
  refine vv_astore_n (lv' := [(3, .ref v), (2, .int (nI 0)), (0, .ref b), (1, .int (nI i))]) X dJ2_charAt_9 rfl (by decide) rfl ?_
  refine vv_aload_n X dJ2_charAt_10 rfl 2 rfl ?_
  refine vv_getf (C := RJ3) (T := TJ3) (N := 4) (ref := "java/lang/AbstractStringBuilder") X hs in_J3 CL_J3 3 (by decide) q245 rfl rfl dJ2_charAt_11 ?_
  refine vv_aload_n X dJ2_charAt_14 rfl 0 rfl ?_
  refine vv_alen (ty := 2) X hv rfl dJ2_charAt_15 ?_
  refine vv_iload_n X dJ2_charAt_16 rfl 1 rfl ?_
  refine vv_ishr X dJ2_charAt_17 ?_
  refine vv_eqi (sh0 q) ?_
  refine vn_min X q2692 (Nat.le_of_ble_eq_true rfl) (Nat.le_of_ble_eq_true rfl) ((Nat.le_of_ble_eq_true rfl)) ((Nat.le_of_ble_eq_true rfl)) (by omega) (by omega) dJ2_charAt_18 ?_
  refine vv_istore (lv' := [(4, .int (nI (min n q))), (3, .ref v), (2, .int (nI 0)), (0, .ref b), (1, .int (nI i))]) X dJ2_charAt_21 (by decide) rfl ?_
  refine vv_iload_n X dJ2_charAt_23 rfl 4 rfl ?_
  refine vv_iload X dJ2_charAt_24 0 rfl ?_
  refine vv_callSv X (mJ4_checkIndex (kL K) D i (min n q) (by omega) (by omega)) q2693 q921 q142 q922 nJ4_checkIndex ⟨(Nat.le_of_ble_eq_true rfl), (Nat.le_of_ble_eq_true rfl)⟩ dJ2_charAt_26 rfl (Nat.le_of_ble_eq_true rfl) hK ⟨(Nat.le_of_ble_eq_true rfl), (Nat.le_of_ble_eq_true rfl)⟩ ?_
  refine vv_iload_n X dJ2_charAt_29 rfl 2 rfl ?_
  refine vn_if_ne (tgt := 42) X (by omega) dJ2_charAt_30 (by decide) (fun c_30 => ?_) (fun c_30 => ?_)
  · exact absurd c_30 (by decide)
  · refine vv_aload_n X dJ2_charAt_33 rfl 1 rfl ?_
    refine vv_iload_n X dJ2_charAt_34 rfl 4 rfl ?_
    refine vv_bald X hv (i) (by omega) (by omega) rfl dJ2_charAt_35 ?_
    refine vv_eqi (hfg i hi) ?_
    refine vv_sipush (v := nI 255) X dJ2_charAt_36 (by decide) ?_
    refine vv_iand X dJ2_charAt_39 ?_
    refine vv_eqi (ch_a (g i) (hg8 i hi)) ?_
    refine vv_i2c (v := nI (g i)) X dJ2_charAt_40 (ch_b (g i) (hg8 i hi)) ?_
    exact vv_zret X (ch_c (g i) (hg8 i hi)) hQ dJ2_charAt_41 (Nat.le_of_ble_eq_true rfl) (Nat.le_of_ble_eq_true rfl) (pq (rfl))
theorem nJ3_charAt : notMH yJ3_charAt 1 := by decide +kernel
set_option maxHeartbeats 800000 in
theorem mJ3_charAt (l : Launch) (D : DD) (b v n : Nat) (g : Nat → Nat) (i : Nat) (hn : n < 190) (hi : i < n) : Cp l yJ3_charAt cJ3_charAt 2 (some .char) { frames := 4, cells := 0, slots := 0, locals := 79 } D [.ref b, .int (nI i)] (fun H => KH D H ∧ SB D H b v n g) (.int (nI (g i))) := by
  refine Ct.of (by decide +kernel) (Nat.le_of_ble_eq_true rfl) (fun K Qf hkl X hM hQ => ?_)
  subst hkl
  obtain ⟨hK, hB⟩ := hM
  obtain ⟨_, _, _, _, _, _, _, _, _, hg9⟩ := id hB
  refine vv_sub (lv' := [(0, .ref b), (1, .int (nI i))]) [0, 1] rfl ?_
  obtain ⟨q, f, z, hs, hv, hnq, hq, hff, hfg, hg8⟩ := id hB
  refine vv_aload_n X dJ3_charAt_0 rfl 0 rfl ?_
  refine vv_iload_n X dJ3_charAt_1 rfl 1 rfl ?_
  refine vv_callSUp X (mJ2_charAt (kL K) D b v n g i hn (by omega)) q2689 q3658 q254 q2690 q140 q2691 (show "charAt" ≠ "<init>" ∧ (parseMethodDescriptor "(I)C").map (fun d => d.parameters.length) = some 1 by decide +kernel) ⟨(Nat.le_of_ble_eq_true rfl), (Nat.le_of_ble_eq_true rfl)⟩ dJ3_charAt_2 rfl (Nat.le_of_ble_eq_true rfl) hs CL_J3 ⟨hK, hB⟩ ⟨(Nat.le_of_ble_eq_true rfl), (Nat.le_of_ble_eq_true rfl)⟩ ?_
  exact vv_zret X (ch_c (g i) (hg9 i hi)) hQ dJ3_charAt_5 (Nat.le_of_ble_eq_true rfl) (Nat.le_of_ble_eq_true rfl) (pq (rfl))
/-- the map's text: its length behind c cells, its characters -/
def mpL (P : Nat → Int32) (c : Nat) : Nat := c + (c - 1) / nX P
def mpT (P : Nat → Int32) (dg : Nat → Nat) (i : Nat) : Nat := if i % (nX P + 1) = nX P then 59 else 48 + dg (nX P * (i / (nX P + 1)) + i % (nX P + 1))
theorem mp_pos {x c : Nat} (hx : 0 < x) : (c + c / x) / (x + 1) = c / x ∧ (c + c / x) % (x + 1) = c % x := by
  have h1 := Nat.div_add_mod c x
  have h2 := Nat.mod_lt c hx
  have e : c + c / x = c % x + (x + 1) * (c / x) := by rw [Nat.add_mul, Nat.one_mul]; omega
  rw [e, Nat.add_mul_div_left _ _ (by omega), Nat.add_mul_mod_self_left]
  rw [Nat.div_eq_of_lt (by omega), Nat.mod_eq_of_lt (by omega)]
  exact ⟨by omega, rfl⟩
theorem mp_dig {P : Nat → Int32} {dg : Nat → Nat} {c : Nat} (hx : 0 < nX P) : mpT P dg (c + c / nX P) = 48 + dg c := by
  obtain ⟨e1, e2⟩ := mp_pos (c := c) hx
  unfold mpT
  rw [e2, e1, if_neg (by have := Nat.mod_lt c hx; omega), Nat.div_add_mod]
theorem mp_same {P : Nat → Int32} {c : Nat} (hx : 0 < nX P) (h : c = 0 ∨ ¬ c % nX P = 0) : mpL P c = c + c / nX P ∧ mpL P (c + 1) = c + c / nX P + 1 := by
  refine ⟨?_, by unfold mpL; rw [Nat.add_sub_cancel]; omega⟩
  unfold mpL
  rcases h with e | e
  · subst e; rfl
  · have h1 := Nat.div_add_mod c (nX P)
    have h2 := Nat.mod_lt c hx
    have e3 : c - 1 = (c % nX P - 1) + nX P * (c / nX P) := by omega
    rw [e3, Nat.add_mul_div_left _ _ hx, Nat.div_eq_of_lt (by omega), Nat.zero_add]
theorem mp_sep {P : Nat → Int32} {dg : Nat → Nat} {c : Nat} (hx : 0 < nX P) (h0 : 0 < c) (h : c % nX P = 0) : mpL P c + 1 = c + c / nX P ∧ mpL P (c + 1) = c + c / nX P + 1 ∧ mpT P dg (mpL P c) = 59 := by
  have h1 := Nat.div_add_mod c (nX P)
  rw [h, Nat.add_zero] at h1
  obtain ⟨r, hr⟩ : ∃ r, c / nX P = r + 1 := ⟨c / nX P - 1, by have : c / nX P ≠ 0 := (fun z => by rw [z, Nat.mul_zero] at h1; omega); exact (Nat.sub_add_cancel (Nat.pos_of_ne_zero this)).symm⟩
  rw [hr, Nat.mul_add, Nat.mul_one] at h1
  have e3 : c - 1 = (nX P - 1) + nX P * r := by omega
  have e4 : (c - 1) / nX P = r := by rw [e3, Nat.add_mul_div_left _ _ hx, Nat.div_eq_of_lt (by omega), Nat.zero_add]
  have e5 : mpL P c = c + r := by unfold mpL; rw [e4]
  refine ⟨by rw [e5, hr]; omega, by unfold mpL; rw [Nat.add_sub_cancel]; omega, ?_⟩
  unfold mpT
  rw [if_pos]
  rw [e5, show c + r = nX P + (nX P + 1) * r by rw [Nat.add_mul, Nat.one_mul]; omega, Nat.add_mul_mod_self_left, Nat.mod_eq_of_lt (by omega)]
theorem mp_end {P : Nat → Int32} (hx : 0 < nX P) (hy : 0 < nY P) : mpL P (nC P) = nC P + (nY P - 1) := by
  unfold mpL
  have e : nC P - 1 = (nX P - 1) + nX P * (nY P - 1) := by
    obtain ⟨y, hy'⟩ : ∃ y, nY P = y + 1 := ⟨nY P - 1, by omega⟩
    unfold nC
    rw [hy', Nat.mul_add, Nat.mul_one, Nat.add_sub_cancel]
    omega
  rw [e, Nat.add_mul_div_left _ _ hx, Nat.div_eq_of_lt (by omega), Nat.zero_add]
theorem mpL_le {P : Nat → Int32} {c : Nat} (hx : 0 < nX P) (hy : 0 < nY P) (hc : c ≤ nC P) : mpL P c ≤ nC P + (nY P - 1) := by
  rw [← mp_end hx hy]
  unfold mpL
  exact Nat.add_le_add hc (Nat.div_le_div_right (by omega))
section SBK
variable {D : DD} {H H1 : Heap} {b v n : Nat} {f g : Nat → Nat}
theorem SB.ltb (h : SB D H b v n f) : b < H.size := by obtain ⟨_, _, _, h, _⟩ := h; exact h.lt
theorem SB.ltv (h : SB D H b v n f) : v < H.size := by obtain ⟨_, _, _, _, h, _⟩ := h; exact h.lt
theorem SB.kept (h : SB D H b v n f) (hb : H1[b]? = H[b]?) (hv : H1[v]? = H[v]?) : SB D H1 b v n f := by
  obtain ⟨q, F, z, h1, h2, h3⟩ := h
  exact ⟨q, F, z, h1.kept hb, h2.kept hv, h3⟩
theorem SB.cg (h : SB D H b v n f) (e : ∀ j, j < n → f j = g j) : SB D H b v n g := by
  obtain ⟨q, F, z, h1, h2, h3, h4, h5, h6, h7⟩ := h
  exact ⟨q, F, z, h1, h2, h3, h4, h5, fun j hj => by rw [← e j hj]; exact h6 j hj, fun j hj => by rw [← e j hj]; exact h7 j hj⟩
theorem SB.up {k : Nat} (h : SB D H b v (n + 1) (va_up f n k)) (hk : f n = k) : SB D H b v (n + 1) f := h.cg (fun j _ => by
  unfold va_up
  split
  · rename_i e; rw [e, hk]
  · rfl)
theorem mpL_0 (P : Nat → Int32) : mpL P 0 = 0 := by unfold mpL; rw [Nat.zero_sub, Nat.zero_div]
end SBK
set_option maxHeartbeats 800000 in
theorem mX1_writeMap (l : Launch) (D : DD) (u : Nat → Nat) (P T : Nat → Int32) (o : Nat) (g : Nat → Nat) (S : Nat → Int32) (pw : Option Nat) (c : Nat) (v0 v1 v2 v3 v5 v6 : Value) (lb vb n0 : Nat) (tg dg : Nat → Nat) (hC : VC P) (hV : VS S) (hA : AP g u P) (hn0 : n0 < 190) (hlk : KN D lb) (hbk : KN D vb) (hdg : ∀ i, i < nC P → dg i < 10 ∧ (if pwc P S (bsN (pwc P S) (nC P)) = 0 then 0 else 9 * pwc P S i / pwc P S (bsN (pwc P S) (nC P))) = lN (dg i)) (hap : ∀ q, (q = lb ∨ q = vb) → ¬ UB u P q ∧ ¬ OA g (nM P) q ∧ ¬ GB g P q ∧ ¬ pw = some q ∧ q ≠ c) : Ct l yX1_writeMap cX1_writeMap 5 (some .int) { frames := 9, cells := 292, slots := 116467, locals := 3121 } D [.ref c] (fun H => KH D H ∧ oB D H c 0 [v0, v1, v2, v3, .ref (g 0), v5, v6, .ref lb] ∧ UR D u P T o H ∧ SR D g u P S pw H ∧ PK D P S pw H ∧ SB D H lb vb n0 tg) (fun q => q = g 0 ∨ q = lb ∨ q = vb) (fun r H H1 => r = some (.int (nI (mpL P (nC P)))) ∧ (∃ p, SR D g u P S (some p) H1 ∧ PK D P S (some p) H1 ∧ (∀ q, pw = some q → p = q) ∧ (pw = some p ∨ H.size ≤ p)) ∧ ∃ v, (v = vb ∨ H.size ≤ v) ∧ SB D H1 lb v (mpL P (nC P)) (mpT P dg)) := by
  refine Ct.of (by decide +kernel) (Nat.le_of_ble_eq_true rfl) (fun K Qf hkl X hM hQ => ?_)
  subst hkl
  obtain ⟨hK, hc, hU, hR, hPK, hB⟩ := hM
  have hz : (kS K).heap.size ≤ (kS K).heap.size := Nat.le_refl _
  have hP := hC.v
  have l0 := hP.l0
  have l1 := hP.l1
  have l2 := hP.l2
  have l4 := hP.l4
  have l5 := hP.l5
  have l8 := hP.l8
  have l9 := hP.l9
  have l10 := hP.l10
  have l71 := hP.l71
  have l76 := hP.l76
  have l77 := hP.l77
  have hx1 := hC.x1
  have hy1 := hC.y1
  have ht1 := hC.t1
  have he1 := hC.e1
  have hm1 := hC.m1
  have hcc : nC P ≤ 144 := Nat.mul_le_mul l9 l10
  have hnc0 : 0 < nC P := Nat.mul_pos hx1 hy1
  have hbsl := bsN_lt (sc := pwc P S) hnc0
  have hlu : ∀ j, VK P j → lb ≠ u j := fun j hj e => (hap lb (Or.inl rfl)).1 ⟨j, hj, e⟩
  have hlg : ∀ j, UK (nM P) j → lb ≠ g j := fun j hj e => (hap lb (Or.inl rfl)).2.1 ⟨j, hj, e⟩
  have hls : ∀ j, SJ P j → lb ≠ g j := fun j hj e => (hap lb (Or.inl rfl)).2.2.1 ⟨j, hj, e⟩
  have hvbu : ∀ j, VK P j → vb ≠ u j := fun j hj e => (hap vb (Or.inr rfl)).1 ⟨j, hj, e⟩
  have hvbg : ∀ j, UK (nM P) j → vb ≠ g j := fun j hj e => (hap vb (Or.inr rfl)).2.1 ⟨j, hj, e⟩
  have hvbs : ∀ j, SJ P j → vb ≠ g j := fun j hj e => (hap vb (Or.inr rfl)).2.2.1 ⟨j, hj, e⟩
  have hlc : lb ≠ c := (hap lb (Or.inl rfl)).2.2.2.2
  have hlb0 := hB.ltb
  have hvb0 := hB.ltv
  refine vv_sub (lv' := [(0, .ref c)]) [0] rfl ?_
  refine vv_aload_n X dX1_writeMap_0 rfl 0 rfl ?_
  refine vv_callVp X (mX1_there (kL K) D u P T o g S pw c v0 v1 v2 v3 v5 v6 (.ref lb)  hC hV ) q1797 q1799 qs36 q137 q1800 nX1_there ⟨(Nat.le_of_ble_eq_true rfl), (Nat.le_of_ble_eq_true rfl)⟩ dX1_writeMap_1 rfl (Nat.le_of_ble_eq_true rfl) (recv X hc CL_X1) ⟨hK, hc, hU, hR⟩ ⟨(Nat.le_of_ble_eq_true rfl), (Nat.le_of_ble_eq_true rfl)⟩ ?_
  refine vv_callV X (mX3_powers (kL K) D u P T o g S pw hC hV hA) q1956 q1957 q1958 q150 q1959 nX3_powers ⟨(Nat.le_of_ble_eq_true rfl), (Nat.le_of_ble_eq_true rfl)⟩ dX1_writeMap_4 rfl (Nat.le_of_ble_eq_true rfl) (recv X hR.ob CL_X3) ⟨hK, hU, hR, hPK⟩ (fun q z => by rcases z with rfl; exact (Or.inl (Or.inl rfl))) ⟨(Nat.le_of_ble_eq_true rfl), (Nat.le_of_ble_eq_true rfl)⟩ (fun v_ H hq hz_ hk => ?_)
  obtain ⟨a_1, rfl, hR2, hPK2, hold, hnew⟩ := hq
  replace hc := hc.kept (hk _ hc.lt (X.oo hc hR.ob CL_X1 CL_X3 (by decide)))
  replace hB := (show SB D H lb vb n0 tg from hB.kept (by first | exact hk _ hB.ltb (hlg 0 (Or.inl (by decide))) | exact hx.2 _ hB.ltb | exact hk _ hB.ltb (fun z => z)) (by first | exact hk _ hB.ltv (hvbg 0 (Or.inl (by decide))) | exact hx.2 _ hB.ltv | exact hk _ hB.ltv (fun z => z)))
  replace hK := hK.to hk (fun q z => by rcases z with rfl; exact hR.kn X hK 0 (Or.inl (by decide)))
  replace hU := hU.own hA l4 (Q := (· = 0)) (fun k hk => by subst hk; exact Or.inl (by decide)) (fun q hl hq => hk q hl (hq 0 rfl))
  replace hz := Nat.le_trans hz hz_
  have hp_2 : lA D H a_1 (nC P) (pwc P S) := hPK2 a_1 rfl
  clear hk hz_ hR
  have hR := hR2
  clear hR2 hPK2
  have hnew9 := hnew
  refine vv_astore_n (lv' := [(1, .ref a_1), (0, .ref c)]) X dX1_writeMap_7 rfl (by decide) rfl ?_
  refine vv_aload_n X dX1_writeMap_8 rfl 0 rfl ?_
  refine vv_aload_n X dX1_writeMap_9 rfl 1 rfl ?_
  refine vv_getf (C := RX1) (T := TX1) (N := 8) (ref := "AcousticCamera") X hc in_X1 CL_X1 4 (by decide) q259 rfl rfl dX1_writeMap_10 ?_
  refine vv_callV X (mX3_best (kL K) D u P T o g S (some a_1) hC hV hA) q1993 q1994 q1995 q150 q1996 nX3_best ⟨(Nat.le_of_ble_eq_true rfl), (Nat.le_of_ble_eq_true rfl)⟩ dX1_writeMap_13 rfl (Nat.le_of_ble_eq_true rfl) (recv X hR.ob CL_X3) ⟨hK, hU, hR, (fun q e => by cases e; exact hp_2)⟩ (fun q z => by rcases z with rfl; exact (Or.inl (Or.inl rfl))) ⟨(Nat.le_of_ble_eq_true rfl), (Nat.le_of_ble_eq_true rfl)⟩ (fun v_ H hq hz_ hk => ?_)
  obtain ⟨rfl, a_3, hR2, hPK2, hold2, hnew2⟩ := hq
  replace hc := hc.kept (hk _ hc.lt (X.oo hc hR.ob CL_X1 CL_X3 (by decide)))
  replace hB := (show SB D H lb vb n0 tg from hB.kept (by first | exact hk _ hB.ltb (hlg 0 (Or.inl (by decide))) | exact hx.2 _ hB.ltb | exact hk _ hB.ltb (fun z => z)) (by first | exact hk _ hB.ltv (hvbg 0 (Or.inl (by decide))) | exact hx.2 _ hB.ltv | exact hk _ hB.ltv (fun z => z)))
  replace hp_2 := hp_2.kept (hk _ hp_2.lt (X.ao hp_2 hR.ob CL_X3 rfl))
  replace hK := hK.to hk (fun q z => by rcases z with rfl; exact hR.kn X hK 0 (Or.inl (by decide)))
  replace hU := hU.own hA l4 (Q := (· = 0)) (fun k hk => by subst hk; exact Or.inl (by decide)) (fun q hl hq => hk q hl (hq 0 rfl))
  replace hz := Nat.le_trans hz hz_
  have hp_4 : lA D H a_3 (nC P) (pwc P S) := hPK2 a_3 rfl
  clear hk hz_ hR
  have hR := hR2
  clear hR2 hPK2
  clear hp_4
  obtain rfl : a_1 = a_3 := (hold2 _ rfl).symm
  clear hold2 hnew2
  refine vv_lald X hp_2 (bsN (pwc P S) (nC P)) (by omega) (by omega) rfl dX1_writeMap_16 ?_
  refine vv_lstore_n (lv' := [(2, .long (pwc P S (bsN (pwc P S) (nC P)))), (1, .ref a_1), (0, .ref c)]) X dX1_writeMap_17 rfl (by decide) rfl ?_
  have hpl : ∀ q, (q = lb ∨ q = vb) → q < (kS K).heap.size → q ≠ a_1 := fun q hq hl e => (hnew9).elim (fun z => (hap q hq).2.2.2.1 (by rw [z, e])) (fun z => by omega)
  have hlp : lb ≠ a_1 := hpl lb (Or.inl rfl) hlb0
  obtain ⟨v, hvw, hB, hvg, hvs, hvu, hvp, hvc, hvk⟩ : ∃ v, (v = vb ∨ (kS K).heap.size ≤ v) ∧ SB D H lb v n0 tg ∧ (∀ k, UK (nM P) k → v ≠ g k) ∧ (∀ k, SJ P k → v ≠ g k) ∧ (∀ k, VK P k → v ≠ u k) ∧ v ≠ a_1 ∧ v ≠ c ∧ KN D v := ⟨vb, Or.inl rfl, hB, hvbg, hvbs, hvbu, hpl vb (Or.inr rfl) hvb0, (hap vb (Or.inr rfl)).2.2.2.2, hbk⟩
  refine vv_aload_n X dX1_writeMap_18 rfl 2 rfl ?_
  refine vv_getf (C := RX1) (T := TX1) (N := 8) (ref := "AcousticCamera") X hc in_X1 CL_X1 7 (by decide) q262 rfl rfl dX1_writeMap_19 ?_
  obtain ⟨q_, f_, z_, hs, hbv⟩ := id hB
  clear hbv
  refine vv_iconst (v := nI 0) X dX1_writeMap_22 (by decide) ?_
  refine vv_callV X (mJ3_setLength (kL K) D lb v n0 tg hn0 hvk) q2596 q2597 q2598 q141 q2599 nJ3_setLength ⟨(Nat.le_of_ble_eq_true rfl), (Nat.le_of_ble_eq_true rfl)⟩ dX1_writeMap_23 rfl (Nat.le_of_ble_eq_true rfl) (recv X hs CL_J3) ⟨hK, hB⟩ (fun q z => by rcases z with z | z; exact Or.inl (Or.inr (Or.inl z)); exact hvw.elim (fun y => Or.inl (Or.inr (Or.inr (z.trans y)))) (fun y => Or.inr (z ▸ y))) ⟨(Nat.le_of_ble_eq_true rfl), (Nat.le_of_ble_eq_true rfl)⟩ (fun v_ H hq hz_ hk => ?_)
  clear hs
  obtain ⟨rfl, v2, hvv2, hB2⟩ := hq
  have hv2g : ∀ k, UK (nM P) k → v2 ≠ g k := fun k hk e => hvv2.elim (fun z => hvg k hk (z ▸ e)) (fun z => by have h9 := hR.ltA k hk; omega)
  have hv2s : ∀ k, SJ P k → v2 ≠ g k := fun k hk e => hvv2.elim (fun z => hvs k hk (z ▸ e)) (fun z => by have h9 := hR.ltS k hk; omega)
  have hv2u : ∀ k, VK P k → v2 ≠ u k := fun k hk e => hvv2.elim (fun z => hvu k hk (z ▸ e)) (fun z => by have h9 := hU.ltB k hk; omega)
  have hv2p : v2 ≠ a_1 := fun e => hvv2.elim (fun z => hvp (z ▸ e)) (fun z => by have h9 := hp_2.lt; omega)
  have hv2c : v2 ≠ c := fun e => hvv2.elim (fun z => hvc (z ▸ e)) (fun z => by have h9 := hc.lt; omega)
  have hv2k : KN D v2 := hvv2.elim (fun z => z ▸ hvk) (fun z => KN.new hK z)
  have hv2w : v2 = vb ∨ (kS K).heap.size ≤ v2 := hvv2.elim (fun z => z ▸ hvw) (fun z => Or.inr (Nat.le_trans hz z))
  replace hc := hc.kept (hk _ hc.lt (fun z => by rcases z with z | z; exact hlc z.symm; exact hvc z.symm))
  replace hp_2 := hp_2.kept (hk _ hp_2.lt (fun z => by rcases z with z | z; exact hlp z.symm; exact hvp z.symm))
  replace hU := hU.kept (fun q hl hq => hk q hl (fun z => by obtain ⟨j_, h_, e_⟩ := hq; rcases z with z | z; exact hlu j_ h_ (z.symm.trans e_); exact hvu j_ h_ (z.symm.trans e_)))
  replace hR := hR.kept (fun q hl hq => hk q hl (fun z => by obtain ⟨j_, h_, e_⟩ := hq; rcases z with z | z; exact hlg j_ h_ (z.symm.trans e_); exact hvg j_ h_ (z.symm.trans e_))) (fun q hl hq => hk q hl (fun z => by obtain ⟨j_, h_, e_⟩ := hq; rcases z with z | z; exact hls j_ h_ (z.symm.trans e_); exact hvs j_ h_ (z.symm.trans e_)))
  replace hK := hK.to hk (fun q z => by rcases z with rfl | rfl; exact hlk; exact hvk)
  replace hz := Nat.le_trans hz hz_
  clear hk hz_ hB hvg hvs hvu hvp hvc hvk hvw hvv2
  clear v
  obtain ⟨v, hv9⟩ : ∃ v, v = v2 := ⟨_, rfl⟩
  subst hv9
  have hvg := hv2g
  have hvs := hv2s
  have hvu := hv2u
  have hvp := hv2p
  have hvc := hv2c
  have hvk := hv2k
  have hvw := hv2w
  have hB := hB2
  clear hv2g hv2s hv2u hv2p hv2c hv2k hv2w hB2
  refine vv_iconst (v := nI 0) X dX1_writeMap_26 (by decide) ?_
  refine vv_istore (lv' := [(4, .int (nI 0)), (2, .long (pwc P S (bsN (pwc P S) (nC P)))), (1, .ref a_1), (0, .ref c)]) X dX1_writeMap_27 (by decide) rfl ?_
  replace hB := hB.cg (g := mpT P dg) (fun j hj => absurd hj (Nat.not_lt_zero _))
  rw [← mpL_0 P] at hB
  have hx_5 : ∀ (H : Heap) (v : Nat) (hK : KH D H) (hU : UR D u P T o H) (hR : SR D g u P S (some a_1) H) (hz : (kS K).heap.size ≤ H.size) (hc : oB D H c 0 [v0, v1, v2, v3, .ref (g 0), v5, v6, .ref lb]) (hp_2 : lA D H a_1 (nC P) (pwc P S)) (hvw : v = vb ∨ (kS K).heap.size ≤ v) (hB : SB D H lb v (mpL P (nC P)) (mpT P dg)) (hvg : ∀ k, UK (nM P) k → v ≠ g k) (hvs : ∀ k, SJ P k → v ≠ g k) (hvu : ∀ k, VK P k → v ≠ u k) (hvp : v ≠ a_1) (hvc : v ≠ c) (hvk : KN D v), V K 5 (fun q => q = g 0 ∨ q = lb ∨ q = vb) H (4 + 2 * (nC P)) (691 + 804 * (nC P)) Qf 101 [(0, .ref c), (1, .ref a_1), (2, .long (pwc P S (bsN (pwc P S) (nC P)))), (4, .int (nI (nC P)))] [] := by
    intro H v hK hU hR hz hc hp_2 hvw hB hvg hvs hvu hvp hvc hvk
    refine vv_widen (k := 292) (n := 116467) (by first | omega | (dsimp only; omega)) (by first | omega | (dsimp only; omega)) ?_
    have hmle := mpL_le (P := P) (c := nC P) hx1 hy1 (Nat.le_refl _)
    obtain ⟨q_, f_, z_, hs, hbv⟩ := id hB
    clear hbv
    refine vv_aload_n X dX1_writeMap_101 rfl 0 rfl ?_
    refine vv_getf (C := RX1) (T := TX1) (N := 8) (ref := "AcousticCamera") X hc in_X1 CL_X1 7 (by decide) q262 rfl rfl dX1_writeMap_102 ?_
    refine vv_callVp X (mJ3_length (kL K) D lb v (mpL P (nC P)) (mpT P dg) (by omega)) q2677 q677 q3657 q141 q678 nJ3_length ⟨(Nat.le_of_ble_eq_true rfl), (Nat.le_of_ble_eq_true rfl)⟩ dX1_writeMap_105 rfl (Nat.le_of_ble_eq_true rfl) (recv X hs CL_J3) hB ⟨(Nat.le_of_ble_eq_true rfl), (Nat.le_of_ble_eq_true rfl)⟩ ?_
    exact vv_iret X hQ dX1_writeMap_108 (Nat.le_of_ble_eq_true rfl) (Nat.le_of_ble_eq_true rfl) (⟨rfl, ⟨_, hR, (fun q e => by cases e; exact hp_2), hold, hnew9⟩, v, hvw, hB⟩)
  have hl_6 : ∀ (n_i i : Nat) (H : Heap) (v : Nat), i + n_i = nC P → (KH D H) → (UR D u P T o H) → (SR D g u P S (some a_1) H) → ((kS K).heap.size ≤ H.size) → (oB D H c 0 [v0, v1, v2, v3, .ref (g 0), v5, v6, .ref lb]) → (lA D H a_1 (nC P) (pwc P S)) → (v = vb ∨ (kS K).heap.size ≤ v) → (SB D H lb v (mpL P i) (mpT P dg)) → (∀ k, UK (nM P) k → v ≠ g k) → (∀ k, SJ P k → v ≠ g k) → (∀ k, VK P k → v ≠ u k) → (v ≠ a_1) → (v ≠ c) → (KN D v) → V K 5 (fun q => q = g 0 ∨ q = lb ∨ q = vb) H (4 + 2 * i) (691 + 804 * i) Qf 29 [(0, .ref c), (1, .ref a_1), (2, .long (pwc P S (bsN (pwc P S) (nC P)))), (4, .int (nI i))] [] := by
    intro n_i
    induction n_i with
    | zero =>
      intro i H v hi hK hU hR hz hc hp_2 hvw hB hvg hvs hvu hvp hvc hvk
      obtain rfl : i = nC P := by omega
      have hml := mpL_le (P := P) (c := nC P) hx1 hy1 (by omega)
      refine vv_iload X dX1_writeMap_29 3 rfl ?_
      refine vv_aload_n X dX1_writeMap_31 rfl 1 rfl ?_
      refine vv_alen (ty := 1) X hp_2 rfl dX1_writeMap_32 ?_
      refine vn_ge (tgt := 101) X (by omega) (by omega) dX1_writeMap_33 (by decide) (fun c_33 => ?_) (fun c_33 => ?_)
      · exact hx_5 H v hK hU hR hz hc hp_2 hvw hB hvg hvs hvu hvp hvc hvk
      · exact absurd c_33 (by omega)
    | succ n_i ihi =>
      intro i H v hi hK hU hR hz hc hp_2 hvw hB hvg hvs hvu hvp hvc hvk
      have hml := mpL_le (P := P) (c := i) hx1 hy1 (by omega)
      refine vv_iload X dX1_writeMap_29 3 rfl ?_
      refine vv_aload_n X dX1_writeMap_31 rfl 1 rfl ?_
      refine vv_alen (ty := 1) X hp_2 rfl dX1_writeMap_32 ?_
      refine vn_ge (tgt := 101) X (by omega) (by omega) dX1_writeMap_33 (by decide) (fun c_33 => ?_) (fun c_33 => ?_)
      · exact absurd hi (by omega)
      · refine vv_iload X dX1_writeMap_36 3 rfl ?_
        refine vn_if_le (tgt := 67) X (by omega) dX1_writeMap_38 (by decide) (fun c_38 => ?_) (fun c_38 => ?_)
        · obtain ⟨e1, e2⟩ := mp_same (P := P) (c := i) hx1 (Or.inl (by omega))
          rw [e1] at hB
          have hml2 := mpL_le (P := P) (c := i + 1) hx1 hy1 (by omega)
          obtain ⟨q_, f_, z_, hs, hbv⟩ := id hB
          clear hbv
          refine vv_aload_n X dX1_writeMap_67 rfl 0 rfl ?_
          refine vv_getf (C := RX1) (T := TX1) (N := 8) (ref := "AcousticCamera") X hc in_X1 CL_X1 7 (by decide) q262 rfl rfl dX1_writeMap_68 ?_
          refine vv_lload_n X dX1_writeMap_71 rfl 2 rfl ?_
          refine vv_lconst (v := 0) X dX1_writeMap_72 (by decide) ?_
          refine vv_lcmp X dX1_writeMap_73 ?_
          refine vz_ne (tgt := 81) X dX1_writeMap_74 (by decide) (fun c_74 => ?_) (fun c_74 => ?_)
          · refine vv_ldc2 (v := 9) X q2649 dX1_writeMap_81 ?_
            refine vv_aload_n X dX1_writeMap_84 rfl 1 rfl ?_
            refine vv_iload X dX1_writeMap_85 3 rfl ?_
            refine vv_lald X hp_2 (i) (by omega) (by omega) rfl dX1_writeMap_87 ?_
            refine vv_lmul X dX1_writeMap_88 ?_
            refine vv_lload_n X dX1_writeMap_89 rfl 2 rfl ?_
            refine vv_ldiv X dX1_writeMap_90 (c_74) ?_
            have hdi := hdg i (by omega)
            refine vv_eql (show _ = lN (dg i) from by have h9 := hdi.2; rw [if_neg c_74] at h9; exact h9) ?_
            refine vv_callV X (mJ3_append_4 (kL K) D lb v (i + i / nX P) (mpT P dg) (dg i) (by omega) hvk (by omega)) q2650 q2651 q2652 q141 q2653 nJ3_append_4 ⟨(Nat.le_of_ble_eq_true rfl), (Nat.le_of_ble_eq_true rfl)⟩ dX1_writeMap_91 rfl (Nat.le_of_ble_eq_true rfl) (recv X hs CL_J3) ⟨hK, hB⟩ (fun q z => by rcases z with z | z; exact Or.inl (Or.inr (Or.inl z)); exact hvw.elim (fun y => Or.inl (Or.inr (Or.inr (z.trans y)))) (fun y => Or.inr (z ▸ y))) ⟨(by first | omega | (dsimp only; omega)), (by first | omega | (dsimp only; omega))⟩ (fun v_ H hq hz_ hk => ?_)
            clear hs
            obtain ⟨rfl, v2, hvv2, hB2⟩ := hq
            have hv2g : ∀ k, UK (nM P) k → v2 ≠ g k := fun k hk e => hvv2.elim (fun z => hvg k hk (z ▸ e)) (fun z => by have h9 := hR.ltA k hk; omega)
            have hv2s : ∀ k, SJ P k → v2 ≠ g k := fun k hk e => hvv2.elim (fun z => hvs k hk (z ▸ e)) (fun z => by have h9 := hR.ltS k hk; omega)
            have hv2u : ∀ k, VK P k → v2 ≠ u k := fun k hk e => hvv2.elim (fun z => hvu k hk (z ▸ e)) (fun z => by have h9 := hU.ltB k hk; omega)
            have hv2p : v2 ≠ a_1 := fun e => hvv2.elim (fun z => hvp (z ▸ e)) (fun z => by have h9 := hp_2.lt; omega)
            have hv2c : v2 ≠ c := fun e => hvv2.elim (fun z => hvc (z ▸ e)) (fun z => by have h9 := hc.lt; omega)
            have hv2k : KN D v2 := hvv2.elim (fun z => z ▸ hvk) (fun z => KN.new hK z)
            have hv2w : v2 = vb ∨ (kS K).heap.size ≤ v2 := hvv2.elim (fun z => z ▸ hvw) (fun z => Or.inr (Nat.le_trans hz z))
            replace hc := hc.kept (hk _ hc.lt (fun z => by rcases z with z | z; exact hlc z.symm; exact hvc z.symm))
            replace hp_2 := hp_2.kept (hk _ hp_2.lt (fun z => by rcases z with z | z; exact hlp z.symm; exact hvp z.symm))
            replace hU := hU.kept (fun q hl hq => hk q hl (fun z => by obtain ⟨j_, h_, e_⟩ := hq; rcases z with z | z; exact hlu j_ h_ (z.symm.trans e_); exact hvu j_ h_ (z.symm.trans e_)))
            replace hR := hR.kept (fun q hl hq => hk q hl (fun z => by obtain ⟨j_, h_, e_⟩ := hq; rcases z with z | z; exact hlg j_ h_ (z.symm.trans e_); exact hvg j_ h_ (z.symm.trans e_))) (fun q hl hq => hk q hl (fun z => by obtain ⟨j_, h_, e_⟩ := hq; rcases z with z | z; exact hls j_ h_ (z.symm.trans e_); exact hvs j_ h_ (z.symm.trans e_)))
            replace hK := hK.to hk (fun q z => by rcases z with rfl | rfl; exact hlk; exact hvk)
            replace hz := Nat.le_trans hz hz_
            clear hk hz_ hB hvg hvs hvu hvp hvc hvk hvw hvv2
            clear v
            obtain ⟨v, hv9⟩ : ∃ v, v = v2 := ⟨_, rfl⟩
            subst hv9
            have hvg := hv2g
            have hvs := hv2s
            have hvu := hv2u
            have hvp := hv2p
            have hvc := hv2c
            have hvk := hv2k
            have hvw := hv2w
            have hB := hB2
            clear hv2g hv2s hv2u hv2p hv2c hv2k hv2w hB2
            refine vv_widen (k := 4 + 2 * i + 1) (n := 691 + 804 * i + 402 * 1) (by first | omega | (dsimp only; omega)) (by first | omega | (dsimp only; omega)) ?_
            refine vv_pop X dX1_writeMap_94 rfl ?_
            replace hB := hB.up (mp_dig hx1)
            rw [← e2] at hB
            refine vv_iinc (v := nI (i + 1)) (lv' := [(4, .int (nI (i + 1))), (0, .ref c), (1, .ref a_1), (2, .long (pwc P S (bsN (pwc P S) (nC P))))]) X dX1_writeMap_95 (k := 3) rfl (nI_add _ 1) (by decide) rfl ?_
            refine vv_goto (tgt := 29) X dX1_writeMap_98 (by decide) ?_
            refine vv_sub [1, 2, 3, 0] rfl ?_
            refine vv_widen (k := 4 + 2 * (i + 1)) (n := 691 + 804 * (i + 1)) (by first | omega | (dsimp only; omega)) (by first | omega | (dsimp only; omega)) ?_
            exact ihi (i + 1) H v (by omega) (hK) (hU) (hR) (hz) (hc) (hp_2) (hvw) (hB) (hvg) (hvs) (hvu) (hvp) (hvc) (hvk)
          · refine vv_lconst (v := 0) X dX1_writeMap_77 (by decide) ?_
            refine vv_goto (tgt := 91) X dX1_writeMap_78 (by decide) ?_
            have hdi := hdg i (by omega)
            refine vv_eql (show _ = lN (dg i) from by have h9 := hdi.2; rw [if_pos c_74] at h9; exact h9) ?_
            refine vv_callV X (mJ3_append_4 (kL K) D lb v (i + i / nX P) (mpT P dg) (dg i) (by omega) hvk (by omega)) q2650 q2651 q2652 q141 q2653 nJ3_append_4 ⟨(Nat.le_of_ble_eq_true rfl), (Nat.le_of_ble_eq_true rfl)⟩ dX1_writeMap_91 rfl (Nat.le_of_ble_eq_true rfl) (recv X hs CL_J3) ⟨hK, hB⟩ (fun q z => by rcases z with z | z; exact Or.inl (Or.inr (Or.inl z)); exact hvw.elim (fun y => Or.inl (Or.inr (Or.inr (z.trans y)))) (fun y => Or.inr (z ▸ y))) ⟨(by first | omega | (dsimp only; omega)), (by first | omega | (dsimp only; omega))⟩ (fun v_ H hq hz_ hk => ?_)
            clear hs
            obtain ⟨rfl, v2, hvv2, hB2⟩ := hq
            have hv2g : ∀ k, UK (nM P) k → v2 ≠ g k := fun k hk e => hvv2.elim (fun z => hvg k hk (z ▸ e)) (fun z => by have h9 := hR.ltA k hk; omega)
            have hv2s : ∀ k, SJ P k → v2 ≠ g k := fun k hk e => hvv2.elim (fun z => hvs k hk (z ▸ e)) (fun z => by have h9 := hR.ltS k hk; omega)
            have hv2u : ∀ k, VK P k → v2 ≠ u k := fun k hk e => hvv2.elim (fun z => hvu k hk (z ▸ e)) (fun z => by have h9 := hU.ltB k hk; omega)
            have hv2p : v2 ≠ a_1 := fun e => hvv2.elim (fun z => hvp (z ▸ e)) (fun z => by have h9 := hp_2.lt; omega)
            have hv2c : v2 ≠ c := fun e => hvv2.elim (fun z => hvc (z ▸ e)) (fun z => by have h9 := hc.lt; omega)
            have hv2k : KN D v2 := hvv2.elim (fun z => z ▸ hvk) (fun z => KN.new hK z)
            have hv2w : v2 = vb ∨ (kS K).heap.size ≤ v2 := hvv2.elim (fun z => z ▸ hvw) (fun z => Or.inr (Nat.le_trans hz z))
            replace hc := hc.kept (hk _ hc.lt (fun z => by rcases z with z | z; exact hlc z.symm; exact hvc z.symm))
            replace hp_2 := hp_2.kept (hk _ hp_2.lt (fun z => by rcases z with z | z; exact hlp z.symm; exact hvp z.symm))
            replace hU := hU.kept (fun q hl hq => hk q hl (fun z => by obtain ⟨j_, h_, e_⟩ := hq; rcases z with z | z; exact hlu j_ h_ (z.symm.trans e_); exact hvu j_ h_ (z.symm.trans e_)))
            replace hR := hR.kept (fun q hl hq => hk q hl (fun z => by obtain ⟨j_, h_, e_⟩ := hq; rcases z with z | z; exact hlg j_ h_ (z.symm.trans e_); exact hvg j_ h_ (z.symm.trans e_))) (fun q hl hq => hk q hl (fun z => by obtain ⟨j_, h_, e_⟩ := hq; rcases z with z | z; exact hls j_ h_ (z.symm.trans e_); exact hvs j_ h_ (z.symm.trans e_)))
            replace hK := hK.to hk (fun q z => by rcases z with rfl | rfl; exact hlk; exact hvk)
            replace hz := Nat.le_trans hz hz_
            clear hk hz_ hB hvg hvs hvu hvp hvc hvk hvw hvv2
            clear v
            obtain ⟨v, hv9⟩ : ∃ v, v = v2 := ⟨_, rfl⟩
            subst hv9
            have hvg := hv2g
            have hvs := hv2s
            have hvu := hv2u
            have hvp := hv2p
            have hvc := hv2c
            have hvk := hv2k
            have hvw := hv2w
            have hB := hB2
            clear hv2g hv2s hv2u hv2p hv2c hv2k hv2w hB2
            refine vv_widen (k := 4 + 2 * i + 1) (n := 691 + 804 * i + 402 * 1) (by first | omega | (dsimp only; omega)) (by first | omega | (dsimp only; omega)) ?_
            refine vv_pop X dX1_writeMap_94 rfl ?_
            replace hB := hB.up (mp_dig hx1)
            rw [← e2] at hB
            refine vv_iinc (v := nI (i + 1)) (lv' := [(4, .int (nI (i + 1))), (0, .ref c), (1, .ref a_1), (2, .long (pwc P S (bsN (pwc P S) (nC P))))]) X dX1_writeMap_95 (k := 3) rfl (nI_add _ 1) (by decide) rfl ?_
            refine vv_goto (tgt := 29) X dX1_writeMap_98 (by decide) ?_
            refine vv_sub [1, 2, 3, 0] rfl ?_
            refine vv_widen (k := 4 + 2 * (i + 1)) (n := 691 + 804 * (i + 1)) (by first | omega | (dsimp only; omega)) (by first | omega | (dsimp only; omega)) ?_
            exact ihi (i + 1) H v (by omega) (hK) (hU) (hR) (hz) (hc) (hp_2) (hvw) (hB) (hvg) (hvs) (hvu) (hvp) (hvc) (hvk)
        · refine vv_iload X dX1_writeMap_41 3 rfl ?_
          refine vv_aload_n X dX1_writeMap_43 rfl 0 rfl ?_
          refine vv_getf (C := RX1) (T := TX1) (N := 8) (ref := "AcousticCamera") X hc in_X1 CL_X1 4 (by decide) q259 rfl rfl dX1_writeMap_44 ?_
          refine vv_getfN (C := RX3) (T := TX3) (N := 8) (ref := "AcousticCamera$State") X hR.ob in_X3 CL_X3 0 (by decide) q1688 rfl rfl dX1_writeMap_47 ?_
          refine vv_getfN (C := RX5) (T := TX5) (N := 19) (ref := "AcousticCamera$Setup") X hU.ob in_X5 CL_X5 16 (by decide) q818 rfl rfl dX1_writeMap_50 ?_
          refine vn_rem X (by omega) (by omega) (by omega) dX1_writeMap_53 ?_
          refine vn_if_ne (tgt := 67) X (by have h9 := Nat.mod_lt i hx1; omega) dX1_writeMap_54 (by decide) (fun c_54 => ?_) (fun c_54 => ?_)
          · obtain ⟨e1, e2⟩ := mp_same (P := P) (c := i) hx1 (Or.inr (Nat.ne_of_gt c_54))
            rw [e1] at hB
            have hml2 := mpL_le (P := P) (c := i + 1) hx1 hy1 (by omega)
            obtain ⟨q_, f_, z_, hs, hbv⟩ := id hB
            clear hbv
            refine vv_aload_n X dX1_writeMap_67 rfl 0 rfl ?_
            refine vv_getf (C := RX1) (T := TX1) (N := 8) (ref := "AcousticCamera") X hc in_X1 CL_X1 7 (by decide) q262 rfl rfl dX1_writeMap_68 ?_
            refine vv_lload_n X dX1_writeMap_71 rfl 2 rfl ?_
            refine vv_lconst (v := 0) X dX1_writeMap_72 (by decide) ?_
            refine vv_lcmp X dX1_writeMap_73 ?_
            refine vz_ne (tgt := 81) X dX1_writeMap_74 (by decide) (fun c_74 => ?_) (fun c_74 => ?_)
            · refine vv_ldc2 (v := 9) X q2649 dX1_writeMap_81 ?_
              refine vv_aload_n X dX1_writeMap_84 rfl 1 rfl ?_
              refine vv_iload X dX1_writeMap_85 3 rfl ?_
              refine vv_lald X hp_2 (i) (by omega) (by omega) rfl dX1_writeMap_87 ?_
              refine vv_lmul X dX1_writeMap_88 ?_
              refine vv_lload_n X dX1_writeMap_89 rfl 2 rfl ?_
              refine vv_ldiv X dX1_writeMap_90 (c_74) ?_
              have hdi := hdg i (by omega)
              refine vv_eql (show _ = lN (dg i) from by have h9 := hdi.2; rw [if_neg c_74] at h9; exact h9) ?_
              refine vv_callV X (mJ3_append_4 (kL K) D lb v (i + i / nX P) (mpT P dg) (dg i) (by omega) hvk (by omega)) q2650 q2651 q2652 q141 q2653 nJ3_append_4 ⟨(Nat.le_of_ble_eq_true rfl), (Nat.le_of_ble_eq_true rfl)⟩ dX1_writeMap_91 rfl (Nat.le_of_ble_eq_true rfl) (recv X hs CL_J3) ⟨hK, hB⟩ (fun q z => by rcases z with z | z; exact Or.inl (Or.inr (Or.inl z)); exact hvw.elim (fun y => Or.inl (Or.inr (Or.inr (z.trans y)))) (fun y => Or.inr (z ▸ y))) ⟨(by first | omega | (dsimp only; omega)), (by first | omega | (dsimp only; omega))⟩ (fun v_ H hq hz_ hk => ?_)
              clear hs
              obtain ⟨rfl, v2, hvv2, hB2⟩ := hq
              have hv2g : ∀ k, UK (nM P) k → v2 ≠ g k := fun k hk e => hvv2.elim (fun z => hvg k hk (z ▸ e)) (fun z => by have h9 := hR.ltA k hk; omega)
              have hv2s : ∀ k, SJ P k → v2 ≠ g k := fun k hk e => hvv2.elim (fun z => hvs k hk (z ▸ e)) (fun z => by have h9 := hR.ltS k hk; omega)
              have hv2u : ∀ k, VK P k → v2 ≠ u k := fun k hk e => hvv2.elim (fun z => hvu k hk (z ▸ e)) (fun z => by have h9 := hU.ltB k hk; omega)
              have hv2p : v2 ≠ a_1 := fun e => hvv2.elim (fun z => hvp (z ▸ e)) (fun z => by have h9 := hp_2.lt; omega)
              have hv2c : v2 ≠ c := fun e => hvv2.elim (fun z => hvc (z ▸ e)) (fun z => by have h9 := hc.lt; omega)
              have hv2k : KN D v2 := hvv2.elim (fun z => z ▸ hvk) (fun z => KN.new hK z)
              have hv2w : v2 = vb ∨ (kS K).heap.size ≤ v2 := hvv2.elim (fun z => z ▸ hvw) (fun z => Or.inr (Nat.le_trans hz z))
              replace hc := hc.kept (hk _ hc.lt (fun z => by rcases z with z | z; exact hlc z.symm; exact hvc z.symm))
              replace hp_2 := hp_2.kept (hk _ hp_2.lt (fun z => by rcases z with z | z; exact hlp z.symm; exact hvp z.symm))
              replace hU := hU.kept (fun q hl hq => hk q hl (fun z => by obtain ⟨j_, h_, e_⟩ := hq; rcases z with z | z; exact hlu j_ h_ (z.symm.trans e_); exact hvu j_ h_ (z.symm.trans e_)))
              replace hR := hR.kept (fun q hl hq => hk q hl (fun z => by obtain ⟨j_, h_, e_⟩ := hq; rcases z with z | z; exact hlg j_ h_ (z.symm.trans e_); exact hvg j_ h_ (z.symm.trans e_))) (fun q hl hq => hk q hl (fun z => by obtain ⟨j_, h_, e_⟩ := hq; rcases z with z | z; exact hls j_ h_ (z.symm.trans e_); exact hvs j_ h_ (z.symm.trans e_)))
              replace hK := hK.to hk (fun q z => by rcases z with rfl | rfl; exact hlk; exact hvk)
              replace hz := Nat.le_trans hz hz_
              clear hk hz_ hB hvg hvs hvu hvp hvc hvk hvw hvv2
              clear v
              obtain ⟨v, hv9⟩ : ∃ v, v = v2 := ⟨_, rfl⟩
              subst hv9
              have hvg := hv2g
              have hvs := hv2s
              have hvu := hv2u
              have hvp := hv2p
              have hvc := hv2c
              have hvk := hv2k
              have hvw := hv2w
              have hB := hB2
              clear hv2g hv2s hv2u hv2p hv2c hv2k hv2w hB2
              refine vv_widen (k := 4 + 2 * i + 1) (n := 691 + 804 * i + 402 * 1) (by first | omega | (dsimp only; omega)) (by first | omega | (dsimp only; omega)) ?_
              refine vv_pop X dX1_writeMap_94 rfl ?_
              replace hB := hB.up (mp_dig hx1)
              rw [← e2] at hB
              refine vv_iinc (v := nI (i + 1)) (lv' := [(4, .int (nI (i + 1))), (0, .ref c), (1, .ref a_1), (2, .long (pwc P S (bsN (pwc P S) (nC P))))]) X dX1_writeMap_95 (k := 3) rfl (nI_add _ 1) (by decide) rfl ?_
              refine vv_goto (tgt := 29) X dX1_writeMap_98 (by decide) ?_
              refine vv_sub [1, 2, 3, 0] rfl ?_
              refine vv_widen (k := 4 + 2 * (i + 1)) (n := 691 + 804 * (i + 1)) (by first | omega | (dsimp only; omega)) (by first | omega | (dsimp only; omega)) ?_
              exact ihi (i + 1) H v (by omega) (hK) (hU) (hR) (hz) (hc) (hp_2) (hvw) (hB) (hvg) (hvs) (hvu) (hvp) (hvc) (hvk)
            · refine vv_lconst (v := 0) X dX1_writeMap_77 (by decide) ?_
              refine vv_goto (tgt := 91) X dX1_writeMap_78 (by decide) ?_
              have hdi := hdg i (by omega)
              refine vv_eql (show _ = lN (dg i) from by have h9 := hdi.2; rw [if_pos c_74] at h9; exact h9) ?_
              refine vv_callV X (mJ3_append_4 (kL K) D lb v (i + i / nX P) (mpT P dg) (dg i) (by omega) hvk (by omega)) q2650 q2651 q2652 q141 q2653 nJ3_append_4 ⟨(Nat.le_of_ble_eq_true rfl), (Nat.le_of_ble_eq_true rfl)⟩ dX1_writeMap_91 rfl (Nat.le_of_ble_eq_true rfl) (recv X hs CL_J3) ⟨hK, hB⟩ (fun q z => by rcases z with z | z; exact Or.inl (Or.inr (Or.inl z)); exact hvw.elim (fun y => Or.inl (Or.inr (Or.inr (z.trans y)))) (fun y => Or.inr (z ▸ y))) ⟨(by first | omega | (dsimp only; omega)), (by first | omega | (dsimp only; omega))⟩ (fun v_ H hq hz_ hk => ?_)
              clear hs
              obtain ⟨rfl, v2, hvv2, hB2⟩ := hq
              have hv2g : ∀ k, UK (nM P) k → v2 ≠ g k := fun k hk e => hvv2.elim (fun z => hvg k hk (z ▸ e)) (fun z => by have h9 := hR.ltA k hk; omega)
              have hv2s : ∀ k, SJ P k → v2 ≠ g k := fun k hk e => hvv2.elim (fun z => hvs k hk (z ▸ e)) (fun z => by have h9 := hR.ltS k hk; omega)
              have hv2u : ∀ k, VK P k → v2 ≠ u k := fun k hk e => hvv2.elim (fun z => hvu k hk (z ▸ e)) (fun z => by have h9 := hU.ltB k hk; omega)
              have hv2p : v2 ≠ a_1 := fun e => hvv2.elim (fun z => hvp (z ▸ e)) (fun z => by have h9 := hp_2.lt; omega)
              have hv2c : v2 ≠ c := fun e => hvv2.elim (fun z => hvc (z ▸ e)) (fun z => by have h9 := hc.lt; omega)
              have hv2k : KN D v2 := hvv2.elim (fun z => z ▸ hvk) (fun z => KN.new hK z)
              have hv2w : v2 = vb ∨ (kS K).heap.size ≤ v2 := hvv2.elim (fun z => z ▸ hvw) (fun z => Or.inr (Nat.le_trans hz z))
              replace hc := hc.kept (hk _ hc.lt (fun z => by rcases z with z | z; exact hlc z.symm; exact hvc z.symm))
              replace hp_2 := hp_2.kept (hk _ hp_2.lt (fun z => by rcases z with z | z; exact hlp z.symm; exact hvp z.symm))
              replace hU := hU.kept (fun q hl hq => hk q hl (fun z => by obtain ⟨j_, h_, e_⟩ := hq; rcases z with z | z; exact hlu j_ h_ (z.symm.trans e_); exact hvu j_ h_ (z.symm.trans e_)))
              replace hR := hR.kept (fun q hl hq => hk q hl (fun z => by obtain ⟨j_, h_, e_⟩ := hq; rcases z with z | z; exact hlg j_ h_ (z.symm.trans e_); exact hvg j_ h_ (z.symm.trans e_))) (fun q hl hq => hk q hl (fun z => by obtain ⟨j_, h_, e_⟩ := hq; rcases z with z | z; exact hls j_ h_ (z.symm.trans e_); exact hvs j_ h_ (z.symm.trans e_)))
              replace hK := hK.to hk (fun q z => by rcases z with rfl | rfl; exact hlk; exact hvk)
              replace hz := Nat.le_trans hz hz_
              clear hk hz_ hB hvg hvs hvu hvp hvc hvk hvw hvv2
              clear v
              obtain ⟨v, hv9⟩ : ∃ v, v = v2 := ⟨_, rfl⟩
              subst hv9
              have hvg := hv2g
              have hvs := hv2s
              have hvu := hv2u
              have hvp := hv2p
              have hvc := hv2c
              have hvk := hv2k
              have hvw := hv2w
              have hB := hB2
              clear hv2g hv2s hv2u hv2p hv2c hv2k hv2w hB2
              refine vv_widen (k := 4 + 2 * i + 1) (n := 691 + 804 * i + 402 * 1) (by first | omega | (dsimp only; omega)) (by first | omega | (dsimp only; omega)) ?_
              refine vv_pop X dX1_writeMap_94 rfl ?_
              replace hB := hB.up (mp_dig hx1)
              rw [← e2] at hB
              refine vv_iinc (v := nI (i + 1)) (lv' := [(4, .int (nI (i + 1))), (0, .ref c), (1, .ref a_1), (2, .long (pwc P S (bsN (pwc P S) (nC P))))]) X dX1_writeMap_95 (k := 3) rfl (nI_add _ 1) (by decide) rfl ?_
              refine vv_goto (tgt := 29) X dX1_writeMap_98 (by decide) ?_
              refine vv_sub [1, 2, 3, 0] rfl ?_
              refine vv_widen (k := 4 + 2 * (i + 1)) (n := 691 + 804 * (i + 1)) (by first | omega | (dsimp only; omega)) (by first | omega | (dsimp only; omega)) ?_
              exact ihi (i + 1) H v (by omega) (hK) (hU) (hR) (hz) (hc) (hp_2) (hvw) (hB) (hvg) (hvs) (hvu) (hvp) (hvc) (hvk)
          · obtain ⟨q_, f_, z_, hs, hbv⟩ := id hB
            clear hbv
            refine vv_aload_n X dX1_writeMap_57 rfl 0 rfl ?_
            refine vv_getf (C := RX1) (T := TX1) (N := 8) (ref := "AcousticCamera") X hc in_X1 CL_X1 7 (by decide) q262 rfl rfl dX1_writeMap_58 ?_
            refine vv_bipush (v := nI 59) X dX1_writeMap_61 (by decide) ?_
            refine vv_callV X (mJ3_append_3 (kL K) D lb v (mpL P i) (mpT P dg) 59 (by omega) hvk (by decide)) q2648 q905 q906 q141 q907 nJ3_append_3 ⟨(Nat.le_of_ble_eq_true rfl), (Nat.le_of_ble_eq_true rfl)⟩ dX1_writeMap_63 rfl (Nat.le_of_ble_eq_true rfl) (recv X hs CL_J3) ⟨hK, hB⟩ (fun q z => by rcases z with z | z; exact Or.inl (Or.inr (Or.inl z)); exact hvw.elim (fun y => Or.inl (Or.inr (Or.inr (z.trans y)))) (fun y => Or.inr (z ▸ y))) ⟨(by first | omega | (dsimp only; omega)), (by first | omega | (dsimp only; omega))⟩ (fun v_ H hq hz_ hk => ?_)
            clear hs
            obtain ⟨rfl, v2, hvv2, hB2⟩ := hq
            have hv2g : ∀ k, UK (nM P) k → v2 ≠ g k := fun k hk e => hvv2.elim (fun z => hvg k hk (z ▸ e)) (fun z => by have h9 := hR.ltA k hk; omega)
            have hv2s : ∀ k, SJ P k → v2 ≠ g k := fun k hk e => hvv2.elim (fun z => hvs k hk (z ▸ e)) (fun z => by have h9 := hR.ltS k hk; omega)
            have hv2u : ∀ k, VK P k → v2 ≠ u k := fun k hk e => hvv2.elim (fun z => hvu k hk (z ▸ e)) (fun z => by have h9 := hU.ltB k hk; omega)
            have hv2p : v2 ≠ a_1 := fun e => hvv2.elim (fun z => hvp (z ▸ e)) (fun z => by have h9 := hp_2.lt; omega)
            have hv2c : v2 ≠ c := fun e => hvv2.elim (fun z => hvc (z ▸ e)) (fun z => by have h9 := hc.lt; omega)
            have hv2k : KN D v2 := hvv2.elim (fun z => z ▸ hvk) (fun z => KN.new hK z)
            have hv2w : v2 = vb ∨ (kS K).heap.size ≤ v2 := hvv2.elim (fun z => z ▸ hvw) (fun z => Or.inr (Nat.le_trans hz z))
            replace hc := hc.kept (hk _ hc.lt (fun z => by rcases z with z | z; exact hlc z.symm; exact hvc z.symm))
            replace hp_2 := hp_2.kept (hk _ hp_2.lt (fun z => by rcases z with z | z; exact hlp z.symm; exact hvp z.symm))
            replace hU := hU.kept (fun q hl hq => hk q hl (fun z => by obtain ⟨j_, h_, e_⟩ := hq; rcases z with z | z; exact hlu j_ h_ (z.symm.trans e_); exact hvu j_ h_ (z.symm.trans e_)))
            replace hR := hR.kept (fun q hl hq => hk q hl (fun z => by obtain ⟨j_, h_, e_⟩ := hq; rcases z with z | z; exact hlg j_ h_ (z.symm.trans e_); exact hvg j_ h_ (z.symm.trans e_))) (fun q hl hq => hk q hl (fun z => by obtain ⟨j_, h_, e_⟩ := hq; rcases z with z | z; exact hls j_ h_ (z.symm.trans e_); exact hvs j_ h_ (z.symm.trans e_)))
            replace hK := hK.to hk (fun q z => by rcases z with rfl | rfl; exact hlk; exact hvk)
            replace hz := Nat.le_trans hz hz_
            clear hk hz_ hB hvg hvs hvu hvp hvc hvk hvw hvv2
            clear v
            obtain ⟨v, hv9⟩ : ∃ v, v = v2 := ⟨_, rfl⟩
            subst hv9
            have hvg := hv2g
            have hvs := hv2s
            have hvu := hv2u
            have hvp := hv2p
            have hvc := hv2c
            have hvk := hv2k
            have hvw := hv2w
            have hB := hB2
            clear hv2g hv2s hv2u hv2p hv2c hv2k hv2w hB2
            refine vv_widen (k := 4 + 2 * i + 1) (n := 691 + 804 * i + 402 * 1) (by first | omega | (dsimp only; omega)) (by first | omega | (dsimp only; omega)) ?_
            refine vv_pop X dX1_writeMap_66 rfl ?_
            obtain ⟨e1, e2, e3⟩ := mp_sep (P := P) (dg := dg) (c := i) hx1 (by omega) c_54
            replace hB := hB.up e3
            rw [e1] at hB
            have hml2 := mpL_le (P := P) (c := i + 1) hx1 hy1 (by omega)
            obtain ⟨q_, f_, z_, hs, hbv⟩ := id hB
            clear hbv
            refine vv_aload_n X dX1_writeMap_67 rfl 0 rfl ?_
            refine vv_getf (C := RX1) (T := TX1) (N := 8) (ref := "AcousticCamera") X hc in_X1 CL_X1 7 (by decide) q262 rfl rfl dX1_writeMap_68 ?_
            refine vv_lload_n X dX1_writeMap_71 rfl 2 rfl ?_
            refine vv_lconst (v := 0) X dX1_writeMap_72 (by decide) ?_
            refine vv_lcmp X dX1_writeMap_73 ?_
            refine vz_ne (tgt := 81) X dX1_writeMap_74 (by decide) (fun c_74 => ?_) (fun c_74 => ?_)
            · refine vv_ldc2 (v := 9) X q2649 dX1_writeMap_81 ?_
              refine vv_aload_n X dX1_writeMap_84 rfl 1 rfl ?_
              refine vv_iload X dX1_writeMap_85 3 rfl ?_
              refine vv_lald X hp_2 (i) (by omega) (by omega) rfl dX1_writeMap_87 ?_
              refine vv_lmul X dX1_writeMap_88 ?_
              refine vv_lload_n X dX1_writeMap_89 rfl 2 rfl ?_
              refine vv_ldiv X dX1_writeMap_90 (c_74) ?_
              have hdi := hdg i (by omega)
              refine vv_eql (show _ = lN (dg i) from by have h9 := hdi.2; rw [if_neg c_74] at h9; exact h9) ?_
              refine vv_callV X (mJ3_append_4 (kL K) D lb v (i + i / nX P) (mpT P dg) (dg i) (by omega) hvk (by omega)) q2650 q2651 q2652 q141 q2653 nJ3_append_4 ⟨(Nat.le_of_ble_eq_true rfl), (Nat.le_of_ble_eq_true rfl)⟩ dX1_writeMap_91 rfl (Nat.le_of_ble_eq_true rfl) (recv X hs CL_J3) ⟨hK, hB⟩ (fun q z => by rcases z with z | z; exact Or.inl (Or.inr (Or.inl z)); exact hvw.elim (fun y => Or.inl (Or.inr (Or.inr (z.trans y)))) (fun y => Or.inr (z ▸ y))) ⟨(by first | omega | (dsimp only; omega)), (by first | omega | (dsimp only; omega))⟩ (fun v_ H hq hz_ hk => ?_)
              clear hs
              obtain ⟨rfl, v2, hvv2, hB2⟩ := hq
              have hv2g : ∀ k, UK (nM P) k → v2 ≠ g k := fun k hk e => hvv2.elim (fun z => hvg k hk (z ▸ e)) (fun z => by have h9 := hR.ltA k hk; omega)
              have hv2s : ∀ k, SJ P k → v2 ≠ g k := fun k hk e => hvv2.elim (fun z => hvs k hk (z ▸ e)) (fun z => by have h9 := hR.ltS k hk; omega)
              have hv2u : ∀ k, VK P k → v2 ≠ u k := fun k hk e => hvv2.elim (fun z => hvu k hk (z ▸ e)) (fun z => by have h9 := hU.ltB k hk; omega)
              have hv2p : v2 ≠ a_1 := fun e => hvv2.elim (fun z => hvp (z ▸ e)) (fun z => by have h9 := hp_2.lt; omega)
              have hv2c : v2 ≠ c := fun e => hvv2.elim (fun z => hvc (z ▸ e)) (fun z => by have h9 := hc.lt; omega)
              have hv2k : KN D v2 := hvv2.elim (fun z => z ▸ hvk) (fun z => KN.new hK z)
              have hv2w : v2 = vb ∨ (kS K).heap.size ≤ v2 := hvv2.elim (fun z => z ▸ hvw) (fun z => Or.inr (Nat.le_trans hz z))
              replace hc := hc.kept (hk _ hc.lt (fun z => by rcases z with z | z; exact hlc z.symm; exact hvc z.symm))
              replace hp_2 := hp_2.kept (hk _ hp_2.lt (fun z => by rcases z with z | z; exact hlp z.symm; exact hvp z.symm))
              replace hU := hU.kept (fun q hl hq => hk q hl (fun z => by obtain ⟨j_, h_, e_⟩ := hq; rcases z with z | z; exact hlu j_ h_ (z.symm.trans e_); exact hvu j_ h_ (z.symm.trans e_)))
              replace hR := hR.kept (fun q hl hq => hk q hl (fun z => by obtain ⟨j_, h_, e_⟩ := hq; rcases z with z | z; exact hlg j_ h_ (z.symm.trans e_); exact hvg j_ h_ (z.symm.trans e_))) (fun q hl hq => hk q hl (fun z => by obtain ⟨j_, h_, e_⟩ := hq; rcases z with z | z; exact hls j_ h_ (z.symm.trans e_); exact hvs j_ h_ (z.symm.trans e_)))
              replace hK := hK.to hk (fun q z => by rcases z with rfl | rfl; exact hlk; exact hvk)
              replace hz := Nat.le_trans hz hz_
              clear hk hz_ hB hvg hvs hvu hvp hvc hvk hvw hvv2
              clear v
              obtain ⟨v, hv9⟩ : ∃ v, v = v2 := ⟨_, rfl⟩
              subst hv9
              have hvg := hv2g
              have hvs := hv2s
              have hvu := hv2u
              have hvp := hv2p
              have hvc := hv2c
              have hvk := hv2k
              have hvw := hv2w
              have hB := hB2
              clear hv2g hv2s hv2u hv2p hv2c hv2k hv2w hB2
              refine vv_widen (k := 4 + 2 * i + 2) (n := 691 + 804 * i + 402 * 2) (by first | omega | (dsimp only; omega)) (by first | omega | (dsimp only; omega)) ?_
              refine vv_pop X dX1_writeMap_94 rfl ?_
              replace hB := hB.up (mp_dig hx1)
              rw [← e2] at hB
              refine vv_iinc (v := nI (i + 1)) (lv' := [(4, .int (nI (i + 1))), (0, .ref c), (1, .ref a_1), (2, .long (pwc P S (bsN (pwc P S) (nC P))))]) X dX1_writeMap_95 (k := 3) rfl (nI_add _ 1) (by decide) rfl ?_
              refine vv_goto (tgt := 29) X dX1_writeMap_98 (by decide) ?_
              refine vv_sub [1, 2, 3, 0] rfl ?_
              refine vv_widen (k := 4 + 2 * (i + 1)) (n := 691 + 804 * (i + 1)) (by first | omega | (dsimp only; omega)) (by first | omega | (dsimp only; omega)) ?_
              exact ihi (i + 1) H v (by omega) (hK) (hU) (hR) (hz) (hc) (hp_2) (hvw) (hB) (hvg) (hvs) (hvu) (hvp) (hvc) (hvk)
            · refine vv_lconst (v := 0) X dX1_writeMap_77 (by decide) ?_
              refine vv_goto (tgt := 91) X dX1_writeMap_78 (by decide) ?_
              have hdi := hdg i (by omega)
              refine vv_eql (show _ = lN (dg i) from by have h9 := hdi.2; rw [if_pos c_74] at h9; exact h9) ?_
              refine vv_callV X (mJ3_append_4 (kL K) D lb v (i + i / nX P) (mpT P dg) (dg i) (by omega) hvk (by omega)) q2650 q2651 q2652 q141 q2653 nJ3_append_4 ⟨(Nat.le_of_ble_eq_true rfl), (Nat.le_of_ble_eq_true rfl)⟩ dX1_writeMap_91 rfl (Nat.le_of_ble_eq_true rfl) (recv X hs CL_J3) ⟨hK, hB⟩ (fun q z => by rcases z with z | z; exact Or.inl (Or.inr (Or.inl z)); exact hvw.elim (fun y => Or.inl (Or.inr (Or.inr (z.trans y)))) (fun y => Or.inr (z ▸ y))) ⟨(by first | omega | (dsimp only; omega)), (by first | omega | (dsimp only; omega))⟩ (fun v_ H hq hz_ hk => ?_)
              clear hs
              obtain ⟨rfl, v2, hvv2, hB2⟩ := hq
              have hv2g : ∀ k, UK (nM P) k → v2 ≠ g k := fun k hk e => hvv2.elim (fun z => hvg k hk (z ▸ e)) (fun z => by have h9 := hR.ltA k hk; omega)
              have hv2s : ∀ k, SJ P k → v2 ≠ g k := fun k hk e => hvv2.elim (fun z => hvs k hk (z ▸ e)) (fun z => by have h9 := hR.ltS k hk; omega)
              have hv2u : ∀ k, VK P k → v2 ≠ u k := fun k hk e => hvv2.elim (fun z => hvu k hk (z ▸ e)) (fun z => by have h9 := hU.ltB k hk; omega)
              have hv2p : v2 ≠ a_1 := fun e => hvv2.elim (fun z => hvp (z ▸ e)) (fun z => by have h9 := hp_2.lt; omega)
              have hv2c : v2 ≠ c := fun e => hvv2.elim (fun z => hvc (z ▸ e)) (fun z => by have h9 := hc.lt; omega)
              have hv2k : KN D v2 := hvv2.elim (fun z => z ▸ hvk) (fun z => KN.new hK z)
              have hv2w : v2 = vb ∨ (kS K).heap.size ≤ v2 := hvv2.elim (fun z => z ▸ hvw) (fun z => Or.inr (Nat.le_trans hz z))
              replace hc := hc.kept (hk _ hc.lt (fun z => by rcases z with z | z; exact hlc z.symm; exact hvc z.symm))
              replace hp_2 := hp_2.kept (hk _ hp_2.lt (fun z => by rcases z with z | z; exact hlp z.symm; exact hvp z.symm))
              replace hU := hU.kept (fun q hl hq => hk q hl (fun z => by obtain ⟨j_, h_, e_⟩ := hq; rcases z with z | z; exact hlu j_ h_ (z.symm.trans e_); exact hvu j_ h_ (z.symm.trans e_)))
              replace hR := hR.kept (fun q hl hq => hk q hl (fun z => by obtain ⟨j_, h_, e_⟩ := hq; rcases z with z | z; exact hlg j_ h_ (z.symm.trans e_); exact hvg j_ h_ (z.symm.trans e_))) (fun q hl hq => hk q hl (fun z => by obtain ⟨j_, h_, e_⟩ := hq; rcases z with z | z; exact hls j_ h_ (z.symm.trans e_); exact hvs j_ h_ (z.symm.trans e_)))
              replace hK := hK.to hk (fun q z => by rcases z with rfl | rfl; exact hlk; exact hvk)
              replace hz := Nat.le_trans hz hz_
              clear hk hz_ hB hvg hvs hvu hvp hvc hvk hvw hvv2
              clear v
              obtain ⟨v, hv9⟩ : ∃ v, v = v2 := ⟨_, rfl⟩
              subst hv9
              have hvg := hv2g
              have hvs := hv2s
              have hvu := hv2u
              have hvp := hv2p
              have hvc := hv2c
              have hvk := hv2k
              have hvw := hv2w
              have hB := hB2
              clear hv2g hv2s hv2u hv2p hv2c hv2k hv2w hB2
              refine vv_widen (k := 4 + 2 * i + 2) (n := 691 + 804 * i + 402 * 2) (by first | omega | (dsimp only; omega)) (by first | omega | (dsimp only; omega)) ?_
              refine vv_pop X dX1_writeMap_94 rfl ?_
              replace hB := hB.up (mp_dig hx1)
              rw [← e2] at hB
              refine vv_iinc (v := nI (i + 1)) (lv' := [(4, .int (nI (i + 1))), (0, .ref c), (1, .ref a_1), (2, .long (pwc P S (bsN (pwc P S) (nC P))))]) X dX1_writeMap_95 (k := 3) rfl (nI_add _ 1) (by decide) rfl ?_
              refine vv_goto (tgt := 29) X dX1_writeMap_98 (by decide) ?_
              refine vv_sub [1, 2, 3, 0] rfl ?_
              refine vv_widen (k := 4 + 2 * (i + 1)) (n := 691 + 804 * (i + 1)) (by first | omega | (dsimp only; omega)) (by first | omega | (dsimp only; omega)) ?_
              exact ihi (i + 1) H v (by omega) (hK) (hU) (hR) (hz) (hc) (hp_2) (hvw) (hB) (hvg) (hvs) (hvu) (hvp) (hvc) (hvk)
  refine vv_sub [3, 2, 1, 0] rfl ?_
  refine vv_widen (k := 4 + 2 * 0) (n := 691 + 804 * 0) (by first | omega | (dsimp only; omega)) (by first | omega | (dsimp only; omega)) ?_
  exact hl_6 (nC P) 0 H v (by first | omega | assumption) (hK) (hU) (hR) (hz) (hc) (hp_2) (hvw) (hB) (hvg) (hvs) (hvu) (hvp) (hvc) (hvk)
theorem nX1_mapByte : notMH yX1_mapByte 1 := by decide +kernel
set_option maxHeartbeats 800000 in
theorem mX1_mapByte (l : Launch) (D : DD) (c lb vb n : Nat) (tg : Nat → Nat) (v0 v1 v2 v3 v4 v5 v6 : Value) (i : Nat) (hn : n < 190) (hi : i < n) : Cp l yX1_mapByte cX1_mapByte 2 (some .int) { frames := 5, cells := 0, slots := 0, locals := 100 } D [.ref c, .int (nI i)] (fun H => KH D H ∧ oB D H c 0 [v0, v1, v2, v3, v4, v5, v6, .ref lb] ∧ SB D H lb vb n tg) (.int (nI (tg i))) := by
  refine Ct.of (by decide +kernel) (Nat.le_of_ble_eq_true rfl) (fun K Qf hkl X hM hQ => ?_)
  subst hkl
  obtain ⟨hK, hc, hB⟩ := hM
  refine vv_sub (lv' := [(0, .ref c), (1, .int (nI i))]) [0, 1] rfl ?_
  obtain ⟨q_, f_, z_, hs, hbv⟩ := id hB
  clear hbv
  refine vv_iload_n X dX1_mapByte_0 rfl 1 rfl ?_
  refine vv_aload_n X dX1_mapByte_1 rfl 0 rfl ?_
  refine vv_getf (C := RX1) (T := TX1) (N := 8) (ref := "AcousticCamera") X hc in_X1 CL_X1 7 (by decide) q262 rfl rfl dX1_mapByte_2 ?_
  refine vv_callVp X (mJ3_length (kL K) D lb vb n tg hn) q2677 q677 q3657 q141 q678 nJ3_length ⟨(Nat.le_of_ble_eq_true rfl), (Nat.le_of_ble_eq_true rfl)⟩ dX1_mapByte_5 rfl (Nat.le_of_ble_eq_true rfl) (recv X hs CL_J3) hB ⟨(Nat.le_of_ble_eq_true rfl), (Nat.le_of_ble_eq_true rfl)⟩ ?_
  refine vv_callSv X (mX1_checkIndex (kL K) D (nI i) n (ix_N (by omega) (by omega))) q446 q447 q137 q448 nX1_checkIndex ⟨(Nat.le_of_ble_eq_true rfl), (Nat.le_of_ble_eq_true rfl)⟩ dX1_mapByte_8 rfl (Nat.le_of_ble_eq_true rfl) trivial ⟨(Nat.le_of_ble_eq_true rfl), (Nat.le_of_ble_eq_true rfl)⟩ ?_
  refine vv_aload_n X dX1_mapByte_11 rfl 0 rfl ?_
  refine vv_getf (C := RX1) (T := TX1) (N := 8) (ref := "AcousticCamera") X hc in_X1 CL_X1 7 (by decide) q262 rfl rfl dX1_mapByte_12 ?_
  refine vv_iload_n X dX1_mapByte_15 rfl 1 rfl ?_
  refine vv_callVp X (mJ3_charAt (kL K) D lb vb n tg i hn (by omega)) q2685 q2686 q2687 q141 q2688 nJ3_charAt ⟨(Nat.le_of_ble_eq_true rfl), (Nat.le_of_ble_eq_true rfl)⟩ dX1_mapByte_16 rfl (Nat.le_of_ble_eq_true rfl) (recv X hs CL_J3) ⟨hK, hB⟩ ⟨(Nat.le_of_ble_eq_true rfl), (Nat.le_of_ble_eq_true rfl)⟩ ?_
  exact vv_iret X hQ dX1_mapByte_19 (Nat.le_of_ble_eq_true rfl) (Nat.le_of_ble_eq_true rfl) (pq (rfl))
set_option maxHeartbeats 800000 in
theorem xX1_mapByte (l : Launch) (D : DD) (hl : l.stackTraces = false) (c lb vb n : Nat) (tg : Nat → Nat) (v0 v1 v2 v3 v4 v5 v6 : Value) (i : Int32) (hn : n < 190) (hi : ¬ ix n i) : Cx l yX1_mapByte cX1_mapByte 2 (some .int) { frames := 7, cells := 1, slots := 6, locals := 110 } D [.ref c, .int (i)] (fun H => KH D H ∧ oB D H c 0 [v0, v1, v2, v3, v4, v5, v6, .ref lb] ∧ SB D H lb vb n tg) (fun _ => False) (fun r H H1 => False) (fun Xn q H H1 => Xn = "java/lang/IndexOutOfBoundsException") := by
  refine Cx.of (by decide +kernel) (Nat.le_of_ble_eq_true rfl) (fun K Qf hkl X ht hM hQ => ?_)
  subst hkl
  obtain ⟨hK, hc, hB⟩ := hM
  have hz : (kS K).heap.size ≤ (kS K).heap.size := Nat.le_refl _
  refine vv_sub (lv' := [(0, .ref c), (1, .int (i))]) [0, 1] rfl ?_
  obtain ⟨q_, f_, z_, hs, hbv⟩ := id hB
  clear hbv
  refine vv_iload_n X dX1_mapByte_0 rfl 1 rfl ?_
  refine vv_aload_n X dX1_mapByte_1 rfl 0 rfl ?_
  refine vv_getf (C := RX1) (T := TX1) (N := 8) (ref := "AcousticCamera") X hc in_X1 CL_X1 7 (by decide) q262 rfl rfl dX1_mapByte_2 ?_
  refine vv_callVp X (mJ3_length (kL K) D lb vb n tg hn) q2677 q677 q3657 q141 q678 nJ3_length ⟨(Nat.le_of_ble_eq_true rfl), (Nat.le_of_ble_eq_true rfl)⟩ dX1_mapByte_5 rfl (Nat.le_of_ble_eq_true rfl) (recv X hs CL_J3) hB ⟨(Nat.le_of_ble_eq_true rfl), (Nat.le_of_ble_eq_true rfl)⟩ ?_
  refine vx_cS X (xX1_checkIndex (kL K) D hl i n (hi)) q446 q447 q137 q448 nX1_checkIndex ⟨(Nat.le_of_ble_eq_true rfl), (Nat.le_of_ble_eq_true rfl)⟩ dX1_mapByte_8 rfl (Nat.le_of_ble_eq_true rfl) hK (fun _ z => z.elim) ⟨(Nat.le_of_ble_eq_true rfl), (Nat.le_of_ble_eq_true rfl)⟩ (fun Xn q H hq hz_ hk hXO => ?_) (fun v_ H hq hz_ hk => hq.elim)
  obtain rfl := hq
  exact vt_out X (fun x hx => (ht x hx).elim) hQ hXO (Nat.le_of_ble_eq_true rfl) (Nat.le_of_ble_eq_true rfl) (rfl)
