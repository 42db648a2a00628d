/-! State.copy: printed by gen/s13.py -/
set_option maxRecDepth 100000
section CLN
variable {K : C_} {y : MethodName} {cc : ByteArray} {nL : Nat} {ret : Option FieldType} {rm : Room} {D : DD} {A : Nat → Prop} {H : Heap} {cells slots : Nat} {Q : State → Prop} {pc : Nat} {lv : List (Nat × Value)} {rest : List Value} {idx a ty n M : Nat}
theorem vv_castA (X : Fx K y cc nL ret rm D) {nm : String} {x : vp_A} {t : FieldType} (ha : aR D H a ty x) (ht : (tysOf D)[ty]? = some (D.2.1 ty, t)) (hn : nm = "[" ++ t.toString) (q1 : Cond.classLink y.cls idx nm ∈ lw_all) (d : decode cc pc = .ok (.checkcast idx, 3)) (kk : V K nL A H cells slots Q (pc + 3) lv (.ref a :: rest)) : V K nL A H cells slots Q pc lv (.ref a :: rest) :=
  fun L ls hS h0 => va_castA X.exec X.code X.own (X.words _ q1) (one ha) 0 rfl (by rw [hn]; exact aCls X ht) d (kk L ls hS h0)
theorem vv_cloneiA (X : Fx K y cc nL ret rm D) {f : Nat → Int32} (ha : iA D H a n f) (q1 : Cond.methodLink y.cls idx ⟨"[I", "clone", "()Ljava/lang/Object;"⟩ ∈ lw_all) (hM : n ≤ M) (hf : 1 ≤ rm.frames) (hlo : (rest.map fun v => v.category).sum + 14 ≤ rm.locals) (hc : cells + 1 ≤ rm.cells) (hs : slots + M ≤ rm.slots) (d : decode cc pc = .ok (.invokevirtual idx, 3))
    (kk : ∀ (b : Nat) (H1 : Heap), b = H.size → Ex H H1 → iA D H1 b n f → V K nL A H1 (cells + 1) (slots + M) Q (pc + 3) lv (.ref b :: rest)) : V K nL A H cells slots Q pc lv (.ref a :: rest) :=
  vv_clone (ad := "[I") (t := .int) X ha rfl (by decide +kernel) q1 q2723 q546 q547 q2724 q2725 (fun i v h => by
    have h : (arrV (D.2.1 0) n (fun j => .int (f j))).slots[i]? = some v := h
    have hi : i < n := by
      have := (Array.getElem?_eq_some_iff.mp h).1
      rwa [arrV_size] at this
    rw [arrV_read _ _ hi] at h
    cases h
    rfl) hM hf hlo hc hs d (fun H1 hx ho => kk _ H1 rfl hx ho)
end CLN
def g3 (c : Nat) (r g2 g : Nat → Nat) : Nat → Nat := fun k => if k = 6 then c else if k < 10 then g2 k else if k < 30 then r (k - 10) else g k
section G3
variable {c : Nat} {r g2 g u : Nat → Nat} {P S : Nat → Int32}
theorem g3_lo {k : Nat} (hk : k < 8) (h6 : k ≠ 6) : g3 c r g2 g k = g2 k := by unfold g3; rw [if_neg h6, if_pos (by omega)]
theorem g3_6 : g3 c r g2 g 6 = c := rfl
theorem g3_r {m : Nat} (hm : m < 12) : g3 c r g2 g (10 + m) = r m := by unfold g3; rw [if_neg (by omega), if_neg (by omega), if_pos (by omega), Nat.add_sub_cancel_left]
theorem g3_hi {k : Nat} (hk : 30 ≤ k) : g3 c r g2 g k = g k := by unfold g3; rw [if_neg (by omega), if_neg (by omega), if_neg (by omega)]
theorem g3_c {k : Nat} (hn : nM P ≤ 12) (hk : UK (nM P) k) : (k < 8 ∧ k ≠ 6) ∨ k = 6 ∨ ∃ m, m < nM P ∧ k = 10 + m := by
  rcases hk with q | ⟨q, q'⟩
  · omega
  · exact Or.inr (Or.inr ⟨k - 10, by omega, by omega⟩)
theorem g3_ap (hn : nM P ≤ 12) (hA2 : AP g2 u P) (hlt : ∀ k, k < 8 → k ≠ 6 → g2 k < c) (hrc : ∀ m, m < nM P → c < r m) (hrm : ∀ m m', m < m' → m' < nM P → r m < r m') (hcu : ∀ j, VK P j → c ≠ u j) (hru : ∀ m, m < nM P → ∀ j, VK P j → r m ≠ u j) (hs : ∀ k j, UK (nM P) k → SJ P j → g3 c r g2 g k ≠ g j) : AP (g3 c r g2 g) u P := by
  refine ⟨fun i j hi hj e => ?_, fun i j hi hj => ?_, fun i j hi hj => ?_⟩
  · rcases g3_c hn hi with ⟨q1, q2⟩ | q | ⟨m, hm, q⟩ <;> rcases g3_c hn hj with ⟨p1, p2⟩ | p | ⟨m', hm', p⟩
    · rw [g3_lo q1 q2, g3_lo p1 p2] at e
      exact hA2.1 i j hi hj e
    · subst p
      rw [g3_lo q1 q2, g3_6] at e
      have := hlt i q1 q2
      omega
    · subst p
      rw [g3_lo q1 q2, g3_r (by omega)] at e
      have := hlt i q1 q2
      have := hrc m' hm'
      omega
    · subst q
      rw [g3_lo p1 p2, g3_6] at e
      have := hlt j p1 p2
      omega
    · omega
    · subst q
      subst p
      rw [g3_6, g3_r (by omega)] at e
      have := hrc m' hm'
      omega
    · subst q
      rw [g3_lo p1 p2, g3_r (by omega)] at e
      have := hlt j p1 p2
      have := hrc m hm
      omega
    · subst q
      subst p
      rw [g3_6, g3_r (by omega)] at e
      have := hrc m hm
      omega
    · subst q
      subst p
      rw [g3_r (by omega), g3_r (by omega)] at e
      rcases Nat.lt_trichotomy m m' with z | z | z
      · have := hrm m m' z hm'
        omega
      · omega
      · have := hrm m' m z hm
        omega
  · rcases g3_c hn hi with ⟨q1, q2⟩ | q | ⟨m, hm, q⟩
    · rw [g3_lo q1 q2]
      exact hA2.2.1 i j hi hj
    · subst q
      rw [g3_6]
      exact hcu j hj
    · subst q
      rw [g3_r (by omega)]
      exact hru m hm j hj
  · rw [g3_hi (k := j) (by rcases hj with ⟨z, -⟩ | ⟨z, -⟩ <;> omega)]
    exact hs i j hi hj
end G3
theorem nX3_copy : notMH yX3_copy 0 := by decide +kernel
set_option maxHeartbeats 800000 in
theorem mX3_copy (l : Launch) (D : DD) (u : Nat → Nat) (P T : Nat → Int32) (o : Nat) (g : Nat → Nat) (S : Nat → Int32) (pw : Option Nat)  (hC : VC P) (hV : VS S) (hA : AP g u P) (ho : o < 4096) : Ct l yX3_copy cX3_copy 3 (some (.object "AcousticCamera$State")) { frames := 5, cells := 33, slots := 4858, locals := 107 } D [.ref (g 0)] (fun H => KH D H ∧ UR D u P T o H ∧ SR D g u P S pw H) (fun _ => False) (fun r H H1 => ∃ g', r = some (.ref (g' 0)) ∧ SR D g' u P S pw H1 ∧ AP g' u P ∧ (∀ k, UK (nM P) k → H.size ≤ g' k) ∧ ∀ j, SJ P j → g' j = g j) := by
  refine Ct.of (by decide +kernel) (Nat.le_of_ble_eq_true rfl) (fun K Qf hkl X hM hQ => ?_)
  subst hkl
  obtain ⟨hK, hU, hR⟩ := hM
  have hz : (kS K).heap.size ≤ (kS K).heap.size := Nat.le_refl _
  have hP := hC.v
  have l0 := hP.l0
  have l1 := hP.l1
  have l2 := hP.l2
  have l4 := hP.l4
  have l5 := hP.l5
  have l8 := hP.l8
  have l9 := hP.l9
  have l10 := hP.l10
  have l71 := hP.l71
  have l76 := hP.l76
  have l77 := hP.l77
  have hx1 := hC.x1
  have hy1 := hC.y1
  have ht1 := hC.t1
  have he1 := hC.e1
  have hm1 := hC.m1
  have hcc : nC P ≤ 144 := Nat.mul_le_mul l9 l10
  have hul := hU.ltB
  have hsl := hR.ltS
  refine vv_sub (lv' := [(0, .ref (g 0))]) [0] rfl ?_
  refine vv_newA (C := RX3) (T := TX3) (N := 8) (fs := [.null, .null, .null, .null, .null, .null, .int (nI 0), .null]) X in_X3 CL_X3 tyX3 tyX3_ok q2710 q473 q150 (tyX3_d) (Nat.le_of_ble_eq_true rfl) (Nat.le_of_ble_eq_true rfl) dX3_copy_0 (fun a_1 H eq_2 hx ho => ?_)
  have ng_3 : ∀ k, UK (nM P) k → a_1 ≠ g k := fun k hk e => by have h9 := hR.ltA k hk; rw [eq_2] at e; omega
  have ns_4 : ∀ j, SJ P j → a_1 ≠ g j := fun k hk e => by have h9 := hR.ltS k hk; rw [eq_2] at e; omega
  have nu_5 : ∀ j, VK P j → a_1 ≠ u j := fun k hk e => by have h9 := hU.ltB k hk; rw [eq_2] at e; omega
  have ge_6 : (kS K).heap.size ≤ a_1 := by rw [eq_2]; exact hz
  have kn_7 : KN D a_1 := KN.new hK (Nat.le_of_eq eq_2.symm)
  replace hU := hU.ex hx
  replace hR := hR.ex hx
  replace hK := hK.ex hx
  replace hz : (kS K).heap.size ≤ H.size := by have := hx.1; omega
  have hO_8 : oB D H a_1 2 [.null, .null, .null, .null, .null, .null, .int (nI 0), .null] := ho
  clear ho hx
  refine vv_dup X dX3_copy_3 rfl ?_
  refine vv_aload_n X dX3_copy_4 rfl 0 rfl ?_
  refine vv_getf (C := RX3) (T := TX3) (N := 8) (ref := "AcousticCamera$State") X hR.ob in_X3 CL_X3 0 (by decide) q1687 rfl rfl dX3_copy_5 ?_
  refine vv_callI X (mX3_init (kL K) D u P T o a_1 hC ho nu_5) q2711 q1654 q150 q1655 rfl nX3_init ⟨(Nat.le_of_ble_eq_true rfl), (Nat.le_of_ble_eq_true rfl)⟩ dX3_copy_8 rfl (Nat.le_of_ble_eq_true rfl) ⟨hK, hU, hO_8⟩ (fun q z => by rcases z with rfl; exact (Or.inr ge_6)) ⟨(Nat.le_of_ble_eq_true rfl), (Nat.le_of_ble_eq_true rfl)⟩ (fun v_ H hq hz_ hk => ?_)
  obtain ⟨rfl, g2, hga, hR0, hA2, hge2, hsh⟩ := hq
  have gb1 := (hge2 1 (Or.inl (by decide))).resolve_left (by decide)
  obtain ⟨b1, hb1⟩ : ∃ b, b = g2 1 := ⟨_, rfl⟩
  rw [← hb1] at gb1
  have lt_9 : a_1 < b1 := by have h9 := hO_8.lt; omega
  have nu_10 : ∀ j, VK P j → b1 ≠ u j := fun j hj e => by have h9 := hU.ltB j hj; omega
  have ng_11 : ∀ k, UK (nM P) k → b1 ≠ g k := fun k hk e => by have h9 := hR.ltA k hk; omega
  have ns_12 : ∀ j, SJ P j → b1 ≠ g j := fun k hk e => by have h9 := hR.ltS k hk; omega
  have gc1 : (kS K).heap.size ≤ b1 := Nat.le_trans hz gb1
  have gb2 := (hge2 2 (Or.inl (by decide))).resolve_left (by decide)
  obtain ⟨b2, hb2⟩ : ∃ b, b = g2 2 := ⟨_, rfl⟩
  rw [← hb2] at gb2
  have lt_13 : a_1 < b2 := by have h9 := hO_8.lt; omega
  have nu_14 : ∀ j, VK P j → b2 ≠ u j := fun j hj e => by have h9 := hU.ltB j hj; omega
  have ng_15 : ∀ k, UK (nM P) k → b2 ≠ g k := fun k hk e => by have h9 := hR.ltA k hk; omega
  have ns_16 : ∀ j, SJ P j → b2 ≠ g j := fun k hk e => by have h9 := hR.ltS k hk; omega
  have gc2 : (kS K).heap.size ≤ b2 := Nat.le_trans hz gb2
  have gb3 := (hge2 3 (Or.inl (by decide))).resolve_left (by decide)
  obtain ⟨b3, hb3⟩ : ∃ b, b = g2 3 := ⟨_, rfl⟩
  rw [← hb3] at gb3
  have lt_17 : a_1 < b3 := by have h9 := hO_8.lt; omega
  have nu_18 : ∀ j, VK P j → b3 ≠ u j := fun j hj e => by have h9 := hU.ltB j hj; omega
  have ng_19 : ∀ k, UK (nM P) k → b3 ≠ g k := fun k hk e => by have h9 := hR.ltA k hk; omega
  have ns_20 : ∀ j, SJ P j → b3 ≠ g j := fun k hk e => by have h9 := hR.ltS k hk; omega
  have gc3 : (kS K).heap.size ≤ b3 := Nat.le_trans hz gb3
  have gb4 := (hge2 4 (Or.inl (by decide))).resolve_left (by decide)
  obtain ⟨b4, hb4⟩ : ∃ b, b = g2 4 := ⟨_, rfl⟩
  rw [← hb4] at gb4
  have lt_21 : a_1 < b4 := by have h9 := hO_8.lt; omega
  have nu_22 : ∀ j, VK P j → b4 ≠ u j := fun j hj e => by have h9 := hU.ltB j hj; omega
  have ng_23 : ∀ k, UK (nM P) k → b4 ≠ g k := fun k hk e => by have h9 := hR.ltA k hk; omega
  have ns_24 : ∀ j, SJ P j → b4 ≠ g j := fun k hk e => by have h9 := hR.ltS k hk; omega
  have gc4 : (kS K).heap.size ≤ b4 := Nat.le_trans hz gb4
  have gb5 := (hge2 5 (Or.inl (by decide))).resolve_left (by decide)
  obtain ⟨b5, hb5⟩ : ∃ b, b = g2 5 := ⟨_, rfl⟩
  rw [← hb5] at gb5
  have lt_25 : a_1 < b5 := by have h9 := hO_8.lt; omega
  have nu_26 : ∀ j, VK P j → b5 ≠ u j := fun j hj e => by have h9 := hU.ltB j hj; omega
  have ng_27 : ∀ k, UK (nM P) k → b5 ≠ g k := fun k hk e => by have h9 := hR.ltA k hk; omega
  have ns_28 : ∀ j, SJ P j → b5 ≠ g j := fun k hk e => by have h9 := hR.ltS k hk; omega
  have gc5 : (kS K).heap.size ≤ b5 := Nat.le_trans hz gb5
  have gb6 := (hge2 6 (Or.inl (by decide))).resolve_left (by decide)
  obtain ⟨b6, hb6⟩ : ∃ b, b = g2 6 := ⟨_, rfl⟩
  rw [← hb6] at gb6
  have lt_29 : a_1 < b6 := by have h9 := hO_8.lt; omega
  have nu_30 : ∀ j, VK P j → b6 ≠ u j := fun j hj e => by have h9 := hU.ltB j hj; omega
  have ng_31 : ∀ k, UK (nM P) k → b6 ≠ g k := fun k hk e => by have h9 := hR.ltA k hk; omega
  have ns_32 : ∀ j, SJ P j → b6 ≠ g j := fun k hk e => by have h9 := hR.ltS k hk; omega
  have gc6 : (kS K).heap.size ≤ b6 := Nat.le_trans hz gb6
  have gb7 := (hge2 7 (Or.inl (by decide))).resolve_left (by decide)
  obtain ⟨b7, hb7⟩ : ∃ b, b = g2 7 := ⟨_, rfl⟩
  rw [← hb7] at gb7
  have lt_33 : a_1 < b7 := by have h9 := hO_8.lt; omega
  have nu_34 : ∀ j, VK P j → b7 ≠ u j := fun j hj e => by have h9 := hU.ltB j hj; omega
  have ng_35 : ∀ k, UK (nM P) k → b7 ≠ g k := fun k hk e => by have h9 := hR.ltA k hk; omega
  have ns_36 : ∀ j, SJ P j → b7 ≠ g j := fun k hk e => by have h9 := hR.ltS k hk; omega
  have gc7 : (kS K).heap.size ≤ b7 := Nat.le_trans hz gb7
  replace hU := hU.kept (fun q hl hq => hk q hl (fun z => by obtain ⟨j_, h_, e_⟩ := hq; rcases z with z; exact nu_5 j_ h_ (z.symm.trans e_)))
  replace hR := hR.kept (fun q hl hq => hk q hl (fun z => by obtain ⟨j_, h_, e_⟩ := hq; rcases z with z; exact ng_3 j_ h_ (z.symm.trans e_))) (fun q hl hq => hk q hl (fun z => by obtain ⟨j_, h_, e_⟩ := hq; rcases z with z; exact ns_4 j_ h_ (z.symm.trans e_)))
  replace hK := hK.to hk (fun q z => by rcases z with rfl; exact kn_7)
  replace hz := Nat.le_trans hz hz_
  clear hO_8 hk hz_
  have x0 : oB D H a_1 2 [.ref (u 0), .ref b1, .ref b3, .ref b5, .ref b6, .ref b7, .int (nI 0), .null] := by rw [← hga, hb1, hb3, hb5, hb6, hb7]; exact hR0.ob
  have x1 : BS D H b1 b2 0 := by rw [hb1, hb2]; have e := S0_mu P T o; rw [← e.resolve_right (by omega)]; exact hR0.mu
  have x3 : BS D H b3 b4 (onm P (S0 P T o)) := by rw [hb3, hb4]; exact hR0.on
  have x5 : qA D H b5 8 (nS P) (fun k => some (g2 (30 + k))) := by rw [hb5]; exact hR0.sa
  have x7 : qA D H b7 5 (nM P) (fun m => some (g2 (10 + m))) := by rw [hb7]; exact hR0.ra
  clear hR0
  have n13 : b1 ≠ b3 := fun e => absurd (hA2.1 1 3 (Or.inl (by decide)) (Or.inl (by decide)) (by rw [← hb1, ← hb3]; exact e)) (by decide)
  have n24 : b2 ≠ b4 := fun e => absurd (hA2.1 2 4 (Or.inl (by decide)) (Or.inl (by decide)) (by rw [← hb2, ← hb4]; exact e)) (by decide)
  refine vv_astore_n (lv' := [(1, .ref a_1), (0, .ref (g 0))]) X dX3_copy_11 rfl (by decide) rfl ?_
  refine vv_aload_n X dX3_copy_12 rfl 0 rfl ?_
  refine vv_getf (C := RX3) (T := TX3) (N := 8) (ref := "AcousticCamera$State") X x0 in_X3 CL_X3 1 (by decide) q1689 rfl rfl dX3_copy_13 ?_
  refine vv_aload_n X dX3_copy_16 rfl 1 rfl ?_
  refine vv_getf (C := RX3) (T := TX3) (N := 8) (ref := "AcousticCamera$State") X hR.ob in_X3 CL_X3 1 (by decide) q1689 rfl rfl dX3_copy_17 ?_
  refine vv_callV X (mJ21_or (kL K) D b1 b2 0 (g 1) (g 2) (mum P S) (ng_11 _ (Or.inl (by decide))) (ng_15 _ (Or.inl (by decide)))) q2712 q2713 q2714 q164 q2715 nJ21_or ⟨(Nat.le_of_ble_eq_true rfl), (Nat.le_of_ble_eq_true rfl)⟩ dX3_copy_20 rfl (Nat.le_of_ble_eq_true rfl) (recv X x1.1 CL_J21) ⟨hK, x1, hR.mu⟩ (fun q z => by rcases z with rfl | rfl; exact (Or.inr gc1); exact (Or.inr gc2)) ⟨(Nat.le_of_ble_eq_true rfl), (Nat.le_of_ble_eq_true rfl)⟩ (fun v_ H hq hz_ hk => ?_)
  obtain ⟨rfl, x1'⟩ := hq
  replace x0 := x0.kept (hk _ x0.lt (fun z => z.elim (Nat.ne_of_lt lt_9) ((Nat.ne_of_lt lt_13))))
  replace x3 := x3.kept (hk _ x3.1.lt (fun z => z.elim (Ne.symm n13) ((X.oa x3.1 x1.2 CL_J21 rfl)))) (hk _ x3.2.lt (fun z => z.elim (X.ao x3.2 x1.1 CL_J21 rfl) ((Ne.symm n24))))
  replace x5 := x5.kept (hk _ x5.lt (fun z => z.elim (X.ao x5 x1.1 CL_J21 rfl) ((X.aa x5 x1.2 rfl rfl (by decide)))))
  replace x7 := x7.kept (hk _ x7.lt (fun z => z.elim (X.ao x7 x1.1 CL_J21 rfl) ((X.aa x7 x1.2 rfl rfl (by decide)))))
  replace hU := hU.kept (fun q hl hq => hk q hl (fun z => by obtain ⟨j_, h_, e_⟩ := hq; rcases z with z | z; exact nu_10 j_ h_ (z.symm.trans e_); exact nu_14 j_ h_ (z.symm.trans e_)))
  replace hR := hR.kept (fun q hl hq => hk q hl (fun z => by obtain ⟨j_, h_, e_⟩ := hq; rcases z with z | z; exact ng_11 j_ h_ (z.symm.trans e_); exact ng_15 j_ h_ (z.symm.trans e_))) (fun q hl hq => hk q hl (fun z => by obtain ⟨j_, h_, e_⟩ := hq; rcases z with z | z; exact ns_12 j_ h_ (z.symm.trans e_); exact ns_16 j_ h_ (z.symm.trans e_)))
  replace hK := hK.to hk (fun q z => by rcases z with rfl | rfl; exact (X.ko hK x1.1 CL_J21 (by decide) (by decide)); exact (X.ka hK x1.2 rfl (by decide +kernel) (by decide +kernel) (by decide +kernel)))
  replace hz := Nat.le_trans hz hz_
  clear x1
  have x1 := x1'
  clear x1'
  clear hk hz_
  refine vv_aload_n X dX3_copy_23 rfl 0 rfl ?_
  refine vv_getf (C := RX3) (T := TX3) (N := 8) (ref := "AcousticCamera$State") X x0 in_X3 CL_X3 2 (by decide) q1691 rfl rfl dX3_copy_24 ?_
  refine vv_callV X (mJ21_clear (kL K) D b3 b4 (onm P (S0 P T o))  ) q2717 q2718 q2719 q164 q2720 nJ21_clear ⟨(Nat.le_of_ble_eq_true rfl), (Nat.le_of_ble_eq_true rfl)⟩ dX3_copy_27 rfl (Nat.le_of_ble_eq_true rfl) (recv X x3.1 CL_J21) ⟨hK, x3⟩ (fun q z => by rcases z with rfl | rfl; exact (Or.inr gc3); exact (Or.inr gc4)) ⟨(Nat.le_of_ble_eq_true rfl), (Nat.le_of_ble_eq_true rfl)⟩ (fun v_ H hq hz_ hk => ?_)
  obtain ⟨rfl, x3'⟩ := hq
  replace x0 := x0.kept (hk _ x0.lt (fun z => z.elim (Nat.ne_of_lt lt_17) ((Nat.ne_of_lt lt_21))))
  replace x5 := x5.kept (hk _ x5.lt (fun z => z.elim (X.ao x5 x3.1 CL_J21 rfl) ((X.aa x5 x3.2 rfl rfl (by decide)))))
  replace x7 := x7.kept (hk _ x7.lt (fun z => z.elim (X.ao x7 x3.1 CL_J21 rfl) ((X.aa x7 x3.2 rfl rfl (by decide)))))
  replace x1 := x1.kept (hk _ x1.1.lt (fun z => z.elim n13 ((X.oa x1.1 x3.2 CL_J21 rfl)))) (hk _ x1.2.lt (fun z => z.elim (X.ao x1.2 x3.1 CL_J21 rfl) (n24)))
  replace hU := hU.kept (fun q hl hq => hk q hl (fun z => by obtain ⟨j_, h_, e_⟩ := hq; rcases z with z | z; exact nu_18 j_ h_ (z.symm.trans e_); exact nu_22 j_ h_ (z.symm.trans e_)))
  replace hR := hR.kept (fun q hl hq => hk q hl (fun z => by obtain ⟨j_, h_, e_⟩ := hq; rcases z with z | z; exact ng_19 j_ h_ (z.symm.trans e_); exact ng_23 j_ h_ (z.symm.trans e_))) (fun q hl hq => hk q hl (fun z => by obtain ⟨j_, h_, e_⟩ := hq; rcases z with z | z; exact ns_20 j_ h_ (z.symm.trans e_); exact ns_24 j_ h_ (z.symm.trans e_)))
  replace hK := hK.to hk (fun q z => by rcases z with rfl | rfl; exact (X.ko hK x3.1 CL_J21 (by decide) (by decide)); exact (X.ka hK x3.2 rfl (by decide +kernel) (by decide +kernel) (by decide +kernel)))
  replace hz := Nat.le_trans hz hz_
  clear x3
  have x3 := x3'
  clear x3'
  clear hk hz_
  refine vv_aload_n X dX3_copy_30 rfl 0 rfl ?_
  refine vv_getf (C := RX3) (T := TX3) (N := 8) (ref := "AcousticCamera$State") X x0 in_X3 CL_X3 2 (by decide) q1691 rfl rfl dX3_copy_31 ?_
  refine vv_aload_n X dX3_copy_34 rfl 1 rfl ?_
  refine vv_getf (C := RX3) (T := TX3) (N := 8) (ref := "AcousticCamera$State") X hR.ob in_X3 CL_X3 2 (by decide) q1691 rfl rfl dX3_copy_35 ?_
  refine vv_callV X (mJ21_or (kL K) D b3 b4 0 (g 3) (g 4) (onm P S) (ng_19 _ (Or.inl (by decide))) (ng_23 _ (Or.inl (by decide)))) q2712 q2713 q2714 q164 q2715 nJ21_or ⟨(Nat.le_of_ble_eq_true rfl), (Nat.le_of_ble_eq_true rfl)⟩ dX3_copy_38 rfl (Nat.le_of_ble_eq_true rfl) (recv X x3.1 CL_J21) ⟨hK, x3, hR.on⟩ (fun q z => by rcases z with rfl | rfl; exact (Or.inr gc3); exact (Or.inr gc4)) ⟨(Nat.le_of_ble_eq_true rfl), (Nat.le_of_ble_eq_true rfl)⟩ (fun v_ H hq hz_ hk => ?_)
  obtain ⟨rfl, x3'⟩ := hq
  replace x0 := x0.kept (hk _ x0.lt (fun z => z.elim (Nat.ne_of_lt lt_17) ((Nat.ne_of_lt lt_21))))
  replace x5 := x5.kept (hk _ x5.lt (fun z => z.elim (X.ao x5 x3.1 CL_J21 rfl) ((X.aa x5 x3.2 rfl rfl (by decide)))))
  replace x7 := x7.kept (hk _ x7.lt (fun z => z.elim (X.ao x7 x3.1 CL_J21 rfl) ((X.aa x7 x3.2 rfl rfl (by decide)))))
  replace x1 := x1.kept (hk _ x1.1.lt (fun z => z.elim n13 ((X.oa x1.1 x3.2 CL_J21 rfl)))) (hk _ x1.2.lt (fun z => z.elim (X.ao x1.2 x3.1 CL_J21 rfl) (n24)))
  replace hU := hU.kept (fun q hl hq => hk q hl (fun z => by obtain ⟨j_, h_, e_⟩ := hq; rcases z with z | z; exact nu_18 j_ h_ (z.symm.trans e_); exact nu_22 j_ h_ (z.symm.trans e_)))
  replace hR := hR.kept (fun q hl hq => hk q hl (fun z => by obtain ⟨j_, h_, e_⟩ := hq; rcases z with z | z; exact ng_19 j_ h_ (z.symm.trans e_); exact ng_23 j_ h_ (z.symm.trans e_))) (fun q hl hq => hk q hl (fun z => by obtain ⟨j_, h_, e_⟩ := hq; rcases z with z | z; exact ns_20 j_ h_ (z.symm.trans e_); exact ns_24 j_ h_ (z.symm.trans e_)))
  replace hK := hK.to hk (fun q z => by rcases z with rfl | rfl; exact (X.ko hK x3.1 CL_J21 (by decide) (by decide)); exact (X.ka hK x3.2 rfl (by decide +kernel) (by decide +kernel) (by decide +kernel)))
  replace hz := Nat.le_trans hz hz_
  clear x3
  have x3 := x3'
  clear x3'
  clear hk hz_
  refine vv_aload_n X dX3_copy_41 rfl 1 rfl ?_
  refine vv_getf (C := RX3) (T := TX3) (N := 8) (ref := "AcousticCamera$State") X hR.ob in_X3 CL_X3 3 (by decide) q1693 rfl rfl dX3_copy_42 ?_
  refine vv_iconst (v := nI 0) X dX3_copy_45 (by decide) ?_
  refine vv_aload_n X dX3_copy_46 rfl 0 rfl ?_
  refine vv_getf (C := RX3) (T := TX3) (N := 8) (ref := "AcousticCamera$State") X x0 in_X3 CL_X3 3 (by decide) q1693 rfl rfl dX3_copy_47 ?_
  refine vv_iconst (v := nI 0) X dX3_copy_50 (by decide) ?_
  refine vv_aload_n X dX3_copy_51 rfl 1 rfl ?_
  refine vv_getf (C := RX3) (T := TX3) (N := 8) (ref := "AcousticCamera$State") X hR.ob in_X3 CL_X3 3 (by decide) q1693 rfl rfl dX3_copy_52 ?_
  refine vv_alen (ty := 8) X hR.sa rfl dX3_copy_55 ?_
  refine vv_copyq (n := nS P) (sp := 0) (dp := 0) (ty := 8) (C := "AcousticCamera$Source") (Cv := "AcousticCamera$Source") X hR.sa x5 rfl q2721 q556 q555 q159 (by omega) (by omega) (by omega) (by omega) (fun i hi y hy => by obtain rfl := Option.some.inj hy; exact recv X (hR.src (0 + i) (by omega)).1 CL_X8) (Or.inl rfl) (Nat.le_of_ble_eq_true rfl) (Nat.le_of_ble_eq_true rfl) (Or.inr gc5) rfl rfl rfl dX3_copy_56 (fun H hc ho => ?_)
  replace hU := hU.kept (fun q hl hq => hc.2 q (fun e => by obtain ⟨j_, h_, e_⟩ := hq; exact nu_26 j_ h_ (e.symm.trans e_)))
  replace hR := hR.kept (fun q hl hq => hc.2 q (fun e => by obtain ⟨k_, hk_, e_⟩ := hq; exact ng_27 k_ hk_ (e.symm.trans e_))) (fun q hl hq => hc.2 q (fun e => by obtain ⟨j_, h_, e_⟩ := hq; exact ns_28 j_ h_ (e.symm.trans e_)))
  have k_0 := x0.kept (hc.2 _ (Nat.ne_of_lt lt_25))
  have k_1 := x7.kept (hc.2 _ (X.aa x7 x5 rfl rfl (by decide)))
  have k_2 := x1.kept (hc.2 _ (X.oa x1.1 x5 CL_J21 rfl)) (hc.2 _ (X.aa x1.2 x5 rfl rfl (by decide)))
  have k_3 := x3.kept (hc.2 _ (X.oa x3.1 x5 CL_J21 rfl)) (hc.2 _ (X.aa x3.2 x5 rfl rfl (by decide)))
  replace hK := hK.ch hc (X.ka hK x5 rfl (by decide +kernel) (by decide +kernel) (by decide +kernel))
  clear x0
  have x0 := k_0
  clear k_0
  clear x7
  have x7 := k_1
  clear k_1
  clear x1
  have x1 := k_2
  clear k_2
  clear x3
  have x3 := k_3
  clear k_3
  replace hz := Nat.le_trans hz (Nat.le_of_eq hc.1.symm)
  clear x5
  have x5 : qA D H b5 8 (nS P) (fun k => some (g (30 + k))) := qA_cg ho (fun j hj => by unfold va_cpy; rw [if_pos ⟨Nat.zero_le _, by omega⟩, Nat.zero_add, Nat.sub_zero])
  clear ho hc
  refine vv_aload_n X dX3_copy_59 rfl 0 rfl ?_
  refine vv_aload_n X dX3_copy_60 rfl 1 rfl ?_
  refine vv_getf (C := RX3) (T := TX3) (N := 8) (ref := "AcousticCamera$State") X hR.ob in_X3 CL_X3 4 (by decide) q1695 rfl rfl dX3_copy_61 ?_
  refine vv_cloneiA (M := 12) X hR.wt q2722 (by omega) (Nat.le_of_ble_eq_true rfl) (Nat.le_of_ble_eq_true rfl) (Nat.le_of_ble_eq_true rfl) (Nat.le_of_ble_eq_true rfl) dX3_copy_64 (fun a_37 H eq_38 hx ho => ?_)
  have lt_39 : a_1 < a_37 := by have h9 := x0.lt; omega
  have lt_40 : b5 < a_37 := by have h9 := x5.lt; omega
  have lt_41 : b7 < a_37 := by have h9 := x7.lt; omega
  have lt_42 : b1 < a_37 := by have h9 := x1.1.lt; omega
  have lt_43 : b2 < a_37 := by have h9 := x1.2.lt; omega
  have lt_44 : b3 < a_37 := by have h9 := x3.1.lt; omega
  have lt_45 : b4 < a_37 := by have h9 := x3.2.lt; omega
  have ng_46 : ∀ k, UK (nM P) k → a_37 ≠ g k := fun k hk e => by have h9 := hR.ltA k hk; rw [eq_38] at e; omega
  have ns_47 : ∀ j, SJ P j → a_37 ≠ g j := fun k hk e => by have h9 := hR.ltS k hk; rw [eq_38] at e; omega
  have nu_48 : ∀ j, VK P j → a_37 ≠ u j := fun k hk e => by have h9 := hU.ltB k hk; rw [eq_38] at e; omega
  have ne_49 : a_1 ≠ a_37 := Nat.ne_of_lt (eq_38.symm ▸ x0.lt)
  have ne_50 : b5 ≠ a_37 := Nat.ne_of_lt (eq_38.symm ▸ x5.lt)
  have ne_51 : b7 ≠ a_37 := Nat.ne_of_lt (eq_38.symm ▸ x7.lt)
  have ne_52 : b1 ≠ a_37 := Nat.ne_of_lt (eq_38.symm ▸ x1.1.lt)
  have ne_53 : b2 ≠ a_37 := Nat.ne_of_lt (eq_38.symm ▸ x1.2.lt)
  have ne_54 : b3 ≠ a_37 := Nat.ne_of_lt (eq_38.symm ▸ x3.1.lt)
  have ne_55 : b4 ≠ a_37 := Nat.ne_of_lt (eq_38.symm ▸ x3.2.lt)
  have ge_56 : (kS K).heap.size ≤ a_37 := by rw [eq_38]; exact hz
  have kn_57 : KN D a_37 := KN.new hK (Nat.le_of_eq eq_38.symm)
  replace hU := hU.ex hx
  replace hR := hR.ex hx
  replace x0 := x0.kept (hx.2 _ x0.lt)
  replace x5 := x5.kept (hx.2 _ x5.lt)
  replace x7 := x7.kept (hx.2 _ x7.lt)
  replace x1 := x1.kept (hx.2 _ x1.1.lt) (hx.2 _ x1.2.lt)
  replace x3 := x3.kept (hx.2 _ x3.1.lt) (hx.2 _ x3.2.lt)
  replace hK := hK.ex hx
  replace hz : (kS K).heap.size ≤ H.size := by have := hx.1; omega
  have hR_58 : iA D H a_37 (nM P) (fun t_ => nI (wgt S t_)) := ho
  clear ho hx
  refine vv_castA X hR_58 rfl (by decide +kernel) q2726 dX3_copy_67 ?_
  refine vv_putf (C := RX3) (T := TX3) (N := 8) (ref := "AcousticCamera$State") X x0 in_X3 CL_X3 tyX3 tyX3_ok nmX3 4 (by decide) q1695 rfl rfl rfl rfl (Nat.le_of_ble_eq_true rfl) (Or.inr ge_6) dX3_copy_70 (fun H hc ho => ?_)
  replace hU := hU.kept (fun q hl hq => hc.2 q (fun e => by obtain ⟨j_, h_, e_⟩ := hq; exact nu_5 j_ h_ (e.symm.trans e_)))
  replace hR := hR.kept (fun q hl hq => hc.2 q (fun e => by obtain ⟨k_, hk_, e_⟩ := hq; exact ng_3 k_ hk_ (e.symm.trans e_))) (fun q hl hq => hc.2 q (fun e => by obtain ⟨j_, h_, e_⟩ := hq; exact ns_4 j_ h_ (e.symm.trans e_)))
  have k_0 := x5.kept (hc.2 _ (Ne.symm (Nat.ne_of_lt lt_25)))
  have k_1 := x7.kept (hc.2 _ (Ne.symm (Nat.ne_of_lt lt_33)))
  have k_2 := x1.kept (hc.2 _ (Ne.symm (Nat.ne_of_lt lt_9))) (hc.2 _ (Ne.symm (Nat.ne_of_lt lt_13)))
  have k_3 := x3.kept (hc.2 _ (Ne.symm (Nat.ne_of_lt lt_17))) (hc.2 _ (Ne.symm (Nat.ne_of_lt lt_21)))
  have k_4 := hR_58.kept (hc.2 _ (Ne.symm ne_49))
  replace hK := hK.ch hc kn_7
  clear x5
  have x5 := k_0
  clear k_0
  clear x7
  have x7 := k_1
  clear k_1
  clear x1
  have x1 := k_2
  clear k_2
  clear x3
  have x3 := k_3
  clear k_3
  clear hR_58
  have hR_58 := k_4
  clear k_4
  replace hz := Nat.le_trans hz (Nat.le_of_eq hc.1.symm)
  clear x0
  have x0 : oB D H a_1 2 [.ref (u 0), .ref b1, .ref b3, .ref b5, .ref a_37, .ref b7, .int (nI 0), .null] := ho
  clear hc ho
  refine vv_iconst (v := nI 0) X dX3_copy_73 (by decide) ?_
  refine vv_istore_n (lv' := [(2, .int (nI 0)), (1, .ref a_1), (0, .ref (g 0))]) X dX3_copy_74 rfl (by decide) rfl ?_
  have hx_59 : ∀ (H : Heap) (r : Nat → Nat) (hK : KH D H) (hU : UR D u P T o H) (hz : (kS K).heap.size ≤ H.size) (x0 : oB D H a_1 2 [.ref (u 0), .ref b1, .ref b3, .ref b5, .ref a_37, .ref b7, .int (nI 0), .null]) (x5 : qA D H b5 8 (nS P) (fun k => some (g (30 + k)))) (x7 : qA D H b7 5 (nM P) (fun m => some (if m < (nM P) then r m else g2 (10 + m)))) (x1 : BS D H b1 b2 (0 ||| (mum P S))) (x3 : BS D H b3 b4 (0 ||| (onm P S))) (hR_58 : iA D H a_37 (nM P) (fun t_ => nI (wgt S t_))) (hR : SR D g u P S pw H) (hrow : ∀ m, m < (nM P) → iA D H (r m) (nT P) (fun t => S (55 + 200 * m + t))) (hrc : ∀ m, m < (nM P) → a_37 < r m) (hrm : ∀ m m', m < m' → m' < (nM P) → r m < r m'), V K 3 (fun _ => False) H (21 + (nM P)) (2458 + 200 * (nM P)) Qf 108 [(0, .ref (g 0)), (1, .ref a_1), (2, .int (nI (nM P)))] [] := by
    intro H r hK hU hz x0 x5 x7 x1 x3 hR_58 hR hrow hrc hrm
    refine vv_widen (k := 33) (n := 4858) (by omega) (by omega) ?_
    refine vv_aload_n X dX3_copy_108 rfl 1 rfl ?_
    refine vv_aload_n X dX3_copy_109 rfl 0 rfl ?_
    refine vv_getf (C := RX3) (T := TX3) (N := 8) (ref := "AcousticCamera$State") X hR.ob in_X3 CL_X3 6 (by decide) q1699 rfl rfl dX3_copy_110 ?_
    refine vv_putf (C := RX3) (T := TX3) (N := 8) (ref := "AcousticCamera$State") X x0 in_X3 CL_X3 tyX3 tyX3_ok nmX3 6 (by decide) q1699 rfl rfl rfl rfl (Nat.le_of_ble_eq_true rfl) (Or.inr ge_6) dX3_copy_113 (fun H hc ho => ?_)
    replace hU := hU.kept (fun q hl hq => hc.2 q (fun e => by obtain ⟨j_, h_, e_⟩ := hq; exact nu_5 j_ h_ (e.symm.trans e_)))
    replace hR := hR.kept (fun q hl hq => hc.2 q (fun e => by obtain ⟨k_, hk_, e_⟩ := hq; exact ng_3 k_ hk_ (e.symm.trans e_))) (fun q hl hq => hc.2 q (fun e => by obtain ⟨j_, h_, e_⟩ := hq; exact ns_4 j_ h_ (e.symm.trans e_)))
    have k_0 := x5.kept (hc.2 _ (Ne.symm (Nat.ne_of_lt lt_25)))
    have k_1 := x7.kept (hc.2 _ (Ne.symm (Nat.ne_of_lt lt_33)))
    have k_2 := x1.kept (hc.2 _ (Ne.symm (Nat.ne_of_lt lt_9))) (hc.2 _ (Ne.symm (Nat.ne_of_lt lt_13)))
    have k_3 := x3.kept (hc.2 _ (Ne.symm (Nat.ne_of_lt lt_17))) (hc.2 _ (Ne.symm (Nat.ne_of_lt lt_21)))
    have k_4 := hR_58.kept (hc.2 _ (Ne.symm ne_49))
    have k_5 := fun m hm => (hrow m hm).kept (hc.2 _ (X.ao (hrow m hm) x0 CL_X3 rfl))
    replace hK := hK.ch hc kn_7
    clear x5
    have x5 := k_0
    clear k_0
    clear x7
    have x7 := k_1
    clear k_1
    clear x1
    have x1 := k_2
    clear k_2
    clear x3
    have x3 := k_3
    clear k_3
    clear hR_58
    have hR_58 := k_4
    clear k_4
    clear hrow
    have hrow := k_5
    clear k_5
    replace hz := Nat.le_trans hz (Nat.le_of_eq hc.1.symm)
    clear x0
    have x0 : oB D H a_1 2 [.ref (u 0), .ref b1, .ref b3, .ref b5, .ref a_37, .ref b7, .int (S 0), .null] := ho
    clear hc ho
    refine vv_aload_n X dX3_copy_116 rfl 1 rfl ?_
    refine vv_aload_n X dX3_copy_117 rfl 0 rfl ?_
    refine vv_getf (C := RX3) (T := TX3) (N := 8) (ref := "AcousticCamera$State") X hR.ob in_X3 CL_X3 7 (by decide) q1701 rfl rfl dX3_copy_118 ?_
    refine vv_putf (C := RX3) (T := TX3) (N := 8) (ref := "AcousticCamera$State") X x0 in_X3 CL_X3 tyX3 tyX3_ok nmX3 7 (by decide) q1701 rfl rfl (by cases pw <;> rfl) (by cases pw <;> rfl) (Nat.le_of_ble_eq_true rfl) (Or.inr ge_6) dX3_copy_121 (fun H hc ho => ?_)
    replace hU := hU.kept (fun q hl hq => hc.2 q (fun e => by obtain ⟨j_, h_, e_⟩ := hq; exact nu_5 j_ h_ (e.symm.trans e_)))
    replace hR := hR.kept (fun q hl hq => hc.2 q (fun e => by obtain ⟨k_, hk_, e_⟩ := hq; exact ng_3 k_ hk_ (e.symm.trans e_))) (fun q hl hq => hc.2 q (fun e => by obtain ⟨j_, h_, e_⟩ := hq; exact ns_4 j_ h_ (e.symm.trans e_)))
    have k_0 := x5.kept (hc.2 _ (Ne.symm (Nat.ne_of_lt lt_25)))
    have k_1 := x7.kept (hc.2 _ (Ne.symm (Nat.ne_of_lt lt_33)))
    have k_2 := x1.kept (hc.2 _ (Ne.symm (Nat.ne_of_lt lt_9))) (hc.2 _ (Ne.symm (Nat.ne_of_lt lt_13)))
    have k_3 := x3.kept (hc.2 _ (Ne.symm (Nat.ne_of_lt lt_17))) (hc.2 _ (Ne.symm (Nat.ne_of_lt lt_21)))
    have k_4 := hR_58.kept (hc.2 _ (Ne.symm ne_49))
    have k_5 := fun m hm => (hrow m hm).kept (hc.2 _ (X.ao (hrow m hm) x0 CL_X3 rfl))
    replace hK := hK.ch hc kn_7
    clear x5
    have x5 := k_0
    clear k_0
    clear x7
    have x7 := k_1
    clear k_1
    clear x1
    have x1 := k_2
    clear k_2
    clear x3
    have x3 := k_3
    clear k_3
    clear hR_58
    have hR_58 := k_4
    clear k_4
    clear hrow
    have hrow := k_5
    clear k_5
    replace hz := Nat.le_trans hz (Nat.le_of_eq hc.1.symm)
    clear x0
    have x0 : oB D H a_1 2 [.ref (u 0), .ref b1, .ref b3, .ref b5, .ref a_37, .ref b7, .int (S 0), va_rf pw] := ho
    clear hc ho
    refine vv_aload_n X dX3_copy_124 rfl 1 rfl ?_
    have hgx : ∀ k, k < 8 → k ≠ 6 → (kS K).heap.size ≤ g2 k ∧ g2 k < a_37 := fun k hk h6 => by
      rcases (show k = 0 ∨ k = 1 ∨ k = 2 ∨ k = 3 ∨ k = 4 ∨ k = 5 ∨ k = 7 by omega) with e | e | e | e | e | e | e
      · subst e; rw [hga]; exact ⟨ge_6, lt_39⟩
      · subst e; rw [← hb1]; exact ⟨gc1, lt_42⟩
      · subst e; rw [← hb2]; exact ⟨gc2, lt_43⟩
      · subst e; rw [← hb3]; exact ⟨gc3, lt_44⟩
      · subst e; rw [← hb4]; exact ⟨gc4, lt_45⟩
      · subst e; rw [← hb5]; exact ⟨gc5, lt_40⟩
      · subst e; rw [← hb7]; exact ⟨gc7, lt_41⟩
    have hcz : (kS K).heap.size ≤ a_37 := ge_56
    have hgz : ∀ k, UK (nM P) k → (kS K).heap.size ≤ g3 a_37 r g2 g k := fun k hk => by
      rcases g3_c l4 hk with ⟨q1, q2⟩ | q | ⟨m, hm, q⟩
      · rw [g3_lo q1 q2]; exact (hgx k q1 q2).1
      · subst q; rw [g3_6]; exact hcz
      · subst q; rw [g3_r (by omega)]; have := hrc m hm; omega
    have hap : AP (g3 a_37 r g2 g) u P := g3_ap l4 hA2 (fun k h1 h2 => (hgx k h1 h2).2) hrc hrm nu_48 (fun m hm j hj => by have h1 := hul j hj; have h2 := hrc m hm; omega) (fun k j hk hj => by have h1 := hsl j hj; have h2 := hgz k hk; omega)
    have hsr : SR D (g3 a_37 r g2 g) u P S pw H := by
      refine ⟨?_, ?_, ?_, ?_, ?_, ?_, fun m hm => by rw [g3_r (by omega)]; exact hrow m hm, fun k hk => by have h9 := hR.src k hk; unfold SK at h9 ⊢; rw [g3_hi (by omega), g3_hi (by omega)]; exact h9⟩
      · show oB D H (g2 0) 2 [.ref (u 0), .ref (g2 1), .ref (g2 3), .ref (g2 5), .ref a_37, .ref (g2 7), .int (S 0), va_rf pw]
        rw [hga, ← hb1, ← hb3, ← hb5, ← hb7]
        exact x0
      · show BS D H (g2 1) (g2 2) (mum P S)
        rw [← hb1, ← hb2]
        rw [Nat.zero_or] at x1
        exact x1
      · show BS D H (g2 3) (g2 4) (onm P S)
        rw [← hb3, ← hb4]
        rw [Nat.zero_or] at x3
        exact x3
      · show qA D H (g2 5) 8 (nS P) _
        rw [← hb5]
        exact qA_cg x5 (fun k hk => by rw [g3_hi (by omega)])
      · exact hR_58
      · show qA D H (g2 7) 5 (nM P) _
        rw [← hb7]
        exact qA_cg x7 (fun m hm => by rw [if_pos hm, g3_r (by omega)])
    exact vv_aret X (Or.inl ⟨_, rfl⟩) (Or.inr ⟨_, rfl⟩) hQ dX3_copy_125 (Nat.le_of_ble_eq_true rfl) (Nat.le_of_ble_eq_true rfl) (⟨g3 a_37 r g2 g, by rw [show g3 a_37 r g2 g 0 = a_1 from hga], hsr, hap, hgz, fun j hj => g3_hi (by rcases hj with ⟨z, -⟩ | ⟨z, -⟩ <;> omega)⟩)
  have hl_60 : ∀ (n_i i : Nat) (H : Heap) (r : Nat → Nat), i + n_i = nM P → (KH D H) → (UR D u P T o H) → ((kS K).heap.size ≤ H.size) → (oB D H a_1 2 [.ref (u 0), .ref b1, .ref b3, .ref b5, .ref a_37, .ref b7, .int (nI 0), .null]) → (qA D H b5 8 (nS P) (fun k => some (g (30 + k)))) → (qA D H b7 5 (nM P) (fun m => some (if m < i then r m else g2 (10 + m)))) → (BS D H b1 b2 (0 ||| (mum P S))) → (BS D H b3 b4 (0 ||| (onm P S))) → (iA D H a_37 (nM P) (fun t_ => nI (wgt S t_))) → (SR D g u P S pw H) → (∀ m, m < i → iA D H (r m) (nT P) (fun t => S (55 + 200 * m + t))) → (∀ m, m < i → a_37 < r m) → (∀ m m', m < m' → m' < i → r m < r m') → V K 3 (fun _ => False) H (21 + i) (2458 + 200 * i) Qf 75 [(0, .ref (g 0)), (1, .ref a_1), (2, .int (nI i))] [] := by
    intro n_i
    induction n_i with
    | zero =>
      intro i H r hi hK hU hz x0 x5 x7 x1 x3 hR_58 hR hrow hrc hrm
      obtain rfl : i = nM P := by omega
      refine vv_iload_n X dX3_copy_75 rfl 2 rfl ?_
      refine vv_aload_n X dX3_copy_76 rfl 0 rfl ?_
      refine vv_getf (C := RX3) (T := TX3) (N := 8) (ref := "AcousticCamera$State") X hR.ob in_X3 CL_X3 5 (by decide) q1697 rfl rfl dX3_copy_77 ?_
      refine vv_alen (ty := 5) X hR.ra rfl dX3_copy_80 ?_
      refine vn_ge (tgt := 108) X (by omega) (by omega) dX3_copy_81 (by decide) (fun c_81 => ?_) (fun c_81 => ?_)
      · exact hx_59 H r hK hU hz x0 x5 x7 x1 x3 hR_58 hR hrow hrc hrm
      · exact absurd c_81 (by omega)
    | succ n_i ihi =>
      intro i H r hi hK hU hz x0 x5 x7 x1 x3 hR_58 hR hrow hrc hrm
      refine vv_iload_n X dX3_copy_75 rfl 2 rfl ?_
      refine vv_aload_n X dX3_copy_76 rfl 0 rfl ?_
      refine vv_getf (C := RX3) (T := TX3) (N := 8) (ref := "AcousticCamera$State") X hR.ob in_X3 CL_X3 5 (by decide) q1697 rfl rfl dX3_copy_77 ?_
      refine vv_alen (ty := 5) X hR.ra rfl dX3_copy_80 ?_
      refine vn_ge (tgt := 108) X (by omega) (by omega) dX3_copy_81 (by decide) (fun c_81 => ?_) (fun c_81 => ?_)
      · exact absurd hi (by omega)
      · refine vv_aload_n X dX3_copy_84 rfl 1 rfl ?_
        refine vv_getf (C := RX3) (T := TX3) (N := 8) (ref := "AcousticCamera$State") X x0 in_X3 CL_X3 5 (by decide) q1697 rfl rfl dX3_copy_85 ?_
        refine vv_iload_n X dX3_copy_88 rfl 2 rfl ?_
        refine vv_aload_n X dX3_copy_89 rfl 0 rfl ?_
        refine vv_getf (C := RX3) (T := TX3) (N := 8) (ref := "AcousticCamera$State") X hR.ob in_X3 CL_X3 5 (by decide) q1697 rfl rfl dX3_copy_90 ?_
        refine vv_iload_n X dX3_copy_93 rfl 2 rfl ?_
        refine vv_aald (ty := 5) X hR.ra rfl rfl (i) (by omega) (by omega) rfl dX3_copy_94 (v := .ref (g (10 + i))) rfl ?_
        refine vv_cloneiA (M := 200) X (hR.row i (by omega)) q2722 (by omega) (Nat.le_of_ble_eq_true rfl) (Nat.le_of_ble_eq_true rfl) (by show _ ≤ (33 : Nat); omega) (by show _ ≤ (4858 : Nat); omega) dX3_copy_95 (fun a_61 H eq_62 hx ho => ?_)
        have hbig : ∀ m, m < i → r m < a_61 := fun m hm => by have h9 := (hrow m hm).lt; omega
        have lt_63 : a_1 < a_61 := by have h9 := x0.lt; omega
        have lt_64 : b5 < a_61 := by have h9 := x5.lt; omega
        have lt_65 : b7 < a_61 := by have h9 := x7.lt; omega
        have lt_66 : b1 < a_61 := by have h9 := x1.1.lt; omega
        have lt_67 : b2 < a_61 := by have h9 := x1.2.lt; omega
        have lt_68 : b3 < a_61 := by have h9 := x3.1.lt; omega
        have lt_69 : b4 < a_61 := by have h9 := x3.2.lt; omega
        have lt_70 : a_37 < a_61 := by have h9 := hR_58.lt; omega
        have ng_71 : ∀ k, UK (nM P) k → a_61 ≠ g k := fun k hk e => by have h9 := hR.ltA k hk; rw [eq_62] at e; omega
        have ns_72 : ∀ j, SJ P j → a_61 ≠ g j := fun k hk e => by have h9 := hR.ltS k hk; rw [eq_62] at e; omega
        have nu_73 : ∀ j, VK P j → a_61 ≠ u j := fun k hk e => by have h9 := hU.ltB k hk; rw [eq_62] at e; omega
        have ne_74 : a_1 ≠ a_61 := Nat.ne_of_lt (eq_62.symm ▸ x0.lt)
        have ne_75 : b5 ≠ a_61 := Nat.ne_of_lt (eq_62.symm ▸ x5.lt)
        have ne_76 : b7 ≠ a_61 := Nat.ne_of_lt (eq_62.symm ▸ x7.lt)
        have ne_77 : b1 ≠ a_61 := Nat.ne_of_lt (eq_62.symm ▸ x1.1.lt)
        have ne_78 : b2 ≠ a_61 := Nat.ne_of_lt (eq_62.symm ▸ x1.2.lt)
        have ne_79 : b3 ≠ a_61 := Nat.ne_of_lt (eq_62.symm ▸ x3.1.lt)
        have ne_80 : b4 ≠ a_61 := Nat.ne_of_lt (eq_62.symm ▸ x3.2.lt)
        have ne_81 : a_37 ≠ a_61 := Nat.ne_of_lt (eq_62.symm ▸ hR_58.lt)
        have ge_82 : (kS K).heap.size ≤ a_61 := by rw [eq_62]; exact hz
        have kn_83 : KN D a_61 := KN.new hK (Nat.le_of_eq eq_62.symm)
        replace hU := hU.ex hx
        replace hR := hR.ex hx
        replace x0 := x0.kept (hx.2 _ x0.lt)
        replace x5 := x5.kept (hx.2 _ x5.lt)
        replace x7 := x7.kept (hx.2 _ x7.lt)
        replace x1 := x1.kept (hx.2 _ x1.1.lt) (hx.2 _ x1.2.lt)
        replace x3 := x3.kept (hx.2 _ x3.1.lt) (hx.2 _ x3.2.lt)
        replace hR_58 := hR_58.kept (hx.2 _ hR_58.lt)
        replace hrow := fun m hm => (hrow m hm).kept (hx.2 _ (hrow m hm).lt)
        replace hK := hK.ex hx
        replace hz : (kS K).heap.size ≤ H.size := by have := hx.1; omega
        have hR_84 : iA D H a_61 (nT P) (fun t_ => S (55 + 200 * i + t_)) := ho
        clear ho hx
        refine vv_castA X hR_84 rfl (by decide +kernel) q2726 dX3_copy_98 ?_
        refine vv_aastA (ty := 5) (tz := 0) X rfl x7 X.ge.1 rfl rfl hR_84 (i) (by omega) (by omega) rfl (Or.inr gc7) dX3_copy_101 (fun H hc ho => ?_)
        replace hU := hU.kept (fun q hl hq => hc.2 q (fun e => by obtain ⟨j_, h_, e_⟩ := hq; exact nu_34 j_ h_ (e.symm.trans e_)))
        replace hR := hR.kept (fun q hl hq => hc.2 q (fun e => by obtain ⟨k_, hk_, e_⟩ := hq; exact ng_35 k_ hk_ (e.symm.trans e_))) (fun q hl hq => hc.2 q (fun e => by obtain ⟨j_, h_, e_⟩ := hq; exact ns_36 j_ h_ (e.symm.trans e_)))
        have k_0 := x0.kept (hc.2 _ (Nat.ne_of_lt lt_33))
        have k_1 := x5.kept (hc.2 _ (X.aa x5 x7 rfl rfl (by decide)))
        have k_2 := x1.kept (hc.2 _ (X.oa x1.1 x7 CL_J21 rfl)) (hc.2 _ (X.aa x1.2 x7 rfl rfl (by decide)))
        have k_3 := x3.kept (hc.2 _ (X.oa x3.1 x7 CL_J21 rfl)) (hc.2 _ (X.aa x3.2 x7 rfl rfl (by decide)))
        have k_4 := hR_58.kept (hc.2 _ (Ne.symm ne_51))
        have k_5 := fun m hm => (hrow m hm).kept (hc.2 _ (X.aa (hrow m hm) x7 rfl rfl (by decide +kernel)))
        have k_6 := hR_84.kept (hc.2 _ (Ne.symm ne_76))
        replace hK := hK.ch hc (X.ka hK x7 rfl (by decide +kernel) (by decide +kernel) (by decide +kernel))
        clear x0
        have x0 := k_0
        clear k_0
        clear x5
        have x5 := k_1
        clear k_1
        clear x1
        have x1 := k_2
        clear k_2
        clear x3
        have x3 := k_3
        clear k_3
        clear hR_58
        have hR_58 := k_4
        clear k_4
        clear hrow
        have hrow := k_5
        clear k_5
        clear hR_84
        have hR_84 := k_6
        clear k_6
        replace hz := Nat.le_trans hz (Nat.le_of_eq hc.1.symm)
        clear x7
        have x7 : qA D H b7 5 (nM P) (va_up (fun m => some (if m < i then r m else g2 (10 + m))) i (some a_61)) := ho
        clear hc ho
        refine vv_iinc (v := nI (i + 1)) (lv' := [(2, .int (nI (i + 1))), (0, .ref (g 0)), (1, .ref a_1)]) X dX3_copy_102 (k := 2) rfl (nI_add _ 1) (by decide) rfl ?_
        refine vv_goto (tgt := 75) X dX3_copy_105 (by decide) ?_
        refine vv_sub [1, 2, 0] rfl ?_
        refine vv_widen (k := 21 + (i + 1)) (n := 2458 + 200 * (i + 1)) (by omega) (by omega) ?_
        exact ihi (i + 1) H (va_up r i a_61) (by omega) (hK) (hU) (hz) (x0) (x5) (qA_cg x7 (fun m hm => by
                    by_cases z : m = i
                    · subst z; rw [va_up_self, if_pos (by omega), va_up_self]
                    · rw [va_up_ne _ _ z]
                      by_cases y : m < i
                      · rw [if_pos y, if_pos (by omega), va_up_ne _ _ z]
                      · rw [if_neg y, if_neg (by omega)])) (x1) (x3) (hR_58) (hR) (fun m hm => by
                    by_cases z : m = i
                    · subst z; rw [va_up_self]; exact hR_84
                    · rw [va_up_ne _ _ z]; exact hrow m (by omega)) (fun m hm => by
                    by_cases z : m = i
                    · subst z; rw [va_up_self]; exact lt_70
                    · rw [va_up_ne _ _ z]; exact hrc m (by omega)) (fun m m2 h1 h2 => by
                    rw [va_up_ne _ _ (show m ≠ i by omega)]
                    by_cases z : m2 = i
                    · subst z; rw [va_up_self]; exact hbig m h1
                    · rw [va_up_ne _ _ z]; exact hrm m m2 h1 (by omega))
  refine vv_sub [2, 1, 0] rfl ?_
  refine vv_widen (k := 21 + 0) (n := 2458 + 200 * 0) (Nat.le_of_ble_eq_true rfl) (Nat.le_of_ble_eq_true rfl) ?_
  exact hl_60 (nM P) 0 H (fun _ => 0) (by first | omega | assumption) (hK) (hU) (hz) (x0) (x5) (qA_cg x7 (fun m hm => by rw [if_neg (Nat.not_lt_zero _)])) (x1) (x3) (hR_58) (hR) (fun m hm => absurd hm (Nat.not_lt_zero _)) (fun m hm => absurd hm (Nat.not_lt_zero _)) (fun m m2 h1 h2 => absurd h2 (Nat.not_lt_zero _))
