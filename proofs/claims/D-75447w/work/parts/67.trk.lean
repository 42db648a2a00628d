/-! State.next, scores: printed by gen/s14.py -/
set_option maxRecDepth 100000
theorem nX3_next : notMH yX3_next 2 := by decide +kernel
set_option maxHeartbeats 800000 in
theorem mX3_next (l : Launch) (D : DD) (u : Nat → Nat) (P T : Nat → Int32) (o : Nat) (g : Nat → Nat) (S : Nat → Int32) (pw : Option Nat) (q c : Nat) (f : Nat → Int64) (hC : VC P) (hV : VS S) (hc : c < nC P) : Cp l yX3_next cX3_next 5 (some .int) { frames := 2, cells := 0, slots := 0, locals := 43 } D [.ref (g 0), .ref q, .int (nI c)] (fun H => KH D H ∧ UR D u P T o H ∧ SR D g u P S pw H ∧ lA D H q (nC P) f) (.int (obI (bsf (fun i => decide (nea P c i)) f (nC P)))) := by
  refine Ct.of (by decide +kernel) (Nat.le_of_ble_eq_true rfl) (fun K Qf hkl X hM hQ => ?_)
  subst hkl
  obtain ⟨hK, hU, hR, hq⟩ := hM
  have hP := hC.v
  have l0 := hP.l0
  have l1 := hP.l1
  have l2 := hP.l2
  have l4 := hP.l4
  have l5 := hP.l5
  have l8 := hP.l8
  have l9 := hP.l9
  have l10 := hP.l10
  have l71 := hP.l71
  have l76 := hP.l76
  have l77 := hP.l77
  have hx1 := hC.x1
  have hy1 := hC.y1
  have ht1 := hC.t1
  have he1 := hC.e1
  have hm1 := hC.m1
  have hcc : nC P ≤ 144 := Nat.mul_le_mul l9 l10
  refine vv_sub (lv' := [(0, .ref (g 0)), (1, .ref q), (2, .int (nI c))]) [0, 1, 2] rfl ?_
  refine vv_iconst (v := -1) X dX3_next_0 (by decide) ?_
  refine vv_istore_n (lv' := [(3, .int ((-1))), (0, .ref (g 0)), (1, .ref q), (2, .int (nI c))]) X dX3_next_1 rfl (by decide) rfl ?_
  refine vv_iconst (v := nI 0) X dX3_next_2 (by decide) ?_
  refine vv_istore (lv' := [(4, .int (nI 0)), (3, .int ((-1))), (0, .ref (g 0)), (1, .ref q), (2, .int (nI c))]) X dX3_next_3 (by decide) rfl ?_
  have hx_1 : ∀ (b : Option Nat) (hb : b = bsf (fun i => decide (nea P c i)) f (nC P)), V K 5 (fun _ => False) (kS K).heap 0 0 Qf 47 [(0, .ref (g 0)), (1, .ref q), (2, .int (nI c)), (3, .int (obI b)), (4, .int (nI (nC P)))] [] := by
    intro b hb
    refine vv_iload_n X dX3_next_47 rfl 3 rfl ?_
    exact vv_iret X hQ dX3_next_48 (Nat.le_of_ble_eq_true rfl) (Nat.le_of_ble_eq_true rfl) (pq (by rw [hb]))
  have hl_2 : ∀ (n_i i : Nat) (b : Option Nat), i + n_i = nC P → (b = bsf (fun i => decide (nea P c i)) f i) → V K 5 (fun _ => False) (kS K).heap 0 0 Qf 5 [(0, .ref (g 0)), (1, .ref q), (2, .int (nI c)), (3, .int (obI b)), (4, .int (nI i))] [] := by
    intro n_i
    induction n_i with
    | zero =>
      intro i b hi hb
      obtain rfl : i = nC P := by omega
      refine vv_iload X dX3_next_5 4 rfl ?_
      refine vv_aload_n X dX3_next_7 rfl 1 rfl ?_
      refine vv_alen (ty := 1) X hq rfl dX3_next_8 ?_
      refine vn_ge (tgt := 47) X (by omega) (by omega) dX3_next_9 (by decide) (fun c_9 => ?_) (fun c_9 => ?_)
      · exact hx_1 b hb
      · exact absurd c_9 (by omega)
    | succ n_i ihi =>
      intro i b hi hb
      refine vv_iload X dX3_next_5 4 rfl ?_
      refine vv_aload_n X dX3_next_7 rfl 1 rfl ?_
      refine vv_alen (ty := 1) X hq rfl dX3_next_8 ?_
      refine vn_ge (tgt := 47) X (by omega) (by omega) dX3_next_9 (by decide) (fun c_9 => ?_) (fun c_9 => ?_)
      · exact absurd hi (by omega)
      · cases hbo : b with
        | none =>
          refine vv_sub (lv' := [(0, .ref (g 0)), (1, .ref q), (2, .int (nI c)), (3, .int (-1)), (4, .int (nI i))]) [0, 1, 2, 3, 4] rfl ?_
          refine vv_aload_n X dX3_next_12 rfl 0 rfl ?_
          refine vv_iload_n X dX3_next_13 rfl 2 rfl ?_
          refine vv_iload X dX3_next_14 4 rfl ?_
          refine vv_callVp X (mX3_areNear (kL K) D u P T o g S pw c i hC hV (by omega) (by omega)) q2501 q2502 q2503 q150 q2504 nX3_areNear ⟨(Nat.le_of_ble_eq_true rfl), (Nat.le_of_ble_eq_true rfl)⟩ dX3_next_16 rfl (Nat.le_of_ble_eq_true rfl) (recv X hR.ob CL_X3) ⟨hK, hU, hR⟩ ⟨(Nat.le_of_ble_eq_true rfl), (Nat.le_of_ble_eq_true rfl)⟩ ?_
          refine vb_eq (tgt := 41) X dX3_next_19 (by decide) (fun c_19 => ?_) (fun c_19 => ?_)
          · refine vv_iinc (v := nI (i + 1)) (lv' := [(4, .int (nI (i + 1))), (0, .ref (g 0)), (1, .ref q), (2, .int (nI c)), (3, .int (-1))]) X dX3_next_41 (k := 4) rfl (nI_add _ 1) (by decide) rfl ?_
            refine vv_goto (tgt := 5) X dX3_next_44 (by decide) ?_
            refine vv_sub [1, 2, 3, 4, 0] rfl ?_
            exact ihi (i + 1) none (by omega) (by show _ = bst (fun i => decide (nea P c i)) f i (bsf (fun i => decide (nea P c i)) f i); rw [← hb, hbo]; exact (if_neg (fun z => c_19 (of_decide_eq_true z))).symm)
          · refine vv_iload_n X dX3_next_22 rfl 3 rfl ?_
            refine vv_iconst (v := -1) X dX3_next_23 (by decide) ?_
            refine vv_icmp_eq (tgt := 38) X dX3_next_24 (by decide) (fun c_24 => ?_) (fun c_24 => ?_)
            · refine vv_iload X dX3_next_38 4 rfl ?_
              refine vv_istore_n (lv' := [(3, .int (nI i)), (0, .ref (g 0)), (1, .ref q), (2, .int (nI c)), (4, .int (nI i))]) X dX3_next_40 rfl (by decide) rfl ?_
              refine vv_iinc (v := nI (i + 1)) (lv' := [(4, .int (nI (i + 1))), (3, .int (nI i)), (0, .ref (g 0)), (1, .ref q), (2, .int (nI c))]) X dX3_next_41 (k := 4) rfl (nI_add _ 1) (by decide) rfl ?_
              refine vv_goto (tgt := 5) X dX3_next_44 (by decide) ?_
              refine vv_sub [2, 3, 4, 1, 0] rfl ?_
              exact ihi (i + 1) (some i) (by omega) (by show _ = bst (fun i => decide (nea P c i)) f i (bsf (fun i => decide (nea P c i)) f i); rw [← hb, hbo]; exact (if_pos (decide_eq_true c_19)).symm)
            · exact absurd rfl c_24
        | some j =>
          have hji : j < i := bsf_lt _ _ (hb.symm.trans hbo)
          refine vv_sub (lv' := [(0, .ref (g 0)), (1, .ref q), (2, .int (nI c)), (3, .int (nI j)), (4, .int (nI i))]) [0, 1, 2, 3, 4] rfl ?_
          refine vv_aload_n X dX3_next_12 rfl 0 rfl ?_
          refine vv_iload_n X dX3_next_13 rfl 2 rfl ?_
          refine vv_iload X dX3_next_14 4 rfl ?_
          refine vv_callVp X (mX3_areNear (kL K) D u P T o g S pw c i hC hV (by omega) (by omega)) q2501 q2502 q2503 q150 q2504 nX3_areNear ⟨(Nat.le_of_ble_eq_true rfl), (Nat.le_of_ble_eq_true rfl)⟩ dX3_next_16 rfl (Nat.le_of_ble_eq_true rfl) (recv X hR.ob CL_X3) ⟨hK, hU, hR⟩ ⟨(Nat.le_of_ble_eq_true rfl), (Nat.le_of_ble_eq_true rfl)⟩ ?_
          refine vb_eq (tgt := 41) X dX3_next_19 (by decide) (fun c_19 => ?_) (fun c_19 => ?_)
          · refine vv_iinc (v := nI (i + 1)) (lv' := [(4, .int (nI (i + 1))), (0, .ref (g 0)), (1, .ref q), (2, .int (nI c)), (3, .int (nI j))]) X dX3_next_41 (k := 4) rfl (nI_add _ 1) (by decide) rfl ?_
            refine vv_goto (tgt := 5) X dX3_next_44 (by decide) ?_
            refine vv_sub [1, 2, 3, 4, 0] rfl ?_
            exact ihi (i + 1) (some j) (by omega) (by show _ = bst (fun i => decide (nea P c i)) f i (bsf (fun i => decide (nea P c i)) f i); rw [← hb, hbo]; exact (if_neg (fun z => c_19 (of_decide_eq_true z.1))).symm)
          · refine vv_iload_n X dX3_next_22 rfl 3 rfl ?_
            refine vv_iconst (v := -1) X dX3_next_23 (by decide) ?_
            refine vv_icmp_eq (tgt := 38) X dX3_next_24 (by decide) (fun c_24 => ?_) (fun c_24 => ?_)
            · exact absurd c_24 (nI_nm1 (by omega))
            · refine vv_aload_n X dX3_next_27 rfl 1 rfl ?_
              refine vv_iload X dX3_next_28 4 rfl ?_
              refine vv_lald X hq (i) (by omega) (by omega) rfl dX3_next_30 ?_
              refine vv_aload_n X dX3_next_31 rfl 1 rfl ?_
              refine vv_iload_n X dX3_next_32 rfl 3 rfl ?_
              refine vv_lald X hq (j) (by omega) (by omega) rfl dX3_next_33 ?_
              refine vv_lcmp X dX3_next_34 ?_
              refine vz_le (tgt := 41) X dX3_next_35 (by decide) (fun c_35 => ?_) (fun c_35 => ?_)
              · refine vv_iinc (v := nI (i + 1)) (lv' := [(4, .int (nI (i + 1))), (0, .ref (g 0)), (1, .ref q), (2, .int (nI c)), (3, .int (nI j))]) X dX3_next_41 (k := 4) rfl (nI_add _ 1) (by decide) rfl ?_
                refine vv_goto (tgt := 5) X dX3_next_44 (by decide) ?_
                refine vv_sub [1, 2, 3, 4, 0] rfl ?_
                exact ihi (i + 1) (some j) (by omega) (by show _ = bst (fun i => decide (nea P c i)) f i (bsf (fun i => decide (nea P c i)) f i); rw [← hb, hbo]; exact (if_neg (fun z => absurd z.2 (Int64.not_lt.mpr c_35))).symm)
              · refine vv_iload X dX3_next_38 4 rfl ?_
                refine vv_istore_n (lv' := [(3, .int (nI i)), (0, .ref (g 0)), (1, .ref q), (2, .int (nI c)), (4, .int (nI i))]) X dX3_next_40 rfl (by decide) rfl ?_
                refine vv_iinc (v := nI (i + 1)) (lv' := [(4, .int (nI (i + 1))), (3, .int (nI i)), (0, .ref (g 0)), (1, .ref q), (2, .int (nI c))]) X dX3_next_41 (k := 4) rfl (nI_add _ 1) (by decide) rfl ?_
                refine vv_goto (tgt := 5) X dX3_next_44 (by decide) ?_
                refine vv_sub [2, 3, 4, 1, 0] rfl ?_
                exact ihi (i + 1) (some i) (by omega) (by show _ = bst (fun i => decide (nea P c i)) f i (bsf (fun i => decide (nea P c i)) f i); rw [← hb, hbo]; exact (if_pos ⟨decide_eq_true c_19, c_35⟩).symm)
  refine vv_sub [2, 3, 4, 1, 0] rfl ?_
  exact hl_2 (nC P) 0 none (by first | omega | assumption) (rfl)
theorem nX3_scores : notMH yX3_scores 1 := by decide +kernel
set_option maxHeartbeats 800000 in
theorem mX3_scores (l : Launch) (D : DD) (u : Nat → Nat) (P T : Nat → Int32) (o : Nat) (g : Nat → Nat) (S : Nat → Int32) (pw : Option Nat) (n B : Nat) (hC : VC P) (hV : VS S) (hA : AP g u P) (hn : 4 ≤ n ∧ n ≤ nT P) (hB : nT P / n = B) : Ct l yX3_scores cX3_scores 7 (some (.array (.array .long))) { frames := 7, cells := 51, slots := 7250, locals := 150 } D [.ref (g 0), .int (nI n)] (fun H => KH D H ∧ UR D u P T o H ∧ SR D g u P S pw H) (fun _ => False) (fun r H H1 => ∃ q, r = some (.ref q) ∧ ∃ F : Nat → Nat → Int64, qA D H1 q 6 B (fun j => some (q + 1 + j)) ∧ (∀ j, j < B → lA D H1 (q + 1 + j) (nC P) (F j)) ∧ (∀ j, j < B → ∀ c, c < nC P → F j c = trk P S n B (B - 1 - j) c) ∧ H.size ≤ q) := by
  refine Ct.of (by decide +kernel) (Nat.le_of_ble_eq_true rfl) (fun K Qf hkl X hM hQ => ?_)
  subst hkl
  obtain ⟨hK, hU, hR⟩ := hM
  have hz : (kS K).heap.size ≤ (kS K).heap.size := Nat.le_refl _
  have hP := hC.v
  have l0 := hP.l0
  have l1 := hP.l1
  have l2 := hP.l2
  have l4 := hP.l4
  have l5 := hP.l5
  have l8 := hP.l8
  have l9 := hP.l9
  have l10 := hP.l10
  have l71 := hP.l71
  have l76 := hP.l76
  have l77 := hP.l77
  have hx1 := hC.x1
  have hy1 := hC.y1
  have ht1 := hC.t1
  have he1 := hC.e1
  have hm1 := hC.m1
  have hcc : nC P ≤ 144 := Nat.mul_le_mul l9 l10
  have hB1 : 1 ≤ B := by rw [← hB]; exact Nat.div_pos hn.2 (by omega)
  have hB2 : B ≤ 50 := by rw [← hB]; exact Nat.le_trans (Nat.div_le_div_left hn.1 (by decide)) (Nat.div_le_of_le_mul (by omega))
  have hBn : n * B ≤ 200 := by rw [← hB]; exact Nat.le_trans (Nat.mul_div_le _ _) l2
  have hm9 : B * nC P ≤ 50 * 144 := Nat.mul_le_mul hB2 hcc
  refine vv_sub (lv' := [(0, .ref (g 0)), (1, .int (nI n))]) [0, 1] rfl ?_
  refine vv_aload_n X dX3_scores_0 rfl 0 rfl ?_
  refine vv_getf (C := RX3) (T := TX3) (N := 8) (ref := "AcousticCamera$State") X hR.ob in_X3 CL_X3 0 (by decide) q1687 rfl rfl dX3_scores_1 ?_
  refine vv_getfN (C := RX5) (T := TX5) (N := 19) (ref := "AcousticCamera$Setup") X hU.ob in_X5 CL_X5 10 (by decide) q802 rfl rfl dX3_scores_4 ?_
  refine vv_iload_n X dX3_scores_7 rfl 1 rfl ?_
  refine vn_div X (by omega) (by omega) (by omega) dX3_scores_8 ?_
  refine vv_eqi (congrArg nI hB) ?_
  refine vv_aload_n X dX3_scores_9 rfl 0 rfl ?_
  refine vv_getf (C := RX3) (T := TX3) (N := 8) (ref := "AcousticCamera$State") X hR.ob in_X3 CL_X3 0 (by decide) q1687 rfl rfl dX3_scores_10 ?_
  refine vv_callVp X (mX5_cells (kL K) D u P T o  ) q1960 q1216 q1217 q152 q1218 nX5_cells ⟨(Nat.le_of_ble_eq_true rfl), (Nat.le_of_ble_eq_true rfl)⟩ dX3_scores_13 rfl (Nat.le_of_ble_eq_true rfl) (recv X hU.ob CL_X5) hU ⟨(Nat.le_of_ble_eq_true rfl), (Nat.le_of_ble_eq_true rfl)⟩ ?_
  refine vv_mnewlA (Mc := 50) (M := 7250) X q2495 (by omega) (by omega) (by omega) (by omega) (Nat.le_of_ble_eq_true rfl) (Nat.le_of_ble_eq_true rfl) rfl rfl dX3_scores_16 (fun a_1 H eq_2 hsz hx2 hq hrows => ?_)
  have nu_3 : ∀ j, VK P j → a_1 ≠ u j := fun j hj e => by have h9 := hU.ltB j hj; omega
  have ng_4 : ∀ k, UK (nM P) k → a_1 ≠ g k := fun k hk e => by have h9 := hR.ltA k hk; omega
  have ns_5 : ∀ j, SJ P j → a_1 ≠ g j := fun k hk e => by have h9 := hR.ltS k hk; omega
  have fu9 : ∀ j, VK P j → u j < a_1 := fun j hj => by have h9 := hU.ltB j hj; omega
  have fg9 : ∀ k, UK (nM P) k → g k < a_1 := fun k hk => by have h9 := hR.ltA k hk; omega
  have fs9 : ∀ j, SJ P j → g j < a_1 := fun k hk => by have h9 := hR.ltS k hk; omega
  replace hU := hU.kept (fun q hl _ => hx2 q hl)
  replace hR := hR.kept (fun q hl _ => hx2 q hl) (fun q hl _ => hx2 q hl)
  have ge_6 : (kS K).heap.size ≤ a_1 := by rw [eq_2]; exact hz
  replace hK := hK.stay (fun i hi => hx2 _ (hK.lt hi))
  replace hz : (kS K).heap.size ≤ H.size := by omega
  have hQ_7 := hq
  have hW_8 := hrows
  clear hq hrows hx2
  have hW : ∀ j, j < B → lA D H (a_1 + 1 + j) (nC P) ((fun _ _ => (0 : Int64)) j) := hW_8
  refine vv_astore_n (lv' := [(2, .ref a_1), (0, .ref (g 0)), (1, .int (nI n))]) X dX3_scores_20 rfl (by decide) rfl ?_
  refine vv_aload_n X dX3_scores_21 rfl 0 rfl ?_
  refine vv_alen (ty := 6) X hQ_7 rfl dX3_scores_22 ?_
  refine vv_iconst (v := nI 1) X dX3_scores_23 (by decide) ?_
  refine vn_sub X (by omega) dX3_scores_24 ?_
  refine vv_istore_n (lv' := [(3, .int (nI (B - 1))), (2, .ref a_1), (0, .ref (g 0)), (1, .int (nI n))]) X dX3_scores_25 rfl (by decide) rfl ?_
  have hx_9 : ∀ (H : Heap) (F : Nat → Nat → Int64) (bv : Int32) (hK : KH D H) (hU : UR D u P T o H) (hR : SR D g u P S pw H) (hz : (kS K).heap.size ≤ H.size) (hQ_7 : qA D H a_1 6 B (fun j => some (a_1 + 1 + j))) (hW : ∀ j, j < B → lA D H (a_1 + 1 + j) (nC P) (F j)) (hsc : ∀ b c, b < B → c < nC P → B ≤ b + B → F b c = trk P S n B (B - 1 - b) c) (hbv : bv = nI B - nI (B + 1)), V K 7 (fun _ => False) H 51 7250 Qf 107 [(0, .ref (g 0)), (1, .int (nI n)), (2, .ref a_1), (3, .int (bv))] [] := by
    intro H F bv hK hU hR hz hQ_7 hW hsc hbv
    refine vv_aload_n X dX3_scores_107 rfl 2 rfl ?_
    exact vv_aret X (Or.inr ⟨_, rfl⟩) (Or.inr ⟨_, rfl⟩) hQ dX3_scores_108 (Nat.le_of_ble_eq_true rfl) (Nat.le_of_ble_eq_true rfl) (⟨a_1, rfl, F, hQ_7, hW, fun j hj c hc => hsc j c hj hc (by omega), ge_6⟩)
  have hl_10 : ∀ (n_i i : Nat) (H : Heap) (F : Nat → Nat → Int64) (bv : Int32), i + n_i = B → (KH D H) → (UR D u P T o H) → (SR D g u P S pw H) → ((kS K).heap.size ≤ H.size) → (qA D H a_1 6 B (fun j => some (a_1 + 1 + j))) → (∀ j, j < B → lA D H (a_1 + 1 + j) (nC P) (F j)) → (∀ b c, b < B → c < nC P → B ≤ b + i → F b c = trk P S n B (B - 1 - b) c) → (bv = nI B - nI (i + 1)) → V K 7 (fun _ => False) H 51 7250 Qf 26 [(0, .ref (g 0)), (1, .int (nI n)), (2, .ref a_1), (3, .int (bv))] [] := by
    intro n_i
    induction n_i with
    | zero =>
      intro i H F bv hi hK hU hR hz hQ_7 hW hsc hbv
      obtain rfl : i = B := by omega
      refine vv_iload_n X dX3_scores_26 rfl 3 rfl ?_
      refine vv_if_lt (tgt := 107) X dX3_scores_27 (by decide) (fun c_27 => ?_) (fun c_27 => ?_)
      · exact hx_9 H F bv hK hU hR hz hQ_7 hW hsc hbv
      · exact absurd (by rw [hbv]; exact bv_neg (by omega)) c_27
    | succ n_i ihi =>
      intro i H F bv hi hK hU hR hz hQ_7 hW hsc hbv
      obtain rfl : bv = nI (B - (i + 1)) := hbv.trans (pk_sub (by omega))
      have hnb : (B - (i + 1)) * n ≤ 200 := by rw [Nat.mul_comm]; exact Nat.le_trans (Nat.mul_le_mul_left n (Nat.sub_le B (i + 1))) (by omega)
      refine vv_iload_n X dX3_scores_26 rfl 3 rfl ?_
      refine vn_if_lt (tgt := 107) X (by omega) dX3_scores_27 (by decide) ?_
      refine vv_iconst (v := nI 0) X dX3_scores_30 (by decide) ?_
      refine vv_istore (lv' := [(4, .int (nI 0)), (0, .ref (g 0)), (1, .int (nI n)), (2, .ref a_1), (3, .int (nI (B - (i + 1))))]) X dX3_scores_31 (by decide) rfl ?_
      have hx_11 : ∀ (H : Heap) (F : Nat → Nat → Int64) (hK : KH D H) (hU : UR D u P T o H) (hR : SR D g u P S pw H) (hz : (kS K).heap.size ≤ H.size) (hQ_7 : qA D H a_1 6 B (fun j => some (a_1 + 1 + j))) (hW : ∀ j, j < B → lA D H (a_1 + 1 + j) (nC P) (F j)) (hsc : ∀ b c, b < B → c < nC P → B ≤ b + i → F b c = trk P S n B (B - 1 - b) c) (hrow : ∀ c', c' < (nC P) → F (B - (i + 1)) c' = trk P S n B i c'), V K 7 (fun _ => False) H 51 7250 Qf 101 [(0, .ref (g 0)), (1, .int (nI n)), (2, .ref a_1), (3, .int (nI (B - (i + 1)))), (4, .int (nI (nC P)))] [] := by
        intro H F hK hU hR hz hQ_7 hW hsc hrow
        refine vv_iinc (v := nI (B - (i + 1)) + (-1)) (lv' := [(3, .int (nI (B - (i + 1)) + (-1))), (0, .ref (g 0)), (1, .int (nI n)), (2, .ref a_1), (4, .int (nI (nC P)))]) X dX3_scores_101 (k := 3) rfl rfl (by decide) rfl ?_
        refine vv_goto (tgt := 26) X dX3_scores_104 (by decide) ?_
        refine vv_sub [1, 2, 3, 0] rfl ?_
        exact ihi (i + 1) H F (nI (B - (i + 1)) + (-1)) (by omega) (hK) (hU) (hR) (hz) (hQ_7) (hW) (fun b c h1 h2 h3 => by
                    by_cases e : b = B - (i + 1)
                    · subst e; rw [show B - 1 - (B - (i + 1)) = i by omega]; exact hrow c h2
                    · exact hsc b c h1 h2 (by omega)) (bv_s (by omega))
      have hl_12 : ∀ (n_c c : Nat) (H : Heap) (F : Nat → Nat → Int64), c + n_c = nC P → (KH D H) → (UR D u P T o H) → (SR D g u P S pw H) → ((kS K).heap.size ≤ H.size) → (qA D H a_1 6 B (fun j => some (a_1 + 1 + j))) → (∀ j, j < B → lA D H (a_1 + 1 + j) (nC P) (F j)) → (∀ b c, b < B → c < nC P → B ≤ b + i → F b c = trk P S n B (B - 1 - b) c) → (∀ c', c' < c → F (B - (i + 1)) c' = trk P S n B i c') → V K 7 (fun _ => False) H 51 7250 Qf 33 [(0, .ref (g 0)), (1, .int (nI n)), (2, .ref a_1), (3, .int (nI (B - (i + 1)))), (4, .int (nI c))] [] := by
        intro n_c
        induction n_c with
        | zero =>
          intro c H F hc hK hU hR hz hQ_7 hW hsc hrow
          obtain rfl : c = nC P := by omega
          refine vv_iload X dX3_scores_33 4 rfl ?_
          refine vv_aload_n X dX3_scores_35 rfl 0 rfl ?_
          refine vv_getf (C := RX3) (T := TX3) (N := 8) (ref := "AcousticCamera$State") X hR.ob in_X3 CL_X3 0 (by decide) q1687 rfl rfl dX3_scores_36 ?_
          refine vv_callVp X (mX5_cells (kL K) D u P T o  ) q1960 q1216 q1217 q152 q1218 nX5_cells ⟨(Nat.le_of_ble_eq_true rfl), (Nat.le_of_ble_eq_true rfl)⟩ dX3_scores_39 rfl (Nat.le_of_ble_eq_true rfl) (recv X hU.ob CL_X5) hU ⟨(Nat.le_of_ble_eq_true rfl), (Nat.le_of_ble_eq_true rfl)⟩ ?_
          refine vn_ge (tgt := 101) X (by omega) (by omega) dX3_scores_42 (by decide) (fun c_42 => ?_) (fun c_42 => ?_)
          · exact hx_11 H F hK hU hR hz hQ_7 hW hsc hrow
          · exact absurd c_42 (by omega)
        | succ n_c ihc =>
          intro c H F hc hK hU hR hz hQ_7 hW hsc hrow
          refine vv_iload X dX3_scores_33 4 rfl ?_
          refine vv_aload_n X dX3_scores_35 rfl 0 rfl ?_
          refine vv_getf (C := RX3) (T := TX3) (N := 8) (ref := "AcousticCamera$State") X hR.ob in_X3 CL_X3 0 (by decide) q1687 rfl rfl dX3_scores_36 ?_
          refine vv_callVp X (mX5_cells (kL K) D u P T o  ) q1960 q1216 q1217 q152 q1218 nX5_cells ⟨(Nat.le_of_ble_eq_true rfl), (Nat.le_of_ble_eq_true rfl)⟩ dX3_scores_39 rfl (Nat.le_of_ble_eq_true rfl) (recv X hU.ob CL_X5) hU ⟨(Nat.le_of_ble_eq_true rfl), (Nat.le_of_ble_eq_true rfl)⟩ ?_
          refine vn_ge (tgt := 101) X (by omega) (by omega) dX3_scores_42 (by decide) (fun c_42 => ?_) (fun c_42 => ?_)
          · exact absurd hc (by omega)
          · refine vv_iload_n X dX3_scores_45 rfl 3 rfl ?_
            refine vv_aload_n X dX3_scores_46 rfl 2 rfl ?_
            refine vv_alen (ty := 6) X hQ_7 rfl dX3_scores_47 ?_
            refine vv_iconst (v := nI 1) X dX3_scores_48 (by decide) ?_
            refine vn_sub X (by omega) dX3_scores_49 ?_
            refine vn_ne (tgt := 57) X (by omega) (by omega) dX3_scores_50 (by decide) (fun c_50 => ?_) (fun c_50 => ?_)
            · refine vv_aload_n X dX3_scores_57 rfl 2 rfl ?_
              refine vv_iload_n X dX3_scores_58 rfl 3 rfl ?_
              refine vv_iconst (v := nI 1) X dX3_scores_59 (by decide) ?_
              refine vn_add X dX3_scores_60 ?_
              refine vv_aald (ty := 6) X hQ_7 rfl rfl ((B - (i + 1)) + 1) (by omega) (by omega) rfl dX3_scores_61 (v := .ref (a_1 + 1 + ((B - (i + 1)) + 1))) (rfl) ?_
              refine vv_aload_n X dX3_scores_62 rfl 0 rfl ?_
              refine vv_aload_n X dX3_scores_63 rfl 2 rfl ?_
              refine vv_iload_n X dX3_scores_64 rfl 3 rfl ?_
              refine vv_iconst (v := nI 1) X dX3_scores_65 (by decide) ?_
              refine vn_add X dX3_scores_66 ?_
              refine vv_aald (ty := 6) X hQ_7 rfl rfl ((B - (i + 1)) + 1) (by omega) (by omega) rfl dX3_scores_67 (v := .ref (a_1 + 1 + ((B - (i + 1)) + 1))) (rfl) ?_
              refine vv_iload X dX3_scores_68 4 rfl ?_
              refine vv_callVp X (mX3_next (kL K) D u P T o g S pw _ c _ hC hV (by omega)) q2497 q2498 q2499 q150 q2500 nX3_next ⟨(Nat.le_of_ble_eq_true rfl), (Nat.le_of_ble_eq_true rfl)⟩ dX3_scores_70 rfl (Nat.le_of_ble_eq_true rfl) (recv X hR.ob CL_X3) ⟨hK, hU, hR, (hW ((B - (i + 1)) + 1) (by omega))⟩ ⟨(Nat.le_of_ble_eq_true rfl), (Nat.le_of_ble_eq_true rfl)⟩ ?_
              obtain ⟨j, hj, hjn⟩ := bsf_some (al := fun k => decide (nea P c k)) (sc := F ((B - (i + 1)) + 1)) (c := c) (n := nC P) (by omega) (decide_eq_true (nea_r _ _))
              refine vv_eqi (show _ = nI j from congrArg obI hj) ?_
              refine vv_lald X (hW ((B - (i + 1)) + 1) (by omega)) (j) (by omega) (by omega) rfl dX3_scores_73 ?_
              refine vv_lstore (lv' := [(5, .long (F ((B - (i + 1)) + 1) j)), (0, .ref (g 0)), (1, .int (nI n)), (2, .ref a_1), (3, .int (nI (B - (i + 1)))), (4, .int (nI c))]) X dX3_scores_74 (by decide) rfl ?_
              refine vv_aload_n X dX3_scores_76 rfl 3 rfl ?_
              refine vv_iload_n X dX3_scores_77 rfl 4 rfl ?_
              refine vv_aald (ty := 6) X hQ_7 rfl rfl (B - (i + 1)) (by omega) (by omega) rfl dX3_scores_78 (v := .ref (a_1 + 1 + (B - (i + 1)))) (rfl) ?_
              refine vv_iload X dX3_scores_79 5 rfl ?_
              refine vv_aload_n X dX3_scores_81 rfl 1 rfl ?_
              refine vv_iload X dX3_scores_82 5 rfl ?_
              refine vv_iload_n X dX3_scores_84 rfl 4 rfl ?_
              refine vv_iload_n X dX3_scores_85 rfl 2 rfl ?_
              refine vn_mul X dX3_scores_86 ?_
              refine vv_iload_n X dX3_scores_87 rfl 2 rfl ?_
              refine vv_callVp X (mX3_blockPower (kL K) D u P T o g S pw c ((B - (i + 1)) * n) n hC hV (by omega) (by omega) (by omega)) q2471 q2454 q2455 q150 q2456 nX3_blockPower ⟨(Nat.le_of_ble_eq_true rfl), (Nat.le_of_ble_eq_true rfl)⟩ dX3_scores_88 rfl (Nat.le_of_ble_eq_true rfl) (recv X hR.ob CL_X3) ⟨hK, hU, hR⟩ ⟨(Nat.le_of_ble_eq_true rfl), (Nat.le_of_ble_eq_true rfl)⟩ ?_
              refine vv_lload X dX3_scores_91 0 rfl ?_
              refine vv_ladd X dX3_scores_93 ?_
              refine vv_last X (hW (B - (i + 1)) (by omega)) (c) (by omega) (by omega) rfl (Or.inr (Nat.le_trans ge_6 (by omega))) dX3_scores_94 (fun H hc ho => ?_)
              replace hK := hK.ch hc (X.ka hK (hW (B - (i + 1)) (by omega)) rfl (by decide +kernel) (by decide +kernel) (by decide +kernel))
              replace hU := hU.kept (fun q hl hq => hc.2 q (fun e => by obtain ⟨j_, h_, e_⟩ := hq; have h9 := fu9 j_ h_; omega))
              replace hR := hR.kept (fun q hl hq => hc.2 q (fun e => by obtain ⟨k_, h_, e_⟩ := hq; have h9 := fg9 k_ h_; omega)) (fun q hl hq => hc.2 q (fun e => by obtain ⟨j_, h_, e_⟩ := hq; have h9 := fs9 j_ h_; omega))
              replace hQ_7 := hQ_7.kept (hc.2 _ (by omega))
              have hW2 : ∀ y_, y_ < B → lA D H (a_1 + 1 + y_) (nC P) ((va_up F (B - (i + 1)) (va_up (F (B - (i + 1))) c ((blk P S c ((B - (i + 1)) * n) n) + (F ((B - (i + 1)) + 1) j)))) y_) := fun y_ hj => by
                by_cases z : y_ = (B - (i + 1))
                · rw [z, va_up_self]; exact ho
                · rw [va_up_ne _ _ z]; exact (hW y_ hj).kept (hc.2 _ (by omega))
              clear hW
              have hW := hW2
              clear hW2
              replace hz := Nat.le_trans hz (Nat.le_of_eq hc.1.symm)
              clear hc ho
              refine vv_iinc (v := nI (c + 1)) (lv' := [(4, .int (nI (c + 1))), (5, .long (F ((B - (i + 1)) + 1) j)), (0, .ref (g 0)), (1, .int (nI n)), (2, .ref a_1), (3, .int (nI (B - (i + 1))))]) X dX3_scores_95 (k := 5) rfl (nI_add _ 1) (by decide) rfl ?_
              refine vv_goto (tgt := 33) X dX3_scores_98 (by decide) ?_
              refine vv_sub [2, 3, 4, 5, 0] rfl ?_
              exact ihc (c + 1) H (va_up F (B - (i + 1)) (va_up (F (B - (i + 1))) c ((blk P S c ((B - (i + 1)) * n) n) + (F ((B - (i + 1)) + 1) j)))) (by omega) (hK) (hU) (hR) (hz) (hQ_7) (hW) (fun b c' h1 h2 h3 => by rw [va_up_ne _ _ (show b ≠ B - (i + 1) by omega)]; exact hsc b c' h1 h2 h3) (fun c' hc' => by
                          rw [va_up_self]
                          by_cases e : c' = c
                          · subst e; rw [va_up_self]; exact (by rw [Nat.mul_comm]; exact trk_st (by omega) (fun k hk => by rw [hsc _ k (by omega) hk (by omega), show B - 1 - (B - (i + 1) + 1) = i - 1 by omega]) hj hjn)
                          · rw [va_up_ne _ _ e]; exact hrow c' (by omega))
            · refine vv_lconst (v := 0) X dX3_scores_53 (by decide) ?_
              refine vv_goto (tgt := 74) X dX3_scores_54 (by decide) ?_
              refine vv_lstore (lv' := [(5, .long (0)), (0, .ref (g 0)), (1, .int (nI n)), (2, .ref a_1), (3, .int (nI (B - (i + 1)))), (4, .int (nI c))]) X dX3_scores_74 (by decide) rfl ?_
              refine vv_aload_n X dX3_scores_76 rfl 3 rfl ?_
              refine vv_iload_n X dX3_scores_77 rfl 4 rfl ?_
              refine vv_aald (ty := 6) X hQ_7 rfl rfl (B - (i + 1)) (by omega) (by omega) rfl dX3_scores_78 (v := .ref (a_1 + 1 + (B - (i + 1)))) (rfl) ?_
              refine vv_iload X dX3_scores_79 5 rfl ?_
              refine vv_aload_n X dX3_scores_81 rfl 1 rfl ?_
              refine vv_iload X dX3_scores_82 5 rfl ?_
              refine vv_iload_n X dX3_scores_84 rfl 4 rfl ?_
              refine vv_iload_n X dX3_scores_85 rfl 2 rfl ?_
              refine vn_mul X dX3_scores_86 ?_
              refine vv_iload_n X dX3_scores_87 rfl 2 rfl ?_
              refine vv_callVp X (mX3_blockPower (kL K) D u P T o g S pw c ((B - (i + 1)) * n) n hC hV (by omega) (by omega) (by omega)) q2471 q2454 q2455 q150 q2456 nX3_blockPower ⟨(Nat.le_of_ble_eq_true rfl), (Nat.le_of_ble_eq_true rfl)⟩ dX3_scores_88 rfl (Nat.le_of_ble_eq_true rfl) (recv X hR.ob CL_X3) ⟨hK, hU, hR⟩ ⟨(Nat.le_of_ble_eq_true rfl), (Nat.le_of_ble_eq_true rfl)⟩ ?_
              refine vv_lload X dX3_scores_91 0 rfl ?_
              refine vv_ladd X dX3_scores_93 ?_
              refine vv_last X (hW (B - (i + 1)) (by omega)) (c) (by omega) (by omega) rfl (Or.inr (Nat.le_trans ge_6 (by omega))) dX3_scores_94 (fun H hc ho => ?_)
              replace hK := hK.ch hc (X.ka hK (hW (B - (i + 1)) (by omega)) rfl (by decide +kernel) (by decide +kernel) (by decide +kernel))
              replace hU := hU.kept (fun q hl hq => hc.2 q (fun e => by obtain ⟨j_, h_, e_⟩ := hq; have h9 := fu9 j_ h_; omega))
              replace hR := hR.kept (fun q hl hq => hc.2 q (fun e => by obtain ⟨k_, h_, e_⟩ := hq; have h9 := fg9 k_ h_; omega)) (fun q hl hq => hc.2 q (fun e => by obtain ⟨j_, h_, e_⟩ := hq; have h9 := fs9 j_ h_; omega))
              replace hQ_7 := hQ_7.kept (hc.2 _ (by omega))
              have hW2 : ∀ y_, y_ < B → lA D H (a_1 + 1 + y_) (nC P) ((va_up F (B - (i + 1)) (va_up (F (B - (i + 1))) c ((blk P S c ((B - (i + 1)) * n) n) + 0))) y_) := fun y_ hj => by
                by_cases z : y_ = (B - (i + 1))
                · rw [z, va_up_self]; exact ho
                · rw [va_up_ne _ _ z]; exact (hW y_ hj).kept (hc.2 _ (by omega))
              clear hW
              have hW := hW2
              clear hW2
              replace hz := Nat.le_trans hz (Nat.le_of_eq hc.1.symm)
              clear hc ho
              refine vv_iinc (v := nI (c + 1)) (lv' := [(4, .int (nI (c + 1))), (5, .long (0)), (0, .ref (g 0)), (1, .int (nI n)), (2, .ref a_1), (3, .int (nI (B - (i + 1))))]) X dX3_scores_95 (k := 5) rfl (nI_add _ 1) (by decide) rfl ?_
              refine vv_goto (tgt := 33) X dX3_scores_98 (by decide) ?_
              refine vv_sub [2, 3, 4, 5, 0] rfl ?_
              exact ihc (c + 1) H (va_up F (B - (i + 1)) (va_up (F (B - (i + 1))) c ((blk P S c ((B - (i + 1)) * n) n) + 0))) (by omega) (hK) (hU) (hR) (hz) (hQ_7) (hW) (fun b c' h1 h2 h3 => by rw [va_up_ne _ _ (show b ≠ B - (i + 1) by omega)]; exact hsc b c' h1 h2 h3) (fun c' hc' => by
                          rw [va_up_self]
                          by_cases e : c' = c
                          · subst e; rw [va_up_self]; exact (by (obtain rfl : i = 0 := by omega); rw [Int64.add_zero, Nat.mul_comm]; rfl)
                          · rw [va_up_ne _ _ e]; exact hrow c' (by omega))
      refine vv_sub [1, 2, 3, 4, 0] rfl ?_
      exact hl_12 (nC P) 0 H F (by first | omega | assumption) (hK) (hU) (hR) (hz) (hQ_7) (hW) (hsc) (fun c' h => absurd h (by omega))
  refine vv_sub [2, 3, 1, 0] rfl ?_
  exact hl_10 (B) 0 H (fun _ _ => 0) (nI (B - 1)) (by first | omega | assumption) (hK) (hU) (hR) (hz) (hQ_7) (hW) (fun b c h1 h2 h3 => absurd h3 (by omega)) ((pk_sub (a := B) (b := 1) (by omega)).symm)
