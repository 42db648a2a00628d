/-! AcousticCamera: peaks, aliases: printed by gen/s30.py -/
set_option maxRecDepth 100000
set_option maxHeartbeats 800000 in
theorem mX1_countR (l : Launch) (D : DD) (a n : Nat) (rm2 : Room) (Inv : Heap → Prop) (A2 : Nat → Prop) (p : Nat → Bool) (C1 C2 : Nat) (hC1 : n * rm2.cells ≤ C1) (hC2 : n * rm2.slots ≤ C2) (hn : n ≤ 1000) (hS : CHO l D a rm2 Inv A2 n p) : Ct l yX1_count cX1_count 4 (some .int) { frames := rm2.frames + 2, cells := C1, slots := C2, locals := 60 + rm2.locals } D [.int (nI n), .ref a] (fun H => Inv H) A2 (fun r H H1 => r = some (.int (nI (cnt p n))) ∧ Inv H1) := by
  refine Ct.of (by decide +kernel) (Nat.le_of_ble_eq_true rfl) (fun K Qf hkl X hM hQ => ?_)
  subst hkl
  have hI := hM
  have hz : (kS K).heap.size ≤ (kS K).heap.size := Nat.le_refl _
  have hcc : ∀ i, i < n → i * rm2.cells + rm2.cells ≤ C1 := fun i hi => Nat.le_trans (by rw [← Nat.succ_mul]; exact Nat.mul_le_mul_right _ hi) hC1
  have hss : ∀ i, i < n → i * rm2.slots + rm2.slots ≤ C2 := fun i hi => Nat.le_trans (by rw [← Nat.succ_mul]; exact Nat.mul_le_mul_right _ hi) hC2
  have hr1 : rm2.frames + 2 ≤ rm2.frames + 2 := Nat.le_refl _
  have hr2 : 60 + rm2.locals ≤ 60 + rm2.locals := Nat.le_refl _
  refine vv_sub (lv' := [(0, .int (nI n)), (1, .ref a)]) [0, 1] rfl ?_
  refine vv_iconst (v := nI 0) X dX1_count_0 (by decide) ?_
  refine vv_istore_n (lv' := [(2, .int (nI 0)), (0, .int (nI n)), (1, .ref a)]) X dX1_count_1 rfl (by decide) rfl ?_
  refine vv_iconst (v := nI 0) X dX1_count_2 (by decide) ?_
  refine vv_istore_n (lv' := [(3, .int (nI 0)), (2, .int (nI 0)), (0, .int (nI n)), (1, .ref a)]) X dX1_count_3 rfl (by decide) rfl ?_
  have hx_1 : ∀ (H : Heap) (c : Nat) (hI : Inv H) (hc : c = cnt p n), V K 4 A2 H (n * rm2.cells) (n * rm2.slots) Qf 33 [(0, .int (nI n)), (1, .ref a), (2, .int (nI c)), (3, .int (nI n))] [] := by
    intro H c hI hc
    refine vv_iload_n X dX1_count_33 rfl 2 rfl ?_
    exact vv_iret X hQ dX1_count_34 hC1 hC2 (⟨by rw [hc], hI⟩)
  have hl_2 : ∀ (n_i i : Nat) (H : Heap) (c : Nat), i + n_i = n → (Inv H) → (c = cnt p i) → V K 4 A2 H (i * rm2.cells) (i * rm2.slots) Qf 4 [(0, .int (nI n)), (1, .ref a), (2, .int (nI c)), (3, .int (nI i))] [] := by
    intro n_i
    induction n_i with
    | zero =>
      intro i H c hi hI hc
      obtain rfl : n = i := by omega
      have hcl := cnt_le p n
      refine vv_iload_n X dX1_count_4 rfl 3 rfl ?_
      refine vv_iload_n X dX1_count_5 rfl 0 rfl ?_
      refine vn_ge (tgt := 33) X (by omega) (by omega) dX1_count_6 (by decide) (fun c_6 => ?_) (fun c_6 => ?_)
      · exact hx_1 H c hI hc
      · exact absurd c_6 (by omega)
    | succ n_i ihi =>
      intro i H c hi hI hc
      have hcl := cnt_le p i
      refine vv_iload_n X dX1_count_4 rfl 3 rfl ?_
      refine vv_iload_n X dX1_count_5 rfl 0 rfl ?_
      refine vn_ge (tgt := 33) X (by omega) (by omega) dX1_count_6 (by decide) (fun c_6 => ?_) (fun c_6 => ?_)
      · exact absurd hi (by omega)
      · refine vv_iload_n X dX1_count_9 rfl 2 rfl ?_
        refine vv_aload_n X dX1_count_10 rfl 1 rfl ?_
        refine vv_iload_n X dX1_count_11 rfl 3 rfl ?_
        refine hS (k := i) (by omega) X rfl q2038 ⟨hr1, hr2⟩ dX1_count_12 (Nat.le_of_ble_eq_true rfl) hI (fun _ z => Or.inl z) ⟨hcc i (by omega), hss i (by omega)⟩ (fun H hI2 hz_ hk => ?_)
        clear hI hk hz_
        have hI := hI2
        clear hI2
        refine vb_eq (tgt := 24) X dX1_count_17 (by decide) (fun c_17 => ?_) (fun c_17 => ?_)
        · refine vv_iconst (v := nI 0) X dX1_count_24 (by decide) ?_
          refine vn_add X dX1_count_25 ?_
          refine vv_istore_n (lv' := [(2, .int (nI (c + 0))), (0, .int (nI n)), (1, .ref a), (3, .int (nI i))]) X dX1_count_26 rfl (by decide) rfl ?_
          refine vv_iinc (v := nI (i + 1)) (lv' := [(3, .int (nI (i + 1))), (2, .int (nI (c + 0))), (0, .int (nI n)), (1, .ref a)]) X dX1_count_27 (k := 3) rfl (nI_add _ 1) (by decide) rfl ?_
          refine vv_goto (tgt := 4) X dX1_count_30 (by decide) ?_
          refine vv_sub [2, 3, 1, 0] rfl ?_
          refine vv_widen (k := (i + 1) * rm2.cells) (n := (i + 1) * rm2.slots) (Nat.le_of_eq (Nat.succ_mul i rm2.cells).symm) (Nat.le_of_eq (Nat.succ_mul i rm2.slots).symm) ?_
          exact ihi (i + 1) H (c + 0) (by omega) (hI) (by rw [hc]; show _ = cnt p i + (if p i = true then 1 else 0); rw [if_neg c_17])
        · refine vv_iconst (v := nI 1) X dX1_count_20 (by decide) ?_
          refine vv_goto (tgt := 25) X dX1_count_21 (by decide) ?_
          refine vn_add X dX1_count_25 ?_
          refine vv_istore_n (lv' := [(2, .int (nI (c + 1))), (0, .int (nI n)), (1, .ref a), (3, .int (nI i))]) X dX1_count_26 rfl (by decide) rfl ?_
          refine vv_iinc (v := nI (i + 1)) (lv' := [(3, .int (nI (i + 1))), (2, .int (nI (c + 1))), (0, .int (nI n)), (1, .ref a)]) X dX1_count_27 (k := 3) rfl (nI_add _ 1) (by decide) rfl ?_
          refine vv_goto (tgt := 4) X dX1_count_30 (by decide) ?_
          refine vv_sub [2, 3, 1, 0] rfl ?_
          refine vv_widen (k := (i + 1) * rm2.cells) (n := (i + 1) * rm2.slots) (Nat.le_of_eq (Nat.succ_mul i rm2.cells).symm) (Nat.le_of_eq (Nat.succ_mul i rm2.slots).symm) ?_
          exact ihi (i + 1) H (c + 1) (by omega) (hI) (by rw [hc]; show _ = cnt p i + (if p i = true then 1 else 0); rw [if_pos c_17])
  refine vv_sub [2, 3, 1, 0] rfl ?_
  refine vv_widen (k := 0 * rm2.cells) (n := 0 * rm2.slots) (Nat.zero_le _) (Nat.zero_le _) ?_
  exact hl_2 (n) 0 ((kS K).heap) 0 (by first | omega | assumption) (hI) (rfl)
set_option maxHeartbeats 800000 in
theorem mX1_best_2R (l : Launch) (D : DD) (a n : Nat) (rm2 : Room) (Inv : Heap → Prop) (A2 : Nat → Prop) (sc : Nat → Int64) (C1 C2 : Nat) (hC1 : n * rm2.cells ≤ C1) (hC2 : n * rm2.slots ≤ C2) (hn : n ≤ 1000) (hn1 : 0 < n) (hS : SCO l D a rm2 Inv A2 n sc) : Ct l yX1_best_2 cX1_best_2 8 (some .int) { frames := rm2.frames + 2, cells := C1, slots := C2, locals := 60 + rm2.locals } D [.int (nI n), .ref a] (fun H => Inv H) A2 (fun r H H1 => r = some (.int (nI (bsN sc n))) ∧ Inv H1) := by
  refine Ct.of (by decide +kernel) (Nat.le_of_ble_eq_true rfl) (fun K Qf hkl X hM hQ => ?_)
  subst hkl
  have hI := hM
  have hz : (kS K).heap.size ≤ (kS K).heap.size := Nat.le_refl _
  have hcc : ∀ i, i < n → i * rm2.cells + rm2.cells ≤ C1 := fun i hi => Nat.le_trans (by rw [← Nat.succ_mul]; exact Nat.mul_le_mul_right _ hi) hC1
  have hss : ∀ i, i < n → i * rm2.slots + rm2.slots ≤ C2 := fun i hi => Nat.le_trans (by rw [← Nat.succ_mul]; exact Nat.mul_le_mul_right _ hi) hC2
  have hr1 : rm2.frames + 2 ≤ rm2.frames + 2 := Nat.le_refl _
  have hr2 : 60 + rm2.locals ≤ 60 + rm2.locals := Nat.le_refl _
  have hbn := @bsN_lt sc n hn1
  refine vv_sub (lv' := [(0, .int (nI n)), (1, .ref a)]) [0, 1] rfl ?_
  refine vv_iconst (v := nI 0) X dX1_best_2_0 (by decide) ?_
  refine vv_istore_n (lv' := [(2, .int (nI 0)), (0, .int (nI n)), (1, .ref a)]) X dX1_best_2_1 rfl (by decide) rfl ?_
  refine vv_aload_n X dX1_best_2_2 rfl 2 rfl ?_
  refine vv_iconst (v := nI 0) X dX1_best_2_3 (by decide) ?_
  refine hS (k := 0) (hn1) X rfl q2004 ⟨hr1, hr2⟩ dX1_best_2_4 (Nat.le_of_ble_eq_true rfl) hI (fun _ z => Or.inl z) ⟨by have := hcc 0 hn1; show 0 + rm2.cells ≤ C1; omega, by have := hss 0 hn1; show 0 + rm2.slots ≤ C2; omega⟩ (fun H hI2 hz_ hk => ?_)
  clear hI hk hz_
  have hI := hI2
  clear hI2
  refine vv_lstore_n (lv' := [(3, .long (sc 0)), (2, .int (nI 0)), (0, .int (nI n)), (1, .ref a)]) X dX1_best_2_9 rfl (by decide) rfl ?_
  refine vv_iconst (v := nI 1) X dX1_best_2_10 (by decide) ?_
  refine vv_istore (lv' := [(5, .int (nI 1)), (3, .long (sc 0)), (2, .int (nI 0)), (0, .int (nI n)), (1, .ref a)]) X dX1_best_2_11 (by decide) rfl ?_
  have hx_1 : ∀ (H : Heap) (b : Nat) (m : Int64) (hI : Inv H) (hb : b = fo (bs1 sc) (n - 1) 0) (hm : m = sc b), V K 8 A2 H (((n - 1) + 1) * rm2.cells) (((n - 1) + 1) * rm2.slots) Qf 51 [(0, .int (nI n)), (1, .ref a), (2, .int (nI b)), (3, .long (m)), (5, .int (nI ((n - 1) + 1)))] [] := by
    intro H b m hI hb hm
    refine vv_iload_n X dX1_best_2_51 rfl 2 rfl ?_
    exact vv_iret X hQ dX1_best_2_52 (by show (n - 1 + 1) * rm2.cells ≤ C1; rw [Nat.sub_add_cancel hn1]; exact hC1) (by show (n - 1 + 1) * rm2.slots ≤ C2; rw [Nat.sub_add_cancel hn1]; exact hC2) (⟨by rw [hb]; rfl, hI⟩)
  have hl_2 : ∀ (n_i i : Nat) (H : Heap) (b : Nat) (m : Int64), i + n_i = n - 1 → (Inv H) → (b = fo (bs1 sc) i 0) → (m = sc b) → V K 8 A2 H ((i + 1) * rm2.cells) ((i + 1) * rm2.slots) Qf 13 [(0, .int (nI n)), (1, .ref a), (2, .int (nI b)), (3, .long (m)), (5, .int (nI (i + 1)))] [] := by
    intro n_i
    induction n_i with
    | zero =>
      intro i H b m hi hI hb hm
      obtain rfl : i = n - 1 := by omega
      refine vv_iload X dX1_best_2_13 4 rfl ?_
      refine vv_iload_n X dX1_best_2_15 rfl 0 rfl ?_
      refine vn_ge (tgt := 51) X (by omega) (by omega) dX1_best_2_16 (by decide) (fun c_16 => ?_) (fun c_16 => ?_)
      · exact hx_1 H b m hI hb hm
      · exact absurd c_16 (by omega)
    | succ n_i ihi =>
      intro i H b m hi hI hb hm
      refine vv_iload X dX1_best_2_13 4 rfl ?_
      refine vv_iload_n X dX1_best_2_15 rfl 0 rfl ?_
      refine vn_ge (tgt := 51) X (by omega) (by omega) dX1_best_2_16 (by decide) (fun c_16 => ?_) (fun c_16 => ?_)
      · exact absurd hi (by omega)
      · refine vv_aload_n X dX1_best_2_19 rfl 1 rfl ?_
        refine vv_iload X dX1_best_2_20 4 rfl ?_
        refine hS (k := i + 1) (by omega) X rfl q2004 ⟨hr1, hr2⟩ dX1_best_2_22 (Nat.le_of_ble_eq_true rfl) hI (fun _ z => Or.inl z) ⟨hcc (i + 1) (by omega), hss (i + 1) (by omega)⟩ (fun H hI2 hz_ hk => ?_)
        clear hI hk hz_
        have hI := hI2
        clear hI2
        refine vv_lstore (lv' := [(6, .long (sc (i + 1))), (0, .int (nI n)), (1, .ref a), (2, .int (nI b)), (3, .long (m)), (5, .int (nI (i + 1)))]) X dX1_best_2_27 (by decide) rfl ?_
        refine vv_lload X dX1_best_2_29 0 rfl ?_
        refine vv_lload_n X dX1_best_2_31 rfl 4 rfl ?_
        refine vv_lcmp X dX1_best_2_32 ?_
        refine vz_gt (tgt := 39) X dX1_best_2_33 (by decide) (fun c_33 => ?_) (fun c_33 => ?_)
        · refine vv_iload X dX1_best_2_39 5 rfl ?_
          refine vv_istore_n (lv' := [(2, .int (nI (i + 1))), (6, .long (sc (i + 1))), (0, .int (nI n)), (1, .ref a), (3, .long (m)), (5, .int (nI (i + 1)))]) X dX1_best_2_41 rfl (by decide) rfl ?_
          refine vv_lload X dX1_best_2_42 1 rfl ?_
          refine vv_lstore_n (lv' := [(3, .long (sc (i + 1))), (2, .int (nI (i + 1))), (6, .long (sc (i + 1))), (0, .int (nI n)), (1, .ref a), (5, .int (nI (i + 1)))]) X dX1_best_2_44 rfl (by decide) rfl ?_
          refine vv_iinc (v := nI ((i + 1) + 1)) (lv' := [(5, .int (nI ((i + 1) + 1))), (3, .long (sc (i + 1))), (2, .int (nI (i + 1))), (6, .long (sc (i + 1))), (0, .int (nI n)), (1, .ref a)]) X dX1_best_2_45 (k := 5) rfl (nI_add _ 1) (by decide) rfl ?_
          refine vv_goto (tgt := 13) X dX1_best_2_48 (by decide) ?_
          refine vv_sub [4, 5, 2, 1, 0] rfl ?_
          refine vv_widen (k := (i + 1 + 1) * rm2.cells) (n := (i + 1 + 1) * rm2.slots) (Nat.le_of_eq (Nat.succ_mul (i + 1) rm2.cells).symm) (Nat.le_of_eq (Nat.succ_mul (i + 1) rm2.slots).symm) ?_
          exact ihi (i + 1) H (i + 1) (sc (i + 1)) (by omega) (hI) (by rw [hm] at c_33; subst hb; exact (if_pos c_33).symm) (rfl)
        · refine vv_goto (tgt := 45) X dX1_best_2_36 (by decide) ?_
          refine vv_iinc (v := nI ((i + 1) + 1)) (lv' := [(5, .int (nI ((i + 1) + 1))), (6, .long (sc (i + 1))), (0, .int (nI n)), (1, .ref a), (2, .int (nI b)), (3, .long (m))]) X dX1_best_2_45 (k := 5) rfl (nI_add _ 1) (by decide) rfl ?_
          refine vv_goto (tgt := 13) X dX1_best_2_48 (by decide) ?_
          refine vv_sub [2, 3, 4, 5, 0] rfl ?_
          refine vv_widen (k := (i + 1 + 1) * rm2.cells) (n := (i + 1 + 1) * rm2.slots) (Nat.le_of_eq (Nat.succ_mul (i + 1) rm2.cells).symm) (Nat.le_of_eq (Nat.succ_mul (i + 1) rm2.slots).symm) ?_
          exact ihi (i + 1) H b m (by omega) (hI) (by rw [hm] at c_33; subst hb; exact (if_neg (Int64.not_lt.mpr c_33)).symm) (hm)
  refine vv_sub [3, 4, 2, 1, 0] rfl ?_
  refine vv_widen (k := (0 + 1) * rm2.cells) (n := (0 + 1) * rm2.slots) (by omega) (by omega) ?_
  exact hl_2 (n - 1) 0 H 0 (sc 0) (by first | omega | assumption) (hI) (rfl) (rfl)

theorem PK.exq {D : DD} {P S : Nat → Int32} {pw : Option Nat} {H H1 : Heap} (h : PK D P S pw H) (hx : Ex H H1) : PK D P S pw H1 := fun p e => (h p e).kept (hx.2 _ (h p e).lt)
/-- a state whose powers are asked for on the way -/
def IPW (D : DD) (u : Nat → Nat) (P T : Nat → Int32) (o : Nat) (g : Nat → Nat) (S : Nat → Int32) (pw : Option Nat) (Z : Nat) (H : Heap) : Prop := Z ≤ H.size ∧ KH D H ∧ UR D u P T o H ∧ ∃ w, SR D g u P S w H ∧ PK D P S w H ∧ (∀ r, pw = some r → w = some r) ∧ (w = pw ∨ ∃ r, w = some r ∧ Z ≤ r)
theorem IPW.mk0 {D : DD} {u : Nat → Nat} {P T : Nat → Int32} {o : Nat} {g : Nat → Nat} {S : Nat → Int32} {pw : Option Nat} {H : Heap} (hK : KH D H) (hU : UR D u P T o H) (hR : SR D g u P S pw H) (hP : PK D P S pw H) {Z : Nat} (hZ : Z ≤ H.size) : IPW D u P T o g S pw Z H := ⟨hZ, hK, hU, pw, hR, hP, fun _ e => e, Or.inl rfl⟩
theorem IPW.step {K : C_} {y : MethodName} {cc : ByteArray} {nL : Nat} {ret : Option FieldType} {rm : Room} {D : DD} (X : Fx K y cc nL ret rm D) {u : Nat → Nat} {P T : Nat → Int32} {o : Nat} {g : Nat → Nat} {S : Nat → Int32} {pw w : Option Nat} {Z : Nat} {H H1 : Heap} (l4 : nM P ≤ 12) (hA : AP g u P) (hZ : Z ≤ H.size) (hK : KH D H) (hU : UR D u P T o H) (hR : SR D g u P S w H) (h1 : ∀ r, pw = some r → w = some r) (h2 : w = pw ∨ ∃ r, w = some r ∧ Z ≤ r) (hz_ : H.size ≤ H1.size) (hk : ∀ q : Nat, q < H.size → ¬ (q = g 0) → H1[q]? = H[q]?) (hq : ∃ p, SR D g u P S (some p) H1 ∧ PK D P S (some p) H1 ∧ (∀ q, w = some q → p = q) ∧ (w = some p ∨ H.size ≤ p)) : IPW D u P T o g S pw Z H1 := by
  obtain ⟨p, hR2, hPK2, hold, hnew⟩ := hq
  refine ⟨Nat.le_trans hZ hz_, hK.to hk (fun q z => by rcases z with rfl; exact hR.kn X hK 0 (Or.inl (by decide))), hU.own hA l4 (Q := (· = 0)) (fun k hk => by subst hk; exact Or.inl (by decide)) (fun q hl hq => hk q hl (hq 0 rfl)), some p, hR2, hPK2, fun r e => ?_, ?_⟩
  · rw [hold r (h1 r e)]
  · rcases hnew with e | e
    · rcases h2 with e2 | ⟨r, e2, e3⟩
      · exact Or.inl (by rw [← e2, e])
      · rw [e] at e2; exact Or.inr ⟨r, e2, e3⟩
    · exact Or.inr ⟨p, rfl, Nat.le_trans hZ e⟩
theorem nX1_lambda_peaks_0 : notMH yX1_lambda_peaks_0 2 := by decide +kernel
set_option maxHeartbeats 800000 in
theorem mX1_lambda_peaks_0 (l : Launch) (D : DD) (u : Nat → Nat) (P T : Nat → Int32) (o : Nat) (g : Nat → Nat) (S : Nat → Int32) (pw : Option Nat) (c : Nat) (hC : VC P) (hV : VS S) (hA : AP g u P) (hc : c < nC P) : Ct l yX1_lambda_peaks_0 cX1_lambda_peaks_0 2 (some .boolean) { frames := 9, cells := 1, slots := 144, locals := 198 } D [.ref (g 0), .int (nI c)] (fun H => KH D H ∧ UR D u P T o H ∧ SR D g u P S pw H ∧ PK D P S pw H) (fun q => q = g 0) (fun r H H1 => r = some (.int (b2 (top P (pwc P S) c))) ∧ ∃ p, SR D g u P S (some p) H1 ∧ PK D P S (some p) H1 ∧ (∀ q, pw = some q → p = q) ∧ (pw = some p ∨ H.size ≤ p)) := by
  refine Ct.of (by decide +kernel) (Nat.le_of_ble_eq_true rfl) (fun K Qf hkl X hM hQ => ?_)
  subst hkl
  obtain ⟨hK, hU, hR, hPK⟩ := hM
  have hz : (kS K).heap.size ≤ (kS K).heap.size := Nat.le_refl _
  have hP := hC.v
  have l0 := hP.l0
  have l1 := hP.l1
  have l2 := hP.l2
  have l4 := hP.l4
  have l5 := hP.l5
  have l8 := hP.l8
  have l9 := hP.l9
  have l10 := hP.l10
  have l71 := hP.l71
  have l76 := hP.l76
  have l77 := hP.l77
  have hx1 := hC.x1
  have hy1 := hC.y1
  have ht1 := hC.t1
  have he1 := hC.e1
  have hm1 := hC.m1
  have hcc : nC P ≤ 144 := Nat.mul_le_mul l9 l10
  refine vv_sub (lv' := [(0, .ref (g 0)), (1, .int (nI c))]) [0, 1] rfl ?_
  refine vv_aload_n X dX1_lambda_peaks_0_0 rfl 0 rfl ?_
  refine vv_iload_n X dX1_lambda_peaks_0_1 rfl 1 rfl ?_
  refine vv_callV X (mX3_isPeak (kL K) D u P T o g S pw c hC hV hA (by omega)) q2030 q2031 q2032 q150 q2033 nX3_isPeak ⟨(Nat.le_of_ble_eq_true rfl), (Nat.le_of_ble_eq_true rfl)⟩ dX1_lambda_peaks_0_2 rfl (Nat.le_of_ble_eq_true rfl) (recv X hR.ob CL_X3) ⟨hK, hU, hR, hPK⟩ (fun q z => by rcases z with rfl; exact (Or.inl rfl)) ⟨(Nat.le_of_ble_eq_true rfl), (Nat.le_of_ble_eq_true rfl)⟩ (fun v_ H hq hz_ hk => ?_)
  obtain ⟨rfl, a_1, hR2, hPK2, hold, hnew⟩ := hq
  replace hK := hK.to hk (fun q z => by rcases z with rfl; exact hR.kn X hK 0 (Or.inl (by decide)))
  replace hU := hU.own hA l4 (Q := (· = 0)) (fun k hk => by subst hk; exact Or.inl (by decide)) (fun q hl hq => hk q hl (hq 0 rfl))
  replace hz := Nat.le_trans hz hz_
  have hp_2 : lA D H a_1 (nC P) (pwc P S) := hPK2 a_1 rfl
  clear hk hz_ hR
  have hR := hR2
  clear hR2 hPK2
  exact vv_zret X (b2_nar _) hQ dX1_lambda_peaks_0_5 (Nat.le_of_ble_eq_true rfl) (Nat.le_of_ble_eq_true rfl) (⟨rfl, _, hR, (fun q e => by cases e; exact hp_2), hold, hnew⟩)
theorem nX1_lambda_aliases_3 : notMH yX1_lambda_aliases_3 4 := by decide +kernel
set_option maxHeartbeats 800000 in
theorem mX1_lambda_aliases_3 (l : Launch) (D : DD) (u : Nat → Nat) (P T : Nat → Int32) (o : Nat) (g : Nat → Nat) (S : Nat → Int32) (pw : Option Nat) (p h c : Nat) (hC : VC P) (hV : VS S) (hA : AP g u P) (hc : c < nC P) (hp : 2 ≤ p ∧ p ≤ 99) (hh : 1 ≤ h ∧ h ≤ 100) : Ct l yX1_lambda_aliases_3 cX1_lambda_aliases_3 4 (some .boolean) { frames := 10, cells := 4, slots := 388, locals := 3145 } D [.ref (g 0), .int (nI p), .int (nI h), .int (nI c)] (fun H => KH D H ∧ UR D u P T o H ∧ SR D g u P S pw H ∧ PK D P S pw H) (fun q => q = g 0) (fun r H H1 => r = some (.int (b2 (mrk P S (pwc P S) c (bsN (pwc P S) (nC P)) p h))) ∧ ∃ p, SR D g u P S (some p) H1 ∧ PK D P S (some p) H1 ∧ (∀ q, pw = some q → p = q) ∧ (pw = some p ∨ H.size ≤ p)) := by
  refine Ct.of (by decide +kernel) (Nat.le_of_ble_eq_true rfl) (fun K Qf hkl X hM hQ => ?_)
  subst hkl
  obtain ⟨hK, hU, hR, hPK⟩ := hM
  have hz : (kS K).heap.size ≤ (kS K).heap.size := Nat.le_refl _
  have hP := hC.v
  have l0 := hP.l0
  have l1 := hP.l1
  have l2 := hP.l2
  have l4 := hP.l4
  have l5 := hP.l5
  have l8 := hP.l8
  have l9 := hP.l9
  have l10 := hP.l10
  have l71 := hP.l71
  have l76 := hP.l76
  have l77 := hP.l77
  have hx1 := hC.x1
  have hy1 := hC.y1
  have ht1 := hC.t1
  have he1 := hC.e1
  have hm1 := hC.m1
  have hcc : nC P ≤ 144 := Nat.mul_le_mul l9 l10
  refine vv_sub (lv' := [(0, .ref (g 0)), (1, .int (nI p)), (2, .int (nI h)), (3, .int (nI c))]) [0, 1, 2, 3] rfl ?_
  refine vv_aload_n X dX1_lambda_aliases_3_0 rfl 0 rfl ?_
  refine vv_iload_n X dX1_lambda_aliases_3_1 rfl 3 rfl ?_
  refine vv_iload_n X dX1_lambda_aliases_3_2 rfl 1 rfl ?_
  refine vv_iload_n X dX1_lambda_aliases_3_3 rfl 2 rfl ?_
  refine vv_callV X (mX3_isAlias (kL K) D u P T o g S pw c p h hC hV hA (by omega) (by omega) (by omega)) q2413 q2414 q2415 q150 q2416 nX3_isAlias ⟨(Nat.le_of_ble_eq_true rfl), (Nat.le_of_ble_eq_true rfl)⟩ dX1_lambda_aliases_3_4 rfl (Nat.le_of_ble_eq_true rfl) (recv X hR.ob CL_X3) ⟨hK, hU, hR, hPK⟩ (fun q z => by rcases z with rfl; exact (Or.inl rfl)) ⟨(Nat.le_of_ble_eq_true rfl), (Nat.le_of_ble_eq_true rfl)⟩ (fun v_ H hq hz_ hk => ?_)
  obtain ⟨rfl, a_1, hR2, hPK2, hold, hnew⟩ := hq
  replace hK := hK.to hk (fun q z => by rcases z with rfl; exact hR.kn X hK 0 (Or.inl (by decide)))
  replace hU := hU.own hA l4 (Q := (· = 0)) (fun k hk => by subst hk; exact Or.inl (by decide)) (fun q hl hq => hk q hl (hq 0 rfl))
  replace hz := Nat.le_trans hz hz_
  have hp_2 : lA D H a_1 (nC P) (pwc P S) := hPK2 a_1 rfl
  clear hk hz_ hR
  have hR := hR2
  clear hR2 hPK2
  exact vv_zret X (b2_nar _) hQ dX1_lambda_aliases_3_7 (Nat.le_of_ble_eq_true rfl) (Nat.le_of_ble_eq_true rfl) (⟨rfl, _, hR, (fun q e => by cases e; exact hp_2), hold, hnew⟩)
theorem cho5 {l : Launch} {D : DD} {q N Z : Nat} {u : Nat → Nat} {P T : Nat → Int32} {o : Nat} {g : Nat → Nat} {S : Nat → Int32} {pw : Option Nat} (hC : VC P) (hV : VS S) (hA : AP g u P)  (hN : N ≤ nC P) : CHO l D q { frames := 9, cells := 1, slots := 144, locals := 198 } (fun H => LO D H q 5 [.ref (g 0)] ∧ IPW D u P T o g S pw Z H) (fun q => q = g 0) N (fun c => decide (top P (pwc P S) c)) := by
  intro K y cc nL ret rm A H cells slots Q pc lv st idx cnt k hk X hl q1 hR d hw hi hA2 hc kk
  subst hl
  have l4 := hC.v.l4
  obtain ⟨hL, hZ, hK, hU, w, hRw, hPw, h1, h2⟩ := hi
  refine vv_lam5 X (mX1_lambda_peaks_0 (kL K) D u P T o g S w k hC hV hA (by omega)) hL q1 ⟨hR.1, by have := hR.2; omega⟩ d rfl hw ⟨hK, hU, hRw, hPw⟩ hA2 hc (fun v H H1 h => ⟨_, h.1, b2_nar _⟩) (fun v_ H1 hq hz_ hk_ => ?_)
  obtain ⟨rfl, hq2⟩ := hq
  exact vv_eqi (b2_eq decide_eq_true_iff.symm) (kk H1 ⟨hL.kept (hk_ _ hL.lt (X.lo (by decide) hL hRw.ob)), IPW.step X l4 hA hZ hK hU hRw h1 h2 hz_ hk_ hq2⟩ hz_ hk_)
theorem cho10 {l : Launch} {D : DD} {q p h N Z : Nat} {u : Nat → Nat} {P T : Nat → Int32} {o : Nat} {g : Nat → Nat} {S : Nat → Int32} {pw : Option Nat} (hC : VC P) (hV : VS S) (hA : AP g u P) (hp : 2 ≤ p ∧ p ≤ 99) (hh : 1 ≤ h ∧ h ≤ 100) (hN : N ≤ nC P) : CHO l D q { frames := 10, cells := 4, slots := 388, locals := 3145 } (fun H => LO D H q 10 [.ref (g 0), .int (nI p), .int (nI h)] ∧ IPW D u P T o g S pw Z H) (fun q => q = g 0) N (fun c => decide (mrk P S (pwc P S) c (bsN (pwc P S) (nC P)) p h)) := by
  intro K y cc nL ret rm A H cells slots Q pc lv st idx cnt k hk X hl q1 hR d hw hi hA2 hc kk
  subst hl
  have l4 := hC.v.l4
  obtain ⟨hL, hZ, hK, hU, w, hRw, hPw, h1, h2⟩ := hi
  refine vv_lam10 X (mX1_lambda_aliases_3 (kL K) D u P T o g S w p h k hC hV hA (by omega) hp hh) hL q1 ⟨hR.1, by have := hR.2; omega⟩ d rfl hw ⟨hK, hU, hRw, hPw⟩ hA2 hc (fun v H H1 h => ⟨_, h.1, b2_nar _⟩) (fun v_ H1 hq hz_ hk_ => ?_)
  obtain ⟨rfl, hq2⟩ := hq
  exact vv_eqi (b2_eq decide_eq_true_iff.symm) (kk H1 ⟨hL.kept (hk_ _ hL.lt (X.lo (by decide) hL hRw.ob)), IPW.step X l4 hA hZ hK hU hRw h1 h2 hz_ hk_ hq2⟩ hz_ hk_)
set_option maxHeartbeats 800000 in
theorem mX1_peaks (l : Launch) (D : DD) (u : Nat → Nat) (P T : Nat → Int32) (o : Nat) (g : Nat → Nat) (S : Nat → Int32) (pw : Option Nat) (c : Nat) (v0 v1 v2 v3 v5 v6 v7 : Value)  (hC : VC P) (hV : VS S) (hA : AP g u P) : Ct l yX1_peaks cX1_peaks 2 (some .int) { frames := 12, cells := 145, slots := 20737, locals := 3100 } D [.ref c] (fun H => KH D H ∧ oB D H c 0 [v0, v1, v2, v3, .ref (g 0), v5, v6, v7] ∧ UR D u P T o H ∧ SR D g u P S pw H ∧ PK D P S pw H) (fun q => q = g 0) (fun r H H1 => r = some (.int (nI (cnt (fun c => decide (top P (pwc P S) c)) (nC P)))) ∧ ∃ w, SR D g u P S w H1 ∧ PK D P S w H1 ∧ (∀ r, pw = some r → w = some r) ∧ (w = pw ∨ ∃ r, w = some r ∧ H.size ≤ r)) := by
  refine Ct.of (by decide +kernel) (Nat.le_of_ble_eq_true rfl) (fun K Qf hkl X hM hQ => ?_)
  subst hkl
  obtain ⟨hK, hc, hU, hR, hPK⟩ := hM
  have hz : (kS K).heap.size ≤ (kS K).heap.size := Nat.le_refl _
  have hP := hC.v
  have l0 := hP.l0
  have l1 := hP.l1
  have l2 := hP.l2
  have l4 := hP.l4
  have l5 := hP.l5
  have l8 := hP.l8
  have l9 := hP.l9
  have l10 := hP.l10
  have l71 := hP.l71
  have l76 := hP.l76
  have l77 := hP.l77
  have hx1 := hC.x1
  have hy1 := hC.y1
  have ht1 := hC.t1
  have he1 := hC.e1
  have hm1 := hC.m1
  have hcc : nC P ≤ 144 := Nat.mul_le_mul l9 l10
  refine vv_sub (lv' := [(0, .ref c)]) [0] rfl ?_
  refine vv_aload_n X dX1_peaks_0 rfl 0 rfl ?_
  refine vv_callVp X (mX1_there (kL K) D u P T o g S pw c v0 v1 v2 v3 v5 v6 v7  hC hV ) q1797 q1799 qs36 q137 q1800 nX1_there ⟨(Nat.le_of_ble_eq_true rfl), (Nat.le_of_ble_eq_true rfl)⟩ dX1_peaks_1 rfl (Nat.le_of_ble_eq_true rfl) (recv X hc CL_X1) ⟨hK, hc, hU, hR⟩ ⟨(Nat.le_of_ble_eq_true rfl), (Nat.le_of_ble_eq_true rfl)⟩ ?_
  refine vv_astore_n (lv' := [(1, .ref (g 0)), (0, .ref c)]) X dX1_peaks_4 rfl (by decide) rfl ?_
  refine vv_aload_n X dX1_peaks_5 rfl 0 rfl ?_
  refine vv_getfN (C := RX3) (T := TX3) (N := 8) (ref := "AcousticCamera$State") X hR.ob in_X3 CL_X3 0 (by decide) q1688 rfl rfl dX1_peaks_6 ?_
  refine vv_callVp X (mX5_cells (kL K) D u P T o  ) q1779 q1216 q1217 q152 q1218 nX5_cells ⟨(Nat.le_of_ble_eq_true rfl), (Nat.le_of_ble_eq_true rfl)⟩ dX1_peaks_9 rfl (Nat.le_of_ble_eq_true rfl) (recv X hU.ob CL_X5) hU ⟨(Nat.le_of_ble_eq_true rfl), (Nat.le_of_ble_eq_true rfl)⟩ ?_
  refine vv_aload_n X dX1_peaks_12 rfl 0 rfl ?_
  refine vv_indyA5 X rfl dX1_peaks_13 rfl (Nat.le_of_ble_eq_true rfl) (Nat.le_of_ble_eq_true rfl) (Nat.le_of_ble_eq_true rfl) (fun a_1 H eq_2 hx hl => ?_)
  have lt_3 : c < a_1 := by have h9 := hc.lt; first | omega | exact Nat.lt_of_lt_of_eq h9 (Eq.symm (by assumption))
  have ng_4 : ∀ k, UK (nM P) k → a_1 ≠ g k := fun k hk e => by have h9 := hR.ltA k hk; rw [eq_2] at e; omega
  have ns_5 : ∀ j, SJ P j → a_1 ≠ g j := fun k hk e => by have h9 := hR.ltS k hk; rw [eq_2] at e; omega
  have nu_6 : ∀ j, VK P j → a_1 ≠ u j := fun k hk e => by have h9 := hU.ltB k hk; rw [eq_2] at e; omega
  have ne_7 : c ≠ a_1 := Nat.ne_of_lt (eq_2.symm ▸ hc.lt)
  have ge_8 : (kS K).heap.size ≤ a_1 := by rw [eq_2]; exact hz
  have kn_9 : KN D a_1 := KN.new hK (Nat.le_of_eq eq_2.symm)
  replace hPK := hPK.exq hx
  replace hU := hU.ex hx
  replace hR := hR.ex hx
  replace hc := hc.kept (hx.2 _ hc.lt)
  replace hK := hK.ex hx
  replace hz : (kS K).heap.size ≤ H.size := by have := hx.1; omega
  have hL_10 : LO D H a_1 5 [.ref (g 0)] := hl
  clear hl hx
  refine vv_callS X (mX1_countR (kL K) D a_1 (nC P) { frames := 9, cells := 1, slots := 144, locals := 198 } (fun H => LO D H a_1 5 [.ref (g 0)] ∧ IPW D u P T o g S pw (kS K).heap.size H) (fun q => q = g 0) (fun c => decide (top P (pwc P S) c)) 144 20736 (by show (nC P) * 1 ≤ _; omega) (by show (nC P) * 144 ≤ _; omega) (by omega) (cho5 hC hV hA (Nat.le_refl _))) q2034 q2035 q137 q2036 nX1_count ⟨(Nat.le_of_ble_eq_true rfl), (Nat.le_of_ble_eq_true rfl)⟩ dX1_peaks_18 rfl (Nat.le_of_ble_eq_true rfl) ⟨hL_10, IPW.mk0 hK hU hR hPK hz⟩ (fun q z => by rcases z with rfl; exact (Or.inl rfl)) ⟨(Nat.le_of_ble_eq_true rfl), (Nat.le_of_ble_eq_true rfl)⟩ (fun v_ H hq hz_ hk => ?_)
  obtain ⟨rfl, hL2, hZ2, hK2, hU2, w2, hR2, hPK2, hold, hnew⟩ := hq
  replace hc := hc.kept (hk _ hc.lt (X.oo hc hR.ob CL_X1 CL_X3 (by decide)))
  clear hL_10
  replace hz := Nat.le_trans hz hz_
  clear hk hz_ hK hU hR
  have hK := hK2
  have hU := hU2
  have hR := hR2
  clear hK2 hU2 hR2
  exact vv_iret X hQ dX1_peaks_21 (Nat.le_of_ble_eq_true rfl) (Nat.le_of_ble_eq_true rfl) (⟨rfl, w2, hR, hPK2, hold, hnew⟩)
set_option maxHeartbeats 800000 in
theorem mX1_aliases (l : Launch) (D : DD) (u : Nat → Nat) (P T : Nat → Int32) (o : Nat) (g : Nat → Nat) (S : Nat → Int32) (pw : Option Nat) (c : Nat) (v0 v1 v2 v3 v5 v6 v7 : Value) (p h : Nat) (hC : VC P) (hV : VS S) (hA : AP g u P) (hp : 2 ≤ p ∧ p ≤ 99) (hh : 1 ≤ h ∧ h ≤ 100) : Ct l yX1_aliases cX1_aliases 4 (some .int) { frames := 13, cells := 577, slots := 55875, locals := 3228 } D [.ref c, .int (nI p), .int (nI h)] (fun H => KH D H ∧ oB D H c 0 [v0, v1, v2, v3, .ref (g 0), v5, v6, v7] ∧ UR D u P T o H ∧ SR D g u P S pw H ∧ PK D P S pw H) (fun q => q = g 0) (fun r H H1 => r = some (.int (nI (cnt (fun c => decide (mrk P S (pwc P S) c (bsN (pwc P S) (nC P)) p h)) (nC P)))) ∧ ∃ w, SR D g u P S w H1 ∧ PK D P S w H1 ∧ (∀ r, pw = some r → w = some r) ∧ (w = pw ∨ ∃ r, w = some r ∧ H.size ≤ r)) := by
  refine Ct.of (by decide +kernel) (Nat.le_of_ble_eq_true rfl) (fun K Qf hkl X hM hQ => ?_)
  subst hkl
  obtain ⟨hK, hc, hU, hR, hPK⟩ := hM
  have hz : (kS K).heap.size ≤ (kS K).heap.size := Nat.le_refl _
  have hP := hC.v
  have l0 := hP.l0
  have l1 := hP.l1
  have l2 := hP.l2
  have l4 := hP.l4
  have l5 := hP.l5
  have l8 := hP.l8
  have l9 := hP.l9
  have l10 := hP.l10
  have l71 := hP.l71
  have l76 := hP.l76
  have l77 := hP.l77
  have hx1 := hC.x1
  have hy1 := hC.y1
  have ht1 := hC.t1
  have he1 := hC.e1
  have hm1 := hC.m1
  have hcc : nC P ≤ 144 := Nat.mul_le_mul l9 l10
  refine vv_sub (lv' := [(0, .ref c), (1, .int (nI p)), (2, .int (nI h))]) [0, 1, 2] rfl ?_
  refine vv_aload_n X dX1_aliases_0 rfl 0 rfl ?_
  refine vv_callVp X (mX1_there (kL K) D u P T o g S pw c v0 v1 v2 v3 v5 v6 v7  hC hV ) q1797 q1799 qs36 q137 q1800 nX1_there ⟨(Nat.le_of_ble_eq_true rfl), (Nat.le_of_ble_eq_true rfl)⟩ dX1_aliases_1 rfl (Nat.le_of_ble_eq_true rfl) (recv X hc CL_X1) ⟨hK, hc, hU, hR⟩ ⟨(Nat.le_of_ble_eq_true rfl), (Nat.le_of_ble_eq_true rfl)⟩ ?_
  refine vv_astore_n (lv' := [(3, .ref (g 0)), (0, .ref c), (1, .int (nI p)), (2, .int (nI h))]) X dX1_aliases_4 rfl (by decide) rfl ?_
  refine vv_iload_n X dX1_aliases_5 rfl 2 rfl ?_
  refine vv_iload_n X dX1_aliases_6 rfl 3 rfl ?_
  refine vv_callSv X (mX1_checkShare (kL K) D (nI p) (nI h) (⟨⟨(nI_leI (by omega) (by omega)).mpr hp.1, (nI_leI (by omega) (by omega)).mpr hp.2⟩, (nI_leI (by omega) (by omega)).mpr hh.1, (nI_leI (by omega) (by omega)).mpr hh.2⟩)) q2409 q2410 q137 q2411 nX1_checkShare ⟨(Nat.le_of_ble_eq_true rfl), (Nat.le_of_ble_eq_true rfl)⟩ dX1_aliases_7 rfl (Nat.le_of_ble_eq_true rfl) trivial ⟨(Nat.le_of_ble_eq_true rfl), (Nat.le_of_ble_eq_true rfl)⟩ ?_
  refine vv_aload_n X dX1_aliases_10 rfl 0 rfl ?_
  refine vv_getfN (C := RX3) (T := TX3) (N := 8) (ref := "AcousticCamera$State") X hR.ob in_X3 CL_X3 0 (by decide) q1688 rfl rfl dX1_aliases_11 ?_
  refine vv_callVp X (mX5_cells (kL K) D u P T o  ) q1779 q1216 q1217 q152 q1218 nX5_cells ⟨(Nat.le_of_ble_eq_true rfl), (Nat.le_of_ble_eq_true rfl)⟩ dX1_aliases_14 rfl (Nat.le_of_ble_eq_true rfl) (recv X hU.ob CL_X5) hU ⟨(Nat.le_of_ble_eq_true rfl), (Nat.le_of_ble_eq_true rfl)⟩ ?_
  refine vv_aload_n X dX1_aliases_17 rfl 0 rfl ?_
  refine vv_iload_n X dX1_aliases_18 rfl 2 rfl ?_
  refine vv_iload_n X dX1_aliases_19 rfl 3 rfl ?_
  refine vv_indyA10 X rfl dX1_aliases_20 rfl (Nat.le_of_ble_eq_true rfl) (Nat.le_of_ble_eq_true rfl) (Nat.le_of_ble_eq_true rfl) (fun a_1 H eq_2 hx hl => ?_)
  have lt_3 : c < a_1 := by have h9 := hc.lt; first | omega | exact Nat.lt_of_lt_of_eq h9 (Eq.symm (by assumption))
  have ng_4 : ∀ k, UK (nM P) k → a_1 ≠ g k := fun k hk e => by have h9 := hR.ltA k hk; rw [eq_2] at e; omega
  have ns_5 : ∀ j, SJ P j → a_1 ≠ g j := fun k hk e => by have h9 := hR.ltS k hk; rw [eq_2] at e; omega
  have nu_6 : ∀ j, VK P j → a_1 ≠ u j := fun k hk e => by have h9 := hU.ltB k hk; rw [eq_2] at e; omega
  have ne_7 : c ≠ a_1 := Nat.ne_of_lt (eq_2.symm ▸ hc.lt)
  have ge_8 : (kS K).heap.size ≤ a_1 := by rw [eq_2]; exact hz
  have kn_9 : KN D a_1 := KN.new hK (Nat.le_of_eq eq_2.symm)
  replace hPK := hPK.exq hx
  replace hU := hU.ex hx
  replace hR := hR.ex hx
  replace hc := hc.kept (hx.2 _ hc.lt)
  replace hK := hK.ex hx
  replace hz : (kS K).heap.size ≤ H.size := by have := hx.1; omega
  have hL_10 : LO D H a_1 10 [.ref (g 0), .int (nI p), .int (nI h)] := hl
  clear hl hx
  refine vv_callS X (mX1_countR (kL K) D a_1 (nC P) { frames := 10, cells := 4, slots := 388, locals := 3145 } (fun H => LO D H a_1 10 [.ref (g 0), .int (nI p), .int (nI h)] ∧ IPW D u P T o g S pw (kS K).heap.size H) (fun q => q = g 0) (fun c => decide (mrk P S (pwc P S) c (bsN (pwc P S) (nC P)) p h)) 576 55872 (by show (nC P) * 4 ≤ _; omega) (by show (nC P) * 388 ≤ _; omega) (by omega) (cho10 hC hV hA hp hh (Nat.le_refl _))) q2034 q2035 q137 q2036 nX1_count ⟨(Nat.le_of_ble_eq_true rfl), (Nat.le_of_ble_eq_true rfl)⟩ dX1_aliases_25 rfl (Nat.le_of_ble_eq_true rfl) ⟨hL_10, IPW.mk0 hK hU hR hPK hz⟩ (fun q z => by rcases z with rfl; exact (Or.inl rfl)) ⟨(Nat.le_of_ble_eq_true rfl), (Nat.le_of_ble_eq_true rfl)⟩ (fun v_ H hq hz_ hk => ?_)
  obtain ⟨rfl, hL2, hZ2, hK2, hU2, w2, hR2, hPK2, hold, hnew⟩ := hq
  replace hc := hc.kept (hk _ hc.lt (X.oo hc hR.ob CL_X1 CL_X3 (by decide)))
  clear hL_10
  replace hz := Nat.le_trans hz hz_
  clear hk hz_ hK hU hR
  have hK := hK2
  have hU := hU2
  have hR := hR2
  clear hK2 hU2 hR2
  exact vv_iret X hQ dX1_aliases_28 (Nat.le_of_ble_eq_true rfl) (Nat.le_of_ble_eq_true rfl) (⟨rfl, w2, hR, hPK2, hold, hnew⟩)
