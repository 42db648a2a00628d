/-! AcousticCamera.ranking: printed by gen/s38.py -/
set_option maxRecDepth 100000
theorem IN.kept {D : DD} {H H1 : Heap} {a k : Nat} (h : IN D H a k) (hk : H1[a]? = H[a]?) : IN D H1 a k := by
  unfold IN at h ⊢
  exact h.kept hk
theorem IN.lt {D : DD} {H : Heap} {a k : Nat} (h : IN D H a k) : a < H.size := by
  unfold IN at h
  exact h.lt
/-- how many of the listed ones stand ahead of k -/
def plc (sc : Nat → Int64) (v : Nat → Nat) (k j : Nat) : Nat := fo (fun o a => a + (if sc (v o) < sc k then 0 else 1)) j 0
theorem plc_le (sc : Nat → Int64) (v : Nat → Nat) (k : Nat) : ∀ j, plc sc v k j ≤ j
  | 0 => Nat.le_refl _
  | j + 1 => by
    have := plc_le sc v k j
    show plc sc v k j + (if sc (v j) < sc k then 0 else 1) ≤ j + 1
    split <;> omega
/-- the list that ranking makes -/
def rk (p : Nat → Bool) (sc : Nat → Int64) : Nat → Nat × (Nat → Nat)
  | 0 => (0, fun _ => 0)
  | i + 1 => if p i = true then ((rk p sc i).1 + 1, insF (rk p sc i).2 (plc sc (rk p sc i).2 i (rk p sc i).1) i) else rk p sc i
theorem rk_le (p : Nat → Bool) (sc : Nat → Int64) : ∀ i, (rk p sc i).1 ≤ i
  | 0 => Nat.le_refl _
  | i + 1 => by
    have := rk_le p sc i
    unfold rk
    split
    · exact Nat.succ_le_succ this
    · omega
theorem rk_p1 {p : Nat → Bool} {sc : Nat → Int64} {i : Nat} (h : p i = true) : (rk p sc (i + 1)).1 = (rk p sc i).1 + 1 := by rw [rk, if_pos h]
theorem rk_p2 {p : Nat → Bool} {sc : Nat → Int64} {i : Nat} (h : p i = true) : (rk p sc (i + 1)).2 = insF (rk p sc i).2 (plc sc (rk p sc i).2 i (rk p sc i).1) i := by rw [rk, if_pos h]
theorem rk_n {p : Nat → Bool} {sc : Nat → Int64} {i : Nat} (h : ¬ p i = true) : rk p sc (i + 1) = rk p sc i := by rw [rk, if_neg h]
theorem insF_lt {f : Nat → Nat} {p x B m : Nat} (hf : ∀ j, j < m → f j < B) (hx : x < B) : ∀ j, j < m + 1 → insF f p x j < B ∨ m < p := fun j hj => by
  by_cases h : j < p
  · rw [insF_lo h]
    by_cases h2 : j < m
    · exact Or.inl (hf j h2)
    · exact Or.inr (by omega)
  · by_cases h2 : j = p
    · subst h2; rw [insF_at]; exact Or.inl hx
    · rw [insF_hi (by omega)]; exact Or.inl (hf _ (by omega))
theorem rk_lt (p : Nat → Bool) (sc : Nat → Int64) : ∀ i j, j < (rk p sc i).1 → (rk p sc i).2 j < i
  | 0 => fun j hj => absurd hj (Nat.not_lt_zero _)
  | i + 1 => fun j hj => by
    have ih := rk_lt p sc i
    have hp := plc_le sc (rk p sc i).2 i (rk p sc i).1
    unfold rk at hj ⊢
    by_cases h : p i = true
    · rw [if_pos h] at hj ⊢
      exact (insF_lt (B := i + 1) (fun j hj => Nat.lt_succ_of_lt (ih j hj)) (Nat.lt_succ_self _) j hj).resolve_right (by omega)
    · rw [if_neg h] at hj ⊢
      exact Nat.lt_succ_of_lt (ih j hj)
theorem nX1_ranking : notMH yX1_ranking 3 := by decide +kernel
set_option maxHeartbeats 800000 in
theorem mX1_ranking (l : Launch) (D : DD) (a1 a2 n : Nat) (rm2 rm3 : Room) (Inv : Heap → Prop) (A2 : Nat → Prop) (p : Nat → Bool) (sc : Nat → Int64) (Z : Nat) (hn : n ≤ 144) (h2f : rm2.frames + 2 ≤ 20 ∧ 60 + rm2.locals ≤ 3300) (h3f : rm3.frames + 2 ≤ 20 ∧ 60 + rm3.locals ≤ 3300) (h2c : rm2.cells ≤ 1 ∧ rm2.slots ≤ 144) (h3c : rm3.cells = 0 ∧ rm3.slots = 0) (hS1 : CHO l D a1 rm2 Inv A2 n p) (hS2 : SCO l D a2 rm3 Inv (fun _ => False) n sc) (hIK : ∀ H, Inv H → KH D H) (hA2 : ∀ q, A2 q → q < Z) (hA2i : ∀ H q k, Inv H → A2 q → IN D H q k → False) (hst : ∀ H H1 : Heap, Inv H → H.size ≤ H1.size → (∀ q, q < Z → H1[q]? = H[q]?) → Inv H1) : Ct l yX1_ranking cX1_ranking 8 (some (.object "java/util/LinkedList")) { frames := 20, cells := 577, slots := 23044, locals := 3300 } D [.int (nI n), .ref a1, .ref a2] (fun H => Inv H ∧ H.size = Z) A2 (fun r H H1 => ∃ b nd it, r = some (.ref b) ∧ H.size ≤ b ∧ LL D H1 b (rk p sc n).1 nd it ∧ (∀ j, j < (rk p sc n).1 → IN D H1 (it j) ((rk p sc n).2 j)) ∧ Inv H1) := by
  refine Ct.of (by decide +kernel) (Nat.le_of_ble_eq_true rfl) (fun K Qf hkl X hM hQ => ?_)
  subst hkl
  have hI := hM
  have hz : (kS K).heap.size ≤ (kS K).heap.size := Nat.le_refl _
  refine vv_sub (lv' := [(0, .int (nI n)), (1, .ref a1), (2, .ref a2)]) [0, 1, 2] rfl ?_
  obtain ⟨hI9, hZe⟩ := hI
  subst hZe
  have hK := hIK _ hI9
  have hI := hI9
  refine vv_newA (C := RJ33) (T := TJ33) (N := 4) (fs := [.int (nI 0), .int (nI 0), .null, .null]) X in_J33 CL_J33 tyJ33 tyJ33_ok q2061 q1625 q182 (tyJ33_d) (Nat.le_of_ble_eq_true rfl) (Nat.le_of_ble_eq_true rfl) dX1_ranking_0 (fun a_1 H eq_2 hx ho => ?_)
  have ge_3 : (kS K).heap.size ≤ a_1 := by rw [eq_2]; exact hz
  have kn_4 : KN D a_1 := KN.new hK (Nat.le_of_eq eq_2.symm)
  replace hI := (show Inv H from hst _ _ hI (by have := hx.1; omega) (fun q hq => hx.2 _ (by omega)))
  replace hK := hK.ex hx
  replace hz : (kS K).heap.size ≤ H.size := by have := hx.1; omega
  have hO_5 : oB D H a_1 24 [.int (nI 0), .int (nI 0), .null, .null] := ho
  clear ho hx
  refine vv_dup X dX1_ranking_3 rfl ?_
  refine vv_callI X (mJ33_init (kL K) D a_1) q2062 q2063 q182 q2064 rfl nJ33_init ⟨(Nat.le_of_ble_eq_true rfl), (Nat.le_of_ble_eq_true rfl)⟩ dX1_ranking_4 rfl (Nat.le_of_ble_eq_true rfl) ⟨hK, hO_5⟩ (fun q z => by rcases z with rfl; exact (Or.inr ge_3)) ⟨(Nat.le_of_ble_eq_true rfl), (Nat.le_of_ble_eq_true rfl)⟩ (fun v_ H hq hz_ hk => ?_)
  obtain ⟨rfl, hq2⟩ := hq
  replace hI := (show Inv H from hst _ _ hI hz_ (fun q hq => hk _ (by omega) (by omega)))
  replace hK := hK.to hk (fun q z => by rcases z with rfl; exact kn_4)
  replace hz := Nat.le_trans hz hz_
  clear hO_5
  have hO_5 := hq2
  clear hq2
  clear hk hz_
  refine vv_astore_n (lv' := [(3, .ref a_1), (0, .int (nI n)), (1, .ref a1), (2, .ref a2)]) X dX1_ranking_7 rfl (by decide) rfl ?_
  obtain ⟨b, hb9⟩ : ∃ b, b = a_1 := ⟨_, rfl⟩
  rw [← hb9] at hO_5 ⊢
  have hL : LL D H b 0 (fun _ => 0) (fun _ => 0) := ⟨hO_5, fun k hk => absurd hk (Nat.not_lt_zero _), fun j k hj => absurd hj (Nat.not_lt_zero _)⟩
  have hbZ : (kS K).heap.size ≤ b := by rw [hb9]; exact ge_3
  refine vv_iconst (v := nI 0) X dX1_ranking_8 (by decide) ?_
  refine vv_istore (lv' := [(4, .int (nI 0)), (3, .ref b), (0, .int (nI n)), (1, .ref a1), (2, .ref a2)]) X dX1_ranking_9 (by decide) rfl ?_
  have hx_6 : ∀ (H : Heap) (m : Nat) (nd : Nat → Nat) (it : Nat → Nat) (v : Nat → Nat) (hI : Inv H) (hK : KH D H) (hL : LL D H b m nd it) (hit : ∀ j, j < m → IN D H (it j) (v j)) (hz : (kS K).heap.size ≤ H.size) (hnZ : ∀ j, j < m → (kS K).heap.size ≤ nd j) (hm : m = (rk p sc n).1) (hv : v = (rk p sc n).2), V K 8 A2 H (1 + 4 * n) (4 + 160 * n) Qf 115 [(0, .int (nI n)), (1, .ref a1), (2, .ref a2), (3, .ref b), (4, .int (nI n))] [] := by
    intro H m nd it v hI hK hL hit hz hnZ hm hv
    refine vv_widen (k := 577) (n := 23044) (by first | omega | (dsimp only; omega)) (by first | omega | (dsimp only; omega)) ?_
    refine vv_aload_n X dX1_ranking_115 rfl 3 rfl ?_
    exact vv_aret X (Or.inl ⟨_, rfl⟩) (Or.inr ⟨_, rfl⟩) hQ dX1_ranking_116 (Nat.le_of_ble_eq_true rfl) (Nat.le_of_ble_eq_true rfl) (⟨b, nd, it, rfl, hbZ, by rw [← hm]; exact hL, fun j hj => by rw [← hv]; exact hit j (by rw [hm]; exact hj), hI⟩)
  have hl_7 : ∀ (n_i i : Nat) (H : Heap) (m : Nat) (nd : Nat → Nat) (it : Nat → Nat) (v : Nat → Nat), i + n_i = n → (Inv H) → (KH D H) → (LL D H b m nd it) → (∀ j, j < m → IN D H (it j) (v j)) → ((kS K).heap.size ≤ H.size) → (∀ j, j < m → (kS K).heap.size ≤ nd j) → (m = (rk p sc i).1) → (v = (rk p sc i).2) → V K 8 A2 H (1 + 4 * i) (4 + 160 * i) Qf 11 [(0, .int (nI n)), (1, .ref a1), (2, .ref a2), (3, .ref b), (4, .int (nI i))] [] := by
    intro n_i
    induction n_i with
    | zero =>
      intro i H m nd it v hi hI hK hL hit hz hnZ hm hv
      obtain rfl : n = i := by omega
      have hmle := rk_le p sc n
      refine vv_iload X dX1_ranking_11 4 rfl ?_
      refine vv_iload_n X dX1_ranking_13 rfl 0 rfl ?_
      refine vn_ge (tgt := 115) X (by omega) (by omega) dX1_ranking_14 (by decide) (fun c_14 => ?_) (fun c_14 => ?_)
      · exact hx_6 H m nd it v hI hK hL hit hz hnZ hm hv
      · exact absurd c_14 (by omega)
    | succ n_i ihi =>
      intro i H m nd it v hi hI hK hL hit hz hnZ hm hv
      have hmle := rk_le p sc i
      refine vv_iload X dX1_ranking_11 4 rfl ?_
      refine vv_iload_n X dX1_ranking_13 rfl 0 rfl ?_
      refine vn_ge (tgt := 115) X (by omega) (by omega) dX1_ranking_14 (by decide) (fun c_14 => ?_) (fun c_14 => ?_)
      · exact absurd hi (by omega)
      · refine vv_aload_n X dX1_ranking_17 rfl 1 rfl ?_
        refine vv_iload X dX1_ranking_18 4 rfl ?_
        refine hS1 (k := i) (by omega) X rfl q2038 ⟨(by first | omega | (dsimp only; omega)), (by first | omega | (dsimp only; omega))⟩ dX1_ranking_20 (Nat.le_of_ble_eq_true rfl) hI (fun _ z => Or.inl z) ⟨(by first | omega | (dsimp only; omega)), (by first | omega | (dsimp only; omega))⟩ (fun H hI2 hz_ hk => ?_)
        replace hL := hL.kept (hk _ hL.1.lt (fun z => absurd (hA2 _ z) (by omega))) (fun k hk9 hl9 => hk _ hl9 (fun z => absurd (hA2 _ z) (by have := hnZ k hk9; omega)))
        replace hit := fun j (hj : j < m) => (hit j hj).kept (hk _ (hit j hj).lt (fun z => hA2i _ _ _ hI z (hit j hj)))
        replace hI := hI2
        replace hK := hIK _ hI2
        replace hz := Nat.le_trans hz hz_
        clear hk hz_ hI2
        refine vv_widen (k := 1 + 4 * i + 1) (n := 4 + 160 * i + 144) (by first | omega | (dsimp only; omega)) (by first | omega | (dsimp only; omega)) ?_
        refine vb_ne (tgt := 31) X dX1_ranking_25 (by decide) (fun c_25 => ?_) (fun c_25 => ?_)
        · refine vv_iconst (v := nI 0) X dX1_ranking_31 (by decide) ?_
          refine vv_istore (lv' := [(5, .int (nI 0)), (0, .int (nI n)), (1, .ref a1), (2, .ref a2), (3, .ref b), (4, .int (nI i))]) X dX1_ranking_32 (by decide) rfl ?_
          have hb := hL.1
          refine vv_aload_n X dX1_ranking_34 rfl 4 rfl ?_
          refine vv_callU X (mJ32_iterator (kL K) D b m nd it (by omega)) q2081 q2082 q2085 q2084 q181 q2086 rfl (show "java/util/AbstractSequentialList" ≠ "java/lang/invoke/MethodHandle" ∧ "java/util/AbstractSequentialList" ≠ "java/lang/invoke/VarHandle" ∧ (parseMethodDescriptor "()Ljava/util/Iterator;").map (fun d => d.parameters.length) = some 0 by decide +kernel) ⟨(Nat.le_of_ble_eq_true rfl), (Nat.le_of_ble_eq_true rfl)⟩ dX1_ranking_35 rfl (Nat.le_of_ble_eq_true rfl) hb CL_J33 ⟨hK, hL⟩ (fun _ z => z.elim) ⟨(by first | omega | (dsimp only; omega)), (by first | omega | (dsimp only; omega))⟩ (fun v_ H hq hz_ hk => ?_)
          obtain ⟨i9, rfl, hiz, hIt⟩ := hq
          have hi9Z := Nat.le_trans hz hiz
          replace hI := hst _ _ hI hz_ (fun q hq => hk _ (by omega) (fun z => z))
          replace hL := hL.kept (hk _ hL.1.lt (fun z => z)) (fun k hk9 hl9 => hk _ hl9 (fun z => z))
          replace hit := fun j (hj : j < m) => (hit j hj).kept (hk _ (hit j hj).lt (fun z => z))
          replace hK := hIK _ hI
          replace hz := Nat.le_trans hz hz_
          clear hk hz_ hb
          refine vv_widen (k := 1 + 4 * i + 2) (n := 4 + 160 * i + 149) (by first | omega | (dsimp only; omega)) (by first | omega | (dsimp only; omega)) ?_
          refine vv_astore (lv' := [(6, .ref i9), (5, .int (nI 0)), (0, .int (nI n)), (1, .ref a1), (2, .ref a2), (3, .ref b), (4, .int (nI i))]) X dX1_ranking_38 (by decide) rfl ?_
          have hvl : ∀ j, j < m → v j < i := fun j hj => by rw [hv]; exact rk_lt p sc i j (by rw [← hm]; exact hj)
          have hx_8 : ∀ (H : Heap) (pl : Nat) (hI : Inv H) (hK : KH D H) (hL : LL D H b m nd it) (hit : ∀ j, j < m → IN D H (it j) (v j)) (hz : (kS K).heap.size ≤ H.size) (hIt : IT D H i9 b m nd m) (hpl : pl = plc sc v i m), V K 8 A2 H (1 + 4 * i + 2) (4 + 160 * i + 149) Qf 98 [(0, .int (nI n)), (1, .ref a1), (2, .ref a2), (3, .ref b), (4, .int (nI i)), (5, .int (nI pl)), (6, .ref i9)] [] := by
            intro H pl hI hK hL hit hz hIt hpl
            have hple : pl ≤ m := by rw [hpl]; exact plc_le sc v i m
            have hmi : m ≤ i := by rw [hm]; exact rk_le p sc i
            refine vv_aload_n X dX1_ranking_98 rfl 3 rfl ?_
            refine vv_iload X dX1_ranking_99 5 rfl ?_
            refine vv_iload X dX1_ranking_101 4 rfl ?_
            refine vv_callS X (mJ20_valueOf (kL K) D i (by omega)) q2302 q2303 q163 q2304 nJ20_valueOf ⟨(Nat.le_of_ble_eq_true rfl), (Nat.le_of_ble_eq_true rfl)⟩ dX1_ranking_103 rfl (Nat.le_of_ble_eq_true rfl) hK (fun _ z => z.elim) ⟨(by first | omega | (dsimp only; omega)), (by first | omega | (dsimp only; omega))⟩ (fun v_ H hq hz_ hk => ?_)
            obtain ⟨w, rfl, hw⟩ := hq
            replace hI := hst _ _ hI hz_ (fun q hq => hk _ (by omega) (fun z => z))
            replace hL := hL.kept (hk _ hL.1.lt (fun z => z)) (fun k hk9 hl9 => hk _ hl9 (fun z => z))
            replace hit := fun j (hj : j < m) => (hit j hj).kept (hk _ (hit j hj).lt (fun z => z))
            replace hK := hIK _ hI
            replace hz := Nat.le_trans hz hz_
            clear hk hz_
            refine vv_widen (k := 1 + 4 * i + 3) (n := 4 + 160 * i + 150) (by first | omega | (dsimp only; omega)) (by first | omega | (dsimp only; omega)) ?_
            have hb := hL.1
            have hIA : ∀ z k9 (hz9 : IN D H z k9), ¬ (z = b ∨ ∃ k, k < m ∧ z = nd k) := fun z k9 hz9 e => by
              rcases e with e | ⟨k, hk9, e⟩
              · exact X.oo hz9 hL.1 CL_J20 CL_J33 (by decide) e
              · exact X.oo hz9 (hL.2.1 k hk9) CL_J20 CL_J23 (by decide) e
            refine vv_callV X (mJ33_add_2 (kL K) D b m pl w nd it (by omega) (by omega)) q2321 q2322 q2323 q182 q2324 nJ33_add_2 ⟨(Nat.le_of_ble_eq_true rfl), (Nat.le_of_ble_eq_true rfl)⟩ dX1_ranking_106 rfl (Nat.le_of_ble_eq_true rfl) (recv X hb CL_J33) ⟨hK, hL⟩ (fun q z => by rcases z with z | ⟨k, hk9, z⟩; exact Or.inr (by rw [z]; exact hbZ); exact Or.inr (by rw [z]; exact hnZ k hk9)) ⟨(by first | omega | (dsimp only; omega)), (by first | omega | (dsimp only; omega))⟩ (fun v_ H hq hz_ hk => ?_)
            obtain ⟨rfl, q, hqz, hL2⟩ := hq
            clear hb
            have hqZ := Nat.le_trans hz hqz
            replace hI := hst _ _ hI hz_ (fun q hq => hk _ (by omega) (fun z => by rcases z with z | ⟨k, hk9, z⟩; omega; have := hnZ k hk9; omega))
            have hit2 : ∀ j, j < m + 1 → IN D H (insF it pl w j) (insF v pl i j) := fun j hj => by
              by_cases h1 : j < pl
              · rw [insF_lo h1, insF_lo h1]; exact (hit j (by omega)).kept (hk _ (hit j (by omega)).lt (hIA _ _ (hit j (by omega))))
              · by_cases h2 : j = pl
                · subst h2; rw [insF_at, insF_at]; exact hw.kept (hk _ hw.lt (hIA _ _ hw))
                · rw [insF_hi (by omega), insF_hi (by omega)]; exact (hit (j - 1) (by omega)).kept (hk _ (hit (j - 1) (by omega)).lt (hIA _ _ (hit (j - 1) (by omega))))
            have hnZ2 : ∀ j, j < m + 1 → (kS K).heap.size ≤ insF nd pl q j := fun j hj => by
              by_cases h1 : j < pl
              · rw [insF_lo h1]; exact hnZ j (by omega)
              · by_cases h2 : j = pl
                · subst h2; rw [insF_at]; exact hqZ
                · rw [insF_hi (by omega)]; exact hnZ (j - 1) (by omega)
            replace hK := hIK _ hI
            replace hz := Nat.le_trans hz hz_
            clear hk hz_ hit hnZ hL hIA
            have hit := hit2
            have hnZ := hnZ2
            have hL := hL2
            clear hit2 hnZ2 hL2
            refine vv_iinc (v := nI (i + 1)) (lv' := [(4, .int (nI (i + 1))), (0, .int (nI n)), (1, .ref a1), (2, .ref a2), (3, .ref b), (5, .int (nI pl)), (6, .ref i9)]) X dX1_ranking_109 (k := 4) rfl (nI_add _ 1) (by decide) rfl ?_
            refine vv_goto (tgt := 11) X dX1_ranking_112 (by decide) ?_
            refine vv_sub [1, 2, 3, 4, 0] rfl ?_
            refine vv_widen (k := 1 + 4 * (i + 1)) (n := 4 + 160 * (i + 1)) (by first | omega | (dsimp only; omega)) (by first | omega | (dsimp only; omega)) ?_
            exact ihi (i + 1) H (m + 1) (insF nd pl q) (insF it pl w) (insF v pl i) (by omega) (hI) (hK) (hL) (hit) (hz) (hnZ) (by rw [hm, rk_p1 c_25]) (by rw [rk_p2 c_25, hpl, hv, hm])
          have hl_9 : ∀ (n_j j : Nat) (H : Heap) (pl : Nat), j + n_j = m → (Inv H) → (KH D H) → (LL D H b m nd it) → (∀ j, j < m → IN D H (it j) (v j)) → ((kS K).heap.size ≤ H.size) → (IT D H i9 b m nd j) → (pl = plc sc v i j) → V K 8 A2 H (1 + 4 * i + 2) (4 + 160 * i + 149) Qf 40 [(0, .int (nI n)), (1, .ref a1), (2, .ref a2), (3, .ref b), (4, .int (nI i)), (5, .int (nI pl)), (6, .ref i9)] [] := by
            intro n_j
            induction n_j with
            | zero =>
              intro j H pl hj hI hK hL hit hz hIt hpl
              obtain rfl : m = j := by omega
              have hple := plc_le sc v i m
              refine vv_aload X dX1_ranking_40 6 rfl ?_
              have hb := hL.1
              obtain ⟨lr, hi⟩ := hIt
              refine vv_callFp X (mJ37_hasNext (kL K) D i9 b m m _ _ _ _ (by omega) (by omega)) (by decide) q2174 q2196 q2194 q187 q2198 (show notMH ⟨"java/util/Iterator", "hasNext", "()Z"⟩ 0 by decide +kernel) ⟨(Nat.le_of_ble_eq_true rfl), (Nat.le_of_ble_eq_true rfl)⟩ dX1_ranking_42 rfl (Nat.le_of_ble_eq_true rfl) hi CL_J37 ⟨hi, hb⟩ ⟨(by first | omega | (dsimp only; omega)), (by first | omega | (dsimp only; omega))⟩ ?_
              have hIt : IT D _ i9 b m nd m := ⟨lr, hi⟩
              clear hi hb
              refine vb_eq (tgt := 98) X dX1_ranking_47 (by decide) (fun c_47 => ?_) (fun c_47 => ?_)
              · exact hx_8 H pl hI hK hL hit hz hIt hpl
              · exact absurd c_47 (by omega)
            | succ n_j ihj =>
              intro j H pl hj hI hK hL hit hz hIt hpl
              have hple := plc_le sc v i j
              have hjm : j < m := by omega
              refine vv_aload X dX1_ranking_40 6 rfl ?_
              have hb := hL.1
              obtain ⟨lr, hi⟩ := hIt
              refine vv_callFp X (mJ37_hasNext (kL K) D i9 b m j _ _ _ _ (by omega) (by omega)) (by decide) q2174 q2196 q2194 q187 q2198 (show notMH ⟨"java/util/Iterator", "hasNext", "()Z"⟩ 0 by decide +kernel) ⟨(Nat.le_of_ble_eq_true rfl), (Nat.le_of_ble_eq_true rfl)⟩ dX1_ranking_42 rfl (Nat.le_of_ble_eq_true rfl) hi CL_J37 ⟨hi, hb⟩ ⟨(by first | omega | (dsimp only; omega)), (by first | omega | (dsimp only; omega))⟩ ?_
              have hIt : IT D _ i9 b m nd j := ⟨lr, hi⟩
              clear hi hb
              refine vb_eq (tgt := 98) X dX1_ranking_47 (by decide) (fun c_47 => ?_) (fun c_47 => ?_)
              · exact absurd hj (by omega)
              · obtain ⟨lr, hi⟩ := id hIt
                refine vv_aload X dX1_ranking_50 6 rfl ?_
                refine vv_callF X (mJ37_next (kL K) D i9 b m j nd it (by omega) hjm) (by decide) q2200 q2292 q2290 q187 q2294 (show notMH ⟨"java/util/Iterator", "next", "()Ljava/lang/Object;"⟩ 0 by decide +kernel) ⟨(Nat.le_of_ble_eq_true rfl), (Nat.le_of_ble_eq_true rfl)⟩ dX1_ranking_52 rfl (Nat.le_of_ble_eq_true rfl) hi CL_J37 ⟨hK, hIt, hL⟩ (fun q z => by rw [z]; exact Or.inr hi9Z) ⟨(by first | omega | (dsimp only; omega)), (by first | omega | (dsimp only; omega))⟩ (fun v_ H hq hz_ hk => ?_)
                obtain ⟨rfl, hIt2⟩ := hq
                clear hi
                have hne9 : b ≠ i9 := X.oo hL.1 (Exists.choose_spec hIt) CL_J33 CL_J37 (by decide)
                have hnn9 : ∀ k, k < m → nd k ≠ i9 := fun k hk => X.oo (hL.2.1 k hk) (Exists.choose_spec hIt) CL_J23 CL_J37 (by decide)
                have hni9 : ∀ k, k < m → it k ≠ i9 := fun k hk => X.oo (hit k hk) (Exists.choose_spec hIt) CL_J20 CL_J37 (by decide)
                replace hI := hst _ _ hI hz_ (fun q hq => hk _ (by omega) (fun z => by omega))
                replace hL := hL.kept (hk _ hL.1.lt hne9) (fun k hk9 hl9 => hk _ hl9 (hnn9 k hk9))
                replace hit := fun j (hj : j < m) => (hit j hj).kept (hk _ (hit j hj).lt (hni9 j hj))
                replace hK := hIK _ hI
                replace hz := Nat.le_trans hz hz_
                clear hk hz_ hIt hne9 hnn9 hni9
                have hIt := hIt2
                clear hIt2
                refine vv_widen (k := 1 + 4 * i + 2) (n := 4 + 160 * i + 149) (by first | omega | (dsimp only; omega)) (by first | omega | (dsimp only; omega)) ?_
                have hij := hit j hjm
                refine vv_castS X hij CL_J20 q2300 dX1_ranking_57 ?_
                refine vv_callVp X (mJ20_intValue (kL K) D (it j) (v j)) q2301 q1323 q1324 q163 q1325 nJ20_intValue ⟨(Nat.le_of_ble_eq_true rfl), (Nat.le_of_ble_eq_true rfl)⟩ dX1_ranking_60 rfl (Nat.le_of_ble_eq_true rfl) (recv X hij CL_J20) hij ⟨(by first | omega | (dsimp only; omega)), (by first | omega | (dsimp only; omega))⟩ ?_
                refine vv_istore (lv' := [(7, .int (nI (v j))), (0, .int (nI n)), (1, .ref a1), (2, .ref a2), (3, .ref b), (4, .int (nI i)), (5, .int (nI pl)), (6, .ref i9)]) X dX1_ranking_63 (by decide) rfl ?_
                refine vv_iload X dX1_ranking_65 6 rfl ?_
                refine vv_aload_n X dX1_ranking_67 rfl 3 rfl ?_
                refine vv_iload X dX1_ranking_68 0 rfl ?_
                refine hS2 (k := v j) (by have := hvl j hjm; omega) X rfl q2004 ⟨(by first | omega | (dsimp only; omega)), (by first | omega | (dsimp only; omega))⟩ dX1_ranking_70 (Nat.le_of_ble_eq_true rfl) hI (fun _ z => z.elim) ⟨(by first | omega | (dsimp only; omega)), (by first | omega | (dsimp only; omega))⟩ (fun H hI2 hz_ hk => ?_)
                replace hL := hL.kept (hk _ hL.1.lt (fun z => z)) (fun k hk9 hl9 => hk _ hl9 (fun z => z))
                replace hit := fun j (hj : j < m) => (hit j hj).kept (hk _ (hit j hj).lt (fun z => z))
                replace hIt := hIt.kept (hk _ hIt.lt (fun z => z))
                replace hI := hI2
                replace hK := hIK _ hI2
                replace hz := Nat.le_trans hz hz_
                clear hk hz_ hI2
                refine vv_widen (k := 1 + 4 * i + 2) (n := 4 + 160 * i + 149) (by first | omega | (dsimp only; omega)) (by first | omega | (dsimp only; omega)) ?_
                refine vv_aload_n X dX1_ranking_75 rfl 3 rfl ?_
                refine vv_iload X dX1_ranking_76 5 rfl ?_
                refine hS2 (k := i) (by omega) X rfl q2004 ⟨(by first | omega | (dsimp only; omega)), (by first | omega | (dsimp only; omega))⟩ dX1_ranking_78 (Nat.le_of_ble_eq_true rfl) hI (fun _ z => z.elim) ⟨(by first | omega | (dsimp only; omega)), (by first | omega | (dsimp only; omega))⟩ (fun H hI2 hz_ hk => ?_)
                replace hL := hL.kept (hk _ hL.1.lt (fun z => z)) (fun k hk9 hl9 => hk _ hl9 (fun z => z))
                replace hit := fun j (hj : j < m) => (hit j hj).kept (hk _ (hit j hj).lt (fun z => z))
                replace hIt := hIt.kept (hk _ hIt.lt (fun z => z))
                replace hI := hI2
                replace hK := hIK _ hI2
                replace hz := Nat.le_trans hz hz_
                clear hk hz_ hI2
                refine vv_widen (k := 1 + 4 * i + 2) (n := 4 + 160 * i + 149) (by first | omega | (dsimp only; omega)) (by first | omega | (dsimp only; omega)) ?_
                refine vv_lcmp X dX1_ranking_83 ?_
                refine vz_lt (tgt := 91) X dX1_ranking_84 (by decide) (fun c_84 => ?_) (fun c_84 => ?_)
                · refine vv_iconst (v := nI 0) X dX1_ranking_91 (by decide) ?_
                  refine vn_add X dX1_ranking_92 ?_
                  refine vv_istore (lv' := [(5, .int (nI (pl + 0))), (7, .int (nI (v j))), (0, .int (nI n)), (1, .ref a1), (2, .ref a2), (3, .ref b), (4, .int (nI i)), (6, .ref i9)]) X dX1_ranking_93 (by decide) rfl ?_
                  refine vv_goto (tgt := 40) X dX1_ranking_95 (by decide) ?_
                  refine vv_sub [2, 3, 4, 5, 6, 0, 7] rfl ?_
                  refine vv_widen (k := 1 + 4 * i + 2) (n := 4 + 160 * i + 149) (by first | omega | (dsimp only; omega)) (by first | omega | (dsimp only; omega)) ?_
                  exact ihj (j + 1) H (pl + 0) (by omega) (hI) (hK) (hL) (hit) (hz) (hIt) (by rw [hpl]; show _ = plc sc v i j + (if sc (v j) < sc i then 0 else 1); rw [if_pos c_84])
                · refine vv_iconst (v := nI 1) X dX1_ranking_87 (by decide) ?_
                  refine vv_goto (tgt := 92) X dX1_ranking_88 (by decide) ?_
                  refine vn_add X dX1_ranking_92 ?_
                  refine vv_istore (lv' := [(5, .int (nI (pl + 1))), (7, .int (nI (v j))), (0, .int (nI n)), (1, .ref a1), (2, .ref a2), (3, .ref b), (4, .int (nI i)), (6, .ref i9)]) X dX1_ranking_93 (by decide) rfl ?_
                  refine vv_goto (tgt := 40) X dX1_ranking_95 (by decide) ?_
                  refine vv_sub [2, 3, 4, 5, 6, 0, 7] rfl ?_
                  refine vv_widen (k := 1 + 4 * i + 2) (n := 4 + 160 * i + 149) (by first | omega | (dsimp only; omega)) (by first | omega | (dsimp only; omega)) ?_
                  exact ihj (j + 1) H (pl + 1) (by omega) (hI) (hK) (hL) (hit) (hz) (hIt) (by rw [hpl]; show _ = plc sc v i j + (if sc (v j) < sc i then 0 else 1); rw [if_neg (Int64.not_lt.mpr c_84)])
          refine vv_sub [2, 3, 4, 5, 6, 1, 0] rfl ?_
          refine vv_widen (k := 1 + 4 * i + 2) (n := 4 + 160 * i + 149) (by first | omega | (dsimp only; omega)) (by first | omega | (dsimp only; omega)) ?_
          exact hl_9 (m) 0 H 0 (by first | omega | assumption) (hI) (hK) (hL) (hit) (hz) (hIt) (rfl)
        · refine vv_goto (tgt := 109) X dX1_ranking_28 (by decide) ?_
          refine vv_iinc (v := nI (i + 1)) (lv' := [(4, .int (nI (i + 1))), (0, .int (nI n)), (1, .ref a1), (2, .ref a2), (3, .ref b)]) X dX1_ranking_109 (k := 4) rfl (nI_add _ 1) (by decide) rfl ?_
          refine vv_goto (tgt := 11) X dX1_ranking_112 (by decide) ?_
          refine vv_sub [1, 2, 3, 4, 0] rfl ?_
          refine vv_widen (k := 1 + 4 * (i + 1)) (n := 4 + 160 * (i + 1)) (by first | omega | (dsimp only; omega)) (by first | omega | (dsimp only; omega)) ?_
          exact ihi (i + 1) H m nd it v (by omega) (hI) (hK) (hL) (hit) (hz) (hnZ) (by rw [hm, rk_n c_25]) (by rw [hv, rk_n c_25])
  refine vv_sub [2, 3, 4, 1, 0] rfl ?_
  refine vv_widen (k := 1 + 4 * 0) (n := 4 + 160 * 0) (by first | omega | (dsimp only; omega)) (by first | omega | (dsimp only; omega)) ?_
  exact hl_7 (n) 0 H 0 (fun _ => 0) (fun _ => 0) (fun _ => 0) (by first | omega | assumption) (hI) (hK) (hL) (fun j hj => absurd hj (Nat.not_lt_zero _)) (hz) (fun j hj => absurd hj (Nat.not_lt_zero _)) (rfl) (rfl)
