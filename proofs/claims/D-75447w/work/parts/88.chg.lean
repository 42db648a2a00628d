/-! AcousticCamera: changes: printed by gen/s35.py -/
set_option maxRecDepth 100000
theorem msk_up {p q : Nat → Bool} {n i : Nat} (hi : i < n) (hn : n ≤ 12) (o : Prop) [Decidable o] (h : ∀ j, j ≠ i → q j = p j) (hq : q i = decide o) : (if o then msk p n ||| 2 ^ i else clr (msk p n) i) = msk q n := by
  refine msk_eq (fun j => ?_)
  by_cases ho : o
  · rw [if_pos ho, Nat.testBit_or, msk_bit, Nat.testBit_two_pow]
    by_cases e : i = j
    · subst e; rw [hq]; simp [ho, hi]
    · rw [h j (Ne.symm e)]; simp [e]
  · rw [if_neg ho]
    unfold clr
    rw [Nat.testBit_and, msk_bit, show 2 ^ 64 - 1 - 2 ^ i = 2 ^ 64 - (2 ^ i + 1) from by rw [Nat.sub_sub, Nat.add_comm 1], Nat.testBit_two_pow_sub_succ (Nat.pow_lt_pow_right (by omega) (by omega)), Nat.testBit_two_pow]
    by_cases e : i = j
    · subst e; rw [hq]; simp [ho]
    · rw [h j (Ne.symm e)]
      by_cases l : j < n
      · simp [e, l, show j < 64 by omega]
      · simp [l]
theorem b2_nz (o : Prop) [Decidable o] : decide (b2 o ≠ 0) = decide o := by
  by_cases h : o
  · rw [b2_t h]; simp [h]
  · rw [b2_f h]; simp [h]
theorem mum_up {P S : Nat → Int32} {m : Nat} (hm : m < nM P) (hn : nM P ≤ 12) (o : Prop) [Decidable o] : (if o then mum P S ||| 2 ^ m else clr (mum P S) m) = mum P (va_up S (1 + m) (b2 o)) :=
  msk_up hm hn o (fun j hj => by show decide _ = decide _; rw [va_up_ne _ _ (by omega)]) (by show decide _ = decide _; rw [va_up_self]; exact b2_nz o)
theorem onm_up {P S : Nat → Int32} {k : Nat} (hk : k < nS P) (hn : nS P ≤ 6) (o : Prop) [Decidable o] : (if o then onm P S ||| 2 ^ k else clr (onm P S) k) = onm P (va_up S (25 + k) (b2 o)) :=
  msk_up hk (by omega) o (fun j hj => by show decide _ = decide _; rw [va_up_ne _ _ (by omega)]) (by show decide _ = decide _; rw [va_up_self]; exact b2_nz o)
theorem b2_vok {q : Nat} {o : Prop} [Decidable o] (hq : (1 ≤ q ∧ q ≤ 12) ∨ (25 ≤ q ∧ q ≤ 30)) : vok q (b2 o) := vok_b hq (by by_cases h : o; exact Or.inr (b2_t h); exact Or.inl (b2_f h))
set_option maxHeartbeats 800000 in
theorem mX1_mute (l : Launch) (D : DD) (u : Nat → Nat) (P T : Nat → Int32) (o : Nat) (g : Nat → Nat) (S : Nat → Int32) (pw : Option Nat) (c b a h n x0 : Nat) (F : Nat → Option Nat) (v0 v1 v2 v3 v6 v7 : Value) (m : Nat) (q : Prop) [Decidable q] (hC : VC P) (hV : VS S) (hA : AP g u P) (ho : o < 4096) (hh : h < 17) (hn6 : n ≤ 6) (hx0 : n = 6 → F h = some x0) (hka : KN D a) (hap : ∀ q, (q = b ∨ q = a ∨ q = c) → ¬ UB u P q ∧ ¬ OA g (nM P) q ∧ ¬ GB g P q ∧ ¬ pw = some q) (hpg : ∀ p, pw = some p → ∀ k, UK (nM P) k → p ≠ g k) (hm : m < nM P) : Ct l yX1_mute cX1_mute 4 (some .boolean) { frames := 7, cells := 33, slots := 4858, locals := 149 } D [.ref c, .int (nI m), .int (b2 q)] (fun H => KH D H ∧ oB D H c 0 [v0, v1, v2, v3, .ref (g 0), .ref b, v6, v7] ∧ UR D u P T o H ∧ SR D g u P S pw H ∧ PK D P S pw H ∧ oB D H b 10 [.ref a, .int (nI h), .int (nI ((h + n) % 17))] ∧ qA D H a 9 17 F) (fun q => (q = b ∨ q = a) ∨ OA g (nM P) q) (fun r H H1 => r = some (.int (b2 (¬ S (1 + m) = 0))) ∧ SR D g u P (va_up S (1 + m) (b2 q)) none H1 ∧ ∃ g9, SR D g9 u P S pw H1 ∧ PK D P S pw H1 ∧ AP g9 u P ∧ (∀ k, UK (nM P) k → H.size ≤ g9 k) ∧ (∀ j, SJ P j → g9 j = g j) ∧ oB D H1 b 10 [.ref a, .int (nI (if n = 6 then (h + 1) % 17 else h)), .int (nI (((h + n) % 17 + 1) % 17))] ∧ qA D H1 a 9 17 (va_up (if n = 6 then va_up F h none else F) ((h + n) % 17) (some (g9 0)))) := by
  refine Ct.of (by decide +kernel) (Nat.le_of_ble_eq_true rfl) (fun K Qf hkl X hM hQ => ?_)
  subst hkl
  obtain ⟨hK, hcm, hU, hR, hPK, hd, he⟩ := hM
  have hz : (kS K).heap.size ≤ (kS K).heap.size := Nat.le_refl _
  have hP := hC.v
  have l0 := hP.l0
  have l1 := hP.l1
  have l2 := hP.l2
  have l4 := hP.l4
  have l5 := hP.l5
  have l8 := hP.l8
  have l9 := hP.l9
  have l10 := hP.l10
  have l71 := hP.l71
  have l76 := hP.l76
  have l77 := hP.l77
  have hx1 := hC.x1
  have hy1 := hC.y1
  have ht1 := hC.t1
  have he1 := hC.e1
  have hm1 := hC.m1
  have hcc : nC P ≤ 144 := Nat.mul_le_mul l9 l10
  have nbu : ∀ j, VK P j → b ≠ u j := fun j hj e => (hap b (Or.inl rfl)).1 ⟨j, hj, e⟩
  have nbg : ∀ j, UK (nM P) j → b ≠ g j := fun j hj e => (hap b (Or.inl rfl)).2.1 ⟨j, hj, e⟩
  have nbs : ∀ j, SJ P j → b ≠ g j := fun j hj e => (hap b (Or.inl rfl)).2.2.1 ⟨j, hj, e⟩
  have nau : ∀ j, VK P j → a ≠ u j := fun j hj e => (hap a (Or.inr (Or.inl rfl))).1 ⟨j, hj, e⟩
  have nag : ∀ j, UK (nM P) j → a ≠ g j := fun j hj e => (hap a (Or.inr (Or.inl rfl))).2.1 ⟨j, hj, e⟩
  have nas : ∀ j, SJ P j → a ≠ g j := fun j hj e => (hap a (Or.inr (Or.inl rfl))).2.2.1 ⟨j, hj, e⟩
  have ncu : ∀ j, VK P j → c ≠ u j := fun j hj e => (hap c (Or.inr (Or.inr rfl))).1 ⟨j, hj, e⟩
  have ncg : ∀ j, UK (nM P) j → c ≠ g j := fun j hj e => (hap c (Or.inr (Or.inr rfl))).2.1 ⟨j, hj, e⟩
  have ncs : ∀ j, SJ P j → c ≠ g j := fun j hj e => (hap c (Or.inr (Or.inr rfl))).2.2.1 ⟨j, hj, e⟩
  refine vv_sub (lv' := [(0, .ref c), (1, .int (nI m)), (2, .int (b2 q))]) [0, 1, 2] rfl ?_
  refine vv_aload_n X dX1_mute_0 rfl 0 rfl ?_
  refine vv_iload_n X dX1_mute_1 rfl 1 rfl ?_
  refine vv_callVp X (mX1_withMic (kL K) D u P T o g S pw c v0 v1 v2 v3 (.ref b) v6 v7 m hC hV (by omega)) q1793 q1795 qs35 q137 q1796 nX1_withMic ⟨(Nat.le_of_ble_eq_true rfl), (Nat.le_of_ble_eq_true rfl)⟩ dX1_mute_2 rfl (Nat.le_of_ble_eq_true rfl) (recv X hcm CL_X1) ⟨hK, hcm, hU, hR⟩ ⟨(Nat.le_of_ble_eq_true rfl), (Nat.le_of_ble_eq_true rfl)⟩ ?_
  refine vv_getfN (C := RX3) (T := TX3) (N := 8) (ref := "AcousticCamera$State") X hR.ob in_X3 CL_X3 1 (by decide) q1690 rfl rfl dX1_mute_5 ?_
  refine vv_iload_n X dX1_mute_8 rfl 1 rfl ?_
  refine vv_callVp X (mJ21_get (kL K) D (g 1) (g 2) (mum P S) m  (by exact mu_lt hP S) (by omega)) q1875 q1455 q1456 q164 q1457 nJ21_get ⟨(Nat.le_of_ble_eq_true rfl), (Nat.le_of_ble_eq_true rfl)⟩ dX1_mute_9 rfl (Nat.le_of_ble_eq_true rfl) (recv X hR.mu.1 CL_J21) ⟨hK, hR.mu⟩ ⟨(Nat.le_of_ble_eq_true rfl), (Nat.le_of_ble_eq_true rfl)⟩ ?_
  refine vv_eqi (b2_eq (mu_bit (by omega))) ?_
  refine vv_istore_n (lv' := [(3, .int (b2 (¬ S (1 + m) = 0))), (0, .ref c), (1, .int (nI m)), (2, .int (b2 q))]) X dX1_mute_12 rfl (by decide) rfl ?_
  refine vv_aload_n X dX1_mute_13 rfl 1 rfl ?_
  refine vv_callV X (mX1_keep (kL K) D u P T o g S pw c b a h n x0 F v0 v1 v2 v3 v6 v7 hC hV hA ho hh hn6 hx0 hka hap hpg) q2766 q2768 qs54 q137 q2769 nX1_keep ⟨(Nat.le_of_ble_eq_true rfl), (Nat.le_of_ble_eq_true rfl)⟩ dX1_mute_14 rfl (Nat.le_of_ble_eq_true rfl) (recv X hcm CL_X1) ⟨hK, hcm, hU, hR, hPK, hd, he⟩ (fun q z => by rcases z with rfl | rfl; exact (Or.inl (Or.inl (Or.inl rfl))); exact (Or.inl (Or.inl (Or.inr rfl)))) ⟨(Nat.le_of_ble_eq_true rfl), (Nat.le_of_ble_eq_true rfl)⟩ (fun v_ H hq hz_ hk => ?_)
  obtain ⟨rfl, g9, hR9, hPK2, hA9, hge9, hsh9, hd2, he2⟩ := hq
  have hge0 : ∀ k, UK (nM P) k → (kS K).heap.size ≤ g9 k := fun k hk => Nat.le_trans hz (hge9 k hk)
  have n9c : ∀ k, UK (nM P) k → c ≠ g9 k := fun k hk e => by have h9 := hge9 k hk; have h8 := hcm.lt; omega
  have n9b : ∀ k, UK (nM P) k → b ≠ g9 k := fun k hk e => by have h9 := hge9 k hk; have h8 := hd.lt; omega
  have n9a : ∀ k, UK (nM P) k → a ≠ g9 k := fun k hk e => by have h9 := hge9 k hk; have h8 := he.lt; omega
  have g9g : ∀ k k2, UK (nM P) k → UK (nM P) k2 → g9 k ≠ g k2 := fun k k2 hk hk2 e => by have h9 := hge9 k hk; have h8 := hR.ltA k2 hk2; omega
  have nw9 : ∀ q, (OA g9 (nM P) q ∨ GB g9 P q) → (∀ k, UK (nM P) k → q ≠ g k) ∧ q ≠ b ∧ q ≠ a := fun q z => by
    rcases z with ⟨k, hk, rfl⟩ | ⟨j, hj, rfl⟩
    · exact ⟨fun k2 hk2 => g9g k k2 hk hk2, fun e => n9b k hk e.symm, fun e => n9a k hk e.symm⟩
    · rw [hsh9 j hj]; exact ⟨fun k2 hk2 e => hA.2.2 k2 j hk2 hj e.symm, fun e => nbs j hj e.symm, fun e => nas j hj e.symm⟩
  replace hcm := hcm.kept (hk _ hcm.lt (fun z => z.elim (X.oo hcm hd CL_X1 CL_J1 (by decide)) ((X.oa hcm he CL_X1 rfl))))
  replace hU := hU.kept (fun q hl hq => hk q hl (fun z => by obtain ⟨j_, h_, e_⟩ := hq; rcases z with z | z; exact nbu j_ h_ (z.symm.trans e_); exact nau j_ h_ (z.symm.trans e_)))
  replace hR := hR.kept (fun q hl hq => hk q hl (fun z => by obtain ⟨j_, h_, e_⟩ := hq; rcases z with z | z; exact nbg j_ h_ (z.symm.trans e_); exact nag j_ h_ (z.symm.trans e_))) (fun q hl hq => hk q hl (fun z => by obtain ⟨j_, h_, e_⟩ := hq; rcases z with z | z; exact nbs j_ h_ (z.symm.trans e_); exact nas j_ h_ (z.symm.trans e_)))
  replace hK := hK.to hk (fun q z => by rcases z with rfl | rfl; exact (X.ko hK hd CL_J1 (by decide) (by decide)); exact hka)
  replace hz := Nat.le_trans hz hz_
  clear hd he hPK hk hz_ hge9
  have hd := hd2
  have he := he2
  have hPK := hPK2
  clear hd2 he2 hPK2
  refine vv_aload_n X dX1_mute_17 rfl 1 rfl ?_
  refine vv_getf (C := RX1) (T := TX1) (N := 8) (ref := "AcousticCamera") X hcm in_X1 CL_X1 4 (by decide) q259 rfl rfl dX1_mute_18 ?_
  refine vv_getfN (C := RX3) (T := TX3) (N := 8) (ref := "AcousticCamera$State") X hR.ob in_X3 CL_X3 1 (by decide) q1690 rfl rfl dX1_mute_21 ?_
  refine vv_iload_n X dX1_mute_24 rfl 2 rfl ?_
  refine vv_iload_n X dX1_mute_25 rfl 3 rfl ?_
  refine vv_callV X (mJ21_set_3 (kL K) D (g 1) (g 2) (mum P S) m q (mu_lt hP _) (by omega)) q2806 q2807 q2808 q164 q2809 nJ21_set_3 ⟨(Nat.le_of_ble_eq_true rfl), (Nat.le_of_ble_eq_true rfl)⟩ dX1_mute_26 rfl (Nat.le_of_ble_eq_true rfl) (recv X hR.mu.1 CL_J21) ⟨hK, hR.mu⟩ (fun q z => by rcases z with rfl | rfl; exact (Or.inl (Or.inr (OA.of (Or.inl (by decide))))); exact (Or.inl (Or.inr (OA.of (Or.inl (by decide)))))) ⟨(Nat.le_of_ble_eq_true rfl), (Nat.le_of_ble_eq_true rfl)⟩ (fun v_ H hq hz_ hk => ?_)
  obtain ⟨rfl, hB9⟩ := hq
  replace hcm := hcm.kept (hk _ hcm.lt (fun z => z.elim (ncg _ (Or.inl (by decide))) ((ncg _ (Or.inl (by decide))))))
  replace hd := hd.kept (hk _ hd.lt (fun z => z.elim (nbg _ (Or.inl (by decide))) ((nbg _ (Or.inl (by decide))))))
  replace he := he.kept (hk _ he.lt (fun z => z.elim (nag _ (Or.inl (by decide))) ((nag _ (Or.inl (by decide))))))
  replace hPK := (show PK D P S pw H from fun p e => (hPK p e).kept (by first | exact hk _ (hPK p e).lt (fun z => z) | (refine hk _ (hPK p e).lt (fun z => ?_); rcases z with z | z; exact (fun (z : p = b) => (hap b (Or.inl rfl)).2.2.2 (z ▸ e)) z; exact (fun (z : p = a) => (hap a (Or.inr (Or.inl rfl))).2.2.2 (z ▸ e)) z) | (refine hc.2 _ ((hpg p e) _ (Or.inl ?_)); decide) | (refine hc.2 _ ((hpg p e) _ (Or.inr ⟨?_, ?_⟩)) <;> omega) | (refine hk _ (hPK p e).lt (fun z => ?_); obtain ⟨k_, h_, e_⟩ := z; exact (hpg p e) k_ h_ e_) | (refine hk _ (hPK p e).lt (fun z => ?_); rcases z with z | z <;> (refine (hpg p e) _ (Or.inl ?_) z; decide)) | (refine hk _ (hPK p e).lt ((hpg p e) _ (Or.inl ?_)); decide) | exact hc.2 _ (fun (z : p = b) => (hap b (Or.inl rfl)).2.2.2 (z ▸ e)) | exact hc.2 _ (fun (z : p = a) => (hap a (Or.inr (Or.inl rfl))).2.2.2 (z ▸ e)) | (refine hk _ (hPK p e).lt (fun z => ?_); exact absurd (hpn p e) (Nat.not_lt.mpr (Nat.le_of_eq z.symm))) | exact hc.2 _ (fun (z : p = c) => (hap c (Or.inr (Or.inr rfl))).2.2.2 (z ▸ e)) | (refine hk _ (hPK p e).lt (fun z => ?_); rcases z with (z | z) | ⟨k_, h_, e_⟩; exact (fun (z : p = b) => (hap b (Or.inl rfl)).2.2.2 (z ▸ e)) z; exact (fun (z : p = a) => (hap a (Or.inr (Or.inl rfl))).2.2.2 (z ▸ e)) z; exact (hpg p e) k_ h_ e_)))
  replace hR9 := (show SR D g9 u P S pw H from hR9.kept (fun q hl hq => (by first | exact hk _ hl (fun z => z) | (refine hk _ hl (fun z => ?_); rcases z with z | z; exact (nw9 q (Or.inl hq)).2.1 z; exact (nw9 q (Or.inl hq)).2.2 z) | (refine hc.2 _ ((nw9 q (Or.inl hq)).1 _ (Or.inl ?_)); decide) | (refine hc.2 _ ((nw9 q (Or.inl hq)).1 _ (Or.inr ⟨?_, ?_⟩)) <;> omega) | (refine hk _ hl (fun z => ?_); obtain ⟨k_, h_, e_⟩ := z; exact (nw9 q (Or.inl hq)).1 k_ h_ e_) | (refine hk _ hl (fun z => ?_); rcases z with z | z <;> (refine (nw9 q (Or.inl hq)).1 _ (Or.inl ?_) z; decide)) | (refine hk _ hl ((nw9 q (Or.inl hq)).1 _ (Or.inl ?_)); decide) | exact hc.2 _ (nw9 q (Or.inl hq)).2.1 | exact hc.2 _ (nw9 q (Or.inl hq)).2.2 | (refine hk _ hl (fun z => ?_); exact absurd (hpn p e) (Nat.not_lt.mpr (Nat.le_of_eq z.symm))) | (refine hk _ hl (fun z => ?_); rcases z with (z | z) | ⟨k_, h_, e_⟩; exact (nw9 q (Or.inl hq)).2.1 z; exact (nw9 q (Or.inl hq)).2.2 z; exact (nw9 q (Or.inl hq)).1 k_ h_ e_))) (fun q hl hq => (by first | exact hk _ hl (fun z => z) | (refine hk _ hl (fun z => ?_); rcases z with z | z; exact (nw9 q (Or.inr hq)).2.1 z; exact (nw9 q (Or.inr hq)).2.2 z) | (refine hc.2 _ ((nw9 q (Or.inr hq)).1 _ (Or.inl ?_)); decide) | (refine hc.2 _ ((nw9 q (Or.inr hq)).1 _ (Or.inr ⟨?_, ?_⟩)) <;> omega) | (refine hk _ hl (fun z => ?_); obtain ⟨k_, h_, e_⟩ := z; exact (nw9 q (Or.inr hq)).1 k_ h_ e_) | (refine hk _ hl (fun z => ?_); rcases z with z | z <;> (refine (nw9 q (Or.inr hq)).1 _ (Or.inl ?_) z; decide)) | (refine hk _ hl ((nw9 q (Or.inr hq)).1 _ (Or.inl ?_)); decide) | exact hc.2 _ (nw9 q (Or.inr hq)).2.1 | exact hc.2 _ (nw9 q (Or.inr hq)).2.2 | (refine hk _ hl (fun z => ?_); exact absurd (hpn p e) (Nat.not_lt.mpr (Nat.le_of_eq z.symm))) | (refine hk _ hl (fun z => ?_); rcases z with (z | z) | ⟨k_, h_, e_⟩; exact (nw9 q (Or.inr hq)).2.1 z; exact (nw9 q (Or.inr hq)).2.2 z; exact (nw9 q (Or.inr hq)).1 k_ h_ e_))))
  have hR2 := hR.putM hA l4 hk (S' := va_up S (1 + m) (b2 q)) (fun i hi => va_up_ne _ _ (by omega)) (by rw [← mum_up hm l4 q]; exact hB9)
  replace hU := hU.own hA l4 (Q := fun k => k = 1 ∨ k = 2) (fun k hk => by rcases hk with rfl | rfl <;> exact Or.inl (by decide)) (fun q hl hq => hk q hl (fun z => z.elim (hq 1 (Or.inl rfl)) (hq 2 (Or.inr rfl))))
  replace hK := hK.to hk (fun q z => by rcases z with rfl | rfl; exact hR.kn X hK 1 (Or.inl (by decide)); exact hR.kn X hK 2 (Or.inl (by decide)))
  replace hz := Nat.le_trans hz hz_
  clear hk hz_ hB9 hR
  have hR := hR2
  clear hR2
  refine vv_aload_n X dX1_mute_29 rfl 1 rfl ?_
  refine vv_getf (C := RX1) (T := TX1) (N := 8) (ref := "AcousticCamera") X hcm in_X1 CL_X1 4 (by decide) q259 rfl rfl dX1_mute_30 ?_
  refine vv_null X dX1_mute_33 ?_
  refine vv_putfN (C := RX3) (T := TX3) (N := 8) (ref := "AcousticCamera$State") X hR.ob in_X3 CL_X3 tyX3 tyX3_ok nmX3 7 (by decide) q1702 rfl rfl rfl rfl (Nat.le_of_ble_eq_true rfl) (Or.inl (Or.inr (OA.of (Or.inl (by decide))))) dX1_mute_34 (fun H hc ho => ?_)
  replace hcm := hcm.kept (hc.2 _ (ncg _ (Or.inl (by decide))))
  replace hd := hd.kept (hc.2 _ (nbg _ (Or.inl (by decide))))
  replace he := he.kept (hc.2 _ (nag _ (Or.inl (by decide))))
  replace hPK := (show PK D P S pw H from fun p e => (hPK p e).kept (by first | exact hk _ (hPK p e).lt (fun z => z) | (refine hk _ (hPK p e).lt (fun z => ?_); rcases z with z | z; exact (fun (z : p = b) => (hap b (Or.inl rfl)).2.2.2 (z ▸ e)) z; exact (fun (z : p = a) => (hap a (Or.inr (Or.inl rfl))).2.2.2 (z ▸ e)) z) | (refine hc.2 _ ((hpg p e) _ (Or.inl ?_)); decide) | (refine hc.2 _ ((hpg p e) _ (Or.inr ⟨?_, ?_⟩)) <;> omega) | (refine hk _ (hPK p e).lt (fun z => ?_); obtain ⟨k_, h_, e_⟩ := z; exact (hpg p e) k_ h_ e_) | (refine hk _ (hPK p e).lt (fun z => ?_); rcases z with z | z <;> (refine (hpg p e) _ (Or.inl ?_) z; decide)) | (refine hk _ (hPK p e).lt ((hpg p e) _ (Or.inl ?_)); decide) | exact hc.2 _ (fun (z : p = b) => (hap b (Or.inl rfl)).2.2.2 (z ▸ e)) | exact hc.2 _ (fun (z : p = a) => (hap a (Or.inr (Or.inl rfl))).2.2.2 (z ▸ e)) | (refine hk _ (hPK p e).lt (fun z => ?_); exact absurd (hpn p e) (Nat.not_lt.mpr (Nat.le_of_eq z.symm))) | exact hc.2 _ (fun (z : p = c) => (hap c (Or.inr (Or.inr rfl))).2.2.2 (z ▸ e)) | (refine hk _ (hPK p e).lt (fun z => ?_); rcases z with (z | z) | ⟨k_, h_, e_⟩; exact (fun (z : p = b) => (hap b (Or.inl rfl)).2.2.2 (z ▸ e)) z; exact (fun (z : p = a) => (hap a (Or.inr (Or.inl rfl))).2.2.2 (z ▸ e)) z; exact (hpg p e) k_ h_ e_)))
  replace hR9 := (show SR D g9 u P S pw H from hR9.kept (fun q hl hq => (by first | exact hk _ hl (fun z => z) | (refine hk _ hl (fun z => ?_); rcases z with z | z; exact (nw9 q (Or.inl hq)).2.1 z; exact (nw9 q (Or.inl hq)).2.2 z) | (refine hc.2 _ ((nw9 q (Or.inl hq)).1 _ (Or.inl ?_)); decide) | (refine hc.2 _ ((nw9 q (Or.inl hq)).1 _ (Or.inr ⟨?_, ?_⟩)) <;> omega) | (refine hk _ hl (fun z => ?_); obtain ⟨k_, h_, e_⟩ := z; exact (nw9 q (Or.inl hq)).1 k_ h_ e_) | (refine hk _ hl (fun z => ?_); rcases z with z | z <;> (refine (nw9 q (Or.inl hq)).1 _ (Or.inl ?_) z; decide)) | (refine hk _ hl ((nw9 q (Or.inl hq)).1 _ (Or.inl ?_)); decide) | exact hc.2 _ (nw9 q (Or.inl hq)).2.1 | exact hc.2 _ (nw9 q (Or.inl hq)).2.2 | (refine hk _ hl (fun z => ?_); exact absurd (hpn p e) (Nat.not_lt.mpr (Nat.le_of_eq z.symm))) | (refine hk _ hl (fun z => ?_); rcases z with (z | z) | ⟨k_, h_, e_⟩; exact (nw9 q (Or.inl hq)).2.1 z; exact (nw9 q (Or.inl hq)).2.2 z; exact (nw9 q (Or.inl hq)).1 k_ h_ e_))) (fun q hl hq => (by first | exact hk _ hl (fun z => z) | (refine hk _ hl (fun z => ?_); rcases z with z | z; exact (nw9 q (Or.inr hq)).2.1 z; exact (nw9 q (Or.inr hq)).2.2 z) | (refine hc.2 _ ((nw9 q (Or.inr hq)).1 _ (Or.inl ?_)); decide) | (refine hc.2 _ ((nw9 q (Or.inr hq)).1 _ (Or.inr ⟨?_, ?_⟩)) <;> omega) | (refine hk _ hl (fun z => ?_); obtain ⟨k_, h_, e_⟩ := z; exact (nw9 q (Or.inr hq)).1 k_ h_ e_) | (refine hk _ hl (fun z => ?_); rcases z with z | z <;> (refine (nw9 q (Or.inr hq)).1 _ (Or.inl ?_) z; decide)) | (refine hk _ hl ((nw9 q (Or.inr hq)).1 _ (Or.inl ?_)); decide) | exact hc.2 _ (nw9 q (Or.inr hq)).2.1 | exact hc.2 _ (nw9 q (Or.inr hq)).2.2 | (refine hk _ hl (fun z => ?_); exact absurd (hpn p e) (Nat.not_lt.mpr (Nat.le_of_eq z.symm))) | (refine hk _ hl (fun z => ?_); rcases z with (z | z) | ⟨k_, h_, e_⟩; exact (nw9 q (Or.inr hq)).2.1 z; exact (nw9 q (Or.inr hq)).2.2 z; exact (nw9 q (Or.inr hq)).1 k_ h_ e_))))
  replace hK := hK.ch hc (hR.kn X hK 0 (Or.inl (by decide)))
  replace hU := hU.own hA l4 (Q := (· = 0)) (fun k hk => by subst hk; exact Or.inl (by decide)) hc.own
  replace hz := Nat.le_trans hz (Nat.le_of_eq hc.1.symm)
  replace hR := hR.putP hA l4 l5 (pw' := none) hc ho
  clear hc ho
  refine vv_iload_n X dX1_mute_37 rfl 0 rfl ?_
  exact vv_zret X (b2_nar _) hQ dX1_mute_38 (Nat.le_of_ble_eq_true rfl) (Nat.le_of_ble_eq_true rfl) (⟨rfl, hR, g9, hR9, hPK, hA9, hge0, hsh9, hd, he⟩)
set_option maxHeartbeats 800000 in
theorem mX1_setOn (l : Launch) (D : DD) (u : Nat → Nat) (P T : Nat → Int32) (o : Nat) (g : Nat → Nat) (S : Nat → Int32) (pw : Option Nat) (c b a h n x0 : Nat) (F : Nat → Option Nat) (v0 v1 v2 v3 v6 v7 : Value) (m : Nat) (q : Prop) [Decidable q] (hC : VC P) (hV : VS S) (hA : AP g u P) (ho : o < 4096) (hh : h < 17) (hn6 : n ≤ 6) (hx0 : n = 6 → F h = some x0) (hka : KN D a) (hap : ∀ q, (q = b ∨ q = a ∨ q = c) → ¬ UB u P q ∧ ¬ OA g (nM P) q ∧ ¬ GB g P q ∧ ¬ pw = some q) (hpg : ∀ p, pw = some p → ∀ k, UK (nM P) k → p ≠ g k) (hm : m < nS P) : Ct l yX1_setOn cX1_setOn 4 (some .boolean) { frames := 9, cells := 33, slots := 4858, locals := 207 } D [.ref c, .int (nI m), .int (b2 q)] (fun H => KH D H ∧ oB D H c 0 [v0, v1, v2, v3, .ref (g 0), .ref b, v6, v7] ∧ UR D u P T o H ∧ SR D g u P S pw H ∧ PK D P S pw H ∧ oB D H b 10 [.ref a, .int (nI h), .int (nI ((h + n) % 17))] ∧ qA D H a 9 17 F) (fun q => (q = b ∨ q = a) ∨ OA g (nM P) q) (fun r H H1 => r = some (.int (b2 (¬ S (25 + m) = 0))) ∧ SR D g u P (rcd P (rawA P (va_up S (25 + m) (b2 q))) (va_up S (25 + m) (b2 q))) none H1 ∧ ∃ g9, SR D g9 u P S pw H1 ∧ PK D P S pw H1 ∧ AP g9 u P ∧ (∀ k, UK (nM P) k → H.size ≤ g9 k) ∧ (∀ j, SJ P j → g9 j = g j) ∧ oB D H1 b 10 [.ref a, .int (nI (if n = 6 then (h + 1) % 17 else h)), .int (nI (((h + n) % 17 + 1) % 17))] ∧ qA D H1 a 9 17 (va_up (if n = 6 then va_up F h none else F) ((h + n) % 17) (some (g9 0)))) := by
  refine Ct.of (by decide +kernel) (Nat.le_of_ble_eq_true rfl) (fun K Qf hkl X hM hQ => ?_)
  subst hkl
  obtain ⟨hK, hcm, hU, hR, hPK, hd, he⟩ := hM
  have hz : (kS K).heap.size ≤ (kS K).heap.size := Nat.le_refl _
  have hP := hC.v
  have l0 := hP.l0
  have l1 := hP.l1
  have l2 := hP.l2
  have l4 := hP.l4
  have l5 := hP.l5
  have l8 := hP.l8
  have l9 := hP.l9
  have l10 := hP.l10
  have l71 := hP.l71
  have l76 := hP.l76
  have l77 := hP.l77
  have hx1 := hC.x1
  have hy1 := hC.y1
  have ht1 := hC.t1
  have he1 := hC.e1
  have hm1 := hC.m1
  have hcc : nC P ≤ 144 := Nat.mul_le_mul l9 l10
  have nbu : ∀ j, VK P j → b ≠ u j := fun j hj e => (hap b (Or.inl rfl)).1 ⟨j, hj, e⟩
  have nbg : ∀ j, UK (nM P) j → b ≠ g j := fun j hj e => (hap b (Or.inl rfl)).2.1 ⟨j, hj, e⟩
  have nbs : ∀ j, SJ P j → b ≠ g j := fun j hj e => (hap b (Or.inl rfl)).2.2.1 ⟨j, hj, e⟩
  have nau : ∀ j, VK P j → a ≠ u j := fun j hj e => (hap a (Or.inr (Or.inl rfl))).1 ⟨j, hj, e⟩
  have nag : ∀ j, UK (nM P) j → a ≠ g j := fun j hj e => (hap a (Or.inr (Or.inl rfl))).2.1 ⟨j, hj, e⟩
  have nas : ∀ j, SJ P j → a ≠ g j := fun j hj e => (hap a (Or.inr (Or.inl rfl))).2.2.1 ⟨j, hj, e⟩
  have ncu : ∀ j, VK P j → c ≠ u j := fun j hj e => (hap c (Or.inr (Or.inr rfl))).1 ⟨j, hj, e⟩
  have ncg : ∀ j, UK (nM P) j → c ≠ g j := fun j hj e => (hap c (Or.inr (Or.inr rfl))).2.1 ⟨j, hj, e⟩
  have ncs : ∀ j, SJ P j → c ≠ g j := fun j hj e => (hap c (Or.inr (Or.inr rfl))).2.2.1 ⟨j, hj, e⟩
  refine vv_sub (lv' := [(0, .ref c), (1, .int (nI m)), (2, .int (b2 q))]) [0, 1, 2] rfl ?_
  refine vv_aload_n X dX1_setOn_0 rfl 0 rfl ?_
  refine vv_iload_n X dX1_setOn_1 rfl 1 rfl ?_
  refine vv_callVp X (mX1_withSource (kL K) D u P T o g S pw c v0 v1 v2 v3 (.ref b) v6 v7 m hC hV (by omega)) q1858 q1860 qs38 q137 q1861 nX1_withSource ⟨(Nat.le_of_ble_eq_true rfl), (Nat.le_of_ble_eq_true rfl)⟩ dX1_setOn_2 rfl (Nat.le_of_ble_eq_true rfl) (recv X hcm CL_X1) ⟨hK, hcm, hU, hR⟩ ⟨(Nat.le_of_ble_eq_true rfl), (Nat.le_of_ble_eq_true rfl)⟩ ?_
  refine vv_getfN (C := RX3) (T := TX3) (N := 8) (ref := "AcousticCamera$State") X hR.ob in_X3 CL_X3 2 (by decide) q1692 rfl rfl dX1_setOn_5 ?_
  refine vv_iload_n X dX1_setOn_8 rfl 1 rfl ?_
  refine vv_callVp X (mJ21_get (kL K) D (g 3) (g 4) (onm P S) m  (by exact on_lt hP S) (by omega)) q1875 q1455 q1456 q164 q1457 nJ21_get ⟨(Nat.le_of_ble_eq_true rfl), (Nat.le_of_ble_eq_true rfl)⟩ dX1_setOn_9 rfl (Nat.le_of_ble_eq_true rfl) (recv X hR.on.1 CL_J21) ⟨hK, hR.on⟩ ⟨(Nat.le_of_ble_eq_true rfl), (Nat.le_of_ble_eq_true rfl)⟩ ?_
  refine vv_eqi (b2_eq (on_bit (by omega))) ?_
  refine vv_istore_n (lv' := [(3, .int (b2 (¬ S (25 + m) = 0))), (0, .ref c), (1, .int (nI m)), (2, .int (b2 q))]) X dX1_setOn_12 rfl (by decide) rfl ?_
  refine vv_aload_n X dX1_setOn_13 rfl 1 rfl ?_
  refine vv_callV X (mX1_keep (kL K) D u P T o g S pw c b a h n x0 F v0 v1 v2 v3 v6 v7 hC hV hA ho hh hn6 hx0 hka hap hpg) q2766 q2768 qs54 q137 q2769 nX1_keep ⟨(Nat.le_of_ble_eq_true rfl), (Nat.le_of_ble_eq_true rfl)⟩ dX1_setOn_14 rfl (Nat.le_of_ble_eq_true rfl) (recv X hcm CL_X1) ⟨hK, hcm, hU, hR, hPK, hd, he⟩ (fun q z => by rcases z with rfl | rfl; exact (Or.inl (Or.inl (Or.inl rfl))); exact (Or.inl (Or.inl (Or.inr rfl)))) ⟨(Nat.le_of_ble_eq_true rfl), (Nat.le_of_ble_eq_true rfl)⟩ (fun v_ H hq hz_ hk => ?_)
  obtain ⟨rfl, g9, hR9, hPK2, hA9, hge9, hsh9, hd2, he2⟩ := hq
  have hge0 : ∀ k, UK (nM P) k → (kS K).heap.size ≤ g9 k := fun k hk => Nat.le_trans hz (hge9 k hk)
  have n9c : ∀ k, UK (nM P) k → c ≠ g9 k := fun k hk e => by have h9 := hge9 k hk; have h8 := hcm.lt; omega
  have n9b : ∀ k, UK (nM P) k → b ≠ g9 k := fun k hk e => by have h9 := hge9 k hk; have h8 := hd.lt; omega
  have n9a : ∀ k, UK (nM P) k → a ≠ g9 k := fun k hk e => by have h9 := hge9 k hk; have h8 := he.lt; omega
  have g9g : ∀ k k2, UK (nM P) k → UK (nM P) k2 → g9 k ≠ g k2 := fun k k2 hk hk2 e => by have h9 := hge9 k hk; have h8 := hR.ltA k2 hk2; omega
  have nw9 : ∀ q, (OA g9 (nM P) q ∨ GB g9 P q) → (∀ k, UK (nM P) k → q ≠ g k) ∧ q ≠ b ∧ q ≠ a := fun q z => by
    rcases z with ⟨k, hk, rfl⟩ | ⟨j, hj, rfl⟩
    · exact ⟨fun k2 hk2 => g9g k k2 hk hk2, fun e => n9b k hk e.symm, fun e => n9a k hk e.symm⟩
    · rw [hsh9 j hj]; exact ⟨fun k2 hk2 e => hA.2.2 k2 j hk2 hj e.symm, fun e => nbs j hj e.symm, fun e => nas j hj e.symm⟩
  replace hcm := hcm.kept (hk _ hcm.lt (fun z => z.elim (X.oo hcm hd CL_X1 CL_J1 (by decide)) ((X.oa hcm he CL_X1 rfl))))
  replace hU := hU.kept (fun q hl hq => hk q hl (fun z => by obtain ⟨j_, h_, e_⟩ := hq; rcases z with z | z; exact nbu j_ h_ (z.symm.trans e_); exact nau j_ h_ (z.symm.trans e_)))
  replace hR := hR.kept (fun q hl hq => hk q hl (fun z => by obtain ⟨j_, h_, e_⟩ := hq; rcases z with z | z; exact nbg j_ h_ (z.symm.trans e_); exact nag j_ h_ (z.symm.trans e_))) (fun q hl hq => hk q hl (fun z => by obtain ⟨j_, h_, e_⟩ := hq; rcases z with z | z; exact nbs j_ h_ (z.symm.trans e_); exact nas j_ h_ (z.symm.trans e_)))
  replace hK := hK.to hk (fun q z => by rcases z with rfl | rfl; exact (X.ko hK hd CL_J1 (by decide) (by decide)); exact hka)
  replace hz := Nat.le_trans hz hz_
  clear hd he hPK hk hz_ hge9
  have hd := hd2
  have he := he2
  have hPK := hPK2
  clear hd2 he2 hPK2
  refine vv_aload_n X dX1_setOn_17 rfl 1 rfl ?_
  refine vv_getf (C := RX1) (T := TX1) (N := 8) (ref := "AcousticCamera") X hcm in_X1 CL_X1 4 (by decide) q259 rfl rfl dX1_setOn_18 ?_
  refine vv_getfN (C := RX3) (T := TX3) (N := 8) (ref := "AcousticCamera$State") X hR.ob in_X3 CL_X3 2 (by decide) q1692 rfl rfl dX1_setOn_21 ?_
  refine vv_iload_n X dX1_setOn_24 rfl 2 rfl ?_
  refine vv_iload_n X dX1_setOn_25 rfl 3 rfl ?_
  refine vv_callV X (mJ21_set_3 (kL K) D (g 3) (g 4) (onm P S) m q (on_lt hP _) (by omega)) q2806 q2807 q2808 q164 q2809 nJ21_set_3 ⟨(Nat.le_of_ble_eq_true rfl), (Nat.le_of_ble_eq_true rfl)⟩ dX1_setOn_26 rfl (Nat.le_of_ble_eq_true rfl) (recv X hR.on.1 CL_J21) ⟨hK, hR.on⟩ (fun q z => by rcases z with rfl | rfl; exact (Or.inl (Or.inr (OA.of (Or.inl (by decide))))); exact (Or.inl (Or.inr (OA.of (Or.inl (by decide)))))) ⟨(Nat.le_of_ble_eq_true rfl), (Nat.le_of_ble_eq_true rfl)⟩ (fun v_ H hq hz_ hk => ?_)
  obtain ⟨rfl, hB9⟩ := hq
  replace hcm := hcm.kept (hk _ hcm.lt (fun z => z.elim (ncg _ (Or.inl (by decide))) ((ncg _ (Or.inl (by decide))))))
  replace hd := hd.kept (hk _ hd.lt (fun z => z.elim (nbg _ (Or.inl (by decide))) ((nbg _ (Or.inl (by decide))))))
  replace he := he.kept (hk _ he.lt (fun z => z.elim (nag _ (Or.inl (by decide))) ((nag _ (Or.inl (by decide))))))
  replace hPK := (show PK D P S pw H from fun p e => (hPK p e).kept (by first | exact hk _ (hPK p e).lt (fun z => z) | (refine hk _ (hPK p e).lt (fun z => ?_); rcases z with z | z; exact (fun (z : p = b) => (hap b (Or.inl rfl)).2.2.2 (z ▸ e)) z; exact (fun (z : p = a) => (hap a (Or.inr (Or.inl rfl))).2.2.2 (z ▸ e)) z) | (refine hc.2 _ ((hpg p e) _ (Or.inl ?_)); decide) | (refine hc.2 _ ((hpg p e) _ (Or.inr ⟨?_, ?_⟩)) <;> omega) | (refine hk _ (hPK p e).lt (fun z => ?_); obtain ⟨k_, h_, e_⟩ := z; exact (hpg p e) k_ h_ e_) | (refine hk _ (hPK p e).lt (fun z => ?_); rcases z with z | z <;> (refine (hpg p e) _ (Or.inl ?_) z; decide)) | (refine hk _ (hPK p e).lt ((hpg p e) _ (Or.inl ?_)); decide) | exact hc.2 _ (fun (z : p = b) => (hap b (Or.inl rfl)).2.2.2 (z ▸ e)) | exact hc.2 _ (fun (z : p = a) => (hap a (Or.inr (Or.inl rfl))).2.2.2 (z ▸ e)) | (refine hk _ (hPK p e).lt (fun z => ?_); exact absurd (hpn p e) (Nat.not_lt.mpr (Nat.le_of_eq z.symm))) | exact hc.2 _ (fun (z : p = c) => (hap c (Or.inr (Or.inr rfl))).2.2.2 (z ▸ e)) | (refine hk _ (hPK p e).lt (fun z => ?_); rcases z with (z | z) | ⟨k_, h_, e_⟩; exact (fun (z : p = b) => (hap b (Or.inl rfl)).2.2.2 (z ▸ e)) z; exact (fun (z : p = a) => (hap a (Or.inr (Or.inl rfl))).2.2.2 (z ▸ e)) z; exact (hpg p e) k_ h_ e_)))
  replace hR9 := (show SR D g9 u P S pw H from hR9.kept (fun q hl hq => (by first | exact hk _ hl (fun z => z) | (refine hk _ hl (fun z => ?_); rcases z with z | z; exact (nw9 q (Or.inl hq)).2.1 z; exact (nw9 q (Or.inl hq)).2.2 z) | (refine hc.2 _ ((nw9 q (Or.inl hq)).1 _ (Or.inl ?_)); decide) | (refine hc.2 _ ((nw9 q (Or.inl hq)).1 _ (Or.inr ⟨?_, ?_⟩)) <;> omega) | (refine hk _ hl (fun z => ?_); obtain ⟨k_, h_, e_⟩ := z; exact (nw9 q (Or.inl hq)).1 k_ h_ e_) | (refine hk _ hl (fun z => ?_); rcases z with z | z <;> (refine (nw9 q (Or.inl hq)).1 _ (Or.inl ?_) z; decide)) | (refine hk _ hl ((nw9 q (Or.inl hq)).1 _ (Or.inl ?_)); decide) | exact hc.2 _ (nw9 q (Or.inl hq)).2.1 | exact hc.2 _ (nw9 q (Or.inl hq)).2.2 | (refine hk _ hl (fun z => ?_); exact absurd (hpn p e) (Nat.not_lt.mpr (Nat.le_of_eq z.symm))) | (refine hk _ hl (fun z => ?_); rcases z with (z | z) | ⟨k_, h_, e_⟩; exact (nw9 q (Or.inl hq)).2.1 z; exact (nw9 q (Or.inl hq)).2.2 z; exact (nw9 q (Or.inl hq)).1 k_ h_ e_))) (fun q hl hq => (by first | exact hk _ hl (fun z => z) | (refine hk _ hl (fun z => ?_); rcases z with z | z; exact (nw9 q (Or.inr hq)).2.1 z; exact (nw9 q (Or.inr hq)).2.2 z) | (refine hc.2 _ ((nw9 q (Or.inr hq)).1 _ (Or.inl ?_)); decide) | (refine hc.2 _ ((nw9 q (Or.inr hq)).1 _ (Or.inr ⟨?_, ?_⟩)) <;> omega) | (refine hk _ hl (fun z => ?_); obtain ⟨k_, h_, e_⟩ := z; exact (nw9 q (Or.inr hq)).1 k_ h_ e_) | (refine hk _ hl (fun z => ?_); rcases z with z | z <;> (refine (nw9 q (Or.inr hq)).1 _ (Or.inl ?_) z; decide)) | (refine hk _ hl ((nw9 q (Or.inr hq)).1 _ (Or.inl ?_)); decide) | exact hc.2 _ (nw9 q (Or.inr hq)).2.1 | exact hc.2 _ (nw9 q (Or.inr hq)).2.2 | (refine hk _ hl (fun z => ?_); exact absurd (hpn p e) (Nat.not_lt.mpr (Nat.le_of_eq z.symm))) | (refine hk _ hl (fun z => ?_); rcases z with (z | z) | ⟨k_, h_, e_⟩; exact (nw9 q (Or.inr hq)).2.1 z; exact (nw9 q (Or.inr hq)).2.2 z; exact (nw9 q (Or.inr hq)).1 k_ h_ e_))))
  have hR2 := hR.putO hA l4 l5 hk (S' := va_up S (25 + m) (b2 q)) (fun i hi => va_up_ne _ _ (by omega)) (by rw [← onm_up hm l5 q]; exact hB9)
  replace hU := hU.own hA l4 (Q := fun k => k = 3 ∨ k = 4) (fun k hk => by rcases hk with rfl | rfl <;> exact Or.inl (by decide)) (fun q hl hq => hk q hl (fun z => z.elim (hq 3 (Or.inl rfl)) (hq 4 (Or.inr rfl))))
  replace hK := hK.to hk (fun q z => by rcases z with rfl | rfl; exact hR.kn X hK 3 (Or.inl (by decide)); exact hR.kn X hK 4 (Or.inl (by decide)))
  replace hz := Nat.le_trans hz hz_
  clear hk hz_ hB9 hR
  have hR := hR2
  clear hR2
  refine vv_aload_n X dX1_setOn_29 rfl 1 rfl ?_
  refine vv_getf (C := RX1) (T := TX1) (N := 8) (ref := "AcousticCamera") X hcm in_X1 CL_X1 4 (by decide) q259 rfl rfl dX1_setOn_30 ?_
  refine vv_callV X (mX3_record (kL K) D u P T o g (va_up S (25 + m) (b2 q)) pw hC (hV.up (b2_vok (by omega))) hA) q1720 q1721 q1722 q150 q1723 nX3_record ⟨(Nat.le_of_ble_eq_true rfl), (Nat.le_of_ble_eq_true rfl)⟩ dX1_setOn_33 rfl (Nat.le_of_ble_eq_true rfl) (recv X hR.ob CL_X3) ⟨hK, hU, hR⟩ (fun _ z => Or.inl (Or.inr z)) ⟨(Nat.le_of_ble_eq_true rfl), (Nat.le_of_ble_eq_true rfl)⟩ (fun v_ H hq hz_ hk => ?_)
  obtain ⟨rfl, hR2⟩ := hq
  replace hcm := hcm.kept (hk _ hcm.lt (fun z => by obtain ⟨k_, hk_, e_⟩ := z; exact ncg k_ hk_ e_))
  replace hd := hd.kept (hk _ hd.lt (fun z => by obtain ⟨k_, hk_, e_⟩ := z; exact nbg k_ hk_ e_))
  replace he := he.kept (hk _ he.lt (fun z => by obtain ⟨k_, hk_, e_⟩ := z; exact nag k_ hk_ e_))
  replace hPK := (show PK D P S pw H from fun p e => (hPK p e).kept (by first | exact hk _ (hPK p e).lt (fun z => z) | (refine hk _ (hPK p e).lt (fun z => ?_); rcases z with z | z; exact (fun (z : p = b) => (hap b (Or.inl rfl)).2.2.2 (z ▸ e)) z; exact (fun (z : p = a) => (hap a (Or.inr (Or.inl rfl))).2.2.2 (z ▸ e)) z) | (refine hc.2 _ ((hpg p e) _ (Or.inl ?_)); decide) | (refine hc.2 _ ((hpg p e) _ (Or.inr ⟨?_, ?_⟩)) <;> omega) | (refine hk _ (hPK p e).lt (fun z => ?_); obtain ⟨k_, h_, e_⟩ := z; exact (hpg p e) k_ h_ e_) | (refine hk _ (hPK p e).lt (fun z => ?_); rcases z with z | z <;> (refine (hpg p e) _ (Or.inl ?_) z; decide)) | (refine hk _ (hPK p e).lt ((hpg p e) _ (Or.inl ?_)); decide) | exact hc.2 _ (fun (z : p = b) => (hap b (Or.inl rfl)).2.2.2 (z ▸ e)) | exact hc.2 _ (fun (z : p = a) => (hap a (Or.inr (Or.inl rfl))).2.2.2 (z ▸ e)) | (refine hk _ (hPK p e).lt (fun z => ?_); exact absurd (hpn p e) (Nat.not_lt.mpr (Nat.le_of_eq z.symm))) | exact hc.2 _ (fun (z : p = c) => (hap c (Or.inr (Or.inr rfl))).2.2.2 (z ▸ e)) | (refine hk _ (hPK p e).lt (fun z => ?_); rcases z with (z | z) | ⟨k_, h_, e_⟩; exact (fun (z : p = b) => (hap b (Or.inl rfl)).2.2.2 (z ▸ e)) z; exact (fun (z : p = a) => (hap a (Or.inr (Or.inl rfl))).2.2.2 (z ▸ e)) z; exact (hpg p e) k_ h_ e_)))
  replace hR9 := (show SR D g9 u P S pw H from hR9.kept (fun q hl hq => (by first | exact hk _ hl (fun z => z) | (refine hk _ hl (fun z => ?_); rcases z with z | z; exact (nw9 q (Or.inl hq)).2.1 z; exact (nw9 q (Or.inl hq)).2.2 z) | (refine hc.2 _ ((nw9 q (Or.inl hq)).1 _ (Or.inl ?_)); decide) | (refine hc.2 _ ((nw9 q (Or.inl hq)).1 _ (Or.inr ⟨?_, ?_⟩)) <;> omega) | (refine hk _ hl (fun z => ?_); obtain ⟨k_, h_, e_⟩ := z; exact (nw9 q (Or.inl hq)).1 k_ h_ e_) | (refine hk _ hl (fun z => ?_); rcases z with z | z <;> (refine (nw9 q (Or.inl hq)).1 _ (Or.inl ?_) z; decide)) | (refine hk _ hl ((nw9 q (Or.inl hq)).1 _ (Or.inl ?_)); decide) | exact hc.2 _ (nw9 q (Or.inl hq)).2.1 | exact hc.2 _ (nw9 q (Or.inl hq)).2.2 | (refine hk _ hl (fun z => ?_); exact absurd (hpn p e) (Nat.not_lt.mpr (Nat.le_of_eq z.symm))) | (refine hk _ hl (fun z => ?_); rcases z with (z | z) | ⟨k_, h_, e_⟩; exact (nw9 q (Or.inl hq)).2.1 z; exact (nw9 q (Or.inl hq)).2.2 z; exact (nw9 q (Or.inl hq)).1 k_ h_ e_))) (fun q hl hq => (by first | exact hk _ hl (fun z => z) | (refine hk _ hl (fun z => ?_); rcases z with z | z; exact (nw9 q (Or.inr hq)).2.1 z; exact (nw9 q (Or.inr hq)).2.2 z) | (refine hc.2 _ ((nw9 q (Or.inr hq)).1 _ (Or.inl ?_)); decide) | (refine hc.2 _ ((nw9 q (Or.inr hq)).1 _ (Or.inr ⟨?_, ?_⟩)) <;> omega) | (refine hk _ hl (fun z => ?_); obtain ⟨k_, h_, e_⟩ := z; exact (nw9 q (Or.inr hq)).1 k_ h_ e_) | (refine hk _ hl (fun z => ?_); rcases z with z | z <;> (refine (nw9 q (Or.inr hq)).1 _ (Or.inl ?_) z; decide)) | (refine hk _ hl ((nw9 q (Or.inr hq)).1 _ (Or.inl ?_)); decide) | exact hc.2 _ (nw9 q (Or.inr hq)).2.1 | exact hc.2 _ (nw9 q (Or.inr hq)).2.2 | (refine hk _ hl (fun z => ?_); exact absurd (hpn p e) (Nat.not_lt.mpr (Nat.le_of_eq z.symm))) | (refine hk _ hl (fun z => ?_); rcases z with (z | z) | ⟨k_, h_, e_⟩; exact (nw9 q (Or.inr hq)).2.1 z; exact (nw9 q (Or.inr hq)).2.2 z; exact (nw9 q (Or.inr hq)).1 k_ h_ e_))))
  replace hK := hK.to hk (hR.knA X hK)
  replace hU := hU.to hA hk
  replace hz := Nat.le_trans hz hz_
  clear hk hz_ hR
  have hR := hR2
  clear hR2
  refine vv_iload_n X dX1_setOn_36 rfl 0 rfl ?_
  exact vv_zret X (b2_nar _) hQ dX1_setOn_37 (Nat.le_of_ble_eq_true rfl) (Nat.le_of_ble_eq_true rfl) (⟨rfl, hR, g9, hR9, hPK, hA9, hge0, hsh9, hd, he⟩)
set_option maxHeartbeats 800000 in
theorem mX1_setWeight (l : Launch) (D : DD) (u : Nat → Nat) (P T : Nat → Int32) (o : Nat) (g : Nat → Nat) (S : Nat → Int32) (pw : Option Nat) (c b a h n x0 : Nat) (F : Nat → Option Nat) (v0 v1 v2 v3 v6 v7 : Value) (m k : Nat) (hC : VC P) (hV : VS S) (hA : AP g u P) (ho : o < 4096) (hh : h < 17) (hn6 : n ≤ 6) (hx0 : n = 6 → F h = some x0) (hka : KN D a) (hap : ∀ q, (q = b ∨ q = a ∨ q = c) → ¬ UB u P q ∧ ¬ OA g (nM P) q ∧ ¬ GB g P q ∧ ¬ pw = some q) (hpg : ∀ p, pw = some p → ∀ k, UK (nM P) k → p ≠ g k) (hm : m < nM P) (hk9 : k ≤ 9) : Ct l yX1_setWeight cX1_setWeight 4 (some .int) { frames := 7, cells := 33, slots := 4858, locals := 149 } D [.ref c, .int (nI m), .int (nI k)] (fun H => KH D H ∧ oB D H c 0 [v0, v1, v2, v3, .ref (g 0), .ref b, v6, v7] ∧ UR D u P T o H ∧ SR D g u P S pw H ∧ PK D P S pw H ∧ oB D H b 10 [.ref a, .int (nI h), .int (nI ((h + n) % 17))] ∧ qA D H a 9 17 F) (fun q => (q = b ∨ q = a) ∨ OA g (nM P) q) (fun r H H1 => r = some (.int (nI (wgt S m))) ∧ SR D g u P (va_up S (13 + m) (nI k)) none H1 ∧ ∃ g9, SR D g9 u P S pw H1 ∧ PK D P S pw H1 ∧ AP g9 u P ∧ (∀ k, UK (nM P) k → H.size ≤ g9 k) ∧ (∀ j, SJ P j → g9 j = g j) ∧ oB D H1 b 10 [.ref a, .int (nI (if n = 6 then (h + 1) % 17 else h)), .int (nI (((h + n) % 17 + 1) % 17))] ∧ qA D H1 a 9 17 (va_up (if n = 6 then va_up F h none else F) ((h + n) % 17) (some (g9 0)))) := by
  refine Ct.of (by decide +kernel) (Nat.le_of_ble_eq_true rfl) (fun K Qf hkl X hM hQ => ?_)
  subst hkl
  obtain ⟨hK, hcm, hU, hR, hPK, hd, he⟩ := hM
  have hz : (kS K).heap.size ≤ (kS K).heap.size := Nat.le_refl _
  have hP := hC.v
  have l0 := hP.l0
  have l1 := hP.l1
  have l2 := hP.l2
  have l4 := hP.l4
  have l5 := hP.l5
  have l8 := hP.l8
  have l9 := hP.l9
  have l10 := hP.l10
  have l71 := hP.l71
  have l76 := hP.l76
  have l77 := hP.l77
  have hx1 := hC.x1
  have hy1 := hC.y1
  have ht1 := hC.t1
  have he1 := hC.e1
  have hm1 := hC.m1
  have hcc : nC P ≤ 144 := Nat.mul_le_mul l9 l10
  have nbu : ∀ j, VK P j → b ≠ u j := fun j hj e => (hap b (Or.inl rfl)).1 ⟨j, hj, e⟩
  have nbg : ∀ j, UK (nM P) j → b ≠ g j := fun j hj e => (hap b (Or.inl rfl)).2.1 ⟨j, hj, e⟩
  have nbs : ∀ j, SJ P j → b ≠ g j := fun j hj e => (hap b (Or.inl rfl)).2.2.1 ⟨j, hj, e⟩
  have nau : ∀ j, VK P j → a ≠ u j := fun j hj e => (hap a (Or.inr (Or.inl rfl))).1 ⟨j, hj, e⟩
  have nag : ∀ j, UK (nM P) j → a ≠ g j := fun j hj e => (hap a (Or.inr (Or.inl rfl))).2.1 ⟨j, hj, e⟩
  have nas : ∀ j, SJ P j → a ≠ g j := fun j hj e => (hap a (Or.inr (Or.inl rfl))).2.2.1 ⟨j, hj, e⟩
  have ncu : ∀ j, VK P j → c ≠ u j := fun j hj e => (hap c (Or.inr (Or.inr rfl))).1 ⟨j, hj, e⟩
  have ncg : ∀ j, UK (nM P) j → c ≠ g j := fun j hj e => (hap c (Or.inr (Or.inr rfl))).2.1 ⟨j, hj, e⟩
  have ncs : ∀ j, SJ P j → c ≠ g j := fun j hj e => (hap c (Or.inr (Or.inr rfl))).2.2.1 ⟨j, hj, e⟩
  refine vv_sub (lv' := [(0, .ref c), (1, .int (nI m)), (2, .int (nI k))]) [0, 1, 2] rfl ?_
  refine vv_aload_n X dX1_setWeight_0 rfl 0 rfl ?_
  refine vv_iload_n X dX1_setWeight_1 rfl 1 rfl ?_
  refine vv_callVp X (mX1_withMic (kL K) D u P T o g S pw c v0 v1 v2 v3 (.ref b) v6 v7 m hC hV (by omega)) q1793 q1795 qs35 q137 q1796 nX1_withMic ⟨(Nat.le_of_ble_eq_true rfl), (Nat.le_of_ble_eq_true rfl)⟩ dX1_setWeight_2 rfl (Nat.le_of_ble_eq_true rfl) (recv X hcm CL_X1) ⟨hK, hcm, hU, hR⟩ ⟨(Nat.le_of_ble_eq_true rfl), (Nat.le_of_ble_eq_true rfl)⟩ ?_
  refine vv_getfN (C := RX3) (T := TX3) (N := 8) (ref := "AcousticCamera$State") X hR.ob in_X3 CL_X3 4 (by decide) q1696 rfl rfl dX1_setWeight_5 ?_
  refine vv_iload_n X dX1_setWeight_8 rfl 1 rfl ?_
  refine vv_iald X hR.wt (m) (by omega) (by omega) rfl dX1_setWeight_9 ?_
  refine vv_istore_n (lv' := [(3, .int (nI (wgt S m))), (0, .ref c), (1, .int (nI m)), (2, .int (nI k))]) X dX1_setWeight_10 rfl (by decide) rfl ?_
  refine vv_iload_n X dX1_setWeight_11 rfl 3 rfl ?_
  refine vv_i2l (v := (nI k).toInt64) X dX1_setWeight_12 rfl ?_
  refine vv_lconst (v := 0) X dX1_setWeight_13 (by decide) ?_
  refine vv_eql (show (0 : Int64) = (nI 0).toInt64 from by decide) ?_
  refine vv_ldc2 (v := 9) X q2649 dX1_setWeight_14 ?_
  refine vv_eql (show _ = (nI 9 : Int32).toInt64 from by decide) ?_
  refine vv_callSp X (mX1_in (kL K) D ((nI k).toInt64) ((nI 0).toInt64) ((nI 9 : Int32).toInt64)) q449 q450 q137 q451 nX1_in ⟨(Nat.le_of_ble_eq_true rfl), (Nat.le_of_ble_eq_true rfl)⟩ dX1_setWeight_17 rfl (Nat.le_of_ble_eq_true rfl) trivial ⟨(Nat.le_of_ble_eq_true rfl), (Nat.le_of_ble_eq_true rfl)⟩ ?_
  refine vv_eqi (b2_eq (in_I)) ?_
  refine vv_callSv X (mX1_checkArgument (kL K) D ((nI 0) ≤ (nI k) ∧ (nI k) ≤ (nI 9 : Int32)) (⟨(nI_leI (by omega) (by omega)).mpr (Nat.zero_le _), (nI_leI (by omega) (by omega)).mpr hk9⟩)) q1820 q1821 q137 q1822 nX1_checkArgument ⟨(Nat.le_of_ble_eq_true rfl), (Nat.le_of_ble_eq_true rfl)⟩ dX1_setWeight_20 rfl (Nat.le_of_ble_eq_true rfl) trivial ⟨(Nat.le_of_ble_eq_true rfl), (Nat.le_of_ble_eq_true rfl)⟩ ?_
  refine vv_aload_n X dX1_setWeight_23 rfl 1 rfl ?_
  refine vv_callV X (mX1_keep (kL K) D u P T o g S pw c b a h n x0 F v0 v1 v2 v3 v6 v7 hC hV hA ho hh hn6 hx0 hka hap hpg) q2766 q2768 qs54 q137 q2769 nX1_keep ⟨(Nat.le_of_ble_eq_true rfl), (Nat.le_of_ble_eq_true rfl)⟩ dX1_setWeight_24 rfl (Nat.le_of_ble_eq_true rfl) (recv X hcm CL_X1) ⟨hK, hcm, hU, hR, hPK, hd, he⟩ (fun q z => by rcases z with rfl | rfl; exact (Or.inl (Or.inl (Or.inl rfl))); exact (Or.inl (Or.inl (Or.inr rfl)))) ⟨(Nat.le_of_ble_eq_true rfl), (Nat.le_of_ble_eq_true rfl)⟩ (fun v_ H hq hz_ hk => ?_)
  obtain ⟨rfl, g9, hR9, hPK2, hA9, hge9, hsh9, hd2, he2⟩ := hq
  have hge0 : ∀ k, UK (nM P) k → (kS K).heap.size ≤ g9 k := fun k hk => Nat.le_trans hz (hge9 k hk)
  have n9c : ∀ k, UK (nM P) k → c ≠ g9 k := fun k hk e => by have h9 := hge9 k hk; have h8 := hcm.lt; omega
  have n9b : ∀ k, UK (nM P) k → b ≠ g9 k := fun k hk e => by have h9 := hge9 k hk; have h8 := hd.lt; omega
  have n9a : ∀ k, UK (nM P) k → a ≠ g9 k := fun k hk e => by have h9 := hge9 k hk; have h8 := he.lt; omega
  have g9g : ∀ k k2, UK (nM P) k → UK (nM P) k2 → g9 k ≠ g k2 := fun k k2 hk hk2 e => by have h9 := hge9 k hk; have h8 := hR.ltA k2 hk2; omega
  have nw9 : ∀ q, (OA g9 (nM P) q ∨ GB g9 P q) → (∀ k, UK (nM P) k → q ≠ g k) ∧ q ≠ b ∧ q ≠ a := fun q z => by
    rcases z with ⟨k, hk, rfl⟩ | ⟨j, hj, rfl⟩
    · exact ⟨fun k2 hk2 => g9g k k2 hk hk2, fun e => n9b k hk e.symm, fun e => n9a k hk e.symm⟩
    · rw [hsh9 j hj]; exact ⟨fun k2 hk2 e => hA.2.2 k2 j hk2 hj e.symm, fun e => nbs j hj e.symm, fun e => nas j hj e.symm⟩
  replace hcm := hcm.kept (hk _ hcm.lt (fun z => z.elim (X.oo hcm hd CL_X1 CL_J1 (by decide)) ((X.oa hcm he CL_X1 rfl))))
  replace hU := hU.kept (fun q hl hq => hk q hl (fun z => by obtain ⟨j_, h_, e_⟩ := hq; rcases z with z | z; exact nbu j_ h_ (z.symm.trans e_); exact nau j_ h_ (z.symm.trans e_)))
  replace hR := hR.kept (fun q hl hq => hk q hl (fun z => by obtain ⟨j_, h_, e_⟩ := hq; rcases z with z | z; exact nbg j_ h_ (z.symm.trans e_); exact nag j_ h_ (z.symm.trans e_))) (fun q hl hq => hk q hl (fun z => by obtain ⟨j_, h_, e_⟩ := hq; rcases z with z | z; exact nbs j_ h_ (z.symm.trans e_); exact nas j_ h_ (z.symm.trans e_)))
  replace hK := hK.to hk (fun q z => by rcases z with rfl | rfl; exact (X.ko hK hd CL_J1 (by decide) (by decide)); exact hka)
  replace hz := Nat.le_trans hz hz_
  clear hd he hPK hk hz_ hge9
  have hd := hd2
  have he := he2
  have hPK := hPK2
  clear hd2 he2 hPK2
  refine vv_aload_n X dX1_setWeight_27 rfl 1 rfl ?_
  refine vv_getf (C := RX1) (T := TX1) (N := 8) (ref := "AcousticCamera") X hcm in_X1 CL_X1 4 (by decide) q259 rfl rfl dX1_setWeight_28 ?_
  refine vv_getfN (C := RX3) (T := TX3) (N := 8) (ref := "AcousticCamera$State") X hR.ob in_X3 CL_X3 4 (by decide) q1696 rfl rfl dX1_setWeight_31 ?_
  refine vv_iload_n X dX1_setWeight_34 rfl 2 rfl ?_
  refine vv_iload_n X dX1_setWeight_35 rfl 3 rfl ?_
  refine vv_iast X hR.wt (m) (by omega) (by omega) rfl (Or.inl (Or.inr (OA.of (Or.inl (by decide))))) dX1_setWeight_36 (fun H hc ho => ?_)
  replace hcm := hcm.kept (hc.2 _ (ncg _ (Or.inl (by decide))))
  replace hd := hd.kept (hc.2 _ (nbg _ (Or.inl (by decide))))
  replace he := he.kept (hc.2 _ (nag _ (Or.inl (by decide))))
  replace hPK := (show PK D P S pw H from fun p e => (hPK p e).kept (by first | exact hk _ (hPK p e).lt (fun z => z) | (refine hk _ (hPK p e).lt (fun z => ?_); rcases z with z | z; exact (fun (z : p = b) => (hap b (Or.inl rfl)).2.2.2 (z ▸ e)) z; exact (fun (z : p = a) => (hap a (Or.inr (Or.inl rfl))).2.2.2 (z ▸ e)) z) | (refine hc.2 _ ((hpg p e) _ (Or.inl ?_)); decide) | (refine hc.2 _ ((hpg p e) _ (Or.inr ⟨?_, ?_⟩)) <;> omega) | (refine hk _ (hPK p e).lt (fun z => ?_); obtain ⟨k_, h_, e_⟩ := z; exact (hpg p e) k_ h_ e_) | (refine hk _ (hPK p e).lt (fun z => ?_); rcases z with z | z <;> (refine (hpg p e) _ (Or.inl ?_) z; decide)) | (refine hk _ (hPK p e).lt ((hpg p e) _ (Or.inl ?_)); decide) | exact hc.2 _ (fun (z : p = b) => (hap b (Or.inl rfl)).2.2.2 (z ▸ e)) | exact hc.2 _ (fun (z : p = a) => (hap a (Or.inr (Or.inl rfl))).2.2.2 (z ▸ e)) | (refine hk _ (hPK p e).lt (fun z => ?_); exact absurd (hpn p e) (Nat.not_lt.mpr (Nat.le_of_eq z.symm))) | exact hc.2 _ (fun (z : p = c) => (hap c (Or.inr (Or.inr rfl))).2.2.2 (z ▸ e)) | (refine hk _ (hPK p e).lt (fun z => ?_); rcases z with (z | z) | ⟨k_, h_, e_⟩; exact (fun (z : p = b) => (hap b (Or.inl rfl)).2.2.2 (z ▸ e)) z; exact (fun (z : p = a) => (hap a (Or.inr (Or.inl rfl))).2.2.2 (z ▸ e)) z; exact (hpg p e) k_ h_ e_)))
  replace hR9 := (show SR D g9 u P S pw H from hR9.kept (fun q hl hq => (by first | exact hk _ hl (fun z => z) | (refine hk _ hl (fun z => ?_); rcases z with z | z; exact (nw9 q (Or.inl hq)).2.1 z; exact (nw9 q (Or.inl hq)).2.2 z) | (refine hc.2 _ ((nw9 q (Or.inl hq)).1 _ (Or.inl ?_)); decide) | (refine hc.2 _ ((nw9 q (Or.inl hq)).1 _ (Or.inr ⟨?_, ?_⟩)) <;> omega) | (refine hk _ hl (fun z => ?_); obtain ⟨k_, h_, e_⟩ := z; exact (nw9 q (Or.inl hq)).1 k_ h_ e_) | (refine hk _ hl (fun z => ?_); rcases z with z | z <;> (refine (nw9 q (Or.inl hq)).1 _ (Or.inl ?_) z; decide)) | (refine hk _ hl ((nw9 q (Or.inl hq)).1 _ (Or.inl ?_)); decide) | exact hc.2 _ (nw9 q (Or.inl hq)).2.1 | exact hc.2 _ (nw9 q (Or.inl hq)).2.2 | (refine hk _ hl (fun z => ?_); exact absurd (hpn p e) (Nat.not_lt.mpr (Nat.le_of_eq z.symm))) | (refine hk _ hl (fun z => ?_); rcases z with (z | z) | ⟨k_, h_, e_⟩; exact (nw9 q (Or.inl hq)).2.1 z; exact (nw9 q (Or.inl hq)).2.2 z; exact (nw9 q (Or.inl hq)).1 k_ h_ e_))) (fun q hl hq => (by first | exact hk _ hl (fun z => z) | (refine hk _ hl (fun z => ?_); rcases z with z | z; exact (nw9 q (Or.inr hq)).2.1 z; exact (nw9 q (Or.inr hq)).2.2 z) | (refine hc.2 _ ((nw9 q (Or.inr hq)).1 _ (Or.inl ?_)); decide) | (refine hc.2 _ ((nw9 q (Or.inr hq)).1 _ (Or.inr ⟨?_, ?_⟩)) <;> omega) | (refine hk _ hl (fun z => ?_); obtain ⟨k_, h_, e_⟩ := z; exact (nw9 q (Or.inr hq)).1 k_ h_ e_) | (refine hk _ hl (fun z => ?_); rcases z with z | z <;> (refine (nw9 q (Or.inr hq)).1 _ (Or.inl ?_) z; decide)) | (refine hk _ hl ((nw9 q (Or.inr hq)).1 _ (Or.inl ?_)); decide) | exact hc.2 _ (nw9 q (Or.inr hq)).2.1 | exact hc.2 _ (nw9 q (Or.inr hq)).2.2 | (refine hk _ hl (fun z => ?_); exact absurd (hpn p e) (Nat.not_lt.mpr (Nat.le_of_eq z.symm))) | (refine hk _ hl (fun z => ?_); rcases z with (z | z) | ⟨k_, h_, e_⟩; exact (nw9 q (Or.inr hq)).2.1 z; exact (nw9 q (Or.inr hq)).2.2 z; exact (nw9 q (Or.inr hq)).1 k_ h_ e_))))
  replace hK := hK.ch hc (hR.kn X hK _ (Or.inl (by decide)))
  replace hU := hU.own hA l4 (Q := (· = 6)) (fun k hk => by subst hk; exact Or.inl (by decide)) hc.own
  replace hz := Nat.le_trans hz (Nat.le_of_eq hc.1.symm)
  replace hR := hR.putW hA l4 l5 (m := m) (x := k) (by omega) (by omega) hc ho
  clear hc ho
  refine vv_aload_n X dX1_setWeight_37 rfl 1 rfl ?_
  refine vv_getf (C := RX1) (T := TX1) (N := 8) (ref := "AcousticCamera") X hcm in_X1 CL_X1 4 (by decide) q259 rfl rfl dX1_setWeight_38 ?_
  refine vv_null X dX1_setWeight_41 ?_
  refine vv_putfN (C := RX3) (T := TX3) (N := 8) (ref := "AcousticCamera$State") X hR.ob in_X3 CL_X3 tyX3 tyX3_ok nmX3 7 (by decide) q1702 rfl rfl rfl rfl (Nat.le_of_ble_eq_true rfl) (Or.inl (Or.inr (OA.of (Or.inl (by decide))))) dX1_setWeight_42 (fun H hc ho => ?_)
  replace hcm := hcm.kept (hc.2 _ (ncg _ (Or.inl (by decide))))
  replace hd := hd.kept (hc.2 _ (nbg _ (Or.inl (by decide))))
  replace he := he.kept (hc.2 _ (nag _ (Or.inl (by decide))))
  replace hPK := (show PK D P S pw H from fun p e => (hPK p e).kept (by first | exact hk _ (hPK p e).lt (fun z => z) | (refine hk _ (hPK p e).lt (fun z => ?_); rcases z with z | z; exact (fun (z : p = b) => (hap b (Or.inl rfl)).2.2.2 (z ▸ e)) z; exact (fun (z : p = a) => (hap a (Or.inr (Or.inl rfl))).2.2.2 (z ▸ e)) z) | (refine hc.2 _ ((hpg p e) _ (Or.inl ?_)); decide) | (refine hc.2 _ ((hpg p e) _ (Or.inr ⟨?_, ?_⟩)) <;> omega) | (refine hk _ (hPK p e).lt (fun z => ?_); obtain ⟨k_, h_, e_⟩ := z; exact (hpg p e) k_ h_ e_) | (refine hk _ (hPK p e).lt (fun z => ?_); rcases z with z | z <;> (refine (hpg p e) _ (Or.inl ?_) z; decide)) | (refine hk _ (hPK p e).lt ((hpg p e) _ (Or.inl ?_)); decide) | exact hc.2 _ (fun (z : p = b) => (hap b (Or.inl rfl)).2.2.2 (z ▸ e)) | exact hc.2 _ (fun (z : p = a) => (hap a (Or.inr (Or.inl rfl))).2.2.2 (z ▸ e)) | (refine hk _ (hPK p e).lt (fun z => ?_); exact absurd (hpn p e) (Nat.not_lt.mpr (Nat.le_of_eq z.symm))) | exact hc.2 _ (fun (z : p = c) => (hap c (Or.inr (Or.inr rfl))).2.2.2 (z ▸ e)) | (refine hk _ (hPK p e).lt (fun z => ?_); rcases z with (z | z) | ⟨k_, h_, e_⟩; exact (fun (z : p = b) => (hap b (Or.inl rfl)).2.2.2 (z ▸ e)) z; exact (fun (z : p = a) => (hap a (Or.inr (Or.inl rfl))).2.2.2 (z ▸ e)) z; exact (hpg p e) k_ h_ e_)))
  replace hR9 := (show SR D g9 u P S pw H from hR9.kept (fun q hl hq => (by first | exact hk _ hl (fun z => z) | (refine hk _ hl (fun z => ?_); rcases z with z | z; exact (nw9 q (Or.inl hq)).2.1 z; exact (nw9 q (Or.inl hq)).2.2 z) | (refine hc.2 _ ((nw9 q (Or.inl hq)).1 _ (Or.inl ?_)); decide) | (refine hc.2 _ ((nw9 q (Or.inl hq)).1 _ (Or.inr ⟨?_, ?_⟩)) <;> omega) | (refine hk _ hl (fun z => ?_); obtain ⟨k_, h_, e_⟩ := z; exact (nw9 q (Or.inl hq)).1 k_ h_ e_) | (refine hk _ hl (fun z => ?_); rcases z with z | z <;> (refine (nw9 q (Or.inl hq)).1 _ (Or.inl ?_) z; decide)) | (refine hk _ hl ((nw9 q (Or.inl hq)).1 _ (Or.inl ?_)); decide) | exact hc.2 _ (nw9 q (Or.inl hq)).2.1 | exact hc.2 _ (nw9 q (Or.inl hq)).2.2 | (refine hk _ hl (fun z => ?_); exact absurd (hpn p e) (Nat.not_lt.mpr (Nat.le_of_eq z.symm))) | (refine hk _ hl (fun z => ?_); rcases z with (z | z) | ⟨k_, h_, e_⟩; exact (nw9 q (Or.inl hq)).2.1 z; exact (nw9 q (Or.inl hq)).2.2 z; exact (nw9 q (Or.inl hq)).1 k_ h_ e_))) (fun q hl hq => (by first | exact hk _ hl (fun z => z) | (refine hk _ hl (fun z => ?_); rcases z with z | z; exact (nw9 q (Or.inr hq)).2.1 z; exact (nw9 q (Or.inr hq)).2.2 z) | (refine hc.2 _ ((nw9 q (Or.inr hq)).1 _ (Or.inl ?_)); decide) | (refine hc.2 _ ((nw9 q (Or.inr hq)).1 _ (Or.inr ⟨?_, ?_⟩)) <;> omega) | (refine hk _ hl (fun z => ?_); obtain ⟨k_, h_, e_⟩ := z; exact (nw9 q (Or.inr hq)).1 k_ h_ e_) | (refine hk _ hl (fun z => ?_); rcases z with z | z <;> (refine (nw9 q (Or.inr hq)).1 _ (Or.inl ?_) z; decide)) | (refine hk _ hl ((nw9 q (Or.inr hq)).1 _ (Or.inl ?_)); decide) | exact hc.2 _ (nw9 q (Or.inr hq)).2.1 | exact hc.2 _ (nw9 q (Or.inr hq)).2.2 | (refine hk _ hl (fun z => ?_); exact absurd (hpn p e) (Nat.not_lt.mpr (Nat.le_of_eq z.symm))) | (refine hk _ hl (fun z => ?_); rcases z with (z | z) | ⟨k_, h_, e_⟩; exact (nw9 q (Or.inr hq)).2.1 z; exact (nw9 q (Or.inr hq)).2.2 z; exact (nw9 q (Or.inr hq)).1 k_ h_ e_))))
  replace hK := hK.ch hc (hR.kn X hK 0 (Or.inl (by decide)))
  replace hU := hU.own hA l4 (Q := (· = 0)) (fun k hk => by subst hk; exact Or.inl (by decide)) hc.own
  replace hz := Nat.le_trans hz (Nat.le_of_eq hc.1.symm)
  replace hR := hR.putP hA l4 l5 (pw' := none) hc ho
  clear hc ho
  refine vv_iload_n X dX1_setWeight_45 rfl 0 rfl ?_
  exact vv_iret X hQ dX1_setWeight_46 (Nat.le_of_ble_eq_true rfl) (Nat.le_of_ble_eq_true rfl) (⟨rfl, hR, g9, hR9, hPK, hA9, hge0, hsh9, hd, he⟩)
set_option maxHeartbeats 800000 in
theorem mX1_clean (l : Launch) (D : DD) (u : Nat → Nat) (P T : Nat → Int32) (o : Nat) (g : Nat → Nat) (S : Nat → Int32) (pw : Option Nat) (c b a h n x0 : Nat) (F : Nat → Option Nat) (v0 v1 v2 v3 v6 v7 : Value) (p : Nat) (hC : VC P) (hV : VS S) (hA : AP g u P) (ho : o < 4096) (hh : h < 17) (hn6 : n ≤ 6) (hx0 : n = 6 → F h = some x0) (hka : KN D a) (hap : ∀ q, (q = b ∨ q = a ∨ q = c) → ¬ UB u P q ∧ ¬ OA g (nM P) q ∧ ¬ GB g P q ∧ ¬ pw = some q) (hpg : ∀ p, pw = some p → ∀ k, UK (nM P) k → p ≠ g k) (hp : 1 ≤ p ∧ p ≤ 100) (hw : 0 < wsm S (nM P)) : Ct l yX1_clean cX1_clean 2 (some .int) { frames := 10, cells := 36, slots := 5203, locals := 3147 } D [.ref c, .int (nI p)] (fun H => KH D H ∧ oB D H c 0 [v0, v1, v2, v3, .ref (g 0), .ref b, v6, v7] ∧ UR D u P T o H ∧ SR D g u P S pw H ∧ PK D P S pw H ∧ oB D H b 10 [.ref a, .int (nI h), .int (nI ((h + n) % 17))] ∧ qA D H a 9 17 F) (fun q => (q = b ∨ q = a) ∨ OA g (nM P) q) (fun r H H1 => r = some (.int (nI (bsN (pwc P S) (nC P)))) ∧ SR D g u P (cln P S (bsN (pwc P S) (nC P)) p) none H1 ∧ ∃ g9, SR D g9 u P S pw H1 ∧ PK D P S pw H1 ∧ AP g9 u P ∧ (∀ k, UK (nM P) k → H.size ≤ g9 k) ∧ (∀ j, SJ P j → g9 j = g j) ∧ oB D H1 b 10 [.ref a, .int (nI (if n = 6 then (h + 1) % 17 else h)), .int (nI (((h + n) % 17 + 1) % 17))] ∧ qA D H1 a 9 17 (va_up (if n = 6 then va_up F h none else F) ((h + n) % 17) (some (g9 0)))) := by
  refine Ct.of (by decide +kernel) (Nat.le_of_ble_eq_true rfl) (fun K Qf hkl X hM hQ => ?_)
  subst hkl
  obtain ⟨hK, hcm, hU, hR, hPK, hd, he⟩ := hM
  have hz : (kS K).heap.size ≤ (kS K).heap.size := Nat.le_refl _
  have hP := hC.v
  have l0 := hP.l0
  have l1 := hP.l1
  have l2 := hP.l2
  have l4 := hP.l4
  have l5 := hP.l5
  have l8 := hP.l8
  have l9 := hP.l9
  have l10 := hP.l10
  have l71 := hP.l71
  have l76 := hP.l76
  have l77 := hP.l77
  have hx1 := hC.x1
  have hy1 := hC.y1
  have ht1 := hC.t1
  have he1 := hC.e1
  have hm1 := hC.m1
  have hcc : nC P ≤ 144 := Nat.mul_le_mul l9 l10
  have nbu : ∀ j, VK P j → b ≠ u j := fun j hj e => (hap b (Or.inl rfl)).1 ⟨j, hj, e⟩
  have nbg : ∀ j, UK (nM P) j → b ≠ g j := fun j hj e => (hap b (Or.inl rfl)).2.1 ⟨j, hj, e⟩
  have nbs : ∀ j, SJ P j → b ≠ g j := fun j hj e => (hap b (Or.inl rfl)).2.2.1 ⟨j, hj, e⟩
  have nau : ∀ j, VK P j → a ≠ u j := fun j hj e => (hap a (Or.inr (Or.inl rfl))).1 ⟨j, hj, e⟩
  have nag : ∀ j, UK (nM P) j → a ≠ g j := fun j hj e => (hap a (Or.inr (Or.inl rfl))).2.1 ⟨j, hj, e⟩
  have nas : ∀ j, SJ P j → a ≠ g j := fun j hj e => (hap a (Or.inr (Or.inl rfl))).2.2.1 ⟨j, hj, e⟩
  have ncu : ∀ j, VK P j → c ≠ u j := fun j hj e => (hap c (Or.inr (Or.inr rfl))).1 ⟨j, hj, e⟩
  have ncg : ∀ j, UK (nM P) j → c ≠ g j := fun j hj e => (hap c (Or.inr (Or.inr rfl))).2.1 ⟨j, hj, e⟩
  have ncs : ∀ j, SJ P j → c ≠ g j := fun j hj e => (hap c (Or.inr (Or.inr rfl))).2.2.1 ⟨j, hj, e⟩
  have hw9 := wsm_le hV l4
  refine vv_sub (lv' := [(0, .ref c), (1, .int (nI p))]) [0, 1] rfl ?_
  refine vv_aload_n X dX1_clean_0 rfl 0 rfl ?_
  refine vv_callVp X (mX1_there (kL K) D u P T o g S pw c v0 v1 v2 v3 (.ref b) v6 v7  hC hV ) q1797 q1799 qs36 q137 q1800 nX1_there ⟨(Nat.le_of_ble_eq_true rfl), (Nat.le_of_ble_eq_true rfl)⟩ dX1_clean_1 rfl (Nat.le_of_ble_eq_true rfl) (recv X hcm CL_X1) ⟨hK, hcm, hU, hR⟩ ⟨(Nat.le_of_ble_eq_true rfl), (Nat.le_of_ble_eq_true rfl)⟩ ?_
  refine vv_callVp X (mX3_weightSum (kL K) D u P T o g S pw  hC hV ) q2853 q2854 q2855 q150 q2856 nX3_weightSum ⟨(Nat.le_of_ble_eq_true rfl), (Nat.le_of_ble_eq_true rfl)⟩ dX1_clean_4 rfl (Nat.le_of_ble_eq_true rfl) (recv X hR.ob CL_X3) ⟨hK, hU, hR⟩ ⟨(Nat.le_of_ble_eq_true rfl), (Nat.le_of_ble_eq_true rfl)⟩ ?_
  refine vn_if_le (tgt := 14) X (by omega) dX1_clean_7 (by decide) (fun c_7 => ?_) (fun c_7 => ?_)
  · exact absurd c_7 (by omega)
  · refine vv_iconst (v := nI 1) X dX1_clean_10 (by decide) ?_
    refine vv_goto (tgt := 15) X dX1_clean_11 (by decide) ?_
    refine vv_callSv X (mX1_checkState (kL K) D True trivial) q1801 q1802 q137 q1803 nX1_checkState ⟨(Nat.le_of_ble_eq_true rfl), (Nat.le_of_ble_eq_true rfl)⟩ dX1_clean_15 rfl (Nat.le_of_ble_eq_true rfl) trivial ⟨(Nat.le_of_ble_eq_true rfl), (Nat.le_of_ble_eq_true rfl)⟩ ?_
    refine vv_iload_n X dX1_clean_18 rfl 1 rfl ?_
    refine vv_i2l (v := (nI p).toInt64) X dX1_clean_19 rfl ?_
    refine vv_lconst (v := 1) X dX1_clean_20 (by decide) ?_
    refine vv_eql (show _ = (nI 1 : Int32).toInt64 from by decide) ?_
    refine vv_ldc2 (v := 100) X q2412 dX1_clean_21 ?_
    refine vv_eql (show _ = (nI 100 : Int32).toInt64 from by decide) ?_
    refine vv_callSp X (mX1_in (kL K) D ((nI p).toInt64) ((nI 1 : Int32).toInt64) ((nI 100 : Int32).toInt64)) q449 q450 q137 q451 nX1_in ⟨(Nat.le_of_ble_eq_true rfl), (Nat.le_of_ble_eq_true rfl)⟩ dX1_clean_24 rfl (Nat.le_of_ble_eq_true rfl) trivial ⟨(Nat.le_of_ble_eq_true rfl), (Nat.le_of_ble_eq_true rfl)⟩ ?_
    refine vv_eqi (b2_eq (in_I)) ?_
    refine vv_callSv X (mX1_checkArgument (kL K) D ((nI 1 : Int32) ≤ (nI p) ∧ (nI p) ≤ (nI 100 : Int32)) (⟨(nI_leI (by omega) (by omega)).mpr hp.1, (nI_leI (by omega) (by omega)).mpr hp.2⟩)) q1820 q1821 q137 q1822 nX1_checkArgument ⟨(Nat.le_of_ble_eq_true rfl), (Nat.le_of_ble_eq_true rfl)⟩ dX1_clean_27 rfl (Nat.le_of_ble_eq_true rfl) trivial ⟨(Nat.le_of_ble_eq_true rfl), (Nat.le_of_ble_eq_true rfl)⟩ ?_
    refine vv_aload_n X dX1_clean_30 rfl 0 rfl ?_
    refine vv_callV X (mX1_keep (kL K) D u P T o g S pw c b a h n x0 F v0 v1 v2 v3 v6 v7 hC hV hA ho hh hn6 hx0 hka hap hpg) q2766 q2768 qs54 q137 q2769 nX1_keep ⟨(Nat.le_of_ble_eq_true rfl), (Nat.le_of_ble_eq_true rfl)⟩ dX1_clean_31 rfl (Nat.le_of_ble_eq_true rfl) (recv X hcm CL_X1) ⟨hK, hcm, hU, hR, hPK, hd, he⟩ (fun q z => by rcases z with rfl | rfl; exact (Or.inl (Or.inl (Or.inl rfl))); exact (Or.inl (Or.inl (Or.inr rfl)))) ⟨(Nat.le_of_ble_eq_true rfl), (Nat.le_of_ble_eq_true rfl)⟩ (fun v_ H hq hz_ hk => ?_)
    obtain ⟨rfl, g9, hR9, hPK2, hA9, hge9, hsh9, hd2, he2⟩ := hq
    have hge0 : ∀ k, UK (nM P) k → (kS K).heap.size ≤ g9 k := fun k hk => Nat.le_trans hz (hge9 k hk)
    have n9c : ∀ k, UK (nM P) k → c ≠ g9 k := fun k hk e => by have h9 := hge9 k hk; have h8 := hcm.lt; omega
    have n9b : ∀ k, UK (nM P) k → b ≠ g9 k := fun k hk e => by have h9 := hge9 k hk; have h8 := hd.lt; omega
    have n9a : ∀ k, UK (nM P) k → a ≠ g9 k := fun k hk e => by have h9 := hge9 k hk; have h8 := he.lt; omega
    have g9g : ∀ k k2, UK (nM P) k → UK (nM P) k2 → g9 k ≠ g k2 := fun k k2 hk hk2 e => by have h9 := hge9 k hk; have h8 := hR.ltA k2 hk2; omega
    have nw9 : ∀ q, (OA g9 (nM P) q ∨ GB g9 P q) → (∀ k, UK (nM P) k → q ≠ g k) ∧ q ≠ b ∧ q ≠ a := fun q z => by
      rcases z with ⟨k, hk, rfl⟩ | ⟨j, hj, rfl⟩
      · exact ⟨fun k2 hk2 => g9g k k2 hk hk2, fun e => n9b k hk e.symm, fun e => n9a k hk e.symm⟩
      · rw [hsh9 j hj]; exact ⟨fun k2 hk2 e => hA.2.2 k2 j hk2 hj e.symm, fun e => nbs j hj e.symm, fun e => nas j hj e.symm⟩
    replace hcm := hcm.kept (hk _ hcm.lt (fun z => z.elim (X.oo hcm hd CL_X1 CL_J1 (by decide)) ((X.oa hcm he CL_X1 rfl))))
    replace hU := hU.kept (fun q hl hq => hk q hl (fun z => by obtain ⟨j_, h_, e_⟩ := hq; rcases z with z | z; exact nbu j_ h_ (z.symm.trans e_); exact nau j_ h_ (z.symm.trans e_)))
    replace hR := hR.kept (fun q hl hq => hk q hl (fun z => by obtain ⟨j_, h_, e_⟩ := hq; rcases z with z | z; exact nbg j_ h_ (z.symm.trans e_); exact nag j_ h_ (z.symm.trans e_))) (fun q hl hq => hk q hl (fun z => by obtain ⟨j_, h_, e_⟩ := hq; rcases z with z | z; exact nbs j_ h_ (z.symm.trans e_); exact nas j_ h_ (z.symm.trans e_)))
    replace hK := hK.to hk (fun q z => by rcases z with rfl | rfl; exact (X.ko hK hd CL_J1 (by decide) (by decide)); exact hka)
    replace hz := Nat.le_trans hz hz_
    clear hd he hPK hk hz_ hge9
    have hd := hd2
    have he := he2
    have hPK := hPK2
    clear hd2 he2 hPK2
    refine vv_aload_n X dX1_clean_34 rfl 0 rfl ?_
    refine vv_getf (C := RX1) (T := TX1) (N := 8) (ref := "AcousticCamera") X hcm in_X1 CL_X1 4 (by decide) q259 rfl rfl dX1_clean_35 ?_
    refine vv_iload_n X dX1_clean_38 rfl 1 rfl ?_
    refine vv_callV X (mX3_clean (kL K) D u P T o g S pw p hC hV hA hp hw) q2857 q2858 q2859 q150 q2860 nX3_clean ⟨(Nat.le_of_ble_eq_true rfl), (Nat.le_of_ble_eq_true rfl)⟩ dX1_clean_39 rfl (Nat.le_of_ble_eq_true rfl) (recv X hR.ob CL_X3) ⟨hK, hU, hR, hPK⟩ (fun _ z => Or.inl (Or.inr z)) ⟨(Nat.le_of_ble_eq_true rfl), (Nat.le_of_ble_eq_true rfl)⟩ (fun v_ H hq hz_ hk => ?_)
    obtain ⟨rfl, hR2⟩ := hq
    replace hcm := hcm.kept (hk _ hcm.lt (fun z => by obtain ⟨k_, hk_, e_⟩ := z; exact ncg k_ hk_ e_))
    replace hd := hd.kept (hk _ hd.lt (fun z => by obtain ⟨k_, hk_, e_⟩ := z; exact nbg k_ hk_ e_))
    replace he := he.kept (hk _ he.lt (fun z => by obtain ⟨k_, hk_, e_⟩ := z; exact nag k_ hk_ e_))
    replace hPK := (show PK D P S pw H from fun p e => (hPK p e).kept (by first | exact hk _ (hPK p e).lt (fun z => z) | (refine hk _ (hPK p e).lt (fun z => ?_); rcases z with z | z; exact (fun (z : p = b) => (hap b (Or.inl rfl)).2.2.2 (z ▸ e)) z; exact (fun (z : p = a) => (hap a (Or.inr (Or.inl rfl))).2.2.2 (z ▸ e)) z) | (refine hc.2 _ ((hpg p e) _ (Or.inl ?_)); decide) | (refine hc.2 _ ((hpg p e) _ (Or.inr ⟨?_, ?_⟩)) <;> omega) | (refine hk _ (hPK p e).lt (fun z => ?_); obtain ⟨k_, h_, e_⟩ := z; exact (hpg p e) k_ h_ e_) | (refine hk _ (hPK p e).lt (fun z => ?_); rcases z with z | z <;> (refine (hpg p e) _ (Or.inl ?_) z; decide)) | (refine hk _ (hPK p e).lt ((hpg p e) _ (Or.inl ?_)); decide) | exact hc.2 _ (fun (z : p = b) => (hap b (Or.inl rfl)).2.2.2 (z ▸ e)) | exact hc.2 _ (fun (z : p = a) => (hap a (Or.inr (Or.inl rfl))).2.2.2 (z ▸ e)) | (refine hk _ (hPK p e).lt (fun z => ?_); exact absurd (hpn p e) (Nat.not_lt.mpr (Nat.le_of_eq z.symm))) | exact hc.2 _ (fun (z : p = c) => (hap c (Or.inr (Or.inr rfl))).2.2.2 (z ▸ e)) | (refine hk _ (hPK p e).lt (fun z => ?_); rcases z with (z | z) | ⟨k_, h_, e_⟩; exact (fun (z : p = b) => (hap b (Or.inl rfl)).2.2.2 (z ▸ e)) z; exact (fun (z : p = a) => (hap a (Or.inr (Or.inl rfl))).2.2.2 (z ▸ e)) z; exact (hpg p e) k_ h_ e_)))
    replace hR9 := (show SR D g9 u P S pw H from hR9.kept (fun q hl hq => (by first | exact hk _ hl (fun z => z) | (refine hk _ hl (fun z => ?_); rcases z with z | z; exact (nw9 q (Or.inl hq)).2.1 z; exact (nw9 q (Or.inl hq)).2.2 z) | (refine hc.2 _ ((nw9 q (Or.inl hq)).1 _ (Or.inl ?_)); decide) | (refine hc.2 _ ((nw9 q (Or.inl hq)).1 _ (Or.inr ⟨?_, ?_⟩)) <;> omega) | (refine hk _ hl (fun z => ?_); obtain ⟨k_, h_, e_⟩ := z; exact (nw9 q (Or.inl hq)).1 k_ h_ e_) | (refine hk _ hl (fun z => ?_); rcases z with z | z <;> (refine (nw9 q (Or.inl hq)).1 _ (Or.inl ?_) z; decide)) | (refine hk _ hl ((nw9 q (Or.inl hq)).1 _ (Or.inl ?_)); decide) | exact hc.2 _ (nw9 q (Or.inl hq)).2.1 | exact hc.2 _ (nw9 q (Or.inl hq)).2.2 | (refine hk _ hl (fun z => ?_); exact absurd (hpn p e) (Nat.not_lt.mpr (Nat.le_of_eq z.symm))) | (refine hk _ hl (fun z => ?_); rcases z with (z | z) | ⟨k_, h_, e_⟩; exact (nw9 q (Or.inl hq)).2.1 z; exact (nw9 q (Or.inl hq)).2.2 z; exact (nw9 q (Or.inl hq)).1 k_ h_ e_))) (fun q hl hq => (by first | exact hk _ hl (fun z => z) | (refine hk _ hl (fun z => ?_); rcases z with z | z; exact (nw9 q (Or.inr hq)).2.1 z; exact (nw9 q (Or.inr hq)).2.2 z) | (refine hc.2 _ ((nw9 q (Or.inr hq)).1 _ (Or.inl ?_)); decide) | (refine hc.2 _ ((nw9 q (Or.inr hq)).1 _ (Or.inr ⟨?_, ?_⟩)) <;> omega) | (refine hk _ hl (fun z => ?_); obtain ⟨k_, h_, e_⟩ := z; exact (nw9 q (Or.inr hq)).1 k_ h_ e_) | (refine hk _ hl (fun z => ?_); rcases z with z | z <;> (refine (nw9 q (Or.inr hq)).1 _ (Or.inl ?_) z; decide)) | (refine hk _ hl ((nw9 q (Or.inr hq)).1 _ (Or.inl ?_)); decide) | exact hc.2 _ (nw9 q (Or.inr hq)).2.1 | exact hc.2 _ (nw9 q (Or.inr hq)).2.2 | (refine hk _ hl (fun z => ?_); exact absurd (hpn p e) (Nat.not_lt.mpr (Nat.le_of_eq z.symm))) | (refine hk _ hl (fun z => ?_); rcases z with (z | z) | ⟨k_, h_, e_⟩; exact (nw9 q (Or.inr hq)).2.1 z; exact (nw9 q (Or.inr hq)).2.2 z; exact (nw9 q (Or.inr hq)).1 k_ h_ e_))))
    replace hK := hK.to hk (hR.knA X hK)
    replace hU := hU.to hA hk
    replace hz := Nat.le_trans hz hz_
    clear hk hz_ hR
    have hR := hR2
    clear hR2
    exact vv_iret X hQ dX1_clean_42 (Nat.le_of_ble_eq_true rfl) (Nat.le_of_ble_eq_true rfl) (⟨rfl, hR, g9, hR9, hPK, hA9, hge0, hsh9, hd, he⟩)
section PUTS
variable {D : DD} {g u : Nat → Nat} {P S : Nat → Int32} {pw : Option Nat} {H H1 : Heap}
theorem SR.putS (h : SR D g u P S pw H) (hA : AP g u P) (hn : nM P ≤ 12) (hs : nS P ≤ 6) {m q : Nat} {x y vx vy : Int32} (hm : m < nS P) (hc : Ch (g 5) H H1) (ho : qA D H1 (g 5) 8 (nS P) (va_up (fun k => some (g (30 + k))) m (some q))) (hq : oB D H1 q 7 [.ref (g (40 + m)), .int (nI (frm P m)), .int x, .int y, .int vx, .int vy]) : SR D (va_up g (30 + m) q) u P (va_up (va_up (va_up (va_up S (31 + m) x) (37 + m) y) (43 + m) vx) (49 + m) vy) pw H1 := by
  obtain ⟨a0, a1, a3, a5, a6, a7, ar, as⟩ := h.chg hA hn (Q := (· = 5)) (fun k hk => by subst hk; exact Or.inl (by decide)) hc.own
  have e : ∀ i, (i < 31 ∨ 55 ≤ i) → va_up (va_up (va_up (va_up S (31 + m) x) (37 + m) y) (43 + m) vx) (49 + m) vy i = S i := fun i hi => by rw [va_up_ne _ _ (by omega), va_up_ne _ _ (by omega), va_up_ne _ _ (by omega), va_up_ne _ _ (by omega)]
  have w : ∀ k, k ≠ 30 + m → va_up g (30 + m) q k = g k := fun k hk => va_up_ne _ _ hk
  refine ⟨by rw [w 0 (by omega), w 1 (by omega), w 3 (by omega), w 5 (by omega), w 6 (by omega), w 7 (by omega), e 0 (by omega)]; exact a0 (by omega), ?_, ?_, ?_, ?_, ?_, fun j hj => ?_, fun k hk => ?_⟩
  · rw [w 1 (by omega), w 2 (by omega), show mum P (va_up (va_up (va_up (va_up S (31 + m) x) (37 + m) y) (43 + m) vx) (49 + m) vy) = mum P S from msk_cg _ (fun i hi => by rw [e _ (by omega)])]
    exact a1 (by omega) (by omega)
  · rw [w 3 (by omega), w 4 (by omega), show onm P (va_up (va_up (va_up (va_up S (31 + m) x) (37 + m) y) (43 + m) vx) (49 + m) vy) = onm P S from msk_cg _ (fun i hi => by rw [e _ (by omega)])]
    exact a3 (by omega) (by omega)
  · rw [w 5 (by omega)]
    refine qA_cg ho (fun j hj => ?_)
    by_cases z : j = m
    · subst z; rw [va_up_self, va_up_self]
    · rw [va_up_ne _ _ z, w _ (by omega)]
  · rw [w 6 (by omega)]
    exact iA_cg (a6 (by omega)) (fun j hj => by unfold wgt; rw [e _ (by omega)])
  · rw [w 7 (by omega)]
    exact qA_cg (a7 (by omega)) (fun j hj => by rw [w _ (by omega)])
  · rw [w _ (by omega)]
    exact iA_cg (ar j hj (by omega)) (fun z hz => (e _ (by omega)).symm)
  · have hk' := as k hk
    unfold SK at hk' ⊢
    rw [w (40 + k) (by omega)]
    by_cases z : k = m
    · subst z
      rw [va_up_self, va_up_self, va_up_ne _ _ (show 31 + k ≠ 49 + k by omega), va_up_ne _ _ (show 31 + k ≠ 43 + k by omega), va_up_ne _ _ (show 31 + k ≠ 37 + k by omega), va_up_self, va_up_ne _ _ (show 37 + k ≠ 49 + k by omega), va_up_ne _ _ (show 37 + k ≠ 43 + k by omega), va_up_self, va_up_ne _ _ (show 43 + k ≠ 49 + k by omega), va_up_self]
      exact ⟨hq, hk'.2⟩
    · rw [w (30 + k) (by omega)]
      have f : ∀ i, i ≠ 31 + m → i ≠ 37 + m → i ≠ 43 + m → i ≠ 49 + m → va_up (va_up (va_up (va_up S (31 + m) x) (37 + m) y) (43 + m) vx) (49 + m) vy i = S i := fun i h1 h2 h3 h4 => by rw [va_up_ne _ _ h4, va_up_ne _ _ h3, va_up_ne _ _ h2, va_up_ne _ _ h1]
      rw [f (31 + k) (by omega) (by omega) (by omega) (by omega), f (37 + k) (by omega) (by omega) (by omega) (by omega), f (43 + k) (by omega) (by omega) (by omega) (by omega), f (49 + k) (by omega) (by omega) (by omega) (by omega)]
      exact hk'
theorem AP.putS (hA : AP g u P) (hs : nS P ≤ 6) (hn : nM P ≤ 12) {m q : Nat} (hq : ∀ k, UK (nM P) k → q ≠ g k) : AP (va_up g (30 + m) q) u P := by
  have w : ∀ k, UK (nM P) k → va_up g (30 + m) q k = g k := fun k hk => va_up_ne _ _ (by unfold UK at hk; omega)
  refine ⟨fun i j hi hj e => hA.1 i j hi hj (by rw [← w i hi, ← w j hj]; exact e), fun i j hi hj => by rw [w i hi]; exact hA.2.1 i j hi hj, fun i j hi hj => ?_⟩
  rw [w i hi]
  by_cases z : j = 30 + m
  · subst z; rw [va_up_self]; exact fun e => hq i hi e.symm
  · rw [va_up_ne _ _ z]; exact hA.2.2 i j hi hj
end PUTS
theorem nX8_init : notMH yX8_init 6 := by decide +kernel
set_option maxHeartbeats 800000 in
theorem mX8_init (l : Launch) (D : DD) (sq w9 f : Nat) (x y vx vy : Int32)  : Ct l yX8_init cX8_init 7 none { frames := 1, cells := 0, slots := 0, locals := 21 } D [.ref sq, .ref w9, .int (nI f), .int (x), .int (y), .int (vx), .int (vy)] (fun H => KH D H ∧ oB D H sq 7 [.null, .int (nI 0), .int (nI 0), .int (nI 0), .int (nI 0), .int (nI 0)]) (fun q => q = sq) (fun r H H1 => r = none ∧ oB D H1 sq 7 [.ref w9, .int (nI f), .int x, .int y, .int vx, .int vy]) := by
  refine Ct.of (by decide +kernel) (Nat.le_of_ble_eq_true rfl) (fun K Qf hkl X hM hQ => ?_)
  subst hkl
  obtain ⟨hK, hsq⟩ := hM
  have hz : (kS K).heap.size ≤ (kS K).heap.size := Nat.le_refl _
  refine vv_sub (lv' := [(0, .ref sq), (1, .ref w9), (2, .int (nI f)), (3, .int (x)), (4, .int (y)), (5, .int (vx)), (6, .int (vy))]) [0, 1, 2, 3, 4, 5, 6] rfl ?_
  refine vv_aload_n X dX8_init_0 rfl 0 rfl ?_
  refine vv_obj X q1396 q197 q198 (Nat.le_of_ble_eq_true rfl) (Nat.le_of_ble_eq_true rfl) dX8_init_1 ?_
  refine vv_aload_n X dX8_init_4 rfl 0 rfl ?_
  refine vv_aload_n X dX8_init_5 rfl 1 rfl ?_
  refine vv_putfF (C := RX8) (T := TX8) (N := 6) (ref := "AcousticCamera$Source") X hsq in_X8 CL_X8 tyX8 tyX8_ok nmX8 0 (by decide) q1397 rfl rfl rfl rfl rfl rfl (Nat.le_of_ble_eq_true rfl) (Or.inl rfl) dX8_init_6 (fun H hc ho => ?_)
  replace hK := hK.ch hc (X.ko hK hsq CL_X8 (by decide) (by decide))
  replace hz := Nat.le_trans hz (Nat.le_of_eq hc.1.symm)
  clear hsq
  have hsq : oB D H sq 7 [.ref w9, .int (nI 0), .int (nI 0), .int (nI 0), .int (nI 0), .int (nI 0)] := ho
  clear hc ho
  refine vv_aload_n X dX8_init_9 rfl 0 rfl ?_
  refine vv_iload_n X dX8_init_10 rfl 2 rfl ?_
  refine vv_putfF (C := RX8) (T := TX8) (N := 6) (ref := "AcousticCamera$Source") X hsq in_X8 CL_X8 tyX8 tyX8_ok nmX8 1 (by decide) q1399 rfl rfl rfl rfl rfl rfl (Nat.le_of_ble_eq_true rfl) (Or.inl rfl) dX8_init_11 (fun H hc ho => ?_)
  replace hK := hK.ch hc (X.ko hK hsq CL_X8 (by decide) (by decide))
  replace hz := Nat.le_trans hz (Nat.le_of_eq hc.1.symm)
  clear hsq
  have hsq : oB D H sq 7 [.ref w9, .int (nI f), .int (nI 0), .int (nI 0), .int (nI 0), .int (nI 0)] := ho
  clear hc ho
  refine vv_aload_n X dX8_init_14 rfl 0 rfl ?_
  refine vv_iload_n X dX8_init_15 rfl 3 rfl ?_
  refine vv_putfF (C := RX8) (T := TX8) (N := 6) (ref := "AcousticCamera$Source") X hsq in_X8 CL_X8 tyX8 tyX8_ok nmX8 2 (by decide) q1401 rfl rfl rfl rfl rfl rfl (Nat.le_of_ble_eq_true rfl) (Or.inl rfl) dX8_init_16 (fun H hc ho => ?_)
  replace hK := hK.ch hc (X.ko hK hsq CL_X8 (by decide) (by decide))
  replace hz := Nat.le_trans hz (Nat.le_of_eq hc.1.symm)
  clear hsq
  have hsq : oB D H sq 7 [.ref w9, .int (nI f), .int (x), .int (nI 0), .int (nI 0), .int (nI 0)] := ho
  clear hc ho
  refine vv_aload_n X dX8_init_19 rfl 0 rfl ?_
  refine vv_iload X dX8_init_20 4 rfl ?_
  refine vv_putfF (C := RX8) (T := TX8) (N := 6) (ref := "AcousticCamera$Source") X hsq in_X8 CL_X8 tyX8 tyX8_ok nmX8 3 (by decide) q1403 rfl rfl rfl rfl rfl rfl (Nat.le_of_ble_eq_true rfl) (Or.inl rfl) dX8_init_22 (fun H hc ho => ?_)
  replace hK := hK.ch hc (X.ko hK hsq CL_X8 (by decide) (by decide))
  replace hz := Nat.le_trans hz (Nat.le_of_eq hc.1.symm)
  clear hsq
  have hsq : oB D H sq 7 [.ref w9, .int (nI f), .int (x), .int (y), .int (nI 0), .int (nI 0)] := ho
  clear hc ho
  refine vv_aload_n X dX8_init_25 rfl 0 rfl ?_
  refine vv_iload X dX8_init_26 5 rfl ?_
  refine vv_putfF (C := RX8) (T := TX8) (N := 6) (ref := "AcousticCamera$Source") X hsq in_X8 CL_X8 tyX8 tyX8_ok nmX8 4 (by decide) q1405 rfl rfl rfl rfl rfl rfl (Nat.le_of_ble_eq_true rfl) (Or.inl rfl) dX8_init_28 (fun H hc ho => ?_)
  replace hK := hK.ch hc (X.ko hK hsq CL_X8 (by decide) (by decide))
  replace hz := Nat.le_trans hz (Nat.le_of_eq hc.1.symm)
  clear hsq
  have hsq : oB D H sq 7 [.ref w9, .int (nI f), .int (x), .int (y), .int (vx), .int (nI 0)] := ho
  clear hc ho
  refine vv_aload_n X dX8_init_31 rfl 0 rfl ?_
  refine vv_iload X dX8_init_32 6 rfl ?_
  refine vv_putfF (C := RX8) (T := TX8) (N := 6) (ref := "AcousticCamera$Source") X hsq in_X8 CL_X8 tyX8 tyX8_ok nmX8 5 (by decide) q1407 rfl rfl rfl rfl rfl rfl (Nat.le_of_ble_eq_true rfl) (Or.inl rfl) dX8_init_34 (fun H hc ho => ?_)
  replace hK := hK.ch hc (X.ko hK hsq CL_X8 (by decide) (by decide))
  replace hz := Nat.le_trans hz (Nat.le_of_eq hc.1.symm)
  clear hsq
  have hsq : oB D H sq 7 [.ref w9, .int (nI f), .int (x), .int (y), .int (vx), .int (vy)] := ho
  clear hc ho
  exact vv_vret X hQ dX8_init_37 (Nat.le_of_ble_eq_true rfl) (Nat.le_of_ble_eq_true rfl) (⟨rfl, hsq⟩)
theorem nX1_become : notMH yX1_become 2 := by decide +kernel
set_option maxHeartbeats 800000 in
theorem mX1_become (l : Launch) (D : DD) (u : Nat → Nat) (P T : Nat → Int32) (o : Nat) (gq : Nat → Nat) (S : Nat → Int32) (pw : Option Nat) (c b a h n x0 : Nat) (F : Nat → Option Nat) (v0 v1 v2 v3 v6 v7 : Value) (m q : Nat) (x y vx vy : Int32) (hC : VC P) (hV : VS S) (hAq : AP gq u P) (ho : o < 4096) (hh : h < 17) (hn6 : n ≤ 6) (hx0 : n = 6 → F h = some x0) (hka : KN D a) (hap : ∀ q, (q = b ∨ q = a ∨ q = c) → ¬ UB u P q ∧ ¬ OA gq (nM P) q ∧ ¬ GB gq P q ∧ ¬ pw = some q) (hpgq : ∀ p, pw = some p → ∀ k, UK (nM P) k → p ≠ gq k) (hm : m < nS P) (hx : rg 2000 x) (hy : rg 2000 y) (hvx : rg 999 vx) (hvy : rg 999 vy) (hqgq : ∀ k, UK (nM P) k → q ≠ gq k) : Ct l yX1_become cX1_become 3 (some .int) { frames := 9, cells := 35, slots := 5003, locals := 3121 } D [.ref c, .int (nI m), .ref q] (fun H => KH D H ∧ oB D H c 0 [v0, v1, v2, v3, .ref (gq 0), .ref b, v6, v7] ∧ UR D u P T o H ∧ SR D gq u P S pw H ∧ PK D P S pw H ∧ oB D H b 10 [.ref a, .int (nI h), .int (nI ((h + n) % 17))] ∧ qA D H a 9 17 F ∧ oB D H q 7 [.ref (gq (40 + m)), .int (nI (frm P m)), .int (x), .int (y), .int (vx), .int (vy)]) (fun q => (q = b ∨ q = a) ∨ OA gq (nM P) q) (fun r H H1 => r = some (.int (nI (bsN (pwc P (rcd P (rawA P (va_up (va_up (va_up (va_up S (31 + m) x) (37 + m) y) (43 + m) vx) (49 + m) vy)) (va_up (va_up (va_up (va_up S (31 + m) x) (37 + m) y) (43 + m) vx) (49 + m) vy))) (nC P)))) ∧ ∃ gN p9, SR D gN u P (rcd P (rawA P (va_up (va_up (va_up (va_up S (31 + m) x) (37 + m) y) (43 + m) vx) (49 + m) vy)) (va_up (va_up (va_up (va_up S (31 + m) x) (37 + m) y) (43 + m) vx) (49 + m) vy)) (some p9) H1 ∧ PK D P (rcd P (rawA P (va_up (va_up (va_up (va_up S (31 + m) x) (37 + m) y) (43 + m) vx) (49 + m) vy)) (va_up (va_up (va_up (va_up S (31 + m) x) (37 + m) y) (43 + m) vx) (49 + m) vy)) (some p9) H1 ∧ AP gN u P ∧ (∀ k, UK (nM P) k → gN k = gq k) ∧ (∀ j, SJ P j → gN j = gq j ∨ gN j = q) ∧ H.size ≤ p9 ∧ ∃ g9, SR D g9 u P S pw H1 ∧ PK D P S pw H1 ∧ AP g9 u P ∧ (∀ k, UK (nM P) k → H.size ≤ g9 k) ∧ (∀ j, SJ P j → g9 j = gq j) ∧ oB D H1 b 10 [.ref a, .int (nI (if n = 6 then (h + 1) % 17 else h)), .int (nI (((h + n) % 17 + 1) % 17))] ∧ qA D H1 a 9 17 (va_up (if n = 6 then va_up F h none else F) ((h + n) % 17) (some (g9 0)))) := by
  refine Ct.of (by decide +kernel) (Nat.le_of_ble_eq_true rfl) (fun K Qf hkl X hM hQ => ?_)
  subst hkl
  obtain ⟨hK, hcm, hU, hRq, hPK, hd, he, hq⟩ := hM
  have hz : (kS K).heap.size ≤ (kS K).heap.size := Nat.le_refl _
  have hP := hC.v
  have l0 := hP.l0
  have l1 := hP.l1
  have l2 := hP.l2
  have l4 := hP.l4
  have l5 := hP.l5
  have l8 := hP.l8
  have l9 := hP.l9
  have l10 := hP.l10
  have l71 := hP.l71
  have l76 := hP.l76
  have l77 := hP.l77
  have hx1 := hC.x1
  have hy1 := hC.y1
  have ht1 := hC.t1
  have he1 := hC.e1
  have hm1 := hC.m1
  have hcc : nC P ≤ 144 := Nat.mul_le_mul l9 l10
  have nbu : ∀ j, VK P j → b ≠ u j := fun j hj e => (hap b (Or.inl rfl)).1 ⟨j, hj, e⟩
  have nbgq : ∀ j, UK (nM P) j → b ≠ gq j := fun j hj e => (hap b (Or.inl rfl)).2.1 ⟨j, hj, e⟩
  have nbsq : ∀ j, SJ P j → b ≠ gq j := fun j hj e => (hap b (Or.inl rfl)).2.2.1 ⟨j, hj, e⟩
  have nau : ∀ j, VK P j → a ≠ u j := fun j hj e => (hap a (Or.inr (Or.inl rfl))).1 ⟨j, hj, e⟩
  have nagq : ∀ j, UK (nM P) j → a ≠ gq j := fun j hj e => (hap a (Or.inr (Or.inl rfl))).2.1 ⟨j, hj, e⟩
  have nasq : ∀ j, SJ P j → a ≠ gq j := fun j hj e => (hap a (Or.inr (Or.inl rfl))).2.2.1 ⟨j, hj, e⟩
  have ncu : ∀ j, VK P j → c ≠ u j := fun j hj e => (hap c (Or.inr (Or.inr rfl))).1 ⟨j, hj, e⟩
  have ncgq : ∀ j, UK (nM P) j → c ≠ gq j := fun j hj e => (hap c (Or.inr (Or.inr rfl))).2.1 ⟨j, hj, e⟩
  have ncsq : ∀ j, SJ P j → c ≠ gq j := fun j hj e => (hap c (Or.inr (Or.inr rfl))).2.2.1 ⟨j, hj, e⟩
  refine vv_sub (lv' := [(0, .ref c), (1, .int (nI m)), (2, .ref q)]) [0, 1, 2] rfl ?_
  refine vv_aload_n X dX1_become_0 rfl 0 rfl ?_
  refine vv_callV X (mX1_keep (kL K) D u P T o gq S pw c b a h n x0 F v0 v1 v2 v3 v6 v7 hC hV hAq ho hh hn6 hx0 hka hap hpgq) q2766 q2768 qs54 q137 q2769 nX1_keep ⟨(Nat.le_of_ble_eq_true rfl), (Nat.le_of_ble_eq_true rfl)⟩ dX1_become_1 rfl (Nat.le_of_ble_eq_true rfl) (recv X hcm CL_X1) ⟨hK, hcm, hU, hRq, hPK, hd, he⟩ (fun q z => by rcases z with rfl | rfl; exact (Or.inl (Or.inl (Or.inl rfl))); exact (Or.inl (Or.inl (Or.inr rfl)))) ⟨(Nat.le_of_ble_eq_true rfl), (Nat.le_of_ble_eq_true rfl)⟩ (fun v_ H hq hz_ hk => ?_)
  obtain ⟨rfl, g9, hR9, hPK2, hA9, hge9, hsh9, hd2, he2⟩ := hq
  have hge0 : ∀ k, UK (nM P) k → (kS K).heap.size ≤ g9 k := fun k hk => Nat.le_trans hz (hge9 k hk)
  have n9c : ∀ k, UK (nM P) k → c ≠ g9 k := fun k hk e => by have h9 := hge9 k hk; have h8 := hcm.lt; omega
  have n9b : ∀ k, UK (nM P) k → b ≠ g9 k := fun k hk e => by have h9 := hge9 k hk; have h8 := hd.lt; omega
  have n9a : ∀ k, UK (nM P) k → a ≠ g9 k := fun k hk e => by have h9 := hge9 k hk; have h8 := he.lt; omega
  have g9g : ∀ k k2, UK (nM P) k → UK (nM P) k2 → g9 k ≠ gq k2 := fun k k2 hk hk2 e => by have h9 := hge9 k hk; have h8 := hRq.ltA k2 hk2; omega
  have nw9q : ∀ q, (OA g9 (nM P) q ∨ GB g9 P q) → (∀ k, UK (nM P) k → q ≠ gq k) ∧ q ≠ b ∧ q ≠ a := fun q z => by
    rcases z with ⟨k, hk, rfl⟩ | ⟨j, hj, rfl⟩
    · exact ⟨fun k2 hk2 => g9g k k2 hk hk2, fun e => n9b k hk e.symm, fun e => n9a k hk e.symm⟩
    · rw [hsh9 j hj]; exact ⟨fun k2 hk2 e => hAq.2.2 k2 j hk2 hj e.symm, fun e => nbsq j hj e.symm, fun e => nasq j hj e.symm⟩
  replace hcm := hcm.kept (hk _ hcm.lt (fun z => z.elim (X.oo hcm hd CL_X1 CL_J1 (by decide)) ((X.oa hcm he CL_X1 rfl))))
  replace hq := hq.kept (hk _ hq.lt (fun z => z.elim (X.oo hq hd CL_X8 CL_J1 (by decide)) ((X.oa hq he CL_X8 rfl))))
  replace hU := hU.kept (fun q hl hq => hk q hl (fun z => by obtain ⟨j_, h_, e_⟩ := hq; rcases z with z | z; exact nbu j_ h_ (z.symm.trans e_); exact nau j_ h_ (z.symm.trans e_)))
  replace hRq := hRq.kept (fun q hl hq => hk q hl (fun z => by obtain ⟨j_, h_, e_⟩ := hq; rcases z with z | z; exact nbgq j_ h_ (z.symm.trans e_); exact nagq j_ h_ (z.symm.trans e_))) (fun q hl hq => hk q hl (fun z => by obtain ⟨j_, h_, e_⟩ := hq; rcases z with z | z; exact nbsq j_ h_ (z.symm.trans e_); exact nasq j_ h_ (z.symm.trans e_)))
  replace hK := hK.to hk (fun q z => by rcases z with rfl | rfl; exact (X.ko hK hd CL_J1 (by decide) (by decide)); exact hka)
  replace hz := Nat.le_trans hz hz_
  clear hd he hPK hk hz_ hge9
  have hd := hd2
  have he := he2
  have hPK := hPK2
  clear hd2 he2 hPK2
  refine vv_aload_n X dX1_become_4 rfl 0 rfl ?_
  refine vv_getf (C := RX1) (T := TX1) (N := 8) (ref := "AcousticCamera") X hcm in_X1 CL_X1 4 (by decide) q259 rfl rfl dX1_become_5 ?_
  refine vv_getfN (C := RX3) (T := TX3) (N := 8) (ref := "AcousticCamera$State") X hRq.ob in_X3 CL_X3 3 (by decide) q1694 rfl rfl dX1_become_8 ?_
  refine vv_iload_n X dX1_become_11 rfl 1 rfl ?_
  refine vv_aload_n X dX1_become_12 rfl 2 rfl ?_
  refine vv_aast (ty := 8) (C := "AcousticCamera$Source") (Cv := "AcousticCamera$Source") X hRq.sa rfl (m) (by omega) (by omega) rfl (recv X hq CL_X8) (Or.inl rfl) (Or.inl (Or.inr (OA.of (Or.inl (by decide))))) dX1_become_13 (fun H hc ho => ?_)
  replace hcm := hcm.kept (hc.2 _ (ncgq _ (Or.inl (by decide))))
  replace hd := hd.kept (hc.2 _ (nbgq _ (Or.inl (by decide))))
  replace he := he.kept (hc.2 _ (nagq _ (Or.inl (by decide))))
  replace hq := hq.kept (hc.2 _ (hqgq _ (Or.inl (by decide))))
  replace hPK := (show PK D P S pw H from fun p e => (hPK p e).kept (by first | exact hk _ (hPK p e).lt (fun z => z) | (refine hk _ (hPK p e).lt (fun z => ?_); rcases z with z | z; exact (fun (z : p = b) => (hap b (Or.inl rfl)).2.2.2 (z ▸ e)) z; exact (fun (z : p = a) => (hap a (Or.inr (Or.inl rfl))).2.2.2 (z ▸ e)) z) | (refine hc.2 _ ((hpgq p e) _ (Or.inl ?_)); decide) | (refine hc.2 _ ((hpgq p e) _ (Or.inr ⟨?_, ?_⟩)) <;> omega) | (refine hk _ (hPK p e).lt (fun z => ?_); obtain ⟨k_, h_, e_⟩ := z; exact (hpgq p e) k_ h_ e_) | (refine hk _ (hPK p e).lt (fun z => ?_); rcases z with z | z <;> (refine (hpgq p e) _ (Or.inl ?_) z; decide)) | (refine hk _ (hPK p e).lt ((hpgq p e) _ (Or.inl ?_)); decide) | exact hc.2 _ (fun (z : p = b) => (hap b (Or.inl rfl)).2.2.2 (z ▸ e)) | exact hc.2 _ (fun (z : p = a) => (hap a (Or.inr (Or.inl rfl))).2.2.2 (z ▸ e)) | (refine hk _ (hPK p e).lt (fun z => ?_); exact absurd (hpn p e) (Nat.not_lt.mpr (Nat.le_of_eq z.symm))) | exact hc.2 _ (fun (z : p = c) => (hap c (Or.inr (Or.inr rfl))).2.2.2 (z ▸ e)) | (refine hk _ (hPK p e).lt (fun z => ?_); rcases z with (z | z) | ⟨k_, h_, e_⟩; exact (fun (z : p = b) => (hap b (Or.inl rfl)).2.2.2 (z ▸ e)) z; exact (fun (z : p = a) => (hap a (Or.inr (Or.inl rfl))).2.2.2 (z ▸ e)) z; exact (hpgq p e) k_ h_ e_)))
  replace hR9 := (show SR D g9 u P S pw H from hR9.kept (fun q hl hq => (by first | exact hk _ hl (fun z => z) | (refine hk _ hl (fun z => ?_); rcases z with z | z; exact (nw9q q (Or.inl hq)).2.1 z; exact (nw9q q (Or.inl hq)).2.2 z) | (refine hc.2 _ ((nw9q q (Or.inl hq)).1 _ (Or.inl ?_)); decide) | (refine hc.2 _ ((nw9q q (Or.inl hq)).1 _ (Or.inr ⟨?_, ?_⟩)) <;> omega) | (refine hk _ hl (fun z => ?_); obtain ⟨k_, h_, e_⟩ := z; exact (nw9q q (Or.inl hq)).1 k_ h_ e_) | (refine hk _ hl (fun z => ?_); rcases z with z | z <;> (refine (nw9q q (Or.inl hq)).1 _ (Or.inl ?_) z; decide)) | (refine hk _ hl ((nw9q q (Or.inl hq)).1 _ (Or.inl ?_)); decide) | exact hc.2 _ (nw9q q (Or.inl hq)).2.1 | exact hc.2 _ (nw9q q (Or.inl hq)).2.2 | (refine hk _ hl (fun z => ?_); exact absurd (hpn p e) (Nat.not_lt.mpr (Nat.le_of_eq z.symm))) | (refine hk _ hl (fun z => ?_); rcases z with (z | z) | ⟨k_, h_, e_⟩; exact (nw9q q (Or.inl hq)).2.1 z; exact (nw9q q (Or.inl hq)).2.2 z; exact (nw9q q (Or.inl hq)).1 k_ h_ e_))) (fun q hl hq => (by first | exact hk _ hl (fun z => z) | (refine hk _ hl (fun z => ?_); rcases z with z | z; exact (nw9q q (Or.inr hq)).2.1 z; exact (nw9q q (Or.inr hq)).2.2 z) | (refine hc.2 _ ((nw9q q (Or.inr hq)).1 _ (Or.inl ?_)); decide) | (refine hc.2 _ ((nw9q q (Or.inr hq)).1 _ (Or.inr ⟨?_, ?_⟩)) <;> omega) | (refine hk _ hl (fun z => ?_); obtain ⟨k_, h_, e_⟩ := z; exact (nw9q q (Or.inr hq)).1 k_ h_ e_) | (refine hk _ hl (fun z => ?_); rcases z with z | z <;> (refine (nw9q q (Or.inr hq)).1 _ (Or.inl ?_) z; decide)) | (refine hk _ hl ((nw9q q (Or.inr hq)).1 _ (Or.inl ?_)); decide) | exact hc.2 _ (nw9q q (Or.inr hq)).2.1 | exact hc.2 _ (nw9q q (Or.inr hq)).2.2 | (refine hk _ hl (fun z => ?_); exact absurd (hpn p e) (Nat.not_lt.mpr (Nat.le_of_eq z.symm))) | (refine hk _ hl (fun z => ?_); rcases z with (z | z) | ⟨k_, h_, e_⟩; exact (nw9q q (Or.inr hq)).2.1 z; exact (nw9q q (Or.inr hq)).2.2 z; exact (nw9q q (Or.inr hq)).1 k_ h_ e_))))
  replace hK := hK.ch hc (hRq.kn X hK 5 (Or.inl (by decide)))
  replace hU := hU.own hAq l4 (Q := (· = 5)) (fun k hk => by subst hk; exact Or.inl (by decide)) hc.own
  have hR2 := hRq.putS hAq l4 l5 hm hc ho hq
  replace hz := Nat.le_trans hz (Nat.le_of_eq hc.1.symm)
  clear hc ho
  
  obtain ⟨g, hg⟩ : ∃ g, g = va_up gq (30 + m) q := ⟨_, rfl⟩
  rw [← hg] at hR2
  have hgg : ∀ k, UK (nM P) k → g k = gq k := fun k hk => by rw [hg]; exact va_up_ne _ _ (by unfold UK at hk; omega)
  have hgs : ∀ j, SJ P j → g j = gq j ∨ g j = q := fun j hj => by
    rw [hg]
    by_cases z : j = 30 + m
    · subst z; exact Or.inr (va_up_self _ _ _)
    · exact Or.inl (va_up_ne _ _ z)
  have hA : AP g u P := by rw [hg]; exact hAq.putS l5 l4 hqgq
  have hR := hR2
  clear hR2
  have nbg : ∀ j, UK (nM P) j → b ≠ g j := fun j hj => by rw [hgg j hj]; exact nbgq j hj
  have nbs : ∀ j, SJ P j → b ≠ g j := fun j hj => (hgs j hj).elim (fun z => by rw [z]; exact nbsq j hj) (fun z => by rw [z]; exact (X.oo hd hq CL_J1 CL_X8 (by decide)))
  have nag : ∀ j, UK (nM P) j → a ≠ g j := fun j hj => by rw [hgg j hj]; exact nagq j hj
  have nas : ∀ j, SJ P j → a ≠ g j := fun j hj => (hgs j hj).elim (fun z => by rw [z]; exact nasq j hj) (fun z => by rw [z]; exact (X.ao he hq CL_X8 rfl))
  have ncg : ∀ j, UK (nM P) j → c ≠ g j := fun j hj => by rw [hgg j hj]; exact ncgq j hj
  have ncs : ∀ j, SJ P j → c ≠ g j := fun j hj => (hgs j hj).elim (fun z => by rw [z]; exact ncsq j hj) (fun z => by rw [z]; exact (X.oo hcm hq CL_X1 CL_X8 (by decide)))
  have nw9 : ∀ z, (OA g9 (nM P) z ∨ GB g9 P z) → (∀ k, UK (nM P) k → z ≠ g k) ∧ z ≠ b ∧ z ≠ a := fun z h9 => ⟨fun k hk => by rw [hgg k hk]; exact (nw9q z h9).1 k hk, (nw9q z h9).2⟩
  have hpg : ∀ p, pw = some p → ∀ k, UK (nM P) k → p ≠ g k := fun p e k hk => by rw [hgg k hk]; exact hpgq p e k hk
  have hqg : ∀ k, UK (nM P) k → q ≠ g k := fun k hk => by rw [hgg k hk]; exact hqgq k hk
  have hcm9 := hcm
  rw [← hgg 0 (Or.inl (by decide))] at hcm9
  replace hcm := hcm9
  have hgo : ∀ {k}, UK (nM P) k → OA gq (nM P) (g k) := fun h => ⟨_, h, hgg _ h⟩
  clear hq
  refine vv_aload_n X dX1_become_14 rfl 0 rfl ?_
  refine vv_getf (C := RX1) (T := TX1) (N := 8) (ref := "AcousticCamera") X hcm in_X1 CL_X1 4 (by decide) q259 rfl rfl dX1_become_15 ?_
  refine vv_callV X (mX3_record (kL K) D u P T o g (va_up (va_up (va_up (va_up S (31 + m) x) (37 + m) y) (43 + m) vx) (49 + m) vy) pw hC ((((hV.up (vok_p (by omega) hx)).up (vok_p (by omega) hy)).up (vok_v (by omega) hvx)).up (vok_v (by omega) hvy)) hA) q1720 q1721 q1722 q150 q1723 nX3_record ⟨(Nat.le_of_ble_eq_true rfl), (Nat.le_of_ble_eq_true rfl)⟩ dX1_become_18 rfl (Nat.le_of_ble_eq_true rfl) (recv X hR.ob CL_X3) ⟨hK, hU, hR⟩ (fun _ z => by obtain ⟨k_, h_, rfl⟩ := z; exact Or.inl (Or.inr (hgo h_))) ⟨(Nat.le_of_ble_eq_true rfl), (Nat.le_of_ble_eq_true rfl)⟩ (fun v_ H hq hz_ hk => ?_)
  obtain ⟨rfl, hR2⟩ := hq
  replace hcm := hcm.kept (hk _ hcm.lt (fun z => by obtain ⟨k_, hk_, e_⟩ := z; exact ncg k_ hk_ e_))
  replace hd := hd.kept (hk _ hd.lt (fun z => by obtain ⟨k_, hk_, e_⟩ := z; exact nbg k_ hk_ e_))
  replace he := he.kept (hk _ he.lt (fun z => by obtain ⟨k_, hk_, e_⟩ := z; exact nag k_ hk_ e_))
  replace hPK := (show PK D P S pw H from fun p e => (hPK p e).kept (by first | exact hk _ (hPK p e).lt (fun z => z) | (refine hk _ (hPK p e).lt (fun z => ?_); rcases z with z | z; exact (fun (z : p = b) => (hap b (Or.inl rfl)).2.2.2 (z ▸ e)) z; exact (fun (z : p = a) => (hap a (Or.inr (Or.inl rfl))).2.2.2 (z ▸ e)) z) | (refine hc.2 _ ((hpg p e) _ (Or.inl ?_)); decide) | (refine hc.2 _ ((hpg p e) _ (Or.inr ⟨?_, ?_⟩)) <;> omega) | (refine hk _ (hPK p e).lt (fun z => ?_); obtain ⟨k_, h_, e_⟩ := z; exact (hpg p e) k_ h_ e_) | (refine hk _ (hPK p e).lt (fun z => ?_); rcases z with z | z <;> (refine (hpg p e) _ (Or.inl ?_) z; decide)) | (refine hk _ (hPK p e).lt ((hpg p e) _ (Or.inl ?_)); decide) | exact hc.2 _ (fun (z : p = b) => (hap b (Or.inl rfl)).2.2.2 (z ▸ e)) | exact hc.2 _ (fun (z : p = a) => (hap a (Or.inr (Or.inl rfl))).2.2.2 (z ▸ e)) | (refine hk _ (hPK p e).lt (fun z => ?_); exact absurd (hpn p e) (Nat.not_lt.mpr (Nat.le_of_eq z.symm))) | exact hc.2 _ (fun (z : p = c) => (hap c (Or.inr (Or.inr rfl))).2.2.2 (z ▸ e)) | (refine hk _ (hPK p e).lt (fun z => ?_); rcases z with (z | z) | ⟨k_, h_, e_⟩; exact (fun (z : p = b) => (hap b (Or.inl rfl)).2.2.2 (z ▸ e)) z; exact (fun (z : p = a) => (hap a (Or.inr (Or.inl rfl))).2.2.2 (z ▸ e)) z; exact (hpg p e) k_ h_ e_)))
  replace hR9 := (show SR D g9 u P S pw H from hR9.kept (fun q hl hq => (by first | exact hk _ hl (fun z => z) | (refine hk _ hl (fun z => ?_); rcases z with z | z; exact (nw9 q (Or.inl hq)).2.1 z; exact (nw9 q (Or.inl hq)).2.2 z) | (refine hc.2 _ ((nw9 q (Or.inl hq)).1 _ (Or.inl ?_)); decide) | (refine hc.2 _ ((nw9 q (Or.inl hq)).1 _ (Or.inr ⟨?_, ?_⟩)) <;> omega) | (refine hk _ hl (fun z => ?_); obtain ⟨k_, h_, e_⟩ := z; exact (nw9 q (Or.inl hq)).1 k_ h_ e_) | (refine hk _ hl (fun z => ?_); rcases z with z | z <;> (refine (nw9 q (Or.inl hq)).1 _ (Or.inl ?_) z; decide)) | (refine hk _ hl ((nw9 q (Or.inl hq)).1 _ (Or.inl ?_)); decide) | exact hc.2 _ (nw9 q (Or.inl hq)).2.1 | exact hc.2 _ (nw9 q (Or.inl hq)).2.2 | (refine hk _ hl (fun z => ?_); exact absurd (hpn p e) (Nat.not_lt.mpr (Nat.le_of_eq z.symm))) | (refine hk _ hl (fun z => ?_); rcases z with (z | z) | ⟨k_, h_, e_⟩; exact (nw9 q (Or.inl hq)).2.1 z; exact (nw9 q (Or.inl hq)).2.2 z; exact (nw9 q (Or.inl hq)).1 k_ h_ e_))) (fun q hl hq => (by first | exact hk _ hl (fun z => z) | (refine hk _ hl (fun z => ?_); rcases z with z | z; exact (nw9 q (Or.inr hq)).2.1 z; exact (nw9 q (Or.inr hq)).2.2 z) | (refine hc.2 _ ((nw9 q (Or.inr hq)).1 _ (Or.inl ?_)); decide) | (refine hc.2 _ ((nw9 q (Or.inr hq)).1 _ (Or.inr ⟨?_, ?_⟩)) <;> omega) | (refine hk _ hl (fun z => ?_); obtain ⟨k_, h_, e_⟩ := z; exact (nw9 q (Or.inr hq)).1 k_ h_ e_) | (refine hk _ hl (fun z => ?_); rcases z with z | z <;> (refine (nw9 q (Or.inr hq)).1 _ (Or.inl ?_) z; decide)) | (refine hk _ hl ((nw9 q (Or.inr hq)).1 _ (Or.inl ?_)); decide) | exact hc.2 _ (nw9 q (Or.inr hq)).2.1 | exact hc.2 _ (nw9 q (Or.inr hq)).2.2 | (refine hk _ hl (fun z => ?_); exact absurd (hpn p e) (Nat.not_lt.mpr (Nat.le_of_eq z.symm))) | (refine hk _ hl (fun z => ?_); rcases z with (z | z) | ⟨k_, h_, e_⟩; exact (nw9 q (Or.inr hq)).2.1 z; exact (nw9 q (Or.inr hq)).2.2 z; exact (nw9 q (Or.inr hq)).1 k_ h_ e_))))
  replace hK := hK.to hk (hR.knA X hK)
  replace hU := hU.to hA hk
  replace hz := Nat.le_trans hz hz_
  clear hk hz_ hR
  have hR := hR2
  clear hR2
  refine vv_aload_n X dX1_become_21 rfl 0 rfl ?_
  refine vv_getf (C := RX1) (T := TX1) (N := 8) (ref := "AcousticCamera") X hcm in_X1 CL_X1 4 (by decide) q259 rfl rfl dX1_become_22 ?_
  have hzb := hz
  have hPKo := hPK
  clear hPK
  have hPK : PK D P (rcd P (rawA P (va_up (va_up (va_up (va_up S (31 + m) x) (37 + m) y) (43 + m) vx) (49 + m) vy)) (va_up (va_up (va_up (va_up S (31 + m) x) (37 + m) y) (43 + m) vx) (49 + m) vy)) none H := fun q e => by cases e
  refine vv_callV X (mX3_best (kL K) D u P T o g (rcd P (rawA P (va_up (va_up (va_up (va_up S (31 + m) x) (37 + m) y) (43 + m) vx) (49 + m) vy)) (va_up (va_up (va_up (va_up S (31 + m) x) (37 + m) y) (43 + m) vx) (49 + m) vy)) none hC (lowS.vs lowS.rcp ((((hV.up (vok_p (by omega) hx)).up (vok_p (by omega) hy)).up (vok_v (by omega) hvx)).up (vok_v (by omega) hvy))) hA) q1993 q1994 q1995 q150 q1996 nX3_best ⟨(Nat.le_of_ble_eq_true rfl), (Nat.le_of_ble_eq_true rfl)⟩ dX1_become_25 rfl (Nat.le_of_ble_eq_true rfl) (recv X hR.ob CL_X3) ⟨hK, hU, hR, hPK⟩ (fun q z => by rcases z with rfl; exact (Or.inl (Or.inr (hgo (Or.inl (by decide)))))) ⟨(Nat.le_of_ble_eq_true rfl), (Nat.le_of_ble_eq_true rfl)⟩ (fun v_ H hq hz_ hk => ?_)
  obtain ⟨rfl, a_1, hR2, hPK2, hold, hnew⟩ := hq
  replace hcm := hcm.kept (hk _ hcm.lt (ncg _ (Or.inl (by decide))))
  replace hd := hd.kept (hk _ hd.lt (nbg _ (Or.inl (by decide))))
  replace he := he.kept (hk _ he.lt (nag _ (Or.inl (by decide))))
  replace hPKo := (show PK D P S pw H from fun p e => (hPKo p e).kept (by first | exact hk _ (hPKo p e).lt (fun z => z) | (refine hk _ (hPKo p e).lt (fun z => ?_); rcases z with z | z; exact (fun (z : p = b) => (hap b (Or.inl rfl)).2.2.2 (z ▸ e)) z; exact (fun (z : p = a) => (hap a (Or.inr (Or.inl rfl))).2.2.2 (z ▸ e)) z) | (refine hc.2 _ ((hpg p e) _ (Or.inl ?_)); decide) | (refine hc.2 _ ((hpg p e) _ (Or.inr ⟨?_, ?_⟩)) <;> omega) | (refine hk _ (hPKo p e).lt (fun z => ?_); obtain ⟨k_, h_, e_⟩ := z; exact (hpg p e) k_ h_ e_) | (refine hk _ (hPKo p e).lt (fun z => ?_); rcases z with z | z <;> (refine (hpg p e) _ (Or.inl ?_) z; decide)) | (refine hk _ (hPKo p e).lt ((hpg p e) _ (Or.inl ?_)); decide) | exact hc.2 _ (fun (z : p = b) => (hap b (Or.inl rfl)).2.2.2 (z ▸ e)) | exact hc.2 _ (fun (z : p = a) => (hap a (Or.inr (Or.inl rfl))).2.2.2 (z ▸ e)) | (refine hk _ (hPKo p e).lt (fun z => ?_); exact absurd (hpn p e) (Nat.not_lt.mpr (Nat.le_of_eq z.symm))) | exact hc.2 _ (fun (z : p = c) => (hap c (Or.inr (Or.inr rfl))).2.2.2 (z ▸ e)) | (refine hk _ (hPKo p e).lt (fun z => ?_); rcases z with (z | z) | ⟨k_, h_, e_⟩; exact (fun (z : p = b) => (hap b (Or.inl rfl)).2.2.2 (z ▸ e)) z; exact (fun (z : p = a) => (hap a (Or.inr (Or.inl rfl))).2.2.2 (z ▸ e)) z; exact (hpg p e) k_ h_ e_)))
  replace hR9 := (show SR D g9 u P S pw H from hR9.kept (fun q hl hq => (by first | exact hk _ hl (fun z => z) | (refine hk _ hl (fun z => ?_); rcases z with z | z; exact (nw9 q (Or.inl hq)).2.1 z; exact (nw9 q (Or.inl hq)).2.2 z) | (refine hc.2 _ ((nw9 q (Or.inl hq)).1 _ (Or.inl ?_)); decide) | (refine hc.2 _ ((nw9 q (Or.inl hq)).1 _ (Or.inr ⟨?_, ?_⟩)) <;> omega) | (refine hk _ hl (fun z => ?_); obtain ⟨k_, h_, e_⟩ := z; exact (nw9 q (Or.inl hq)).1 k_ h_ e_) | (refine hk _ hl (fun z => ?_); rcases z with z | z <;> (refine (nw9 q (Or.inl hq)).1 _ (Or.inl ?_) z; decide)) | (refine hk _ hl ((nw9 q (Or.inl hq)).1 _ (Or.inl ?_)); decide) | exact hc.2 _ (nw9 q (Or.inl hq)).2.1 | exact hc.2 _ (nw9 q (Or.inl hq)).2.2 | (refine hk _ hl (fun z => ?_); exact absurd (hpn p e) (Nat.not_lt.mpr (Nat.le_of_eq z.symm))) | (refine hk _ hl (fun z => ?_); rcases z with (z | z) | ⟨k_, h_, e_⟩; exact (nw9 q (Or.inl hq)).2.1 z; exact (nw9 q (Or.inl hq)).2.2 z; exact (nw9 q (Or.inl hq)).1 k_ h_ e_))) (fun q hl hq => (by first | exact hk _ hl (fun z => z) | (refine hk _ hl (fun z => ?_); rcases z with z | z; exact (nw9 q (Or.inr hq)).2.1 z; exact (nw9 q (Or.inr hq)).2.2 z) | (refine hc.2 _ ((nw9 q (Or.inr hq)).1 _ (Or.inl ?_)); decide) | (refine hc.2 _ ((nw9 q (Or.inr hq)).1 _ (Or.inr ⟨?_, ?_⟩)) <;> omega) | (refine hk _ hl (fun z => ?_); obtain ⟨k_, h_, e_⟩ := z; exact (nw9 q (Or.inr hq)).1 k_ h_ e_) | (refine hk _ hl (fun z => ?_); rcases z with z | z <;> (refine (nw9 q (Or.inr hq)).1 _ (Or.inl ?_) z; decide)) | (refine hk _ hl ((nw9 q (Or.inr hq)).1 _ (Or.inl ?_)); decide) | exact hc.2 _ (nw9 q (Or.inr hq)).2.1 | exact hc.2 _ (nw9 q (Or.inr hq)).2.2 | (refine hk _ hl (fun z => ?_); exact absurd (hpn p e) (Nat.not_lt.mpr (Nat.le_of_eq z.symm))) | (refine hk _ hl (fun z => ?_); rcases z with (z | z) | ⟨k_, h_, e_⟩; exact (nw9 q (Or.inr hq)).2.1 z; exact (nw9 q (Or.inr hq)).2.2 z; exact (nw9 q (Or.inr hq)).1 k_ h_ e_))))
  replace hK := hK.to hk (fun q z => by rcases z with rfl; exact hR.kn X hK 0 (Or.inl (by decide)))
  replace hU := hU.own hA l4 (Q := (· = 0)) (fun k hk => by subst hk; exact Or.inl (by decide)) (fun q hl hq => hk q hl (hq 0 rfl))
  replace hz := Nat.le_trans hz hz_
  have hp_2 : lA D H a_1 (nC P) (pwc P (rcd P (rawA P (va_up (va_up (va_up (va_up S (31 + m) x) (37 + m) y) (43 + m) vx) (49 + m) vy)) (va_up (va_up (va_up (va_up S (31 + m) x) (37 + m) y) (43 + m) vx) (49 + m) vy))) := hPK2 a_1 rfl
  clear hk hz_ hR
  have hR := hR2
  clear hR2 hPK2
  exact vv_iret X hQ dX1_become_28 (Nat.le_of_ble_eq_true rfl) (Nat.le_of_ble_eq_true rfl) (⟨rfl, g, _, hR, (fun q e => by cases e; exact hp_2), hA, hgg, hgs, hnew.elim (fun z => by cases z) (fun z => Nat.le_trans hzb z), g9, hR9, hPKo, hA9, hge0, hsh9, hd, he⟩)
set_option maxHeartbeats 800000 in
theorem mX1_moveSource (l : Launch) (D : DD) (u : Nat → Nat) (P T : Nat → Int32) (o : Nat) (g : Nat → Nat) (S : Nat → Int32) (pw : Option Nat) (c b a h n x0 : Nat) (F : Nat → Option Nat) (v0 v1 v2 v3 v6 v7 : Value) (m : Nat) (x y : Int32) (hC : VC P) (hV : VS S) (hA : AP g u P) (ho : o < 4096) (hh : h < 17) (hn6 : n ≤ 6) (hx0 : n = 6 → F h = some x0) (hka : KN D a) (hap : ∀ q, (q = b ∨ q = a ∨ q = c) → ¬ UB u P q ∧ ¬ OA g (nM P) q ∧ ¬ GB g P q ∧ ¬ pw = some q) (hpg : ∀ p, pw = some p → ∀ k, UK (nM P) k → p ≠ g k) (hm : m < nS P) (hp : (-2000 ≤ x ∧ x ≤ 2000) ∧ -2000 ≤ y ∧ y ≤ 2000) : Ct l yX1_moveSource cX1_moveSource 5 (some .int) { frames := 10, cells := 36, slots := 5009, locals := 3143 } D [.ref c, .int (nI m), .int (x), .int (y)] (fun H => KH D H ∧ oB D H c 0 [v0, v1, v2, v3, .ref (g 0), .ref b, v6, v7] ∧ UR D u P T o H ∧ SR D g u P S pw H ∧ PK D P S pw H ∧ oB D H b 10 [.ref a, .int (nI h), .int (nI ((h + n) % 17))] ∧ qA D H a 9 17 F) (fun q => (q = b ∨ q = a) ∨ OA g (nM P) q) (fun r H H1 => r = some (.int (nI (bsN (pwc P (rcd P (rawA P (va_up (va_up (va_up (va_up S (31 + m) x) (37 + m) y) (43 + m) (S (43 + m))) (49 + m) (S (49 + m)))) (va_up (va_up (va_up (va_up S (31 + m) x) (37 + m) y) (43 + m) (S (43 + m))) (49 + m) (S (49 + m))))) (nC P)))) ∧ ∃ gN p9, SR D gN u P (rcd P (rawA P (va_up (va_up (va_up (va_up S (31 + m) x) (37 + m) y) (43 + m) (S (43 + m))) (49 + m) (S (49 + m)))) (va_up (va_up (va_up (va_up S (31 + m) x) (37 + m) y) (43 + m) (S (43 + m))) (49 + m) (S (49 + m)))) (some p9) H1 ∧ PK D P (rcd P (rawA P (va_up (va_up (va_up (va_up S (31 + m) x) (37 + m) y) (43 + m) (S (43 + m))) (49 + m) (S (49 + m)))) (va_up (va_up (va_up (va_up S (31 + m) x) (37 + m) y) (43 + m) (S (43 + m))) (49 + m) (S (49 + m)))) (some p9) H1 ∧ AP gN u P ∧ (∀ k, UK (nM P) k → gN k = g k) ∧ (∀ j, SJ P j → gN j = g j ∨ H.size ≤ gN j) ∧ H.size ≤ p9 ∧ ∃ g9, SR D g9 u P S pw H1 ∧ PK D P S pw H1 ∧ AP g9 u P ∧ (∀ k, UK (nM P) k → H.size ≤ g9 k) ∧ (∀ j, SJ P j → g9 j = g j) ∧ oB D H1 b 10 [.ref a, .int (nI (if n = 6 then (h + 1) % 17 else h)), .int (nI (((h + n) % 17 + 1) % 17))] ∧ qA D H1 a 9 17 (va_up (if n = 6 then va_up F h none else F) ((h + n) % 17) (some (g9 0)))) := by
  refine Ct.of (by decide +kernel) (Nat.le_of_ble_eq_true rfl) (fun K Qf hkl X hM hQ => ?_)
  subst hkl
  obtain ⟨hK, hcm, hU, hR, hPK, hd, he⟩ := hM
  have hz : (kS K).heap.size ≤ (kS K).heap.size := Nat.le_refl _
  have hP := hC.v
  have l0 := hP.l0
  have l1 := hP.l1
  have l2 := hP.l2
  have l4 := hP.l4
  have l5 := hP.l5
  have l8 := hP.l8
  have l9 := hP.l9
  have l10 := hP.l10
  have l71 := hP.l71
  have l76 := hP.l76
  have l77 := hP.l77
  have hx1 := hC.x1
  have hy1 := hC.y1
  have ht1 := hC.t1
  have he1 := hC.e1
  have hm1 := hC.m1
  have hcc : nC P ≤ 144 := Nat.mul_le_mul l9 l10
  have nbu : ∀ j, VK P j → b ≠ u j := fun j hj e => (hap b (Or.inl rfl)).1 ⟨j, hj, e⟩
  have nbg : ∀ j, UK (nM P) j → b ≠ g j := fun j hj e => (hap b (Or.inl rfl)).2.1 ⟨j, hj, e⟩
  have nbs : ∀ j, SJ P j → b ≠ g j := fun j hj e => (hap b (Or.inl rfl)).2.2.1 ⟨j, hj, e⟩
  have nau : ∀ j, VK P j → a ≠ u j := fun j hj e => (hap a (Or.inr (Or.inl rfl))).1 ⟨j, hj, e⟩
  have nag : ∀ j, UK (nM P) j → a ≠ g j := fun j hj e => (hap a (Or.inr (Or.inl rfl))).2.1 ⟨j, hj, e⟩
  have nas : ∀ j, SJ P j → a ≠ g j := fun j hj e => (hap a (Or.inr (Or.inl rfl))).2.2.1 ⟨j, hj, e⟩
  have ncu : ∀ j, VK P j → c ≠ u j := fun j hj e => (hap c (Or.inr (Or.inr rfl))).1 ⟨j, hj, e⟩
  have ncg : ∀ j, UK (nM P) j → c ≠ g j := fun j hj e => (hap c (Or.inr (Or.inr rfl))).2.1 ⟨j, hj, e⟩
  have ncs : ∀ j, SJ P j → c ≠ g j := fun j hj e => (hap c (Or.inr (Or.inr rfl))).2.2.1 ⟨j, hj, e⟩
  have hrx : rg 2000 x := rg_of (B := 2000) (mB := -2000) (by decide) (by decide) ⟨hp.1.1, by have := hp.1.2; exact this⟩
  have hry : rg 2000 y := rg_of (B := 2000) (mB := -2000) (by decide) (by decide) ⟨hp.2.1, by have := hp.2.2; exact this⟩
  have hv1 := hV.r31
  have hv2 := hV.r37
  have hv3 := hV.r43
  have hv4 := hV.r49
  refine vv_sub (lv' := [(0, .ref c), (1, .int (nI m)), (2, .int (x)), (3, .int (y))]) [0, 1, 2, 3] rfl ?_
  refine vv_aload_n X dX1_moveSource_0 rfl 0 rfl ?_
  refine vv_iload_n X dX1_moveSource_1 rfl 1 rfl ?_
  refine vv_callVp X (mX1_withSource (kL K) D u P T o g S pw c v0 v1 v2 v3 (.ref b) v6 v7 m hC hV (by omega)) q1858 q1860 qs38 q137 q1861 nX1_withSource ⟨(Nat.le_of_ble_eq_true rfl), (Nat.le_of_ble_eq_true rfl)⟩ dX1_moveSource_2 rfl (Nat.le_of_ble_eq_true rfl) (recv X hcm CL_X1) ⟨hK, hcm, hU, hR⟩ ⟨(Nat.le_of_ble_eq_true rfl), (Nat.le_of_ble_eq_true rfl)⟩ ?_
  refine vv_getfN (C := RX3) (T := TX3) (N := 8) (ref := "AcousticCamera$State") X hR.ob in_X3 CL_X3 3 (by decide) q1694 rfl rfl dX1_moveSource_5 ?_
  refine vv_iload_n X dX1_moveSource_8 rfl 1 rfl ?_
  refine vv_aald (ty := 8) X hR.sa rfl rfl (m) (by omega) (by omega) rfl dX1_moveSource_9 (v := .ref (g (30 + m))) rfl ?_
  refine vv_astore (lv' := [(4, .ref (g (30 + m))), (0, .ref c), (1, .int (nI m)), (2, .int (x)), (3, .int (y))]) X dX1_moveSource_10 (by decide) rfl ?_
  refine vv_iload_n X dX1_moveSource_12 rfl 3 rfl ?_
  refine vv_i2l (v := (x).toInt64) X dX1_moveSource_13 rfl ?_
  refine vv_ldc2 (v := -2000) X q2833 dX1_moveSource_14 ?_
  refine vv_eql (show _ = (-2000 : Int32).toInt64 from by decide) ?_
  refine vv_ldc2 (v := 2000) X q2834 dX1_moveSource_17 ?_
  refine vv_eql (show _ = (2000 : Int32).toInt64 from by decide) ?_
  refine vv_callSp X (mX1_in (kL K) D ((x).toInt64) ((-2000 : Int32).toInt64) ((2000 : Int32).toInt64)) q449 q450 q137 q451 nX1_in ⟨(Nat.le_of_ble_eq_true rfl), (Nat.le_of_ble_eq_true rfl)⟩ dX1_moveSource_20 rfl (Nat.le_of_ble_eq_true rfl) trivial ⟨(Nat.le_of_ble_eq_true rfl), (Nat.le_of_ble_eq_true rfl)⟩ ?_
  refine vv_eqi (b2_eq (in_I)) ?_
  refine vb_eq (tgt := 44) X dX1_moveSource_23 (by decide) (fun c_23 => ?_) (fun c_23 => ?_)
  · exact absurd hp.1 c_23
  · refine vv_iload_n X dX1_moveSource_26 rfl 4 rfl ?_
    refine vv_i2l (v := (y).toInt64) X dX1_moveSource_27 rfl ?_
    refine vv_ldc2 (v := -2000) X q2833 dX1_moveSource_28 ?_
    refine vv_eql (show _ = (-2000 : Int32).toInt64 from by decide) ?_
    refine vv_ldc2 (v := 2000) X q2834 dX1_moveSource_31 ?_
    refine vv_eql (show _ = (2000 : Int32).toInt64 from by decide) ?_
    refine vv_callSp X (mX1_in (kL K) D ((y).toInt64) ((-2000 : Int32).toInt64) ((2000 : Int32).toInt64)) q449 q450 q137 q451 nX1_in ⟨(Nat.le_of_ble_eq_true rfl), (Nat.le_of_ble_eq_true rfl)⟩ dX1_moveSource_34 rfl (Nat.le_of_ble_eq_true rfl) trivial ⟨(Nat.le_of_ble_eq_true rfl), (Nat.le_of_ble_eq_true rfl)⟩ ?_
    refine vv_eqi (b2_eq (in_I)) ?_
    refine vb_eq (tgt := 44) X dX1_moveSource_37 (by decide) (fun c_37 => ?_) (fun c_37 => ?_)
    · exact absurd hp.2 c_37
    · refine vv_iconst (v := nI 1) X dX1_moveSource_40 (by decide) ?_
      refine vv_goto (tgt := 45) X dX1_moveSource_41 (by decide) ?_
      refine vv_callSv X (mX1_checkArgument (kL K) D True trivial) q1820 q1821 q137 q1822 nX1_checkArgument ⟨(Nat.le_of_ble_eq_true rfl), (Nat.le_of_ble_eq_true rfl)⟩ dX1_moveSource_45 rfl (Nat.le_of_ble_eq_true rfl) trivial ⟨(Nat.le_of_ble_eq_true rfl), (Nat.le_of_ble_eq_true rfl)⟩ ?_
      refine vv_aload_n X dX1_moveSource_48 rfl 1 rfl ?_
      refine vv_iload_n X dX1_moveSource_49 rfl 2 rfl ?_
      refine vv_newA (C := RX8) (T := TX8) (N := 6) (fs := [.null, .int (nI 0), .int (nI 0), .int (nI 0), .int (nI 0), .int (nI 0)]) X in_X8 CL_X8 tyX8 tyX8_ok q2727 q1363 q175 (tyX8_d) (Nat.le_of_ble_eq_true rfl) (Nat.le_of_ble_eq_true rfl) dX1_moveSource_50 (fun a_1 H eq_2 hx ho => ?_)
      have lt_3 : c < a_1 := by have h9 := hcm.lt; first | omega | exact Nat.lt_of_lt_of_eq h9 (Eq.symm (by assumption))
      have lt_4 : b < a_1 := by have h9 := hd.lt; first | omega | exact Nat.lt_of_lt_of_eq h9 (Eq.symm (by assumption))
      have lt_5 : a < a_1 := by have h9 := he.lt; first | omega | exact Nat.lt_of_lt_of_eq h9 (Eq.symm (by assumption))
      have ng_6 : ∀ k, UK (nM P) k → a_1 ≠ g k := fun k hk e => by have h9 := hR.ltA k hk; rw [eq_2] at e; omega
      have ns_7 : ∀ j, SJ P j → a_1 ≠ g j := fun k hk e => by have h9 := hR.ltS k hk; rw [eq_2] at e; omega
      have nu_8 : ∀ j, VK P j → a_1 ≠ u j := fun k hk e => by have h9 := hU.ltB k hk; rw [eq_2] at e; omega
      have ne_9 : c ≠ a_1 := Nat.ne_of_lt (eq_2.symm ▸ hcm.lt)
      have ne_10 : b ≠ a_1 := Nat.ne_of_lt (eq_2.symm ▸ hd.lt)
      have ne_11 : a ≠ a_1 := Nat.ne_of_lt (eq_2.symm ▸ he.lt)
      have hpn : ∀ p, pw = some p → p < a_1 := fun p e => by rw [eq_2]; exact (hPK p e).lt
      have ge_12 : (kS K).heap.size ≤ a_1 := by rw [eq_2]; exact hz
      have kn_13 : KN D a_1 := KN.new hK (Nat.le_of_eq eq_2.symm)
      replace hU := hU.ex hx
      replace hR := hR.ex hx
      replace hcm := hcm.kept (hx.2 _ hcm.lt)
      replace hd := hd.kept (hx.2 _ hd.lt)
      replace he := he.kept (hx.2 _ he.lt)
      replace hPK := fun p e => (hPK p e).kept (hx.2 _ (hPK p e).lt)
      replace hK := hK.ex hx
      replace hz : (kS K).heap.size ≤ H.size := by have := hx.1; omega
      have hO_14 : oB D H a_1 7 [.null, .int (nI 0), .int (nI 0), .int (nI 0), .int (nI 0), .int (nI 0)] := ho
      clear ho hx
      refine vv_dup X dX1_moveSource_53 rfl ?_
      refine vv_aload X dX1_moveSource_54 0 rfl ?_
      refine vv_getfN (C := RX8) (T := TX8) (N := 6) (ref := "AcousticCamera$Source") X (hR.src m (by omega)).1 in_X8 CL_X8 0 (by decide) q1398 rfl rfl dX1_moveSource_56 ?_
      refine vv_aload X dX1_moveSource_59 0 rfl ?_
      refine vv_getfN (C := RX8) (T := TX8) (N := 6) (ref := "AcousticCamera$Source") X (hR.src m (by omega)).1 in_X8 CL_X8 1 (by decide) q1400 rfl rfl dX1_moveSource_61 ?_
      refine vv_iload_n X dX1_moveSource_64 rfl 3 rfl ?_
      refine vv_iload_n X dX1_moveSource_65 rfl 4 rfl ?_
      refine vv_aload X dX1_moveSource_66 0 rfl ?_
      refine vv_getfN (C := RX8) (T := TX8) (N := 6) (ref := "AcousticCamera$Source") X (hR.src m (by omega)).1 in_X8 CL_X8 4 (by decide) q1406 rfl rfl dX1_moveSource_68 ?_
      refine vv_aload X dX1_moveSource_71 0 rfl ?_
      refine vv_getfN (C := RX8) (T := TX8) (N := 6) (ref := "AcousticCamera$Source") X (hR.src m (by omega)).1 in_X8 CL_X8 5 (by decide) q1408 rfl rfl dX1_moveSource_73 ?_
      refine vv_callI X (mX8_init (kL K) D a_1 (g (40 + m)) (frm P m) x y (S (43 + m)) (S (49 + m))) q2729 q1394 q175 q1395 rfl nX8_init ⟨(Nat.le_of_ble_eq_true rfl), (Nat.le_of_ble_eq_true rfl)⟩ dX1_moveSource_76 rfl (Nat.le_of_ble_eq_true rfl) ⟨hK, hO_14⟩ (fun q z => by rcases z with rfl; exact (Or.inr ge_12)) ⟨(Nat.le_of_ble_eq_true rfl), (Nat.le_of_ble_eq_true rfl)⟩ (fun v_ H hq hz_ hk => ?_)
      obtain ⟨rfl, hq2⟩ := hq
      replace hcm := hcm.kept (hk _ hcm.lt ne_9)
      replace hd := hd.kept (hk _ hd.lt ne_10)
      replace he := he.kept (hk _ he.lt ne_11)
      replace hPK := (show PK D P S pw H from fun p e => (hPK p e).kept (by first | exact hk _ (hPK p e).lt (fun z => z) | (refine hk _ (hPK p e).lt (fun z => ?_); rcases z with z | z; exact (fun (z : p = b) => (hap b (Or.inl rfl)).2.2.2 (z ▸ e)) z; exact (fun (z : p = a) => (hap a (Or.inr (Or.inl rfl))).2.2.2 (z ▸ e)) z) | (refine hc.2 _ ((hpg p e) _ (Or.inl ?_)); decide) | (refine hc.2 _ ((hpg p e) _ (Or.inr ⟨?_, ?_⟩)) <;> omega) | (refine hk _ (hPK p e).lt (fun z => ?_); obtain ⟨k_, h_, e_⟩ := z; exact (hpg p e) k_ h_ e_) | (refine hk _ (hPK p e).lt (fun z => ?_); rcases z with z | z <;> (refine (hpg p e) _ (Or.inl ?_) z; decide)) | (refine hk _ (hPK p e).lt ((hpg p e) _ (Or.inl ?_)); decide) | exact hc.2 _ (fun (z : p = b) => (hap b (Or.inl rfl)).2.2.2 (z ▸ e)) | exact hc.2 _ (fun (z : p = a) => (hap a (Or.inr (Or.inl rfl))).2.2.2 (z ▸ e)) | (refine hk _ (hPK p e).lt (fun z => ?_); exact absurd (hpn p e) (Nat.not_lt.mpr (Nat.le_of_eq z.symm))) | exact hc.2 _ (fun (z : p = c) => (hap c (Or.inr (Or.inr rfl))).2.2.2 (z ▸ e)) | (refine hk _ (hPK p e).lt (fun z => ?_); rcases z with (z | z) | ⟨k_, h_, e_⟩; exact (fun (z : p = b) => (hap b (Or.inl rfl)).2.2.2 (z ▸ e)) z; exact (fun (z : p = a) => (hap a (Or.inr (Or.inl rfl))).2.2.2 (z ▸ e)) z; exact (hpg p e) k_ h_ e_)))
      replace hU := hU.kept (fun q hl hq => hk q hl (fun z => by obtain ⟨j_, h_, e_⟩ := hq; rcases z with z; exact nu_8 j_ h_ (z.symm.trans e_)))
      replace hR := hR.kept (fun q hl hq => hk q hl (fun z => by obtain ⟨j_, h_, e_⟩ := hq; rcases z with z; exact ng_6 j_ h_ (z.symm.trans e_))) (fun q hl hq => hk q hl (fun z => by obtain ⟨j_, h_, e_⟩ := hq; rcases z with z; exact ns_7 j_ h_ (z.symm.trans e_)))
      replace hK := hK.to hk (fun q z => by rcases z with rfl; exact kn_13)
      replace hz := Nat.le_trans hz hz_
      clear hO_14
      have hO_14 := hq2
      clear hq2
      clear hk hz_
      refine vv_callV X (mX1_become (kL K) D u P T o g S pw c b a h n x0 F v0 v1 v2 v3 v6 v7 m a_1 x y (S (43 + m)) (S (49 + m)) hC hV hA ho hh hn6 hx0 hka hap hpg hm hrx hry (hv3 m (by omega)) (hv4 m (by omega)) ng_6) q2835 q2837 qs57 q137 q2838 nX1_become ⟨(Nat.le_of_ble_eq_true rfl), (Nat.le_of_ble_eq_true rfl)⟩ dX1_moveSource_79 rfl (Nat.le_of_ble_eq_true rfl) (recv X hcm CL_X1) ⟨hK, hcm, hU, hR, hPK, hd, he, hO_14⟩ (fun q z => Or.inl z) ⟨(Nat.le_of_ble_eq_true rfl), (Nat.le_of_ble_eq_true rfl)⟩ (fun v_ H hq hz_ hk => ?_)
      obtain ⟨rfl, gN, p9, hRn, hPKn, hAn, hgN, hgS, hp9, g9, hR9, hPK9, hA9, hge9, hsh9, hd9, he9⟩ := hq
      exact vv_iret X hQ dX1_moveSource_82 (Nat.le_of_ble_eq_true rfl) (Nat.le_of_ble_eq_true rfl) (⟨rfl, gN, p9, hRn, hPKn, hAn, hgN, fun j hj => (hgS j hj).imp id (fun z => by rw [z]; exact ge_12), Nat.le_trans hz hp9, g9, hR9, hPK9, hA9, fun k hk => Nat.le_trans hz (hge9 k hk), hsh9, hd9, he9⟩)
set_option maxHeartbeats 800000 in
theorem mX1_setVelocity (l : Launch) (D : DD) (u : Nat → Nat) (P T : Nat → Int32) (o : Nat) (g : Nat → Nat) (S : Nat → Int32) (pw : Option Nat) (c b a h n x0 : Nat) (F : Nat → Option Nat) (v0 v1 v2 v3 v6 v7 : Value) (m : Nat) (x y : Int32) (hC : VC P) (hV : VS S) (hA : AP g u P) (ho : o < 4096) (hh : h < 17) (hn6 : n ≤ 6) (hx0 : n = 6 → F h = some x0) (hka : KN D a) (hap : ∀ q, (q = b ∨ q = a ∨ q = c) → ¬ UB u P q ∧ ¬ OA g (nM P) q ∧ ¬ GB g P q ∧ ¬ pw = some q) (hpg : ∀ p, pw = some p → ∀ k, UK (nM P) k → p ≠ g k) (hm : m < nS P) (hp : (-999 ≤ x ∧ x ≤ 999) ∧ -999 ≤ y ∧ y ≤ 999) : Ct l yX1_setVelocity cX1_setVelocity 5 (some .int) { frames := 10, cells := 36, slots := 5009, locals := 3143 } D [.ref c, .int (nI m), .int (x), .int (y)] (fun H => KH D H ∧ oB D H c 0 [v0, v1, v2, v3, .ref (g 0), .ref b, v6, v7] ∧ UR D u P T o H ∧ SR D g u P S pw H ∧ PK D P S pw H ∧ oB D H b 10 [.ref a, .int (nI h), .int (nI ((h + n) % 17))] ∧ qA D H a 9 17 F) (fun q => (q = b ∨ q = a) ∨ OA g (nM P) q) (fun r H H1 => r = some (.int (nI (bsN (pwc P (rcd P (rawA P (va_up (va_up (va_up (va_up S (31 + m) (S (31 + m))) (37 + m) (S (37 + m))) (43 + m) x) (49 + m) y)) (va_up (va_up (va_up (va_up S (31 + m) (S (31 + m))) (37 + m) (S (37 + m))) (43 + m) x) (49 + m) y))) (nC P)))) ∧ ∃ gN p9, SR D gN u P (rcd P (rawA P (va_up (va_up (va_up (va_up S (31 + m) (S (31 + m))) (37 + m) (S (37 + m))) (43 + m) x) (49 + m) y)) (va_up (va_up (va_up (va_up S (31 + m) (S (31 + m))) (37 + m) (S (37 + m))) (43 + m) x) (49 + m) y)) (some p9) H1 ∧ PK D P (rcd P (rawA P (va_up (va_up (va_up (va_up S (31 + m) (S (31 + m))) (37 + m) (S (37 + m))) (43 + m) x) (49 + m) y)) (va_up (va_up (va_up (va_up S (31 + m) (S (31 + m))) (37 + m) (S (37 + m))) (43 + m) x) (49 + m) y)) (some p9) H1 ∧ AP gN u P ∧ (∀ k, UK (nM P) k → gN k = g k) ∧ (∀ j, SJ P j → gN j = g j ∨ H.size ≤ gN j) ∧ H.size ≤ p9 ∧ ∃ g9, SR D g9 u P S pw H1 ∧ PK D P S pw H1 ∧ AP g9 u P ∧ (∀ k, UK (nM P) k → H.size ≤ g9 k) ∧ (∀ j, SJ P j → g9 j = g j) ∧ oB D H1 b 10 [.ref a, .int (nI (if n = 6 then (h + 1) % 17 else h)), .int (nI (((h + n) % 17 + 1) % 17))] ∧ qA D H1 a 9 17 (va_up (if n = 6 then va_up F h none else F) ((h + n) % 17) (some (g9 0)))) := by
  refine Ct.of (by decide +kernel) (Nat.le_of_ble_eq_true rfl) (fun K Qf hkl X hM hQ => ?_)
  subst hkl
  obtain ⟨hK, hcm, hU, hR, hPK, hd, he⟩ := hM
  have hz : (kS K).heap.size ≤ (kS K).heap.size := Nat.le_refl _
  have hP := hC.v
  have l0 := hP.l0
  have l1 := hP.l1
  have l2 := hP.l2
  have l4 := hP.l4
  have l5 := hP.l5
  have l8 := hP.l8
  have l9 := hP.l9
  have l10 := hP.l10
  have l71 := hP.l71
  have l76 := hP.l76
  have l77 := hP.l77
  have hx1 := hC.x1
  have hy1 := hC.y1
  have ht1 := hC.t1
  have he1 := hC.e1
  have hm1 := hC.m1
  have hcc : nC P ≤ 144 := Nat.mul_le_mul l9 l10
  have nbu : ∀ j, VK P j → b ≠ u j := fun j hj e => (hap b (Or.inl rfl)).1 ⟨j, hj, e⟩
  have nbg : ∀ j, UK (nM P) j → b ≠ g j := fun j hj e => (hap b (Or.inl rfl)).2.1 ⟨j, hj, e⟩
  have nbs : ∀ j, SJ P j → b ≠ g j := fun j hj e => (hap b (Or.inl rfl)).2.2.1 ⟨j, hj, e⟩
  have nau : ∀ j, VK P j → a ≠ u j := fun j hj e => (hap a (Or.inr (Or.inl rfl))).1 ⟨j, hj, e⟩
  have nag : ∀ j, UK (nM P) j → a ≠ g j := fun j hj e => (hap a (Or.inr (Or.inl rfl))).2.1 ⟨j, hj, e⟩
  have nas : ∀ j, SJ P j → a ≠ g j := fun j hj e => (hap a (Or.inr (Or.inl rfl))).2.2.1 ⟨j, hj, e⟩
  have ncu : ∀ j, VK P j → c ≠ u j := fun j hj e => (hap c (Or.inr (Or.inr rfl))).1 ⟨j, hj, e⟩
  have ncg : ∀ j, UK (nM P) j → c ≠ g j := fun j hj e => (hap c (Or.inr (Or.inr rfl))).2.1 ⟨j, hj, e⟩
  have ncs : ∀ j, SJ P j → c ≠ g j := fun j hj e => (hap c (Or.inr (Or.inr rfl))).2.2.1 ⟨j, hj, e⟩
  have hrx : rg 999 x := rg_of (B := 999) (mB := -999) (by decide) (by decide) ⟨hp.1.1, by have := hp.1.2; exact this⟩
  have hry : rg 999 y := rg_of (B := 999) (mB := -999) (by decide) (by decide) ⟨hp.2.1, by have := hp.2.2; exact this⟩
  have hv1 := hV.r31
  have hv2 := hV.r37
  have hv3 := hV.r43
  have hv4 := hV.r49
  refine vv_sub (lv' := [(0, .ref c), (1, .int (nI m)), (2, .int (x)), (3, .int (y))]) [0, 1, 2, 3] rfl ?_
  refine vv_aload_n X dX1_setVelocity_0 rfl 0 rfl ?_
  refine vv_iload_n X dX1_setVelocity_1 rfl 1 rfl ?_
  refine vv_callVp X (mX1_withSource (kL K) D u P T o g S pw c v0 v1 v2 v3 (.ref b) v6 v7 m hC hV (by omega)) q1858 q1860 qs38 q137 q1861 nX1_withSource ⟨(Nat.le_of_ble_eq_true rfl), (Nat.le_of_ble_eq_true rfl)⟩ dX1_setVelocity_2 rfl (Nat.le_of_ble_eq_true rfl) (recv X hcm CL_X1) ⟨hK, hcm, hU, hR⟩ ⟨(Nat.le_of_ble_eq_true rfl), (Nat.le_of_ble_eq_true rfl)⟩ ?_
  refine vv_getfN (C := RX3) (T := TX3) (N := 8) (ref := "AcousticCamera$State") X hR.ob in_X3 CL_X3 3 (by decide) q1694 rfl rfl dX1_setVelocity_5 ?_
  refine vv_iload_n X dX1_setVelocity_8 rfl 1 rfl ?_
  refine vv_aald (ty := 8) X hR.sa rfl rfl (m) (by omega) (by omega) rfl dX1_setVelocity_9 (v := .ref (g (30 + m))) rfl ?_
  refine vv_astore (lv' := [(4, .ref (g (30 + m))), (0, .ref c), (1, .int (nI m)), (2, .int (x)), (3, .int (y))]) X dX1_setVelocity_10 (by decide) rfl ?_
  refine vv_iload_n X dX1_setVelocity_12 rfl 3 rfl ?_
  refine vv_i2l (v := (x).toInt64) X dX1_setVelocity_13 rfl ?_
  refine vv_ldc2 (v := -999) X q2525 dX1_setVelocity_14 ?_
  refine vv_eql (show _ = (-999 : Int32).toInt64 from by decide) ?_
  refine vv_ldc2 (v := 999) X q2526 dX1_setVelocity_17 ?_
  refine vv_eql (show _ = (999 : Int32).toInt64 from by decide) ?_
  refine vv_callSp X (mX1_in (kL K) D ((x).toInt64) ((-999 : Int32).toInt64) ((999 : Int32).toInt64)) q449 q450 q137 q451 nX1_in ⟨(Nat.le_of_ble_eq_true rfl), (Nat.le_of_ble_eq_true rfl)⟩ dX1_setVelocity_20 rfl (Nat.le_of_ble_eq_true rfl) trivial ⟨(Nat.le_of_ble_eq_true rfl), (Nat.le_of_ble_eq_true rfl)⟩ ?_
  refine vv_eqi (b2_eq (in_I)) ?_
  refine vb_eq (tgt := 44) X dX1_setVelocity_23 (by decide) (fun c_23 => ?_) (fun c_23 => ?_)
  · exact absurd hp.1 c_23
  · refine vv_iload_n X dX1_setVelocity_26 rfl 4 rfl ?_
    refine vv_i2l (v := (y).toInt64) X dX1_setVelocity_27 rfl ?_
    refine vv_ldc2 (v := -999) X q2525 dX1_setVelocity_28 ?_
    refine vv_eql (show _ = (-999 : Int32).toInt64 from by decide) ?_
    refine vv_ldc2 (v := 999) X q2526 dX1_setVelocity_31 ?_
    refine vv_eql (show _ = (999 : Int32).toInt64 from by decide) ?_
    refine vv_callSp X (mX1_in (kL K) D ((y).toInt64) ((-999 : Int32).toInt64) ((999 : Int32).toInt64)) q449 q450 q137 q451 nX1_in ⟨(Nat.le_of_ble_eq_true rfl), (Nat.le_of_ble_eq_true rfl)⟩ dX1_setVelocity_34 rfl (Nat.le_of_ble_eq_true rfl) trivial ⟨(Nat.le_of_ble_eq_true rfl), (Nat.le_of_ble_eq_true rfl)⟩ ?_
    refine vv_eqi (b2_eq (in_I)) ?_
    refine vb_eq (tgt := 44) X dX1_setVelocity_37 (by decide) (fun c_37 => ?_) (fun c_37 => ?_)
    · exact absurd hp.2 c_37
    · refine vv_iconst (v := nI 1) X dX1_setVelocity_40 (by decide) ?_
      refine vv_goto (tgt := 45) X dX1_setVelocity_41 (by decide) ?_
      refine vv_callSv X (mX1_checkArgument (kL K) D True trivial) q1820 q1821 q137 q1822 nX1_checkArgument ⟨(Nat.le_of_ble_eq_true rfl), (Nat.le_of_ble_eq_true rfl)⟩ dX1_setVelocity_45 rfl (Nat.le_of_ble_eq_true rfl) trivial ⟨(Nat.le_of_ble_eq_true rfl), (Nat.le_of_ble_eq_true rfl)⟩ ?_
      refine vv_aload_n X dX1_setVelocity_48 rfl 1 rfl ?_
      refine vv_iload_n X dX1_setVelocity_49 rfl 2 rfl ?_
      refine vv_newA (C := RX8) (T := TX8) (N := 6) (fs := [.null, .int (nI 0), .int (nI 0), .int (nI 0), .int (nI 0), .int (nI 0)]) X in_X8 CL_X8 tyX8 tyX8_ok q2727 q1363 q175 (tyX8_d) (Nat.le_of_ble_eq_true rfl) (Nat.le_of_ble_eq_true rfl) dX1_setVelocity_50 (fun a_1 H eq_2 hx ho => ?_)
      have lt_3 : c < a_1 := by have h9 := hcm.lt; first | omega | exact Nat.lt_of_lt_of_eq h9 (Eq.symm (by assumption))
      have lt_4 : b < a_1 := by have h9 := hd.lt; first | omega | exact Nat.lt_of_lt_of_eq h9 (Eq.symm (by assumption))
      have lt_5 : a < a_1 := by have h9 := he.lt; first | omega | exact Nat.lt_of_lt_of_eq h9 (Eq.symm (by assumption))
      have ng_6 : ∀ k, UK (nM P) k → a_1 ≠ g k := fun k hk e => by have h9 := hR.ltA k hk; rw [eq_2] at e; omega
      have ns_7 : ∀ j, SJ P j → a_1 ≠ g j := fun k hk e => by have h9 := hR.ltS k hk; rw [eq_2] at e; omega
      have nu_8 : ∀ j, VK P j → a_1 ≠ u j := fun k hk e => by have h9 := hU.ltB k hk; rw [eq_2] at e; omega
      have ne_9 : c ≠ a_1 := Nat.ne_of_lt (eq_2.symm ▸ hcm.lt)
      have ne_10 : b ≠ a_1 := Nat.ne_of_lt (eq_2.symm ▸ hd.lt)
      have ne_11 : a ≠ a_1 := Nat.ne_of_lt (eq_2.symm ▸ he.lt)
      have hpn : ∀ p, pw = some p → p < a_1 := fun p e => by rw [eq_2]; exact (hPK p e).lt
      have ge_12 : (kS K).heap.size ≤ a_1 := by rw [eq_2]; exact hz
      have kn_13 : KN D a_1 := KN.new hK (Nat.le_of_eq eq_2.symm)
      replace hU := hU.ex hx
      replace hR := hR.ex hx
      replace hcm := hcm.kept (hx.2 _ hcm.lt)
      replace hd := hd.kept (hx.2 _ hd.lt)
      replace he := he.kept (hx.2 _ he.lt)
      replace hPK := fun p e => (hPK p e).kept (hx.2 _ (hPK p e).lt)
      replace hK := hK.ex hx
      replace hz : (kS K).heap.size ≤ H.size := by have := hx.1; omega
      have hO_14 : oB D H a_1 7 [.null, .int (nI 0), .int (nI 0), .int (nI 0), .int (nI 0), .int (nI 0)] := ho
      clear ho hx
      refine vv_dup X dX1_setVelocity_53 rfl ?_
      refine vv_aload X dX1_setVelocity_54 0 rfl ?_
      refine vv_getfN (C := RX8) (T := TX8) (N := 6) (ref := "AcousticCamera$Source") X (hR.src m (by omega)).1 in_X8 CL_X8 0 (by decide) q1398 rfl rfl dX1_setVelocity_56 ?_
      refine vv_aload X dX1_setVelocity_59 0 rfl ?_
      refine vv_getfN (C := RX8) (T := TX8) (N := 6) (ref := "AcousticCamera$Source") X (hR.src m (by omega)).1 in_X8 CL_X8 1 (by decide) q1400 rfl rfl dX1_setVelocity_61 ?_
      refine vv_aload X dX1_setVelocity_64 0 rfl ?_
      refine vv_getfN (C := RX8) (T := TX8) (N := 6) (ref := "AcousticCamera$Source") X (hR.src m (by omega)).1 in_X8 CL_X8 2 (by decide) q1402 rfl rfl dX1_setVelocity_66 ?_
      refine vv_aload X dX1_setVelocity_69 0 rfl ?_
      refine vv_getfN (C := RX8) (T := TX8) (N := 6) (ref := "AcousticCamera$Source") X (hR.src m (by omega)).1 in_X8 CL_X8 3 (by decide) q1404 rfl rfl dX1_setVelocity_71 ?_
      refine vv_iload_n X dX1_setVelocity_74 rfl 3 rfl ?_
      refine vv_iload_n X dX1_setVelocity_75 rfl 4 rfl ?_
      refine vv_callI X (mX8_init (kL K) D a_1 (g (40 + m)) (frm P m) (S (31 + m)) (S (37 + m)) x y) q2729 q1394 q175 q1395 rfl nX8_init ⟨(Nat.le_of_ble_eq_true rfl), (Nat.le_of_ble_eq_true rfl)⟩ dX1_setVelocity_76 rfl (Nat.le_of_ble_eq_true rfl) ⟨hK, hO_14⟩ (fun q z => by rcases z with rfl; exact (Or.inr ge_12)) ⟨(Nat.le_of_ble_eq_true rfl), (Nat.le_of_ble_eq_true rfl)⟩ (fun v_ H hq hz_ hk => ?_)
      obtain ⟨rfl, hq2⟩ := hq
      replace hcm := hcm.kept (hk _ hcm.lt ne_9)
      replace hd := hd.kept (hk _ hd.lt ne_10)
      replace he := he.kept (hk _ he.lt ne_11)
      replace hPK := (show PK D P S pw H from fun p e => (hPK p e).kept (by first | exact hk _ (hPK p e).lt (fun z => z) | (refine hk _ (hPK p e).lt (fun z => ?_); rcases z with z | z; exact (fun (z : p = b) => (hap b (Or.inl rfl)).2.2.2 (z ▸ e)) z; exact (fun (z : p = a) => (hap a (Or.inr (Or.inl rfl))).2.2.2 (z ▸ e)) z) | (refine hc.2 _ ((hpg p e) _ (Or.inl ?_)); decide) | (refine hc.2 _ ((hpg p e) _ (Or.inr ⟨?_, ?_⟩)) <;> omega) | (refine hk _ (hPK p e).lt (fun z => ?_); obtain ⟨k_, h_, e_⟩ := z; exact (hpg p e) k_ h_ e_) | (refine hk _ (hPK p e).lt (fun z => ?_); rcases z with z | z <;> (refine (hpg p e) _ (Or.inl ?_) z; decide)) | (refine hk _ (hPK p e).lt ((hpg p e) _ (Or.inl ?_)); decide) | exact hc.2 _ (fun (z : p = b) => (hap b (Or.inl rfl)).2.2.2 (z ▸ e)) | exact hc.2 _ (fun (z : p = a) => (hap a (Or.inr (Or.inl rfl))).2.2.2 (z ▸ e)) | (refine hk _ (hPK p e).lt (fun z => ?_); exact absurd (hpn p e) (Nat.not_lt.mpr (Nat.le_of_eq z.symm))) | exact hc.2 _ (fun (z : p = c) => (hap c (Or.inr (Or.inr rfl))).2.2.2 (z ▸ e)) | (refine hk _ (hPK p e).lt (fun z => ?_); rcases z with (z | z) | ⟨k_, h_, e_⟩; exact (fun (z : p = b) => (hap b (Or.inl rfl)).2.2.2 (z ▸ e)) z; exact (fun (z : p = a) => (hap a (Or.inr (Or.inl rfl))).2.2.2 (z ▸ e)) z; exact (hpg p e) k_ h_ e_)))
      replace hU := hU.kept (fun q hl hq => hk q hl (fun z => by obtain ⟨j_, h_, e_⟩ := hq; rcases z with z; exact nu_8 j_ h_ (z.symm.trans e_)))
      replace hR := hR.kept (fun q hl hq => hk q hl (fun z => by obtain ⟨j_, h_, e_⟩ := hq; rcases z with z; exact ng_6 j_ h_ (z.symm.trans e_))) (fun q hl hq => hk q hl (fun z => by obtain ⟨j_, h_, e_⟩ := hq; rcases z with z; exact ns_7 j_ h_ (z.symm.trans e_)))
      replace hK := hK.to hk (fun q z => by rcases z with rfl; exact kn_13)
      replace hz := Nat.le_trans hz hz_
      clear hO_14
      have hO_14 := hq2
      clear hq2
      clear hk hz_
      refine vv_callV X (mX1_become (kL K) D u P T o g S pw c b a h n x0 F v0 v1 v2 v3 v6 v7 m a_1 (S (31 + m)) (S (37 + m)) x y hC hV hA ho hh hn6 hx0 hka hap hpg hm (hv1 m (by omega)) (hv2 m (by omega)) hrx hry ng_6) q2835 q2837 qs57 q137 q2838 nX1_become ⟨(Nat.le_of_ble_eq_true rfl), (Nat.le_of_ble_eq_true rfl)⟩ dX1_setVelocity_79 rfl (Nat.le_of_ble_eq_true rfl) (recv X hcm CL_X1) ⟨hK, hcm, hU, hR, hPK, hd, he, hO_14⟩ (fun q z => Or.inl z) ⟨(Nat.le_of_ble_eq_true rfl), (Nat.le_of_ble_eq_true rfl)⟩ (fun v_ H hq hz_ hk => ?_)
      obtain ⟨rfl, gN, p9, hRn, hPKn, hAn, hgN, hgS, hp9, g9, hR9, hPK9, hA9, hge9, hsh9, hd9, he9⟩ := hq
      exact vv_iret X hQ dX1_setVelocity_82 (Nat.le_of_ble_eq_true rfl) (Nat.le_of_ble_eq_true rfl) (⟨rfl, gN, p9, hRn, hPKn, hAn, hgN, fun j hj => (hgS j hj).imp id (fun z => by rw [z]; exact ge_12), Nat.le_trans hz hp9, g9, hR9, hPK9, hA9, fun k hk => Nat.le_trans hz (hge9 k hk), hsh9, hd9, he9⟩)
