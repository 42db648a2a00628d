/-! AcousticCamera.keep: printed by gen/s34.py -/
set_option maxRecDepth 100000
/-- a contract out of contracts that may depend on the heap at hand -/
theorem Ct.imp {l : Launch} {y : MethodName} {bytes : ByteArray} {nL : Nat} {ret : Option FieldType} {rm : Room} {D : DD} {av : List Value} {P' : Heap → Prop} {A : Nat → Prop} {Q' : Option Value → Heap → Heap → Prop} (h : ∀ H0, P' H0 → ∃ P Q, Ct l y bytes nL ret rm D av P A Q ∧ P H0 ∧ ∀ r H1, Q r H0 H1 → Q' r H0 H1) : Ct l y bytes nL ret rm D av P' A Q' := by
  intro sz p e ha hc hk s m args below hf happ hP hK
  obtain ⟨h1, h2, hP2, hG⟩ := hP
  obtain ⟨P, Q, hCt, hPH, himp⟩ := h _ hP2
  obtain ⟨n, o, w1, w2, w3, ⟨v, e1, hq, hF⟩, hL⟩ := hCt sz p e ha hc hk s m args below hf happ ⟨h1, h2, hPH, hG⟩ hK
  exact ⟨n, o, w1, w2, w3, ⟨v, e1, himp _ _ hq, hF⟩, hL⟩
theorem nX1_keep : notMH yX1_keep 0 := by decide +kernel
set_option maxHeartbeats 800000 in
theorem mX1_keep (l : Launch) (D : DD) (u : Nat → Nat) (P T : Nat → Int32) (o : Nat) (g : Nat → Nat) (S : Nat → Int32) (pw : Option Nat) (c b a h n x0 : Nat) (F : Nat → Option Nat) (v0 v1 v2 v3 v6 v7 : Value)  (hC : VC P) (hV : VS S) (hA : AP g u P) (ho : o < 4096) (hh : h < 17) (hn6 : n ≤ 6) (hx0 : n = 6 → F h = some x0) (hka : KN D a) (hap : ∀ q, (q = b ∨ q = a ∨ q = c) → ¬ UB u P q ∧ ¬ OA g (nM P) q ∧ ¬ GB g P q ∧ ¬ pw = some q) (hpg : ∀ p, pw = some p → ∀ k, UK (nM P) k → p ≠ g k) : Ct l yX1_keep cX1_keep 1 none { frames := 6, cells := 33, slots := 4858, locals := 129 } D [.ref c] (fun H => KH D H ∧ oB D H c 0 [v0, v1, v2, v3, .ref (g 0), .ref b, v6, v7] ∧ UR D u P T o H ∧ SR D g u P S pw H ∧ PK D P S pw H ∧ oB D H b 10 [.ref a, .int (nI h), .int (nI ((h + n) % 17))] ∧ qA D H a 9 17 F) (fun q => q = b ∨ q = a) (fun r H H1 => r = none ∧ ∃ g9, SR D g9 u P S pw H1 ∧ PK D P S pw H1 ∧ AP g9 u P ∧ (∀ k, UK (nM P) k → H.size ≤ g9 k) ∧ (∀ j, SJ P j → g9 j = g j) ∧ oB D H1 b 10 [.ref a, .int (nI (if n = 6 then (h + 1) % 17 else h)), .int (nI (((h + n) % 17 + 1) % 17))] ∧ qA D H1 a 9 17 (va_up (if n = 6 then va_up F h none else F) ((h + n) % 17) (some (g9 0)))) := by
  refine Ct.of (by decide +kernel) (Nat.le_of_ble_eq_true rfl) (fun K Qf hkl X hM hQ => ?_)
  subst hkl
  obtain ⟨hK, hcm, hU, hR, hPK, hd, he⟩ := hM
  have hz : (kS K).heap.size ≤ (kS K).heap.size := Nat.le_refl _
  have hP := hC.v
  have l0 := hP.l0
  have l1 := hP.l1
  have l2 := hP.l2
  have l4 := hP.l4
  have l5 := hP.l5
  have l8 := hP.l8
  have l9 := hP.l9
  have l10 := hP.l10
  have l71 := hP.l71
  have l76 := hP.l76
  have l77 := hP.l77
  have hx1 := hC.x1
  have hy1 := hC.y1
  have ht1 := hC.t1
  have he1 := hC.e1
  have hm1 := hC.m1
  have hcc : nC P ≤ 144 := Nat.mul_le_mul l9 l10
  have nbu : ∀ j, VK P j → b ≠ u j := fun j hj e => (hap b (Or.inl rfl)).1 ⟨j, hj, e⟩
  have nbg : ∀ j, UK (nM P) j → b ≠ g j := fun j hj e => (hap b (Or.inl rfl)).2.1 ⟨j, hj, e⟩
  have nbs : ∀ j, SJ P j → b ≠ g j := fun j hj e => (hap b (Or.inl rfl)).2.2.1 ⟨j, hj, e⟩
  have nau : ∀ j, VK P j → a ≠ u j := fun j hj e => (hap a (Or.inr (Or.inl rfl))).1 ⟨j, hj, e⟩
  have nag : ∀ j, UK (nM P) j → a ≠ g j := fun j hj e => (hap a (Or.inr (Or.inl rfl))).2.1 ⟨j, hj, e⟩
  have nas : ∀ j, SJ P j → a ≠ g j := fun j hj e => (hap a (Or.inr (Or.inl rfl))).2.2.1 ⟨j, hj, e⟩
  have ncu : ∀ j, VK P j → c ≠ u j := fun j hj e => (hap c (Or.inr (Or.inr rfl))).1 ⟨j, hj, e⟩
  have ncg : ∀ j, UK (nM P) j → c ≠ g j := fun j hj e => (hap c (Or.inr (Or.inr rfl))).2.1 ⟨j, hj, e⟩
  have ncs : ∀ j, SJ P j → c ≠ g j := fun j hj e => (hap c (Or.inr (Or.inr rfl))).2.2.1 ⟨j, hj, e⟩
  refine vv_sub (lv' := [(0, .ref c)]) [0] rfl ?_
  refine vv_aload_n X dX1_keep_0 rfl 0 rfl ?_
  refine vv_getf (C := RX1) (T := TX1) (N := 8) (ref := "AcousticCamera") X hcm in_X1 CL_X1 5 (by decide) q260 rfl rfl dX1_keep_1 ?_
  refine vv_callVp X (mJ1_size (kL K) D b a h ((h + n) % 17) F (by omega) (by omega)) q351 q352 q353 q139 q354 nJ1_size ⟨(Nat.le_of_ble_eq_true rfl), (Nat.le_of_ble_eq_true rfl)⟩ dX1_keep_4 rfl (Nat.le_of_ble_eq_true rfl) (recv X hd CL_J1) ⟨hd, he⟩ ⟨(Nat.le_of_ble_eq_true rfl), (Nat.le_of_ble_eq_true rfl)⟩ ?_
  refine vv_bipush (v := nI 6) X dX1_keep_7 (by decide) ?_
  by_cases e6 : n = 6
  · refine vn_ne (tgt := 20) X (by omega) (by omega) dX1_keep_9 (by decide) (fun c_9 => ?_) (fun c_9 => ?_)
    · exact absurd (by omega) c_9
    · refine vv_aload_n X dX1_keep_12 rfl 0 rfl ?_
      refine vv_getf (C := RX1) (T := TX1) (N := 8) (ref := "AcousticCamera") X hcm in_X1 CL_X1 5 (by decide) q260 rfl rfl dX1_keep_13 ?_
      refine vv_callV X (mJ1_removeFirst (kL K) D b a h ((h + n) % 17) F x0 (by omega) (by omega) (hx0 e6) hka) q2770 q2771 q2772 q139 q2773 nJ1_removeFirst ⟨(Nat.le_of_ble_eq_true rfl), (Nat.le_of_ble_eq_true rfl)⟩ dX1_keep_16 rfl (Nat.le_of_ble_eq_true rfl) (recv X hd CL_J1) ⟨hK, hd, he⟩ (fun q z => by rcases z with rfl | rfl; exact (Or.inl (Or.inl rfl)); exact (Or.inl (Or.inr rfl))) ⟨(Nat.le_of_ble_eq_true rfl), (Nat.le_of_ble_eq_true rfl)⟩ (fun v_ H hq hz_ hk => ?_)
      obtain ⟨rfl, hd2, he2⟩ := hq
      replace hcm := hcm.kept (hk _ hcm.lt (fun z => z.elim (X.oo hcm hd CL_X1 CL_J1 (by decide)) ((X.oa hcm he CL_X1 rfl))))
      replace hPK := (show PK D P S pw H from fun p e => (hPK p e).kept (by first | exact hk _ (hPK p e).lt (fun z => z) | (refine hk _ (hPK p e).lt (fun z => ?_); rcases z with z | z; exact (fun (z : p = b) => (hap b (Or.inl rfl)).2.2.2 (z ▸ e)) z; exact (fun (z : p = a) => (hap a (Or.inr (Or.inl rfl))).2.2.2 (z ▸ e)) z) | (refine hc.2 _ ((hpg p e) _ (Or.inl ?_)); decide) | (refine hc.2 _ ((hpg p e) _ (Or.inr ⟨?_, ?_⟩)) <;> omega) | (refine hk _ (hPK p e).lt (fun z => ?_); obtain ⟨k_, h_, e_⟩ := z; exact (hpg p e) k_ h_ e_) | (refine hk _ (hPK p e).lt (fun z => ?_); rcases z with z | z <;> (refine (hpg p e) _ (Or.inl ?_) z; decide)) | (refine hk _ (hPK p e).lt ((hpg p e) _ (Or.inl ?_)); decide) | exact hc.2 _ (fun (z : p = b) => (hap b (Or.inl rfl)).2.2.2 (z ▸ e)) | exact hc.2 _ (fun (z : p = a) => (hap a (Or.inr (Or.inl rfl))).2.2.2 (z ▸ e)) | (refine hk _ (hPK p e).lt (fun z => ?_); exact absurd (hpn p e) (Nat.not_lt.mpr (Nat.le_of_eq z.symm))) | exact hc.2 _ (fun (z : p = c) => (hap c (Or.inr (Or.inr rfl))).2.2.2 (z ▸ e)) | (refine hk _ (hPK p e).lt (fun z => ?_); rcases z with (z | z) | ⟨k_, h_, e_⟩; exact (fun (z : p = b) => (hap b (Or.inl rfl)).2.2.2 (z ▸ e)) z; exact (fun (z : p = a) => (hap a (Or.inr (Or.inl rfl))).2.2.2 (z ▸ e)) z; exact (hpg p e) k_ h_ e_)))
      replace hU := hU.kept (fun q hl hq => hk q hl (fun z => by obtain ⟨j_, h_, e_⟩ := hq; rcases z with z | z; exact nbu j_ h_ (z.symm.trans e_); exact nau j_ h_ (z.symm.trans e_)))
      replace hR := hR.kept (fun q hl hq => hk q hl (fun z => by obtain ⟨j_, h_, e_⟩ := hq; rcases z with z | z; exact nbg j_ h_ (z.symm.trans e_); exact nag j_ h_ (z.symm.trans e_))) (fun q hl hq => hk q hl (fun z => by obtain ⟨j_, h_, e_⟩ := hq; rcases z with z | z; exact nbs j_ h_ (z.symm.trans e_); exact nas j_ h_ (z.symm.trans e_)))
      replace hK := hK.to hk (fun q z => by rcases z with rfl | rfl; exact (X.ko hK hd CL_J1 (by decide) (by decide)); exact hka)
      replace hz := Nat.le_trans hz hz_
      clear hd he hk hz_
      have hd := hd2
      have he := he2
      clear hd2 he2
      refine vv_pop X dX1_keep_19 rfl ?_
      refine vv_aload_n X dX1_keep_20 rfl 0 rfl ?_
      refine vv_getf (C := RX1) (T := TX1) (N := 8) (ref := "AcousticCamera") X hcm in_X1 CL_X1 5 (by decide) q260 rfl rfl dX1_keep_21 ?_
      refine vv_aload_n X dX1_keep_24 rfl 0 rfl ?_
      refine vv_getf (C := RX1) (T := TX1) (N := 8) (ref := "AcousticCamera") X hcm in_X1 CL_X1 4 (by decide) q259 rfl rfl dX1_keep_25 ?_
      refine vv_callV X (mX3_copy (kL K) D u P T o g S pw hC hV hA ho) q2706 q2707 q2708 q150 q2709 nX3_copy ⟨(Nat.le_of_ble_eq_true rfl), (Nat.le_of_ble_eq_true rfl)⟩ dX1_keep_28 rfl (Nat.le_of_ble_eq_true rfl) (recv X hR.ob CL_X3) ⟨hK, hU, hR⟩ (fun _ z => z.elim) ⟨(Nat.le_of_ble_eq_true rfl), (Nat.le_of_ble_eq_true rfl)⟩ (fun v_ H hq hz_ hk => ?_)
      obtain ⟨g9, rfl, hR9, hA9, hge9, hsh9⟩ := hq
      have hge0 : ∀ k, UK (nM P) k → (kS K).heap.size ≤ g9 k := fun k hk => Nat.le_trans hz (hge9 k hk)
      have n9c : ∀ k, UK (nM P) k → c ≠ g9 k := fun k hk e => by have h9 := hge9 k hk; have h8 := hcm.lt; omega
      have n9b : ∀ k, UK (nM P) k → b ≠ g9 k := fun k hk e => by have h9 := hge9 k hk; have h8 := hd.lt; omega
      have n9a : ∀ k, UK (nM P) k → a ≠ g9 k := fun k hk e => by have h9 := hge9 k hk; have h8 := he.lt; omega
      have g9g : ∀ k k2, UK (nM P) k → UK (nM P) k2 → g9 k ≠ g k2 := fun k k2 hk hk2 e => by have h9 := hge9 k hk; have h8 := hR.ltA k2 hk2; omega
      replace hcm := hcm.kept (hk _ hcm.lt (fun z => z))
      replace hd := hd.kept (hk _ hd.lt (fun z => z))
      replace he := he.kept (hk _ he.lt (fun z => z))
      replace hPK := (show PK D P S pw H from fun p e => (hPK p e).kept (by first | exact hk _ (hPK p e).lt (fun z => z) | (refine hk _ (hPK p e).lt (fun z => ?_); rcases z with z | z; exact (fun (z : p = b) => (hap b (Or.inl rfl)).2.2.2 (z ▸ e)) z; exact (fun (z : p = a) => (hap a (Or.inr (Or.inl rfl))).2.2.2 (z ▸ e)) z) | (refine hc.2 _ ((hpg p e) _ (Or.inl ?_)); decide) | (refine hc.2 _ ((hpg p e) _ (Or.inr ⟨?_, ?_⟩)) <;> omega) | (refine hk _ (hPK p e).lt (fun z => ?_); obtain ⟨k_, h_, e_⟩ := z; exact (hpg p e) k_ h_ e_) | (refine hk _ (hPK p e).lt (fun z => ?_); rcases z with z | z <;> (refine (hpg p e) _ (Or.inl ?_) z; decide)) | (refine hk _ (hPK p e).lt ((hpg p e) _ (Or.inl ?_)); decide) | exact hc.2 _ (fun (z : p = b) => (hap b (Or.inl rfl)).2.2.2 (z ▸ e)) | exact hc.2 _ (fun (z : p = a) => (hap a (Or.inr (Or.inl rfl))).2.2.2 (z ▸ e)) | (refine hk _ (hPK p e).lt (fun z => ?_); exact absurd (hpn p e) (Nat.not_lt.mpr (Nat.le_of_eq z.symm))) | exact hc.2 _ (fun (z : p = c) => (hap c (Or.inr (Or.inr rfl))).2.2.2 (z ▸ e)) | (refine hk _ (hPK p e).lt (fun z => ?_); rcases z with (z | z) | ⟨k_, h_, e_⟩; exact (fun (z : p = b) => (hap b (Or.inl rfl)).2.2.2 (z ▸ e)) z; exact (fun (z : p = a) => (hap a (Or.inr (Or.inl rfl))).2.2.2 (z ▸ e)) z; exact (hpg p e) k_ h_ e_)))
      replace hK := hK.to hk (fun _ z => z.elim)
      replace hU := hU.kept (fun q hl _ => hk q hl (fun z => z))
      replace hR := hR.kept (fun q hl _ => hk q hl (fun z => z)) (fun q hl _ => hk q hl (fun z => z))
      replace hz := Nat.le_trans hz hz_
      clear hk hz_ hge9
      have nw9 : ∀ q, (OA g9 (nM P) q ∨ GB g9 P q) → (∀ k, UK (nM P) k → q ≠ g k) ∧ q ≠ b ∧ q ≠ a := fun q z => by
        rcases z with ⟨k, hk, rfl⟩ | ⟨j, hj, rfl⟩
        · exact ⟨fun k2 hk2 => g9g k k2 hk hk2, fun e => n9b k hk e.symm, fun e => n9a k hk e.symm⟩
        · rw [hsh9 j hj]; exact ⟨fun k2 hk2 e => hA.2.2 k2 j hk2 hj e.symm, fun e => nbs j hj e.symm, fun e => nas j hj e.symm⟩
      have ho9 := hR9.ob
      refine vv_callV X (mJ1_addLast (kL K) D b a ((h + 1) % 17) ((h + n) % 17) (va_up F h none) (g9 0) (.ref (u 0)) (.ref (g9 1)) (.ref (g9 3)) (.ref (g9 5)) (.ref (g9 6)) (.ref (g9 7)) (.int (S 0)) (va_rf pw) (by omega) (by omega) (by omega) hka) q2784 q2785 q2786 q139 q2787 nJ1_addLast ⟨(Nat.le_of_ble_eq_true rfl), (Nat.le_of_ble_eq_true rfl)⟩ dX1_keep_31 rfl (Nat.le_of_ble_eq_true rfl) (recv X hd CL_J1) ⟨hK, hd, he, ho9⟩ (fun q z => by rcases z with rfl | rfl; exact (Or.inl (Or.inl rfl)); exact (Or.inl (Or.inr rfl))) ⟨(Nat.le_of_ble_eq_true rfl), (Nat.le_of_ble_eq_true rfl)⟩ (fun v_ H hq hz_ hk => ?_)
      obtain ⟨rfl, hd2, he2⟩ := hq
      replace hcm := hcm.kept (hk _ hcm.lt (fun z => z.elim (X.oo hcm hd CL_X1 CL_J1 (by decide)) ((X.oa hcm he CL_X1 rfl))))
      replace hPK := (show PK D P S pw H from fun p e => (hPK p e).kept (by first | exact hk _ (hPK p e).lt (fun z => z) | (refine hk _ (hPK p e).lt (fun z => ?_); rcases z with z | z; exact (fun (z : p = b) => (hap b (Or.inl rfl)).2.2.2 (z ▸ e)) z; exact (fun (z : p = a) => (hap a (Or.inr (Or.inl rfl))).2.2.2 (z ▸ e)) z) | (refine hc.2 _ ((hpg p e) _ (Or.inl ?_)); decide) | (refine hc.2 _ ((hpg p e) _ (Or.inr ⟨?_, ?_⟩)) <;> omega) | (refine hk _ (hPK p e).lt (fun z => ?_); obtain ⟨k_, h_, e_⟩ := z; exact (hpg p e) k_ h_ e_) | (refine hk _ (hPK p e).lt (fun z => ?_); rcases z with z | z <;> (refine (hpg p e) _ (Or.inl ?_) z; decide)) | (refine hk _ (hPK p e).lt ((hpg p e) _ (Or.inl ?_)); decide) | exact hc.2 _ (fun (z : p = b) => (hap b (Or.inl rfl)).2.2.2 (z ▸ e)) | exact hc.2 _ (fun (z : p = a) => (hap a (Or.inr (Or.inl rfl))).2.2.2 (z ▸ e)) | (refine hk _ (hPK p e).lt (fun z => ?_); exact absurd (hpn p e) (Nat.not_lt.mpr (Nat.le_of_eq z.symm))) | exact hc.2 _ (fun (z : p = c) => (hap c (Or.inr (Or.inr rfl))).2.2.2 (z ▸ e)) | (refine hk _ (hPK p e).lt (fun z => ?_); rcases z with (z | z) | ⟨k_, h_, e_⟩; exact (fun (z : p = b) => (hap b (Or.inl rfl)).2.2.2 (z ▸ e)) z; exact (fun (z : p = a) => (hap a (Or.inr (Or.inl rfl))).2.2.2 (z ▸ e)) z; exact (hpg p e) k_ h_ e_)))
      replace ho9 := ho9.kept (hk _ ho9.lt (fun z => z.elim (Ne.symm (n9b 0 (Or.inl (by decide)))) ((Ne.symm (n9a 0 (Or.inl (by decide)))))))
      replace hR9 := (show SR D g9 u P S pw H from hR9.kept (fun q hl hq => (by first | exact hk _ hl (fun z => z) | (refine hk _ hl (fun z => ?_); rcases z with z | z; exact (nw9 q (Or.inl hq)).2.1 z; exact (nw9 q (Or.inl hq)).2.2 z) | (refine hc.2 _ ((nw9 q (Or.inl hq)).1 _ (Or.inl ?_)); decide) | (refine hc.2 _ ((nw9 q (Or.inl hq)).1 _ (Or.inr ⟨?_, ?_⟩)) <;> omega) | (refine hk _ hl (fun z => ?_); obtain ⟨k_, h_, e_⟩ := z; exact (nw9 q (Or.inl hq)).1 k_ h_ e_) | (refine hk _ hl (fun z => ?_); rcases z with z | z <;> (refine (nw9 q (Or.inl hq)).1 _ (Or.inl ?_) z; decide)) | (refine hk _ hl ((nw9 q (Or.inl hq)).1 _ (Or.inl ?_)); decide) | exact hc.2 _ (nw9 q (Or.inl hq)).2.1 | exact hc.2 _ (nw9 q (Or.inl hq)).2.2 | (refine hk _ hl (fun z => ?_); exact absurd (hpn p e) (Nat.not_lt.mpr (Nat.le_of_eq z.symm))) | (refine hk _ hl (fun z => ?_); rcases z with (z | z) | ⟨k_, h_, e_⟩; exact (nw9 q (Or.inl hq)).2.1 z; exact (nw9 q (Or.inl hq)).2.2 z; exact (nw9 q (Or.inl hq)).1 k_ h_ e_))) (fun q hl hq => (by first | exact hk _ hl (fun z => z) | (refine hk _ hl (fun z => ?_); rcases z with z | z; exact (nw9 q (Or.inr hq)).2.1 z; exact (nw9 q (Or.inr hq)).2.2 z) | (refine hc.2 _ ((nw9 q (Or.inr hq)).1 _ (Or.inl ?_)); decide) | (refine hc.2 _ ((nw9 q (Or.inr hq)).1 _ (Or.inr ⟨?_, ?_⟩)) <;> omega) | (refine hk _ hl (fun z => ?_); obtain ⟨k_, h_, e_⟩ := z; exact (nw9 q (Or.inr hq)).1 k_ h_ e_) | (refine hk _ hl (fun z => ?_); rcases z with z | z <;> (refine (nw9 q (Or.inr hq)).1 _ (Or.inl ?_) z; decide)) | (refine hk _ hl ((nw9 q (Or.inr hq)).1 _ (Or.inl ?_)); decide) | exact hc.2 _ (nw9 q (Or.inr hq)).2.1 | exact hc.2 _ (nw9 q (Or.inr hq)).2.2 | (refine hk _ hl (fun z => ?_); exact absurd (hpn p e) (Nat.not_lt.mpr (Nat.le_of_eq z.symm))) | (refine hk _ hl (fun z => ?_); rcases z with (z | z) | ⟨k_, h_, e_⟩; exact (nw9 q (Or.inr hq)).2.1 z; exact (nw9 q (Or.inr hq)).2.2 z; exact (nw9 q (Or.inr hq)).1 k_ h_ e_))))
      replace hU := hU.kept (fun q hl hq => hk q hl (fun z => by obtain ⟨j_, h_, e_⟩ := hq; rcases z with z | z; exact nbu j_ h_ (z.symm.trans e_); exact nau j_ h_ (z.symm.trans e_)))
      replace hR := hR.kept (fun q hl hq => hk q hl (fun z => by obtain ⟨j_, h_, e_⟩ := hq; rcases z with z | z; exact nbg j_ h_ (z.symm.trans e_); exact nag j_ h_ (z.symm.trans e_))) (fun q hl hq => hk q hl (fun z => by obtain ⟨j_, h_, e_⟩ := hq; rcases z with z | z; exact nbs j_ h_ (z.symm.trans e_); exact nas j_ h_ (z.symm.trans e_)))
      replace hK := hK.to hk (fun q z => by rcases z with rfl | rfl; exact (X.ko hK hd CL_J1 (by decide) (by decide)); exact hka)
      replace hz := Nat.le_trans hz hz_
      clear hd he hk hz_
      have hd := hd2
      have he := he2
      clear hd2 he2
      exact vv_vret X hQ dX1_keep_34 (Nat.le_of_ble_eq_true rfl) (Nat.le_of_ble_eq_true rfl) (⟨rfl, g9, hR9, hPK, hA9, hge0, hsh9, by rw [if_pos e6]; exact hd, by rw [if_pos e6]; exact he⟩)
  · refine vn_ne (tgt := 20) X (by omega) (by omega) dX1_keep_9 (by decide) (fun c_9 => ?_) (fun c_9 => ?_)
    · refine vv_aload_n X dX1_keep_20 rfl 0 rfl ?_
      refine vv_getf (C := RX1) (T := TX1) (N := 8) (ref := "AcousticCamera") X hcm in_X1 CL_X1 5 (by decide) q260 rfl rfl dX1_keep_21 ?_
      refine vv_aload_n X dX1_keep_24 rfl 0 rfl ?_
      refine vv_getf (C := RX1) (T := TX1) (N := 8) (ref := "AcousticCamera") X hcm in_X1 CL_X1 4 (by decide) q259 rfl rfl dX1_keep_25 ?_
      refine vv_callV X (mX3_copy (kL K) D u P T o g S pw hC hV hA ho) q2706 q2707 q2708 q150 q2709 nX3_copy ⟨(Nat.le_of_ble_eq_true rfl), (Nat.le_of_ble_eq_true rfl)⟩ dX1_keep_28 rfl (Nat.le_of_ble_eq_true rfl) (recv X hR.ob CL_X3) ⟨hK, hU, hR⟩ (fun _ z => z.elim) ⟨(Nat.le_of_ble_eq_true rfl), (Nat.le_of_ble_eq_true rfl)⟩ (fun v_ H hq hz_ hk => ?_)
      obtain ⟨g9, rfl, hR9, hA9, hge9, hsh9⟩ := hq
      have hge0 : ∀ k, UK (nM P) k → (kS K).heap.size ≤ g9 k := fun k hk => Nat.le_trans hz (hge9 k hk)
      have n9c : ∀ k, UK (nM P) k → c ≠ g9 k := fun k hk e => by have h9 := hge9 k hk; have h8 := hcm.lt; omega
      have n9b : ∀ k, UK (nM P) k → b ≠ g9 k := fun k hk e => by have h9 := hge9 k hk; have h8 := hd.lt; omega
      have n9a : ∀ k, UK (nM P) k → a ≠ g9 k := fun k hk e => by have h9 := hge9 k hk; have h8 := he.lt; omega
      have g9g : ∀ k k2, UK (nM P) k → UK (nM P) k2 → g9 k ≠ g k2 := fun k k2 hk hk2 e => by have h9 := hge9 k hk; have h8 := hR.ltA k2 hk2; omega
      replace hcm := hcm.kept (hk _ hcm.lt (fun z => z))
      replace hd := hd.kept (hk _ hd.lt (fun z => z))
      replace he := he.kept (hk _ he.lt (fun z => z))
      replace hPK := (show PK D P S pw H from fun p e => (hPK p e).kept (by first | exact hk _ (hPK p e).lt (fun z => z) | (refine hk _ (hPK p e).lt (fun z => ?_); rcases z with z | z; exact (fun (z : p = b) => (hap b (Or.inl rfl)).2.2.2 (z ▸ e)) z; exact (fun (z : p = a) => (hap a (Or.inr (Or.inl rfl))).2.2.2 (z ▸ e)) z) | (refine hc.2 _ ((hpg p e) _ (Or.inl ?_)); decide) | (refine hc.2 _ ((hpg p e) _ (Or.inr ⟨?_, ?_⟩)) <;> omega) | (refine hk _ (hPK p e).lt (fun z => ?_); obtain ⟨k_, h_, e_⟩ := z; exact (hpg p e) k_ h_ e_) | (refine hk _ (hPK p e).lt (fun z => ?_); rcases z with z | z <;> (refine (hpg p e) _ (Or.inl ?_) z; decide)) | (refine hk _ (hPK p e).lt ((hpg p e) _ (Or.inl ?_)); decide) | exact hc.2 _ (fun (z : p = b) => (hap b (Or.inl rfl)).2.2.2 (z ▸ e)) | exact hc.2 _ (fun (z : p = a) => (hap a (Or.inr (Or.inl rfl))).2.2.2 (z ▸ e)) | (refine hk _ (hPK p e).lt (fun z => ?_); exact absurd (hpn p e) (Nat.not_lt.mpr (Nat.le_of_eq z.symm))) | exact hc.2 _ (fun (z : p = c) => (hap c (Or.inr (Or.inr rfl))).2.2.2 (z ▸ e)) | (refine hk _ (hPK p e).lt (fun z => ?_); rcases z with (z | z) | ⟨k_, h_, e_⟩; exact (fun (z : p = b) => (hap b (Or.inl rfl)).2.2.2 (z ▸ e)) z; exact (fun (z : p = a) => (hap a (Or.inr (Or.inl rfl))).2.2.2 (z ▸ e)) z; exact (hpg p e) k_ h_ e_)))
      replace hK := hK.to hk (fun _ z => z.elim)
      replace hU := hU.kept (fun q hl _ => hk q hl (fun z => z))
      replace hR := hR.kept (fun q hl _ => hk q hl (fun z => z)) (fun q hl _ => hk q hl (fun z => z))
      replace hz := Nat.le_trans hz hz_
      clear hk hz_ hge9
      have nw9 : ∀ q, (OA g9 (nM P) q ∨ GB g9 P q) → (∀ k, UK (nM P) k → q ≠ g k) ∧ q ≠ b ∧ q ≠ a := fun q z => by
        rcases z with ⟨k, hk, rfl⟩ | ⟨j, hj, rfl⟩
        · exact ⟨fun k2 hk2 => g9g k k2 hk hk2, fun e => n9b k hk e.symm, fun e => n9a k hk e.symm⟩
        · rw [hsh9 j hj]; exact ⟨fun k2 hk2 e => hA.2.2 k2 j hk2 hj e.symm, fun e => nbs j hj e.symm, fun e => nas j hj e.symm⟩
      have ho9 := hR9.ob
      refine vv_callV X (mJ1_addLast (kL K) D b a h ((h + n) % 17) F (g9 0) (.ref (u 0)) (.ref (g9 1)) (.ref (g9 3)) (.ref (g9 5)) (.ref (g9 6)) (.ref (g9 7)) (.int (S 0)) (va_rf pw) (by omega) (by omega) (by omega) hka) q2784 q2785 q2786 q139 q2787 nJ1_addLast ⟨(Nat.le_of_ble_eq_true rfl), (Nat.le_of_ble_eq_true rfl)⟩ dX1_keep_31 rfl (Nat.le_of_ble_eq_true rfl) (recv X hd CL_J1) ⟨hK, hd, he, ho9⟩ (fun q z => by rcases z with rfl | rfl; exact (Or.inl (Or.inl rfl)); exact (Or.inl (Or.inr rfl))) ⟨(Nat.le_of_ble_eq_true rfl), (Nat.le_of_ble_eq_true rfl)⟩ (fun v_ H hq hz_ hk => ?_)
      obtain ⟨rfl, hd2, he2⟩ := hq
      replace hcm := hcm.kept (hk _ hcm.lt (fun z => z.elim (X.oo hcm hd CL_X1 CL_J1 (by decide)) ((X.oa hcm he CL_X1 rfl))))
      replace hPK := (show PK D P S pw H from fun p e => (hPK p e).kept (by first | exact hk _ (hPK p e).lt (fun z => z) | (refine hk _ (hPK p e).lt (fun z => ?_); rcases z with z | z; exact (fun (z : p = b) => (hap b (Or.inl rfl)).2.2.2 (z ▸ e)) z; exact (fun (z : p = a) => (hap a (Or.inr (Or.inl rfl))).2.2.2 (z ▸ e)) z) | (refine hc.2 _ ((hpg p e) _ (Or.inl ?_)); decide) | (refine hc.2 _ ((hpg p e) _ (Or.inr ⟨?_, ?_⟩)) <;> omega) | (refine hk _ (hPK p e).lt (fun z => ?_); obtain ⟨k_, h_, e_⟩ := z; exact (hpg p e) k_ h_ e_) | (refine hk _ (hPK p e).lt (fun z => ?_); rcases z with z | z <;> (refine (hpg p e) _ (Or.inl ?_) z; decide)) | (refine hk _ (hPK p e).lt ((hpg p e) _ (Or.inl ?_)); decide) | exact hc.2 _ (fun (z : p = b) => (hap b (Or.inl rfl)).2.2.2 (z ▸ e)) | exact hc.2 _ (fun (z : p = a) => (hap a (Or.inr (Or.inl rfl))).2.2.2 (z ▸ e)) | (refine hk _ (hPK p e).lt (fun z => ?_); exact absurd (hpn p e) (Nat.not_lt.mpr (Nat.le_of_eq z.symm))) | exact hc.2 _ (fun (z : p = c) => (hap c (Or.inr (Or.inr rfl))).2.2.2 (z ▸ e)) | (refine hk _ (hPK p e).lt (fun z => ?_); rcases z with (z | z) | ⟨k_, h_, e_⟩; exact (fun (z : p = b) => (hap b (Or.inl rfl)).2.2.2 (z ▸ e)) z; exact (fun (z : p = a) => (hap a (Or.inr (Or.inl rfl))).2.2.2 (z ▸ e)) z; exact (hpg p e) k_ h_ e_)))
      replace ho9 := ho9.kept (hk _ ho9.lt (fun z => z.elim (Ne.symm (n9b 0 (Or.inl (by decide)))) ((Ne.symm (n9a 0 (Or.inl (by decide)))))))
      replace hR9 := (show SR D g9 u P S pw H from hR9.kept (fun q hl hq => (by first | exact hk _ hl (fun z => z) | (refine hk _ hl (fun z => ?_); rcases z with z | z; exact (nw9 q (Or.inl hq)).2.1 z; exact (nw9 q (Or.inl hq)).2.2 z) | (refine hc.2 _ ((nw9 q (Or.inl hq)).1 _ (Or.inl ?_)); decide) | (refine hc.2 _ ((nw9 q (Or.inl hq)).1 _ (Or.inr ⟨?_, ?_⟩)) <;> omega) | (refine hk _ hl (fun z => ?_); obtain ⟨k_, h_, e_⟩ := z; exact (nw9 q (Or.inl hq)).1 k_ h_ e_) | (refine hk _ hl (fun z => ?_); rcases z with z | z <;> (refine (nw9 q (Or.inl hq)).1 _ (Or.inl ?_) z; decide)) | (refine hk _ hl ((nw9 q (Or.inl hq)).1 _ (Or.inl ?_)); decide) | exact hc.2 _ (nw9 q (Or.inl hq)).2.1 | exact hc.2 _ (nw9 q (Or.inl hq)).2.2 | (refine hk _ hl (fun z => ?_); exact absurd (hpn p e) (Nat.not_lt.mpr (Nat.le_of_eq z.symm))) | (refine hk _ hl (fun z => ?_); rcases z with (z | z) | ⟨k_, h_, e_⟩; exact (nw9 q (Or.inl hq)).2.1 z; exact (nw9 q (Or.inl hq)).2.2 z; exact (nw9 q (Or.inl hq)).1 k_ h_ e_))) (fun q hl hq => (by first | exact hk _ hl (fun z => z) | (refine hk _ hl (fun z => ?_); rcases z with z | z; exact (nw9 q (Or.inr hq)).2.1 z; exact (nw9 q (Or.inr hq)).2.2 z) | (refine hc.2 _ ((nw9 q (Or.inr hq)).1 _ (Or.inl ?_)); decide) | (refine hc.2 _ ((nw9 q (Or.inr hq)).1 _ (Or.inr ⟨?_, ?_⟩)) <;> omega) | (refine hk _ hl (fun z => ?_); obtain ⟨k_, h_, e_⟩ := z; exact (nw9 q (Or.inr hq)).1 k_ h_ e_) | (refine hk _ hl (fun z => ?_); rcases z with z | z <;> (refine (nw9 q (Or.inr hq)).1 _ (Or.inl ?_) z; decide)) | (refine hk _ hl ((nw9 q (Or.inr hq)).1 _ (Or.inl ?_)); decide) | exact hc.2 _ (nw9 q (Or.inr hq)).2.1 | exact hc.2 _ (nw9 q (Or.inr hq)).2.2 | (refine hk _ hl (fun z => ?_); exact absurd (hpn p e) (Nat.not_lt.mpr (Nat.le_of_eq z.symm))) | (refine hk _ hl (fun z => ?_); rcases z with (z | z) | ⟨k_, h_, e_⟩; exact (nw9 q (Or.inr hq)).2.1 z; exact (nw9 q (Or.inr hq)).2.2 z; exact (nw9 q (Or.inr hq)).1 k_ h_ e_))))
      replace hU := hU.kept (fun q hl hq => hk q hl (fun z => by obtain ⟨j_, h_, e_⟩ := hq; rcases z with z | z; exact nbu j_ h_ (z.symm.trans e_); exact nau j_ h_ (z.symm.trans e_)))
      replace hR := hR.kept (fun q hl hq => hk q hl (fun z => by obtain ⟨j_, h_, e_⟩ := hq; rcases z with z | z; exact nbg j_ h_ (z.symm.trans e_); exact nag j_ h_ (z.symm.trans e_))) (fun q hl hq => hk q hl (fun z => by obtain ⟨j_, h_, e_⟩ := hq; rcases z with z | z; exact nbs j_ h_ (z.symm.trans e_); exact nas j_ h_ (z.symm.trans e_)))
      replace hK := hK.to hk (fun q z => by rcases z with rfl | rfl; exact (X.ko hK hd CL_J1 (by decide) (by decide)); exact hka)
      replace hz := Nat.le_trans hz hz_
      clear hd he hk hz_
      have hd := hd2
      have he := he2
      clear hd2 he2
      exact vv_vret X hQ dX1_keep_34 (Nat.le_of_ble_eq_true rfl) (Nat.le_of_ble_eq_true rfl) (⟨rfl, g9, hR9, hPK, hA9, hge0, hsh9, by rw [if_neg e6]; exact hd, by rw [if_neg e6]; exact he⟩)
    · exact absurd c_9 (by omega)
