/-! A STATE'S CELLS CHANGE: its own cells are apart (AP); how its picture goes on -/
set_option maxRecDepth 100000
/-- own cells are apart from each other, from the setup's, from what is shared -/
def AP (g u : Nat → Nat) (P : Nat → Int32) : Prop := (∀ i j, UK (nM P) i → UK (nM P) j → g i = g j → i = j) ∧ (∀ i j, UK (nM P) i → VK P j → g i ≠ u j) ∧ (∀ i j, UK (nM P) i → SJ P j → g i ≠ g j)
theorem msk_cg {p q : Nat → Bool} : ∀ n, (∀ i, i < n → p i = q i) → msk p n = msk q n := by
  intro n
  induction n with
  | zero => intro _; rfl
  | succ n ih =>
    intro h
    rw [msk_s, msk_s, ih (fun i hi => h i (by omega)), h n (by omega)]
theorem mum_cg {P S S' : Nat → Int32} (hn : nM P ≤ 12) (h : ∀ i, i < 55 → S' i = S i) : mum P S' = mum P S := msk_cg _ (fun i hi => by rw [h (1 + i) (by omega)])
theorem onm_cg {P S S' : Nat → Int32} (hn : nS P ≤ 6) (h : ∀ i, i < 55 → S' i = S i) : onm P S' = onm P S := msk_cg _ (fun i hi => by rw [h (25 + i) (by omega)])
section SET
variable {D : DD} {g u : Nat → Nat} {P S S' T : Nat → Int32} {o : Nat} {pw pw' : Option Nat} {H H1 : Heap}
/-- another state array that agrees -/
theorem SR.cg (h : SR D g u P S pw H) (hn : nM P ≤ 12) (hs : nS P ≤ 6) (e : ∀ i, i < 55 → S' i = S i) (er : ∀ m, m < nM P → ∀ t, t < nT P → S' (55 + 200 * m + t) = S (55 + 200 * m + t)) : SR D g u P S' pw H := by
  refine ⟨by rw [e 0 (by omega)]; exact h.ob, by rw [mum_cg hn e]; exact h.mu, by rw [onm_cg hs e]; exact h.on, h.sa, iA_cg h.wt (fun m hm => by unfold wgt; rw [e (13 + m) (by omega)]), h.ra, fun m hm => iA_cg (h.row m hm) (fun t ht => (er m hm t ht).symm), fun k hk => ?_⟩
  have := h.src k hk
  unfold SK at this ⊢
  rw [e (31 + k) (by omega), e (37 + k) (by omega), e (43 + k) (by omega), e (49 + k) (by omega)]
  exact this
/-- what stays where only the keys Q are written -/
theorem SR.chg (h : SR D g u P S pw H) (hA : AP g u P) (hn : nM P ≤ 12) {Q : Nat → Prop} (hQ : ∀ k, Q k → UK (nM P) k) (hk : ∀ q : Nat, q < H.size → (∀ k, Q k → q ≠ g k) → H1[q]? = H[q]?) :
    (¬ Q 0 → oB D H1 (g 0) 2 [.ref (u 0), .ref (g 1), .ref (g 3), .ref (g 5), .ref (g 6), .ref (g 7), .int (S 0), va_rf pw]) ∧ (¬ Q 1 → ¬ Q 2 → BS D H1 (g 1) (g 2) (mum P S)) ∧ (¬ Q 3 → ¬ Q 4 → BS D H1 (g 3) (g 4) (onm P S)) ∧ (¬ Q 5 → qA D H1 (g 5) 8 (nS P) (fun k => some (g (30 + k)))) ∧ (¬ Q 6 → iA D H1 (g 6) (nM P) (fun m => nI (wgt S m))) ∧ (¬ Q 7 → qA D H1 (g 7) 5 (nM P) (fun m => some (g (10 + m)))) ∧ (∀ m, m < nM P → ¬ Q (10 + m) → iA D H1 (g (10 + m)) (nT P) (fun t => S (55 + 200 * m + t))) ∧ (∀ k, k < nS P → SK D H1 (g (30 + k)) (g (40 + k)) P S k) := by
  have w : ∀ j, UK (nM P) j → ¬ Q j → g j < H.size → H1[g j]? = H[g j]? := fun j hj hnq hl => hk _ hl (fun k hkQ e => hnq (by rw [hA.1 j k hj (hQ k hkQ) e]; exact hkQ))
  have v : ∀ j, SJ P j → g j < H.size → H1[g j]? = H[g j]? := fun j hj hl => hk _ hl (fun k hkQ e => hA.2.2 k j (hQ k hkQ) hj e.symm)
  have U : ∀ j, j < 8 → UK (nM P) j := fun j hj => Or.inl hj
  refine ⟨fun q => h.ob.kept (w 0 (U 0 (by decide)) q h.ob.lt), fun q1 q2 => h.mu.kept (w 1 (U 1 (by decide)) q1 h.mu.1.lt) (w 2 (U 2 (by decide)) q2 h.mu.2.lt), fun q1 q2 => h.on.kept (w 3 (U 3 (by decide)) q1 h.on.1.lt) (w 4 (U 4 (by decide)) q2 h.on.2.lt), fun q => h.sa.kept (w 5 (U 5 (by decide)) q h.sa.lt), fun q => h.wt.kept (w 6 (U 6 (by decide)) q h.wt.lt), fun q => h.ra.kept (w 7 (U 7 (by decide)) q h.ra.lt), fun m hm q => (h.row m hm).kept (w _ (Or.inr ⟨by omega, by omega⟩) q (h.row m hm).lt), fun k hk' => (h.src k hk').kept (v _ (Or.inl ⟨by omega, by omega⟩) (h.src k hk').1.lt) (v _ (Or.inr ⟨by omega, by omega⟩) (h.src k hk').2.lt)⟩
theorem Ch.own {k : Nat} (hc : Ch (g k) H H1) : ∀ q : Nat, q < H.size → (∀ j, j = k → q ≠ g j) → H1[q]? = H[q]? := fun q _ h => hc.2 q (h k rfl)
theorem UR.own (h : UR D u P T o H) (hA : AP g u P) (hn : nM P ≤ 12) {Q : Nat → Prop} (hQ : ∀ k, Q k → UK (nM P) k) (hk : ∀ q : Nat, q < H.size → (∀ k, Q k → q ≠ g k) → H1[q]? = H[q]?) : UR D u P T o H1 := h.kept (fun q hl hq => hk q hl (fun k hkQ e => by
  obtain ⟨j, hj, rfl⟩ := hq
  exact hA.2.1 k j (hQ k hkQ) hj e.symm))
/-- the object's own fields -/
theorem SR.put0 (h : SR D g u P S pw H) (hA : AP g u P) (hn : nM P ≤ 12) (hs : nS P ≤ 6) {x : Int32} (hc : Ch (g 0) H H1) (ho : oB D H1 (g 0) 2 [.ref (u 0), .ref (g 1), .ref (g 3), .ref (g 5), .ref (g 6), .ref (g 7), .int x, va_rf pw']) : SR D g u P (va_up S 0 x) pw' H1 := by
  obtain ⟨-, a1, a3, a5, a6, a7, ar, as⟩ := h.chg hA hn (Q := (· = 0)) (fun k hk => by subst hk; exact Or.inl (by decide)) hc.own
  have e : ∀ i, 0 < i → va_up S 0 x i = S i := fun i hi => va_up_ne _ _ (by omega)
  refine ⟨by rw [va_up_self]; exact ho, ?_, ?_, a5 (by decide), iA_cg (a6 (by decide)) (fun m hm => by unfold wgt; rw [e _ (by omega)]), a7 (by decide), fun m hm => iA_cg (ar m hm (by omega)) (fun t ht => by rw [e _ (by omega)]), fun k hk => ?_⟩
  · have : mum P (va_up S 0 x) = mum P S := msk_cg _ (fun i hi => by rw [e _ (by omega)])
    rw [this]; exact a1 (by decide) (by decide)
  · have : onm P (va_up S 0 x) = onm P S := msk_cg _ (fun i hi => by rw [e _ (by omega)])
    rw [this]; exact a3 (by decide) (by decide)
  · have := as k hk
    unfold SK at this ⊢
    rw [e _ (by omega), e _ (by omega), e _ (by omega), e _ (by omega)]
    exact this
/-- one sample -/
theorem SR.putR (h : SR D g u P S pw H) (hA : AP g u P) (hn : nM P ≤ 12) (hs : nS P ≤ 6) (hT : nT P ≤ 200) {m t : Nat} (hm : m < nM P) (ht : t < nT P) {x : Int32} (hc : Ch (g (10 + m)) H H1) (ho : iA D H1 (g (10 + m)) (nT P) (va_up (fun t => S (55 + 200 * m + t)) t x)) : SR D g u P (va_up S (55 + 200 * m + t) x) pw H1 := by
  obtain ⟨a0, a1, a3, a5, a6, a7, ar, as⟩ := h.chg hA hn (Q := (· = 10 + m)) (fun k hk => by subst hk; exact Or.inr ⟨by omega, by omega⟩) hc.own
  have e : ∀ i, i < 55 → va_up S (55 + 200 * m + t) x i = S i := fun i hi => va_up_ne _ _ (by omega)
  refine ⟨by rw [e 0 (by omega)]; exact a0 (by omega), by rw [mum_cg hn e]; exact a1 (by omega) (by omega), by rw [onm_cg hs e]; exact a3 (by omega) (by omega), a5 (by omega), iA_cg (a6 (by omega)) (fun m hm => by unfold wgt; rw [e _ (by omega)]), a7 (by omega), fun j hj => ?_, fun k hk => ?_⟩
  · by_cases q : j = m
    · subst q
      refine iA_cg ho (fun z hz => ?_)
      by_cases r : z = t
      · subst r; rw [va_up_self, va_up_self]
      · rw [va_up_ne _ _ r, va_up_ne _ _ (by omega)]
    · exact iA_cg (ar j hj (by omega)) (fun z hz => (va_up_ne _ _ (by omega)).symm)
  · have := as k hk
    unfold SK at this ⊢
    rw [e _ (by omega), e _ (by omega), e _ (by omega), e _ (by omega)]
    exact this
/-- one weight -/
theorem SR.putW (h : SR D g u P S pw H) (hA : AP g u P) (hn : nM P ≤ 12) (hs : nS P ≤ 6) {m x : Nat} (hm : m < nM P) (hx : x < 2 ^ 31) (hc : Ch (g 6) H H1) (ho : iA D H1 (g 6) (nM P) (va_up (fun m => nI (wgt S m)) m (nI x))) : SR D g u P (va_up S (13 + m) (nI x)) pw H1 := by
  obtain ⟨a0, a1, a3, a5, a6, a7, ar, as⟩ := h.chg hA hn (Q := (· = 6)) (fun k hk => by subst hk; exact Or.inl (by decide)) hc.own
  have e : ∀ i, i ≠ 13 + m → va_up S (13 + m) (nI x) i = S i := fun i hi => va_up_ne _ _ hi
  refine ⟨by rw [e 0 (by omega)]; exact a0 (by omega), ?_, ?_, a5 (by omega), iA_cg ho (fun j hj => ?_), a7 (by omega), fun j hj => iA_cg (ar j hj (by omega)) (fun z hz => (e _ (by omega)).symm), fun k hk => ?_⟩
  · have : mum P (va_up S (13 + m) (nI x)) = mum P S := msk_cg _ (fun i hi => by rw [e _ (by omega)])
    rw [this]; exact a1 (by omega) (by omega)
  · have : onm P (va_up S (13 + m) (nI x)) = onm P S := msk_cg _ (fun i hi => by rw [e _ (by omega)])
    rw [this]; exact a3 (by omega) (by omega)
  · unfold wgt
    by_cases q : j = m
    · subst q
      rw [va_up_self, va_up_self, nI_clamp hx]
    · rw [va_up_ne _ _ q, e _ (by omega)]
  · have := as k hk
    unfold SK at this ⊢
    rw [e _ (by omega), e _ (by omega), e _ (by omega), e _ (by omega)]
    exact this
/-- its sets -/
theorem SR.putM (h : SR D g u P S pw H) (hA : AP g u P) (hn : nM P ≤ 12) (hk : ∀ q : Nat, q < H.size → ¬ (q = g 1 ∨ q = g 2) → H1[q]? = H[q]?) (e : ∀ i, (i < 1 ∨ 13 ≤ i) → S' i = S i) (hb : BS D H1 (g 1) (g 2) (mum P S')) : SR D g u P S' pw H1 := by
  obtain ⟨a0, a1, a3, a5, a6, a7, ar, as⟩ := h.chg hA hn (Q := fun k => k = 1 ∨ k = 2) (fun k hk => by rcases hk with rfl | rfl <;> exact Or.inl (by decide)) (fun q hl hq => hk q hl (fun z => z.elim (hq 1 (Or.inl rfl)) (hq 2 (Or.inr rfl))))
  refine ⟨by rw [e 0 (by omega)]; exact a0 (by omega), hb, ?_, a5 (by omega), iA_cg (a6 (by omega)) (fun j hj => by unfold wgt; rw [e _ (by omega)]), a7 (by omega), fun j hj => iA_cg (ar j hj (by omega)) (fun z hz => (e _ (by omega)).symm), fun k hk => ?_⟩
  · have : onm P S' = onm P S := msk_cg _ (fun i hi => by rw [e _ (by omega)])
    rw [this]; exact a3 (by omega) (by omega)
  · have := as k hk
    unfold SK at this ⊢
    rw [e _ (by omega), e _ (by omega), e _ (by omega), e _ (by omega)]
    exact this
theorem SR.putO (h : SR D g u P S pw H) (hA : AP g u P) (hn : nM P ≤ 12) (hs : nS P ≤ 6) (hk : ∀ q : Nat, q < H.size → ¬ (q = g 3 ∨ q = g 4) → H1[q]? = H[q]?) (e : ∀ i, (i < 25 ∨ 31 ≤ i) → S' i = S i) (hb : BS D H1 (g 3) (g 4) (onm P S')) : SR D g u P S' pw H1 := by
  obtain ⟨a0, a1, a3, a5, a6, a7, ar, as⟩ := h.chg hA hn (Q := fun k => k = 3 ∨ k = 4) (fun k hk => by rcases hk with rfl | rfl <;> exact Or.inl (by decide)) (fun q hl hq => hk q hl (fun z => z.elim (hq 3 (Or.inl rfl)) (hq 4 (Or.inr rfl))))
  refine ⟨by rw [e 0 (by omega)]; exact a0 (by omega), ?_, hb, a5 (by omega), iA_cg (a6 (by omega)) (fun j hj => by unfold wgt; rw [e _ (by omega)]), a7 (by omega), fun j hj => iA_cg (ar j hj (by omega)) (fun z hz => (e _ (by omega)).symm), fun k hk => ?_⟩
  · have : mum P S' = mum P S := msk_cg _ (fun i hi => by rw [e _ (by omega)])
    rw [this]; exact a1 (by omega) (by omega)
  · have := as k hk
    unfold SK at this ⊢
    rw [e _ (by omega), e _ (by omega), e _ (by omega), e _ (by omega)]
    exact this
/-- its own cells are no constants -/
theorem SR.kn {K : C_} {y : MethodName} {cc : ByteArray} {nL : Nat} {ret : Option FieldType} {rm : Room} (X : Fx K y cc nL ret rm D) (hK : KH D H) (h : SR D g u P S pw H) : ∀ k, UK (nM P) k → KN D (g k) := by
  intro k hk
  rcases (show k = 0 ∨ k = 1 ∨ k = 2 ∨ k = 3 ∨ k = 4 ∨ k = 5 ∨ k = 6 ∨ k = 7 ∨ (10 ≤ k ∧ k < 10 + nM P) by rcases hk with q | q <;> omega) with e | e | e | e | e | e | e | e | ⟨e, e'⟩
  · subst e; exact X.ko hK h.ob CL_X3 (by decide) (by decide)
  · subst e; exact X.ko hK h.mu.1 CL_J21 (by decide) (by decide)
  · subst e; exact X.ka hK h.mu.2 rfl (by decide +kernel) (by decide +kernel) (by decide +kernel)
  · subst e; exact X.ko hK h.on.1 CL_J21 (by decide) (by decide)
  · subst e; exact X.ka hK h.on.2 rfl (by decide +kernel) (by decide +kernel) (by decide +kernel)
  · subst e; exact X.ka hK h.sa rfl (by decide +kernel) (by decide +kernel) (by decide +kernel)
  · subst e; exact X.ka hK h.wt rfl (by decide +kernel) (by decide +kernel) (by decide +kernel)
  · subst e; exact X.ka hK h.ra rfl (by decide +kernel) (by decide +kernel) (by decide +kernel)
  · obtain ⟨m, rfl⟩ : ∃ m, k = 10 + m := ⟨k - 10, by omega⟩
    exact X.ka hK (h.row m (by omega)) rfl (by decide +kernel) (by decide +kernel) (by decide +kernel)
theorem SR.knA {K : C_} {y : MethodName} {cc : ByteArray} {nL : Nat} {ret : Option FieldType} {rm : Room} (X : Fx K y cc nL ret rm D) (hK : KH D H) (h : SR D g u P S pw H) : ∀ q, OA g (nM P) q → KN D q := fun q hq => by
  obtain ⟨k, hk, rfl⟩ := hq
  exact h.kn X hK k hk
theorem UR.to (h : UR D u P T o H) (hA : AP g u P) (hk : ∀ q : Nat, q < H.size → ¬ OA g (nM P) q → H1[q]? = H[q]?) : UR D u P T o H1 := h.kept (fun q hl hq => hk q hl (fun z => by
  obtain ⟨j, hj, rfl⟩ := hq
  obtain ⟨i, hi, e⟩ := z
  exact hA.2.1 i j hi hj e.symm))
theorem OA.of {n k : Nat} (hk : UK n k) : OA g n (g k) := ⟨k, hk, rfl⟩
theorem SR.putP (h : SR D g u P S pw H) (hA : AP g u P) (hn : nM P ≤ 12) (hs : nS P ≤ 6) (hc : Ch (g 0) H H1) (ho : oB D H1 (g 0) 2 [.ref (u 0), .ref (g 1), .ref (g 3), .ref (g 5), .ref (g 6), .ref (g 7), .int (S 0), va_rf pw']) : SR D g u P S pw' H1 := by
  have h2 := h.put0 hA hn hs hc ho
  have e : va_up S 0 (S 0) = S := by
    funext i
    by_cases q : i = 0
    · subst q; exact va_up_self _ _ _
    · exact va_up_ne _ _ q
  rwa [e] at h2
end SET
