/-! THE PICTURES of the component's objects: lists, the setup UR, sources, a state SR; how they stay: printed by gen/mkpic.py -/
set_option maxRecDepth 100000
/-- an ArrayList at a with its places at e: n elements -/
def AL (D : DD) (H : Heap) (a e n : Nat) (el : Nat → Nat) : Prop := oB D H a 16 [.int (nI n), .ref e, .int (nI n)] ∧ ∃ cap, n ≤ cap ∧ cap ≤ 1000 ∧ qA D H e 9 cap (fun j => if j < n then some (el j) else none)
theorem AL.lt {D : DD} {H : Heap} {a e n : Nat} {el : Nat → Nat} (h : AL D H a e n el) : e < H.size := by
  obtain ⟨-, cap, -, -, h⟩ := h
  exact h.lt
theorem AL.kept {D : DD} {H H1 : Heap} {a e n : Nat} {el : Nat → Nat} (h : AL D H a e n el) (h1 : H1[a]? = H[a]?) (h2 : H1[e]? = H[e]?) : AL D H1 a e n el := by
  obtain ⟨h, cap, i1, i2, h3⟩ := h
  exact ⟨h.kept h1, cap, i1, i2, h3.kept h2⟩
/-- what a wave is: of a sort, with its numbers -/
def wvf (so am pe ph : Nat) (t : Nat) : Int32 :=
  if so = 0 then (if (t + ph) % pe < pe / 2 then nI am else -nI am) else
  if so = 1 then wTri (nI am) (nI pe) ((t + ph) % pe) (pe / 2) else
  if so = 2 then (if (t + ph) % pe = 0 then nI am else nI 0) else
  nI ((31 * t * t + 7919 * t + 104729 * ph) % (2 * am + 1)) - nI am
def wvg (so am pe ph fr : Nat) (t : Nat) : Int32 := if t < fr then nI 0 else wvf so am pe ph t
theorem wvg_P (P : Nat → Int32) (k : Nat) : wvg (sort P k) (amp P k) (per P k) (pha P k) (frm P k) = wav P k := rfl
theorem wvg_p (p : Nat) : wvg 0 100 p 0 0 = wpt p := by
  funext t
  unfold wvg wvf wpt
  rw [if_neg (Nat.not_lt_zero _), if_pos rfl, Nat.add_zero]
  split <;> rfl
/-- a wave object -/
def WV (D : DD) (H : Heap) (w so am pe ph : Nat) : Prop := (so = 0 ∧ LO D H w 0 [.int (nI ph), .int (nI pe), .int (nI am)]) ∨ (so = 1 ∧ LO D H w 1 [.int (nI ph), .int (nI pe), .int (nI am)]) ∨ (so = 2 ∧ LO D H w 2 [.int (nI ph), .int (nI pe), .int (nI am)]) ∨ (so = 3 ∧ LO D H w 3 [.int (nI ph), .int (nI am)])
theorem WV.kept {D : DD} {H H1 : Heap} {w so am pe ph : Nat} (h : WV D H w so am pe ph) (hk : H1[w]? = H[w]?) : WV D H1 w so am pe ph := by
  rcases h with ⟨e, h⟩ | ⟨e, h⟩ | ⟨e, h⟩ | ⟨e, h⟩
  · exact Or.inl ⟨e, h.kept hk⟩
  · exact Or.inr (Or.inl ⟨e, h.kept hk⟩)
  · exact Or.inr (Or.inr (Or.inl ⟨e, h.kept hk⟩))
  · exact Or.inr (Or.inr (Or.inr ⟨e, h.kept hk⟩))
theorem WV.lt {D : DD} {H : Heap} {w so am pe ph : Nat} (h : WV D H w so am pe ph) : w < H.size := by
  rcases h with ⟨-, h⟩ | ⟨-, h⟩ | ⟨-, h⟩ | ⟨-, h⟩ <;> exact h.lt
/-- a source object -/
def SO (D : DD) (H : Heap) (a w so am pe ph fr : Nat) (x y vx vy : Int32) : Prop := oB D H a 7 [.ref w, .int (nI fr), .int x, .int y, .int vx, .int vy] ∧ WV D H w so am pe ph
theorem SO.kept {D : DD} {H H1 : Heap} {a w so am pe ph fr : Nat} {x y vx vy : Int32} (h : SO D H a w so am pe ph fr x y vx vy) (h1 : H1[a]? = H[a]?) (h2 : H1[w]? = H[w]?) : SO D H1 a w so am pe ph fr x y vx vy := ⟨h.1.kept h1, h.2.kept h2⟩
/-- the k-th source of a state -/
abbrev SK (D : DD) (H : Heap) (a w : Nat) (P S : Nat → Int32) (k : Nat) : Prop := SO D H a w (sort P k) (amp P k) (per P k) (pha P k) (frm P k) (S (31 + k)) (S (37 + k)) (S (43 + k)) (S (49 + k))
/-- THE SETUP at u 0: its lists, arrays, delays, microphones, walls, zones, sources; o: the sources that are off; T: where the sources start -/
def UR (D : DD) (u : Nat → Nat) (P T : Nat → Int32) (o : Nat) (H : Heap) : Prop := (oB D H (u 0) 4 [.ref (u 1), .ref (u 2), .ref (u 3), .ref (u 4), .ref (u 5), .ref (u 6), .ref (u 7), .ref (u 8), .int (nI (pD P)), .int (nI (pE P)), .int (nI (nT P)), .int (nI (pL P)), .int (nI (nF P)), .int (P 6), .int (P 7), .int (nI (pC P)), .int (nI (nX P)), .int (nI (nY P)), .ref (u 14)]) ∧ (AL D H (u 1) (u 9) (nM P) (fun m => u (40 + m))) ∧ (AL D H (u 2) (u 10) (nW P) (fun m => u (60 + m))) ∧ (AL D H (u 3) (u 11) (nZ P) (fun m => u (70 + m))) ∧ (AL D H (u 8) (u 13) (nS P) (fun m => u (80 + m))) ∧ (iA D H (u 4) 12 (fun m => nI (ofs P m))) ∧ (iA D H (u 5) (nP P) (fun i => P (78 + i))) ∧ (iA D H (u 6) (nH P) (fun i => nI (shd P i))) ∧ (BS D H (u 7) (u 12) o) ∧ (qA D H (u 14) 5 (nM P) (fun m => some (u (20 + m)))) ∧ (∀ m, m < nM P → iA D H (u (20 + m)) (nC P) (fun c => nI (dc P c m))) ∧ (∀ m, m < nM P → oB D H (u (40 + m)) 6 [.int (P (11 + m)), .int (P (23 + m)), .int (nI (gain P m))]) ∧ (∀ m, m < nW P → oB D H (u (60 + m)) 8 [.int (P (72 + m)), .int (nI (pct P m))]) ∧ (∀ m, m < nZ P → oB D H (u (70 + m)) 9 [.int (nI (zon P (4 * m))), .int (nI (zon P (4 * m + 1))), .int (nI (zon P (4 * m + 2))), .int (nI (zon P (4 * m + 3)))]) ∧ (∀ k, k < nS P → SK D H (u (80 + k)) (u (90 + k)) P T k)
theorem UR.ob {D : DD} {u : Nat → Nat} {P T : Nat → Int32} {o : Nat} {H : Heap} (h : UR D u P T o H) : oB D H (u 0) 4 [.ref (u 1), .ref (u 2), .ref (u 3), .ref (u 4), .ref (u 5), .ref (u 6), .ref (u 7), .ref (u 8), .int (nI (pD P)), .int (nI (pE P)), .int (nI (nT P)), .int (nI (pL P)), .int (nI (nF P)), .int (P 6), .int (P 7), .int (nI (pC P)), .int (nI (nX P)), .int (nI (nY P)), .ref (u 14)] := h.1
theorem UR.lm {D : DD} {u : Nat → Nat} {P T : Nat → Int32} {o : Nat} {H : Heap} (h : UR D u P T o H) : AL D H (u 1) (u 9) (nM P) (fun m => u (40 + m)) := h.2.1
theorem UR.lw {D : DD} {u : Nat → Nat} {P T : Nat → Int32} {o : Nat} {H : Heap} (h : UR D u P T o H) : AL D H (u 2) (u 10) (nW P) (fun m => u (60 + m)) := h.2.2.1
theorem UR.lz {D : DD} {u : Nat → Nat} {P T : Nat → Int32} {o : Nat} {H : Heap} (h : UR D u P T o H) : AL D H (u 3) (u 11) (nZ P) (fun m => u (70 + m)) := h.2.2.2.1
theorem UR.ls {D : DD} {u : Nat → Nat} {P T : Nat → Int32} {o : Nat} {H : Heap} (h : UR D u P T o H) : AL D H (u 8) (u 13) (nS P) (fun m => u (80 + m)) := h.2.2.2.2.1
theorem UR.ofs {D : DD} {u : Nat → Nat} {P T : Nat → Int32} {o : Nat} {H : Heap} (h : UR D u P T o H) : iA D H (u 4) 12 (fun m => nI (ofs P m)) := h.2.2.2.2.2.1
theorem UR.fil {D : DD} {u : Nat → Nat} {P T : Nat → Int32} {o : Nat} {H : Heap} (h : UR D u P T o H) : iA D H (u 5) (nP P) (fun i => P (78 + i)) := h.2.2.2.2.2.2.1
theorem UR.sha {D : DD} {u : Nat → Nat} {P T : Nat → Int32} {o : Nat} {H : Heap} (h : UR D u P T o H) : iA D H (u 6) (nH P) (fun i => nI (shd P i)) := h.2.2.2.2.2.2.2.1
theorem UR.off {D : DD} {u : Nat → Nat} {P T : Nat → Int32} {o : Nat} {H : Heap} (h : UR D u P T o H) : BS D H (u 7) (u 12) o := h.2.2.2.2.2.2.2.2.1
theorem UR.de {D : DD} {u : Nat → Nat} {P T : Nat → Int32} {o : Nat} {H : Heap} (h : UR D u P T o H) : qA D H (u 14) 5 (nM P) (fun m => some (u (20 + m))) := h.2.2.2.2.2.2.2.2.2.1
theorem UR.row {D : DD} {u : Nat → Nat} {P T : Nat → Int32} {o : Nat} {H : Heap} (h : UR D u P T o H) : ∀ m, m < nM P → iA D H (u (20 + m)) (nC P) (fun c => nI (dc P c m)) := h.2.2.2.2.2.2.2.2.2.2.1
theorem UR.mic {D : DD} {u : Nat → Nat} {P T : Nat → Int32} {o : Nat} {H : Heap} (h : UR D u P T o H) : ∀ m, m < nM P → oB D H (u (40 + m)) 6 [.int (P (11 + m)), .int (P (23 + m)), .int (nI (gain P m))] := h.2.2.2.2.2.2.2.2.2.2.2.1
theorem UR.wal {D : DD} {u : Nat → Nat} {P T : Nat → Int32} {o : Nat} {H : Heap} (h : UR D u P T o H) : ∀ m, m < nW P → oB D H (u (60 + m)) 8 [.int (P (72 + m)), .int (nI (pct P m))] := h.2.2.2.2.2.2.2.2.2.2.2.2.1
theorem UR.zo {D : DD} {u : Nat → Nat} {P T : Nat → Int32} {o : Nat} {H : Heap} (h : UR D u P T o H) : ∀ m, m < nZ P → oB D H (u (70 + m)) 9 [.int (nI (zon P (4 * m))), .int (nI (zon P (4 * m + 1))), .int (nI (zon P (4 * m + 2))), .int (nI (zon P (4 * m + 3)))] := h.2.2.2.2.2.2.2.2.2.2.2.2.2.1
theorem UR.src {D : DD} {u : Nat → Nat} {P T : Nat → Int32} {o : Nat} {H : Heap} (h : UR D u P T o H) : ∀ k, k < nS P → SK D H (u (80 + k)) (u (90 + k)) P T k := h.2.2.2.2.2.2.2.2.2.2.2.2.2.2
/-- the setup's keys in use -/
def VK (P : Nat → Int32) (j : Nat) : Prop := j < 15 ∨ (20 ≤ j ∧ j < 20 + nM P) ∨ (40 ≤ j ∧ j < 40 + nM P) ∨ (60 ≤ j ∧ j < 60 + nW P) ∨ (70 ≤ j ∧ j < 70 + nZ P) ∨ (80 ≤ j ∧ j < 80 + nS P) ∨ (90 ≤ j ∧ j < 90 + nS P)
def UB (u : Nat → Nat) (P : Nat → Int32) : Nat → Prop := fun q => ∃ j, VK P j ∧ q = u j
theorem UR.kept {D : DD} {u : Nat → Nat} {P T : Nat → Int32} {o : Nat} {H H1 : Heap} (h : UR D u P T o H) (hk : ∀ q : Nat, q < H.size → UB u P q → H1[q]? = H[q]?) : UR D u P T o H1 := by
  have w : ∀ j, VK P j → u j < H.size → H1[u j]? = H[u j]? := fun j hv hj => hk _ hj ⟨j, hv, rfl⟩
  exact ⟨h.ob.kept (w 0 (Or.inl (by decide)) h.ob.lt), h.lm.kept (w 1 (Or.inl (by decide)) h.lm.1.lt) (w 9 (Or.inl (by decide)) h.lm.lt), h.lw.kept (w 2 (Or.inl (by decide)) h.lw.1.lt) (w 10 (Or.inl (by decide)) h.lw.lt), h.lz.kept (w 3 (Or.inl (by decide)) h.lz.1.lt) (w 11 (Or.inl (by decide)) h.lz.lt), h.ls.kept (w 8 (Or.inl (by decide)) h.ls.1.lt) (w 13 (Or.inl (by decide)) h.ls.lt), h.ofs.kept (w 4 (Or.inl (by decide)) h.ofs.lt), h.fil.kept (w 5 (Or.inl (by decide)) h.fil.lt), h.sha.kept (w 6 (Or.inl (by decide)) h.sha.lt), h.off.kept (w 7 (Or.inl (by decide)) h.off.1.lt) (w 12 (Or.inl (by decide)) h.off.2.lt), h.de.kept (w 14 (Or.inl (by decide)) h.de.lt), fun m hm => (h.row m hm).kept (w _ (by unfold VK; omega) (h.row m hm).lt), fun m hm => (h.mic m hm).kept (w _ (by unfold VK; omega) (h.mic m hm).lt), fun m hm => (h.wal m hm).kept (w _ (by unfold VK; omega) (h.wal m hm).lt), fun m hm => (h.zo m hm).kept (w _ (by unfold VK; omega) (h.zo m hm).lt), fun k hk' => (h.src k hk').kept (w _ (by unfold VK; omega) (h.src k hk').1.lt) (w _ (by unfold VK; omega) (h.src k hk').2.lt)⟩
theorem UR.ltB {D : DD} {u : Nat → Nat} {P T : Nat → Int32} {o : Nat} {H : Heap} (h : UR D u P T o H) : ∀ j, VK P j → u j < H.size := by
  intro j hj
  rcases (show j = 0 ∨ j = 1 ∨ j = 2 ∨ j = 3 ∨ j = 4 ∨ j = 5 ∨ j = 6 ∨ j = 7 ∨ j = 8 ∨ j = 9 ∨ j = 10 ∨ j = 11 ∨ j = 12 ∨ j = 13 ∨ j = 14 ∨ 15 ≤ j by omega) with e | e | e | e | e | e | e | e | e | e | e | e | e | e | e | e
  · subst e; exact h.ob.lt
  · subst e; exact h.lm.1.lt
  · subst e; exact h.lw.1.lt
  · subst e; exact h.lz.1.lt
  · subst e; exact h.ofs.lt
  · subst e; exact h.fil.lt
  · subst e; exact h.sha.lt
  · subst e; exact h.off.1.lt
  · subst e; exact h.ls.1.lt
  · subst e; exact h.lm.lt
  · subst e; exact h.lw.lt
  · subst e; exact h.lz.lt
  · subst e; exact h.off.2.lt
  · subst e; exact h.ls.lt
  · subst e; exact h.de.lt
  · rcases hj with q | ⟨q, r⟩ | ⟨q, r⟩ | ⟨q, r⟩ | ⟨q, r⟩ | ⟨q, r⟩ | ⟨q, r⟩
    · omega
    · obtain ⟨m, rfl⟩ : ∃ m, j = 20 + m := ⟨j - 20, by omega⟩
      exact (h.row m (by omega)).lt
    · obtain ⟨m, rfl⟩ : ∃ m, j = 40 + m := ⟨j - 40, by omega⟩
      exact (h.mic m (by omega)).lt
    · obtain ⟨m, rfl⟩ : ∃ m, j = 60 + m := ⟨j - 60, by omega⟩
      exact (h.wal m (by omega)).lt
    · obtain ⟨m, rfl⟩ : ∃ m, j = 70 + m := ⟨j - 70, by omega⟩
      exact (h.zo m (by omega)).lt
    · obtain ⟨m, rfl⟩ : ∃ m, j = 80 + m := ⟨j - 80, by omega⟩
      exact (h.src m (by omega)).1.lt
    · obtain ⟨m, rfl⟩ : ∃ m, j = 90 + m := ⟨j - 90, by omega⟩
      exact (h.src m (by omega)).2.lt
/-- the numbers i < n with p, as a word -/
def msk (p : Nat → Bool) (n : Nat) : Nat := fo (fun i a => if p i then a ||| 2 ^ i else a) n 0
theorem msk_s (p : Nat → Bool) (n : Nat) : msk p (n + 1) = if p n then msk p n ||| 2 ^ n else msk p n := rfl
theorem msk_bit (p : Nat → Bool) (j : Nat) : ∀ n, (msk p n).testBit j = (decide (j < n) && p j) := by
  intro n
  induction n with
  | zero => simp [msk, fo]
  | succ n ih =>
    rw [msk_s]
    by_cases hp : p n = true
    · rw [if_pos hp, Nat.testBit_or, ih, Nat.testBit_two_pow]
      by_cases e : n = j
      · subst e; simp [hp]
      · by_cases l : j < n
        · simp [e, l, Nat.lt_succ_of_lt l]
        · simp [e, l, show ¬ j < n + 1 by omega]
    · rw [if_neg hp, ih]
      by_cases e : n = j
      · subst e; simp [hp]
      · by_cases l : j < n
        · simp [l, Nat.lt_succ_of_lt l]
        · simp [l, show ¬ j < n + 1 by omega]
theorem msk_lt (p : Nat → Bool) {n N : Nat} (h : n ≤ N) : msk p n < 2 ^ N := by
  refine Nat.lt_pow_two_of_testBit _ (fun i hi => ?_)
  rw [msk_bit]
  simp [show ¬ i < n by omega]
theorem msk_eq {p : Nat → Bool} {n v : Nat} (h : ∀ j, v.testBit j = (decide (j < n) && p j)) : v = msk p n := Nat.eq_of_testBit_eq (fun j => by rw [h, msk_bit])
def mum (P S : Nat → Int32) : Nat := msk (fun m => decide (S (1 + m) ≠ 0)) (nM P)
def onm (P S : Nat → Int32) : Nat := msk (fun k => decide (S (25 + k) ≠ 0)) (nS P)
/-- A STATE at g 0; pw: where its powers lie, if they are there -/
def SR (D : DD) (g u : Nat → Nat) (P S : Nat → Int32) (pw : Option Nat) (H : Heap) : Prop := (oB D H (g 0) 2 [.ref (u 0), .ref (g 1), .ref (g 3), .ref (g 5), .ref (g 6), .ref (g 7), .int (S 0), va_rf pw]) ∧ (BS D H (g 1) (g 2) (mum P S)) ∧ (BS D H (g 3) (g 4) (onm P S)) ∧ (qA D H (g 5) 8 (nS P) (fun k => some (g (30 + k)))) ∧ (iA D H (g 6) (nM P) (fun m => nI (wgt S m))) ∧ (qA D H (g 7) 5 (nM P) (fun m => some (g (10 + m)))) ∧ (∀ m, m < nM P → iA D H (g (10 + m)) (nT P) (fun t => S (55 + 200 * m + t))) ∧ (∀ k, k < nS P → SK D H (g (30 + k)) (g (40 + k)) P S k)
theorem SR.ob {D : DD} {g u : Nat → Nat} {P S : Nat → Int32} {pw : Option Nat} {H : Heap} (h : SR D g u P S pw H) : oB D H (g 0) 2 [.ref (u 0), .ref (g 1), .ref (g 3), .ref (g 5), .ref (g 6), .ref (g 7), .int (S 0), va_rf pw] := h.1
theorem SR.mu {D : DD} {g u : Nat → Nat} {P S : Nat → Int32} {pw : Option Nat} {H : Heap} (h : SR D g u P S pw H) : BS D H (g 1) (g 2) (mum P S) := h.2.1
theorem SR.on {D : DD} {g u : Nat → Nat} {P S : Nat → Int32} {pw : Option Nat} {H : Heap} (h : SR D g u P S pw H) : BS D H (g 3) (g 4) (onm P S) := h.2.2.1
theorem SR.sa {D : DD} {g u : Nat → Nat} {P S : Nat → Int32} {pw : Option Nat} {H : Heap} (h : SR D g u P S pw H) : qA D H (g 5) 8 (nS P) (fun k => some (g (30 + k))) := h.2.2.2.1
theorem SR.wt {D : DD} {g u : Nat → Nat} {P S : Nat → Int32} {pw : Option Nat} {H : Heap} (h : SR D g u P S pw H) : iA D H (g 6) (nM P) (fun m => nI (wgt S m)) := h.2.2.2.2.1
theorem SR.ra {D : DD} {g u : Nat → Nat} {P S : Nat → Int32} {pw : Option Nat} {H : Heap} (h : SR D g u P S pw H) : qA D H (g 7) 5 (nM P) (fun m => some (g (10 + m))) := h.2.2.2.2.2.1
theorem SR.row {D : DD} {g u : Nat → Nat} {P S : Nat → Int32} {pw : Option Nat} {H : Heap} (h : SR D g u P S pw H) : ∀ m, m < nM P → iA D H (g (10 + m)) (nT P) (fun t => S (55 + 200 * m + t)) := h.2.2.2.2.2.2.1
theorem SR.src {D : DD} {g u : Nat → Nat} {P S : Nat → Int32} {pw : Option Nat} {H : Heap} (h : SR D g u P S pw H) : ∀ k, k < nS P → SK D H (g (30 + k)) (g (40 + k)) P S k := h.2.2.2.2.2.2.2
/-- its powers -/
def PK (D : DD) (P S : Nat → Int32) (pw : Option Nat) (H : Heap) : Prop := ∀ p, pw = some p → lA D H p (nC P) (fun c => pwc P S c)

/-- the keys in use -/
def UK (n i : Nat) : Prop := i < 8 ∨ (10 ≤ i ∧ i < 10 + n)
def OA (g : Nat → Nat) (n : Nat) : Nat → Prop := fun q => ∃ i, UK n i ∧ q = g i
def SJ (P : Nat → Int32) (j : Nat) : Prop := (30 ≤ j ∧ j < 30 + nS P) ∨ (40 ≤ j ∧ j < 40 + nS P)
def GB (g : Nat → Nat) (P : Nat → Int32) : Nat → Prop := fun q => ∃ j, SJ P j ∧ q = g j
theorem SR.kept {D : DD} {g u : Nat → Nat} {P S : Nat → Int32} {pw : Option Nat} {H H1 : Heap} (h : SR D g u P S pw H) (hk : ∀ q : Nat, q < H.size → OA g (nM P) q → H1[q]? = H[q]?) (hs : ∀ q : Nat, q < H.size → GB g P q → H1[q]? = H[q]?) : SR D g u P S pw H1 := by
  have w : ∀ j, UK (nM P) j → g j < H.size → H1[g j]? = H[g j]? := fun j h1 h2 => hk _ h2 ⟨j, h1, rfl⟩
  have v : ∀ j, SJ P j → g j < H.size → H1[g j]? = H[g j]? := fun j h1 h2 => hs _ h2 ⟨j, h1, rfl⟩
  exact ⟨h.ob.kept (w 0 (Or.inl (by decide)) h.ob.lt), h.mu.kept (w 1 (Or.inl (by decide)) h.mu.1.lt) (w 2 (Or.inl (by decide)) h.mu.2.lt), h.on.kept (w 3 (Or.inl (by decide)) h.on.1.lt) (w 4 (Or.inl (by decide)) h.on.2.lt), h.sa.kept (w 5 (Or.inl (by decide)) h.sa.lt), h.wt.kept (w 6 (Or.inl (by decide)) h.wt.lt), h.ra.kept (w 7 (Or.inl (by decide)) h.ra.lt), fun m hm => (h.row m hm).kept (w _ (Or.inr ⟨by omega, by omega⟩) (h.row m hm).lt), fun k hk' => (h.src k hk').kept (v _ (Or.inl ⟨by omega, by omega⟩) (h.src k hk').1.lt) (v _ (Or.inr ⟨by omega, by omega⟩) (h.src k hk').2.lt)⟩
theorem SR.ltS {D : DD} {g u : Nat → Nat} {P S : Nat → Int32} {pw : Option Nat} {H : Heap} (h : SR D g u P S pw H) : ∀ j, SJ P j → g j < H.size := by
  intro j hj
  rcases hj with ⟨q, r⟩ | ⟨q, r⟩
  · obtain ⟨m, rfl⟩ : ∃ m, j = 30 + m := ⟨j - 30, by omega⟩
    exact (h.src m (by omega)).1.lt
  · obtain ⟨m, rfl⟩ : ∃ m, j = 40 + m := ⟨j - 40, by omega⟩
    exact (h.src m (by omega)).2.lt
