/-! the mathematics of what the model's methods write -/
set_option maxRecDepth 100000
/-- the first n places hold g -/
def rz {α : Type} (f g : Nat → α) (n : Nat) : Nat → α := fun i => if i < n then g i else f i
theorem rz_0 {α : Type} (f g : Nat → α) : rz f g 0 = f := by funext i; unfold rz; rw [if_neg (by omega)]
theorem rz_s {α : Type} {f g : Nat → α} {n : Nat} {v : α} (h : v = g n) : va_up (rz f g n) n v = rz f g (n + 1) := by
  funext i
  subst h
  unfold va_up rz
  by_cases h : i = n
  · subst h; rw [if_pos rfl, if_pos (by omega)]
  · rw [if_neg h]
    by_cases h2 : i < n
    · rw [if_pos h2, if_pos (by omega)]
    · rw [if_neg h2, if_neg (by omega)]
theorem rz_in {α : Type} {f g : Nat → α} {n i : Nat} (h : i < n) : rz f g n i = g i := if_pos h
theorem cpy_0 {α : Type} (f g : Nat → α) (u w : Nat) : va_cpy f g u w 0 = g := by funext i; unfold va_cpy; rw [if_neg (by omega)]
theorem cpy_s {α : Type} {f g : Nat → α} {u w n : Nat} {v : α} (h : v = f (u + n)) : va_up (va_cpy f g u w n) (w + n) v = va_cpy f g u w (n + 1) := by
  funext i
  subst h
  unfold va_up va_cpy
  by_cases h : i = w + n
  · subst h; rw [if_pos rfl, if_pos (by omega)]; congr 1; omega
  · rw [if_neg h]
    by_cases h2 : w ≤ i ∧ i < w + n
    · rw [if_pos h2, if_pos (by omega)]
    · rw [if_neg h2, if_neg (by omega)]
theorem Ch_of {a : Nat} {H H1 : Heap} (hz : H1.size = H.size) (hk : ∀ q : Nat, q < H.size → ¬ q = a → H1[q]? = H[q]?) : Ch a H H1 := by
  refine ⟨hz, fun q hq => ?_⟩
  rcases Nat.lt_or_ge q H.size with h | h
  · exact hk q h hq
  · rw [Array.getElem?_eq_none (by omega), Array.getElem?_eq_none h]
/-- the recordings, rows below m done, of row m the first n -/
def rcp (P : Nat → Int32) (r : Nat → Nat → Int32) (S : Nat → Int32) (m n : Nat) : Nat → Int32 := fun i =>
  if i = 0 then nI 0 else if 55 ≤ i ∧ (i - 55) % 200 < nT P ∧ ((i - 55) / 200 < m ∨ (i - 55) / 200 = m ∧ (i - 55) % 200 < n) then bnd P (flt P (r ((i - 55) / 200)) ((i - 55) % 200)) else S i
def rcd (P : Nat → Int32) (r : Nat → Nat → Int32) (S : Nat → Int32) : Nat → Int32 := rcp P r S (nM P) 0
theorem rcp_lo {P : Nat → Int32} {r : Nat → Nat → Int32} {S : Nat → Int32} {m n i : Nat} (h0 : 0 < i) (h : i < 55) : rcp P r S m n i = S i := by
  unfold rcp
  rw [if_neg (by omega), if_neg (by omega)]
theorem rcp_0 (P : Nat → Int32) (r : Nat → Nat → Int32) (S : Nat → Int32) : va_up S 0 (nI 0) = rcp P r S 0 0 := by
  funext i
  unfold va_up rcp
  by_cases h : i = 0
  · rw [if_pos h, if_pos h]
  · rw [if_neg h, if_neg h, if_neg (by omega)]
theorem rcp_n (P : Nat → Int32) (r : Nat → Nat → Int32) (S : Nat → Int32) (m : Nat) : rcp P r S m (nT P) = rcp P r S (m + 1) 0 := by
  funext i
  unfold rcp
  by_cases h : i = 0
  · rw [if_pos h, if_pos h]
  · rw [if_neg h, if_neg h]
    by_cases h2 : 55 ≤ i ∧ (i - 55) % 200 < nT P ∧ ((i - 55) / 200 < m ∨ (i - 55) / 200 = m ∧ (i - 55) % 200 < nT P)
    · rw [if_pos h2, if_pos (by omega)]
    · rw [if_neg h2, if_neg (by omega)]
theorem rcp_s {P : Nat → Int32} {r : Nat → Nat → Int32} {S : Nat → Int32} {m n : Nat} (hn : n < nT P) (hT : nT P ≤ 200) {v : Int32} (h : v = bnd P (flt P (r m) n)) : va_up (rcp P r S m n) (55 + 200 * m + n) v = rcp P r S m (n + 1) := by
  funext i
  subst h
  unfold va_up rcp
  by_cases h : i = 55 + 200 * m + n
  · have e1 : (i - 55) / 200 = m := by omega
    have e2 : (i - 55) % 200 = n := by omega
    rw [if_pos h, if_neg (by omega), e1, e2, if_pos (by omega)]
  · rw [if_neg h]
    by_cases h0 : i = 0
    · rw [if_pos h0, if_pos h0]
    · rw [if_neg h0, if_neg h0]
      by_cases h2 : 55 ≤ i ∧ (i - 55) % 200 < nT P ∧ ((i - 55) / 200 < m ∨ (i - 55) / 200 = m ∧ (i - 55) % 200 < n)
      · rw [if_pos h2, if_pos (by omega)]
      · rw [if_neg h2, if_neg (by omega)]
theorem fo_congr {α : Type} {f g : Nat → α → α} {n : Nat} (a : α) (h : ∀ k, k < n → ∀ x, f k x = g k x) : fo f n a = fo g n a := by
  induction n with
  | zero => rfl
  | succ n ih =>
    show f n (fo f n a) = g n (fo g n a)
    rw [ih (fun k hk => h k (by omega)), h n (by omega)]
theorem flt_congr {P f g : Nat → Int32} {t : Nat} (h : ∀ i, i ≤ t → f i = g i) : flt P f t = flt P g t := by
  unfold flt
  by_cases hp : nP P = 0
  · rw [if_pos hp, if_pos hp]; exact h t (Nat.le_refl t)
  · rw [if_neg hp, if_neg hp]
    exact fo_congr _ (fun k hk x => by rw [h (t - k) (by omega)])
/-- what a state is heard by lies below its recordings -/
def lowS (S S' : Nat → Int32) : Prop := ∀ i, 0 < i → i < 55 → S' i = S i
theorem lowS.vs {S S' : Nat → Int32} (h : lowS S S') (hS : VS S) : VS S' := by
  refine ⟨fun m hm => ?_, fun m hm => ?_, fun k hk => ?_, fun k hk => ?_, fun k hk => ?_, fun k hk => ?_, fun k hk => ?_⟩
  · rw [h _ (by omega) (by omega)]; exact hS.mu m hm
  · unfold wgt
    rw [h _ (by omega) (by omega)]; exact hS.wgt m hm
  · rw [h _ (by omega) (by omega)]; exact hS.on k hk
  · rw [h _ (by omega) (by omega)]; exact hS.r31 k hk
  · rw [h _ (by omega) (by omega)]; exact hS.r37 k hk
  · rw [h _ (by omega) (by omega)]; exact hS.r43 k hk
  · rw [h _ (by omega) (by omega)]; exact hS.r49 k hk
theorem lowS.raw {P S S' : Nat → Int32} (h : lowS S S') (hP : VP P) (m t : Nat) : rawA P S' m t = rawA P S m t := by
  have l5 := hP.l5
  unfold rawA hS
  rw [fo_congr (g := fun k s => s + (if S (25 + k) = 0 then nI 0 else hO P (wav P k) m (sxA S k (t - ofs P m)) (syA S k (t - ofs P m)) (t - ofs P m))) _ (fun k hk x => ?_)]
  unfold sxA syA
  rw [h (25 + k) (by omega) (by omega), h (31 + k) (by omega) (by omega), h (37 + k) (by omega) (by omega), h (43 + k) (by omega) (by omega), h (49 + k) (by omega) (by omega)]
theorem lowS.rcp {P : Nat → Int32} {r : Nat → Nat → Int32} {S : Nat → Int32} {m n : Nat} : lowS S (rcp P r S m n) := fun i h1 h2 => rcp_lo h1 h2
/-- a block's power -/
def blk (P S : Nat → Int32) (c a n : Nat) : Int64 := en P S (dc P c) a (min (win P S (dc P c)) (a + n) - a) / lN n
def mvP (P S : Nat → Int32) (c : Nat) (u w : Int32) (t m : Nat) : Nat := dN P m (cx P c + u * nI t / nI 100) (cy P c + w * nI t / nI 100)
/-- the power by a focus that moves -/
def mvs (P S : Nat → Int32) (c : Nat) (u w : Int32) (n : Nat) : Int64 := fo (fun t s => s + (bm P S (mvP P S c u w t) t).toInt64 * (bm P S (mvP P S c u w t) t).toInt64) n 0
def mov (P S : Nat → Int32) (c : Nat) (u w : Int32) : Int64 := mvs P S c u w (nT P) / lN (nT P)
/-- the first of the greatest -/
def bs1 (sc : Nat → Int64) (i b : Nat) : Nat := if sc b < sc (i + 1) then i + 1 else b
def bsN (sc : Nat → Int64) (n : Nat) : Nat := fo (bs1 sc) (n - 1) 0
theorem bsN_lt {sc : Nat → Int64} {n : Nat} (h : 0 < n) : bsN sc n < n := by
  have key : ∀ k, fo (bs1 sc) k 0 ≤ k := by
    intro k
    induction k with
    | zero => exact Nat.le_refl _
    | succ k ih =>
      show (if sc (fo (bs1 sc) k 0) < sc (k + 1) then k + 1 else fo (bs1 sc) k 0) ≤ k + 1
      split <;> omega
  have := key (n - 1)
  unfold bsN
  omega
/-- the undo store -/
def rmU (u : Nat) : Nat := if u = 6 then 5 else u
def rmS (h : Nat → Int32) (n : Nat) : Nat → Int32 := fun i => if i < n then h (i + 2455) else h i
def rmH (u : Nat) (h S : Nat → Int32) : Nat → Int32 := va_cpy S (if u = 6 then rmS h 12275 else h) 0 (2455 * rmU u) 2455
theorem rmS_s {h : Nat → Int32} {n : Nat} {v : Int32} (e : v = h (n + 2455)) : va_up (rmS h n) n v = rmS h (n + 1) := by
  funext i
  subst e
  unfold va_up rmS
  by_cases q : i = n
  · subst q; rw [if_pos rfl, if_pos (by omega)]
  · rw [if_neg q]
    by_cases q2 : i < n
    · rw [if_pos q2, if_pos (by omega)]
    · rw [if_neg q2, if_neg (by omega)]
/-- tracks: k blocks from the last one back -/
def trk (P S : Nat → Int32) (n B : Nat) : Nat → Nat → Int64
  | 0, c => blk P S c (n * (B - 1)) n
  | k + 1, c => blk P S c (n * (B - 1 - (k + 1))) n + trk P S n B k ((bsf (fun i => decide (nea P c i)) (trk P S n B k) (nC P)).getD 0)
theorem up_sw {α : Type} {f : Nat → α} {k j : Nat} {a b c : α} (h : k ≠ j) : va_up (va_up (va_up f k a) j b) k c = va_up (va_up f k c) j b := by
  funext i
  unfold va_up
  by_cases h1 : i = k
  · subst h1; rw [if_pos rfl, if_neg h, if_pos rfl]
  · rw [if_neg h1]
    by_cases h2 : i = j
    · rw [if_pos h2, if_pos h2]
    · rw [if_neg h2, if_neg h2, if_neg h1, if_neg h1]
theorem bst_congr {al : Nat → Bool} {sc sd : Nat → Int64} {n : Nat} {b : Option Nat} (h1 : sc n = sd n) (h2 : ∀ j, b = some j → sc j = sd j) : bst al sc n b = bst al sd n b := by
  cases b with
  | none => rfl
  | some j =>
    unfold bst
    dsimp only
    rw [h1, h2 j rfl]
theorem bsf_0 {al : Nat → Bool} {sc : Nat → Int64} : bsf al sc 0 = none := by unfold bsf; unfold fo; exact Eq.refl _
theorem bsf_s {al : Nat → Bool} {sc : Nat → Int64} (n : Nat) : bsf al sc (n + 1) = bst al sc n (bsf al sc n) := by unfold bsf; exact Eq.refl _
theorem bsf_congr {al : Nat → Bool} {sc sd : Nat → Int64} (n : Nat) (h : ∀ i, i < n → sc i = sd i) : bsf al sc n = bsf al sd n := by
  induction n with
  | zero => rw [bsf_0, bsf_0]
  | succ n ih =>
    rw [bsf_s, bsf_s, ih (fun i hi => h i (Nat.lt_succ_of_lt hi))]
    exact bst_congr (h n (Nat.lt_succ_self n)) (fun j hj => h j (Nat.lt_succ_of_lt (bsf_lt n j hj)))
/-- where one is allowed, one is chosen -/
theorem bsf_some {al : Nat → Bool} {sc : Nat → Int64} {n c : Nat} (hc : c < n) (h : al c = true) : ∃ j, bsf al sc n = some j ∧ j < n := by
  induction n with
  | zero => omega
  | succ n ih =>
    by_cases hcn : c < n
    · obtain ⟨j, hj, hjn⟩ := ih hcn
      have : bsf al sc (n + 1) = (if al n = true ∧ sc j < sc n then some n else some j) := by
        show bst al sc n (bsf al sc n) = _
        rw [hj]; rfl
      rw [this]
      split
      · exact ⟨n, rfl, by omega⟩
      · exact ⟨j, rfl, by omega⟩
    · obtain rfl : c = n := by omega
      have : bsf al sc (c + 1) = bst al sc c (bsf al sc c) := rfl
      rw [this]
      cases e : bsf al sc c with
      | none => exact ⟨c, if_pos h, by omega⟩
      | some j =>
        have hj := bsf_lt c j e
        show ∃ k, (if al c = true ∧ sc j < sc c then some c else some j) = some k ∧ k < c + 1
        split
        · exact ⟨c, rfl, by omega⟩
        · exact ⟨j, rfl, by omega⟩
theorem mv_rg {a b : Int32} {t : Nat} (ha : rg 2088 a) (hb : rg 999 b) (ht : t < 200) : rg 9999 (a + b * nI t / nI 100) :=
  (ha.add (C := 1990) ((hb.mul (C := 199) (rg.ofN (by omega) (by omega)) (by omega)).div (C := 1990) (by omega) (by omega) (by omega) (by omega)) (by omega)).mono (by omega)
