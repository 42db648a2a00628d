/-! the map's bytes; steps of a double loop -/
set_option maxRecDepth 100000
/-- the map's length after n cells -/
def pgl (P : Nat → Int32) (n : Nat) : Nat := if n = 0 then 0 else n + (n - 1) / nX P
theorem pgl_s {P : Nat → Int32} (c : Nat) : pgl P (c + 1) = c + c / nX P + 1 := by
  unfold pgl
  rw [if_neg (by omega), Nat.add_sub_cancel]
  omega
theorem pgl_dm (P : Nat → Int32) (c : Nat) : c = nX P * (c / nX P) + c % nX P := (Nat.div_add_mod c (nX P)).symm
theorem pgl_a {P : Nat → Int32} {c : Nat} (hx : 0 < nX P) (h0 : 0 < c) (h : c % nX P = 0) : pgl P c + 1 = c + c / nX P ∧ pgl P c % (nX P + 1) = nX P := by
  have e := pgl_dm P c
  rw [h, Nat.add_zero] at e
  obtain ⟨q, hq⟩ : ∃ q, c / nX P = q + 1 := ⟨c / nX P - 1, by
    have : c / nX P ≠ 0 := fun z => by rw [z, Nat.mul_zero] at e; omega
    exact (Nat.succ_pred_eq_of_pos (Nat.pos_of_ne_zero this)).symm⟩
  rw [hq, Nat.mul_succ] at e
  have e2 : (c - 1) / nX P = q := by
    refine Nat.div_eq_of_lt_le ?_ ?_
    · rw [Nat.mul_comm]; omega
    · rw [Nat.mul_comm, Nat.mul_succ]; omega
  unfold pgl
  rw [if_neg (by omega), e2, hq]
  refine ⟨by omega, ?_⟩
  have e3 : c + q = nX P + (nX P + 1) * q := by rw [Nat.add_mul]; omega
  rw [e3, Nat.add_mul_mod_self_left]
  exact Nat.mod_eq_of_lt (by omega)
theorem pgl_b {P : Nat → Int32} {c : Nat} (hx : 0 < nX P) (h : ¬ (0 < c ∧ c % nX P = 0)) : pgl P c = c + c / nX P := by
  unfold pgl
  by_cases h0 : c = 0
  · rw [if_pos h0, h0, Nat.zero_div]
  · rw [if_neg h0]
    have e := pgl_dm P c
    have hm := Nat.mod_lt c hx
    have h1 : 0 < c % nX P := by omega
    congr 1
    refine Nat.div_eq_of_lt_le ?_ ?_
    · rw [Nat.mul_comm]; omega
    · rw [Nat.mul_comm, Nat.mul_succ]; omega
theorem pgb_c {P : Nat → Int32} {pw : Nat → Int64} {b c : Nat} (hx : 0 < nX P) : pgb P pw b (c + c / nX P) = pgd pw b c := by
  have e := pgl_dm P c
  have hm := Nat.mod_lt c hx
  have e3 : c + c / nX P = c % nX P + (nX P + 1) * (c / nX P) := by rw [Nat.add_mul]; omega
  have m1 : (c + c / nX P) % (nX P + 1) = c % nX P := by
    rw [e3, Nat.add_mul_mod_self_left]; exact Nat.mod_eq_of_lt (by omega)
  have d1 : (c + c / nX P) / (nX P + 1) = c / nX P := by
    rw [e3, Nat.add_mul_div_left _ _ (by omega), Nat.div_eq_of_lt (by omega), Nat.zero_add]
  unfold pgb
  rw [m1, d1, if_neg (by omega), ← e]
theorem pgb_s {P : Nat → Int32} {pw : Nat → Int64} {b i : Nat} (h : i % (nX P + 1) = nX P) : pgb P pw b i = nI 59 := if_pos h
theorem pgl_n {P : Nat → Int32} (hx : 0 < nX P) (hy : 0 < nY P) : pgl P (nC P) = pgn P := by
  unfold pgl pgn nC
  have h := Nat.mul_pos hx hy
  rw [if_neg (by omega)]
  congr 1
  obtain ⟨q, hq⟩ : ∃ q, nY P = q + 1 := ⟨nY P - 1, by omega⟩
  rw [hq, Nat.add_sub_cancel]
  refine Nat.div_eq_of_lt_le ?_ ?_
  · rw [Nat.mul_comm, Nat.mul_succ]; omega
  · rw [Nat.mul_comm]; exact Nat.sub_lt (Nat.mul_pos (by omega) hx) (by omega)
theorem pgl_lt {P : Nat → Int32} {c : Nat} (hy : nY P ≤ 12) (hc : c < nC P) (hn : nC P ≤ 144) : c + c / nX P < 158 := by
  have : c / nX P < nY P := Nat.div_lt_of_lt_mul hc
  omega
theorem dv_s {a m : Nat} : nI a - nI m + 1 = nI (a + 1) - nI m := by
  rw [← nI_add a 1, show nI 1 = (1 : Int32) from by decide, Int32.sub_eq_add_neg, Int32.sub_eq_add_neg, Int32.add_assoc, Int32.add_assoc, Int32.add_comm (-nI m) 1]
theorem dv_c {a m : Nat} : nI a - nI m + nI m = nI a := by rw [Int32.sub_eq_add_neg, Int32.add_assoc, Int32.add_left_neg, Int32.add_zero]
theorem dv_gt {a m : Nat} (ha : a < 1000) (hm : m < 1000) : nI m < nI a - nI m ↔ 2 * m < a := by
  rw [Int32.lt_iff_toInt_lt, pk_sub_toInt (by omega) (by omega), nI_toInt (by omega)]
  omega
theorem dv_rg {a m : Nat} (ha : a ≤ 2 * m) (hm : m ≤ 4) : rg 4 (nI a - nI m) := by
  have e := pk_sub_toInt (a := a) (b := m) (by omega) (by omega)
  exact ⟨by rw [e]; omega, by rw [e]; omega⟩
/-- the best of the first t, as the loop holds it -/
def bvi (sc : Nat → Int64) (sd t : Nat) (cb : Int32) (gr : Int64) : Prop := (t = 0 ∧ cb = -1) ∨ (0 < t ∧ cb = nI (100 * (fo (bs1 sc) (t - 1) 0 / sd) + fo (bs1 sc) (t - 1) 0 % sd) ∧ gr = sc (fo (bs1 sc) (t - 1) 0) ∧ fo (bs1 sc) (t - 1) 0 < t)
theorem bvi_0 {sc : Nat → Int64} {sd : Nat} {cb : Int32} {gr : Int64} (h : bvi sc sd 0 cb gr) (hs : 0 < sd) : bvi sc sd 1 (nI 0) (sc 0) := Or.inr ⟨by omega, by show _ = nI (100 * (0 / sd) + 0 % sd); rw [Nat.zero_div, Nat.zero_mod], rfl, by show 0 < 1; omega⟩
theorem bvi_y {sc : Nat → Int64} {sd t : Nat} {cb : Int32} {gr : Int64} (h : bvi sc sd t cb gr) (ht : 0 < t) (hs : gr < sc t) : bvi sc sd (t + 1) (nI (100 * (t / sd) + t % sd)) (sc t) := by
  rcases h with ⟨h1, _⟩ | ⟨_, h2, h3, h4⟩
  · omega
  · obtain ⟨k, rfl⟩ : ∃ k, t = k + 1 := ⟨t - 1, by omega⟩
    have e : fo (bs1 sc) (k + 1 + 1 - 1) 0 = k + 1 := by
      show (if sc (fo (bs1 sc) k 0) < sc (k + 1) then k + 1 else fo (bs1 sc) k 0) = k + 1
      have h3 : gr = sc (fo (bs1 sc) k 0) := h3
      rw [← h3, if_pos hs]
    exact Or.inr ⟨by omega, by rw [e], by rw [e], by rw [e]; omega⟩
theorem bvi_n {sc : Nat → Int64} {sd t : Nat} {cb : Int32} {gr : Int64} (h : bvi sc sd t cb gr) (ht : 0 < t) (hs : sc t ≤ gr) : bvi sc sd (t + 1) cb gr := by
  rcases h with ⟨h1, _⟩ | ⟨_, h2, h3, h4⟩
  · omega
  · obtain ⟨k, rfl⟩ : ∃ k, t = k + 1 := ⟨t - 1, by omega⟩
    have e : fo (bs1 sc) (k + 1 + 1 - 1) 0 = fo (bs1 sc) k 0 := by
      show (if sc (fo (bs1 sc) k 0) < sc (k + 1) then k + 1 else fo (bs1 sc) k 0) = fo (bs1 sc) k 0
      have h3 : gr = sc (fo (bs1 sc) k 0) := h3
      rw [← h3, if_neg (Int64.not_lt.mpr hs)]
    exact Or.inr ⟨by omega, by rw [e]; exact h2, by rw [e]; exact h3, by rw [e]; have : fo (bs1 sc) k 0 < k + 1 := h4; omega⟩
theorem bvs_q {P S : Nat → Int32} {c m a b : Nat} {st : Int32} (hb : b < 2 * m + 1) : bvs P S c st m ((2 * m + 1) * a + b) = mov P S c (st * (nI a - nI m)) (st * (nI b - nI m)) := by
  unfold bvs
  rw [Nat.mul_add_div (by omega), Nat.div_eq_of_lt hb, Nat.mul_add_mod, Nat.mod_eq_of_lt hb, Nat.add_zero]
theorem bvq {m a b : Nat} (hb : b < 2 * m + 1) : ((2 * m + 1) * a + b) / (2 * m + 1) = a ∧ ((2 * m + 1) * a + b) % (2 * m + 1) = b := by
  rw [Nat.mul_add_div (by omega), Nat.div_eq_of_lt hb, Nat.mul_add_mod, Nat.mod_eq_of_lt hb, Nat.add_zero]
  exact ⟨rfl, rfl⟩
theorem pgb_y {P : Nat → Int32} {pw : Nat → Int64} {b c : Nat} (hx : 0 < nX P) (h : pw b = 0) : nI 48 + nI 0 = pgb P pw b (c + c / nX P) := by
  rw [pgb_c hx]; unfold pgd; rw [if_pos h]
theorem pgb_n {P : Nat → Int32} {pw : Nat → Int64} {b c : Nat} (hx : 0 < nX P) (h : ¬ pw b = 0) : nI 48 + ((9 : Int64) * pw c / pw b).toInt32 = pgb P pw b (c + c / nX P) := by
  rw [pgb_c hx]; unfold pgd; rw [if_neg h]
/-! the input buffer -/
def by4 (w : Int32) (k : Nat) : Int32 := (w >>> (nI k &&& 31)) &&& nI 255
def frB (f : Nat → Int32) (n : Nat) (w : Int32) : Nat → Int32 := va_up (va_up (va_up (va_up f n (by4 w 24)) (n + 1) (by4 w 16)) (n + 1 + 1) (by4 w 8)) (n + 1 + 1 + 1) (by4 w 0)
def apB (f : Nat → Int32) (n : Nat) (a b c d e : Int32) : Nat → Int32 := frB (frB (frB (frB (frB f n a) (n + 4) b) (n + 4 + 4) c) (n + 4 + 4 + 4) d) (n + 4 + 4 + 4 + 4) e
