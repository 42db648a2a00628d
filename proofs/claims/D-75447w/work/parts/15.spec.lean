/-! THE MATHEMATICS of both sides: a plan P (the model's layout of what a text tells), a state S (its layout of what changes) -/
set_option maxRecDepth 100000
def rt1 (v : Nat) (k r : Nat) : Nat := if (r + 32768 / 2 ^ k) * (r + 32768 / 2 ^ k) ≤ v then r + 32768 / 2 ^ k else r
/-- the square root, rounded down, bit by bit -/
def rtN (v : Nat) : Nat := fo (rt1 v) 16 0
def dsq (P : Nat → Int32) (m : Nat) (x y : Int32) : Int := (x.toInt - (P (11 + m)).toInt) * (x.toInt - (P (11 + m)).toInt) + (y.toInt - (P (23 + m)).toInt) * (y.toInt - (P (23 + m)).toInt) + (pD P : Int) * (pD P : Int)
/-- the delay of a point at a microphone -/
def dN (P : Nat → Int32) (m : Nat) (x y : Int32) : Nat := rtN (dsq P m x y).toNat / pE P - pD P / pE P
def nC (P : Nat → Int32) : Nat := nX P * nY P
def cx (P : Nat → Int32) (c : Nat) : Int32 := P 6 + nI (pC P * (c % nX P))
def cy (P : Nat → Int32) (c : Nat) : Int32 := P 7 + nI (pC P * (c / nX P))
/-- the delay of a cell's centre -/
def dc (P : Nat → Int32) (c m : Nat) : Nat := dN P m (cx P c) (cy P c)
/-- where a source is -/
def sxA (S : Nat → Int32) (k t : Nat) : Int32 := S (31 + k) + S (43 + k) * nI t / nI 100
def syA (S : Nat → Int32) (k t : Nat) : Int32 := S (37 + k) + S (49 + k) * nI t / nI 100
def wTri (a p : Int32) (k h : Nat) : Int32 := a * (nI 4 * (if 0 ≤ nI k - nI h then nI k - nI h else 0 - (nI k - nI h)) - p) / p
/-- what a source emits -/
def wav (P : Nat → Int32) (k t : Nat) : Int32 :=
  if t < frm P k then nI 0 else
  if sort P k = 0 then (if (t + pha P k) % per P k < per P k / 2 then nI (amp P k) else -nI (amp P k)) else
  if sort P k = 1 then wTri (nI (amp P k)) (nI (per P k)) ((t + pha P k) % per P k) (per P k / 2) else
  if sort P k = 2 then (if (t + pha P k) % per P k = 0 then nI (amp P k) else nI 0) else
  nI ((31 * t * t + 7919 * t + 104729 * pha P k) % (2 * amp P k + 1)) - nI (amp P k)
/-- .. a cell's centre, in a what-if question -/
def wpt (p t : Nat) : Int32 := if t % p < p / 2 then nI 100 else -100
/-- what is heard at a time, straight, and with all images -/
def hF (P : Nat → Int32) (w : Nat → Int32) (m : Nat) (x y : Int32) (t : Nat) : Int32 :=
  if nF P = 0 then (if t < dN P m x y then nI 0 else w (t - dN P m x y)) else (if t < dN P m x y then nI 0 else w (t - dN P m x y)) * nI (nF P) / nI (nF P + dN P m x y)
def hO (P : Nat → Int32) (w : Nat → Int32) (m : Nat) (x y : Int32) (t : Nat) : Int32 :=
  fo (fun k s => s + hF P w m (nI 2 * P (72 + k) - x) y t * nI (pct P k) / nI 100) (nW P) (hF P w m x y t)
/-- the sum of what a microphone hears of the sources that are on -/
def hS (P S : Nat → Int32) (m t : Nat) : Int32 :=
  fo (fun k s => s + (if S (25 + k) = 0 then nI 0 else hO P (wav P k) m (sxA S k t) (syA S k t) t)) (nS P) (nI 0)
def rawA (P S : Nat → Int32) (m t : Nat) : Int32 := if t < ofs P m then nI 0 else nI (gain P m) * hS P S m (t - ofs P m)
def rawP (P : Nat → Int32) (c p m t : Nat) : Int32 := if t < ofs P m then nI 0 else nI (gain P m) * hO P (wpt p) m (cx P c) (cy P c) (t - ofs P m)
def bnd (P : Nat → Int32) (v : Int32) : Int32 := if -nI (pL P) < (if v < nI (pL P) then v else nI (pL P)) then (if v < nI (pL P) then v else nI (pL P)) else -nI (pL P)
def flt (P raw : Nat → Int32) (t : Nat) : Int32 := if nP P = 0 then raw t else fo (fun i s => s + P (78 + i) * raw (t - i)) (min (nP P) (t + 1)) (nI 0)
/-- the windows and beams of a row of delays -/
def mxd (S : Nat → Int32) (dl : Nat → Nat) (n : Nat) : Nat := fo (fun m a => if S (1 + m) = 0 then max a (dl m) else a) n 0
def win (P S : Nat → Int32) (dl : Nat → Nat) : Nat := nT P - mxd S dl (nM P)
def bm1 (P S : Nat → Int32) (dl : Nat → Nat) (t m : Nat) (a : Int32) : Int32 := a + (if S (1 + m) = 0 ∧ t + dl m < nT P then nI (wgt S m) * S (55 + 200 * m + t + dl m) else nI 0)
def bm (P S : Nat → Int32) (dl : Nat → Nat) (t : Nat) : Int32 := fo (bm1 P S dl t) (nM P) (nI 0)
def en (P S : Nat → Int32) (dl : Nat → Nat) (a n : Nat) : Int64 := fo (fun j s => s + (bm P S dl (a + j)).toInt64 * (bm P S dl (a + j)).toInt64) n 0
def pwr (P S : Nat → Int32) (dl : Nat → Nat) : Int64 := if win P S dl = 0 then 0 else en P S dl 0 (win P S dl) / lN (win P S dl)
def pwc (P S : Nat → Int32) (c : Nat) : Int64 := pwr P S (dc P c)
theorem mxd_le {S : Nat → Int32} {dl : Nat → Nat} {B : Nat} : ∀ n, (∀ m, m < n → dl m ≤ B) → mxd S dl n ≤ B := by
  intro n
  induction n with
  | zero => intro _; exact Nat.zero_le _
  | succ n ih =>
    intro h
    show (if S (1 + n) = 0 then max (mxd S dl n) (dl n) else mxd S dl n) ≤ B
    have h1 := ih (fun m hm => h m (by omega))
    have h2 := h n (by omega)
    split <;> omega
theorem rt1_lt {v k r : Nat} (hk : k ≤ 15) (hr : r + 2 * (32768 / 2 ^ k) ≤ 65536) : rt1 v k r + 2 * (32768 / 2 ^ (k + 1)) ≤ 65536 := by
  have e : 32768 / 2 ^ (k + 1) = 32768 / 2 ^ k / 2 := by rw [Nat.pow_succ, Nat.div_div_eq_div_mul]
  unfold rt1
  rw [e]
  split <;> omega
theorem rt_in (v : Nat) : ∀ k, k ≤ 16 → fo (rt1 v) k 0 + 2 * (32768 / 2 ^ k) ≤ 65536 := by
  intro k
  induction k with
  | zero => intro _; show 0 + 2 * (32768 / 2 ^ 0) ≤ 65536; decide
  | succ k ih => intro h; exact rt1_lt (by omega) (ih (by omega))
theorem rt_lt (v : Nat) : rtN v < 65537 := by
  have := rt_in v 16 (by omega)
  unfold rtN
  omega
theorem rt_sq (v : Nat) : rtN v * rtN v ≤ v := by
  have h : ∀ k, fo (rt1 v) k 0 * fo (rt1 v) k 0 ≤ v := by
    intro k
    induction k with
    | zero => exact Nat.zero_le _
    | succ k ih =>
      show rt1 v k (fo (rt1 v) k 0) * rt1 v k (fo (rt1 v) k 0) ≤ v
      unfold rt1
      split
      · assumption
      · exact ih
  exact h 16
/-- every root below 65536 is reached -/
theorem rt_ge {v d : Nat} (hd : d < 65536) (h : d * d ≤ v) : d ≤ rtN v := by
  have key : ∀ k, k ≤ 16 → d < fo (rt1 v) k 0 + (if k = 16 then 1 else 2 * (32768 / 2 ^ k)) := by
    intro k
    induction k with
    | zero => intro _; show d < 0 + 2 * (32768 / 2 ^ 0); omega
    | succ k ih =>
      intro hk
      have h1 := ih (by omega)
      rw [if_neg (by omega)] at h1
      have e2 : (if k + 1 = 16 then 1 else 2 * (32768 / 2 ^ (k + 1))) = 32768 / 2 ^ k := by
        have : ∀ k, k < 16 → (if k + 1 = 16 then 1 else 2 * (32768 / 2 ^ (k + 1))) = 32768 / 2 ^ k := by decide
        exact this k (by omega)
      rw [e2]
      show d < rt1 v k (fo (rt1 v) k 0) + 32768 / 2 ^ k
      generalize fo (rt1 v) k 0 = r at h1 ⊢
      unfold rt1
      split
      · omega
      · rename_i hc
        rcases Nat.lt_or_ge d (r + 32768 / 2 ^ k) with q | q
        · exact q
        · exact absurd (Nat.le_trans (Nat.mul_le_mul q q) h) hc
  have := key 16 (by omega)
  rw [if_pos rfl] at this
  unfold rtN
  omega
theorem dN_lt (P : Nat → Int32) (m : Nat) (x y : Int32) : dN P m x y < 65537 := by
  exact Nat.lt_of_le_of_lt (Nat.le_trans (Nat.sub_le _ _) (Nat.div_le_self _ _)) (rt_lt (dsq P m x y).toNat)
theorem dsq_ge {P : Nat → Int32} {m : Nat} {x y : Int32} : (pD P : Int) * (pD P : Int) ≤ dsq P m x y := by
  unfold dsq
  have h1 : 0 ≤ (x.toInt - (P (11 + m)).toInt) * (x.toInt - (P (11 + m)).toInt) := by
    rcases Int.le_total 0 (x.toInt - (P (11 + m)).toInt) with q | q
    · exact Int.mul_nonneg q q
    · exact Int.mul_nonneg_of_nonpos_of_nonpos q q
  have h2 : 0 ≤ (y.toInt - (P (23 + m)).toInt) * (y.toInt - (P (23 + m)).toInt) := by
    rcases Int.le_total 0 (y.toInt - (P (23 + m)).toInt) with q | q
    · exact Int.mul_nonneg q q
    · exact Int.mul_nonneg_of_nonpos_of_nonpos q q
  omega
theorem dN_root {P : Nat → Int32} {m : Nat} {x y : Int32} (hD : pD P < 65536) : pD P / pE P ≤ rtN (dsq P m x y).toNat / pE P := by
  refine Nat.div_le_div_right (rt_ge hD ?_)
  have h := @dsq_ge P m x y
  have : ((pD P * pD P : Nat) : Int) = (pD P : Int) * (pD P : Int) := Int.natCast_mul _ _
  omega
/-! Int32 without overflow -/
theorem bm_id {a : Int} (h1 : -2147483648 ≤ a) (h2 : a < 2147483648) : a.bmod (2 ^ 32) = a := Int.bmod_eq_of_le (by omega) (by omega)
theorem i_add {a b : Int32} (h1 : -2147483648 ≤ a.toInt + b.toInt) (h2 : a.toInt + b.toInt < 2147483648) : (a + b).toInt = a.toInt + b.toInt := by rw [Int32.toInt_add]; exact bm_id h1 h2
theorem i_sub {a b : Int32} (h1 : -2147483648 ≤ a.toInt - b.toInt) (h2 : a.toInt - b.toInt < 2147483648) : (a - b).toInt = a.toInt - b.toInt := by rw [Int32.toInt_sub]; exact bm_id h1 h2
theorem i_mul {a b : Int32} (h1 : -2147483648 ≤ a.toInt * b.toInt) (h2 : a.toInt * b.toInt < 2147483648) : (a * b).toInt = a.toInt * b.toInt := by rw [Int32.toInt_mul]; exact bm_id h1 h2
theorem sq_le {a B : Int} (h1 : -B ≤ a) (h2 : a ≤ B) : 0 ≤ a * a ∧ a * a ≤ B * B := by
  constructor
  · rcases Int.le_total 0 a with q | q
    · exact Int.mul_nonneg q q
    · exact Int.mul_nonneg_of_nonpos_of_nonpos q q
  · rcases Int.le_total 0 a with q | q
    · exact Int.mul_le_mul h2 h2 q (by omega)
    · rw [← Int.neg_mul_neg]
      exact Int.mul_le_mul (by omega) (by omega) (by omega) (by omega)
def rg (B : Int) (x : Int32) : Prop := -B ≤ x.toInt ∧ x.toInt ≤ B
theorem rg.mono {B C : Int} {x : Int32} (h : rg B x) (hc : B ≤ C) : rg C x := ⟨by have := h.1; omega, by have := h.2; omega⟩
theorem rg.add {B C : Int} {x y : Int32} (h : rg B x) (h2 : rg C y) (hb : B + C < 2147483648) : rg (B + C) (x + y) := by
  obtain ⟨a1, a2⟩ := h
  obtain ⟨b1, b2⟩ := h2
  have e := i_add (a := x) (b := y) (by omega) (by omega)
  exact ⟨by rw [e]; omega, by rw [e]; omega⟩
theorem rg.sub {B C : Int} {x y : Int32} (h : rg B x) (h2 : rg C y) (hb : B + C < 2147483648) : rg (B + C) (x - y) := by
  obtain ⟨a1, a2⟩ := h
  obtain ⟨b1, b2⟩ := h2
  have e := i_sub (a := x) (b := y) (by omega) (by omega)
  exact ⟨by rw [e]; omega, by rw [e]; omega⟩
theorem mul_le {a b B C : Int} (h1 : -B ≤ a) (h2 : a ≤ B) (h3 : -C ≤ b) (h4 : b ≤ C) : -(B * C) ≤ a * b ∧ a * b ≤ B * C := by
  have hB : 0 ≤ B := by omega
  have hC : 0 ≤ C := by omega
  have k1 : a * b ≤ B * C := by
    rcases Int.le_total 0 a with q | q
    · exact Int.le_trans (Int.mul_le_mul_of_nonneg_left h4 q) (Int.mul_le_mul_of_nonneg_right h2 hC)
    · rw [← Int.neg_mul_neg]
      exact Int.le_trans (Int.mul_le_mul_of_nonneg_left (show -b ≤ C by omega) (by omega)) (Int.mul_le_mul_of_nonneg_right (by omega) hC)
  have k2 : (-a) * b ≤ B * C := by
    rcases Int.le_total 0 a with q | q
    · rw [Int.neg_mul, ← Int.mul_neg]
      exact Int.le_trans (Int.mul_le_mul_of_nonneg_left (show -b ≤ C by omega) q) (Int.mul_le_mul_of_nonneg_right h2 hC)
    · exact Int.le_trans (Int.mul_le_mul_of_nonneg_left h4 (show (0 : Int) ≤ -a by omega)) (Int.mul_le_mul_of_nonneg_right (by omega) hC)
  rw [Int.neg_mul] at k2
  exact ⟨by omega, k1⟩
theorem rg.mul {B C : Int} {x y : Int32} (h : rg B x) (h2 : rg C y) (hb : B * C < 2147483648) : rg (B * C) (x * y) := by
  obtain ⟨k1, k2⟩ := mul_le h.1 h.2 h2.1 h2.2
  have e := i_mul (a := x) (b := y) (by omega) (by omega)
  exact ⟨by rw [e]; exact k1, by rw [e]; exact k2⟩
theorem rg.ofN {n : Nat} {B : Int} (h : (n : Int) ≤ B) (h2 : n < 2147483648) : rg B (nI n) := by
  have e := nI_toInt (n := n) (by omega)
  exact ⟨by rw [e]; omega, by rw [e]; exact h⟩
/-- division by a small number -/
theorem i_div {a : Int32} {d : Nat} (h0 : 1 < d) (hd : d < 2147483648) : (a / nI d).toInt = a.toInt.tdiv d := by
  rw [Int32.toInt_div, nI_toInt (by omega)]
  have h1 := Int32.le_toInt a
  have h2 := Int32.toInt_lt a
  have k : (a.toInt.tdiv d).natAbs ≤ a.toInt.natAbs := by
    rw [Int.natAbs_tdiv]
    exact Nat.div_le_self _ _
  have k2 : a.toInt.natAbs ≤ 2147483648 := by omega
  have k3 : (a.toInt.tdiv d).natAbs ≤ 1073741824 := by
    rw [Int.natAbs_tdiv]
    have : (d : Int).natAbs = d := rfl
    rw [this]
    exact Nat.div_le_of_le_mul (by
      have : 2 * 1073741824 ≤ d * 1073741824 := Nat.mul_le_mul_right _ h0
      omega)
  exact bm_id (by omega) (by omega)
theorem rg.div {B : Int} {C : Int} {x : Int32} {d : Nat} (h : rg B x) (h0 : 1 < d) (hd : d < 2147483648) (hc : B ≤ C * d) (hC : 0 ≤ C) : rg C (x / nI d) := by
  have e := i_div (a := x) h0 hd
  have k : (x.toInt.tdiv d).natAbs ≤ C.toNat := by
    rw [Int.natAbs_tdiv]
    have e2 : (d : Int).natAbs = d := rfl
    rw [e2]
    refine Nat.div_le_of_le_mul ?_
    obtain ⟨a1, a2⟩ := h
    have e3 : ((d * C.toNat : Nat) : Int) = C * d := by
      rw [Int.natCast_mul, Int.toNat_of_nonneg hC, Int.mul_comm]
    omega
  exact ⟨by rw [e]; omega, by rw [e]; omega⟩
theorem dsq_I {P : Nat → Int32} (hP : VP P) {m : Nat} (hm : m < 12) {x y : Int32} (hx : rg 9999 x) (hy : rg 9999 y) : (x - P (11 + m)) * (x - P (11 + m)) + (y - P (23 + m)) * (y - P (23 + m)) + nI (pD P * pD P) = nI (dsq P m x y).toNat ∧ (dsq P m x y).toNat < 2147483648 := by
  have l0 := hP.l0
  have r1 := hP.r11 m hm
  have r2 := hP.r23 m hm
  obtain ⟨x1, x2⟩ := hx
  obtain ⟨y1, y2⟩ := hy
  have ea := i_sub (a := x) (b := P (11 + m)) (by omega) (by omega)
  have eb := i_sub (a := y) (b := P (23 + m)) (by omega) (by omega)
  have sa := sq_le (a := x.toInt - (P (11 + m)).toInt) (B := 10499) (by omega) (by omega)
  have sb := sq_le (a := y.toInt - (P (23 + m)).toInt) (B := 10499) (by omega) (by omega)
  have sd := sq_le (a := (pD P : Int)) (B := 5000) (by omega) (by omega)
  have ec : ((pD P * pD P : Nat) : Int) = (pD P : Int) * (pD P : Int) := Int.natCast_mul _ _
  have en : (nI (pD P * pD P)).toInt = (pD P : Int) * (pD P : Int) := by rw [nI_toInt (by omega), ec]
  have ma := i_mul (a := x - P (11 + m)) (b := x - P (11 + m)) (by rw [ea]; omega) (by rw [ea]; omega)
  have mb := i_mul (a := y - P (23 + m)) (b := y - P (23 + m)) (by rw [eb]; omega) (by rw [eb]; omega)
  rw [ea] at ma
  rw [eb] at mb
  have ad := i_add (a := (x - P (11 + m)) * (x - P (11 + m))) (b := (y - P (23 + m)) * (y - P (23 + m))) (by rw [ma, mb]; omega) (by rw [ma, mb]; omega)
  rw [ma, mb] at ad
  have ae := i_add (a := (x - P (11 + m)) * (x - P (11 + m)) + (y - P (23 + m)) * (y - P (23 + m))) (b := nI (pD P * pD P)) (by rw [ad, en]; omega) (by rw [ad, en]; omega)
  rw [ad, en] at ae
  have ed : dsq P m x y = (x.toInt - (P (11 + m)).toInt) * (x.toInt - (P (11 + m)).toInt) + (y.toInt - (P (23 + m)).toInt) * (y.toInt - (P (23 + m)).toInt) + (pD P : Int) * (pD P : Int) := rfl
  have h0 : 0 ≤ dsq P m x y := by rw [ed]; omega
  have h1 : dsq P m x y < 2147483648 := by rw [ed]; omega
  refine ⟨Int32.toInt_inj.mp ?_, by omega⟩
  rw [ae, nI_toInt (by omega), Int.toNat_of_nonneg h0]
  exact ed.symm
theorem cx_rg {P : Nat → Int32} (hP : VC P) (c : Nat) : rg 2088 (cx P c) := by
  have r := hP.v.r6
  have l8 := hP.v.l8
  have l9 := hP.v.l9
  have x1 := hP.x1
  have h : c % nX P ≤ 11 := by have := Nat.mod_lt c x1; omega
  have h2 : pC P * (c % nX P) ≤ 99 * 11 := Nat.mul_le_mul l8 h
  exact (rg.add (B := 999) (C := 1089) ⟨r.1, r.2⟩ (rg.ofN (by omega) (by omega)) (by omega)).mono (by omega)
theorem cy_rg {P : Nat → Int32} (hP : VC P) {c : Nat} (hc : c < nC P) : rg 2088 (cy P c) := by
  have r := hP.v.r7
  have l8 := hP.v.l8
  have l10 := hP.v.l10
  have h : c / nX P < nY P := Nat.div_lt_of_lt_mul hc
  have h2 : pC P * (c / nX P) ≤ 99 * 11 := Nat.mul_le_mul l8 (by omega)
  exact (rg.add (B := 999) (C := 1089) ⟨r.1, r.2⟩ (rg.ofN (by omega) (by omega)) (by omega)).mono (by omega)
theorem sx_rg {S : Nat → Int32} (hS : VS S) {k t : Nat} (hk : k < 6) (ht : t < 200) : rg 3990 (sxA S k t) := by
  have h1 : rg 2000 (S (31 + k)) := hS.r31 k hk
  have h2 : rg 999 (S (43 + k)) := hS.r43 k hk
  exact (h1.add (C := 1990) ((h2.mul (C := 199) (rg.ofN (by omega) (by omega)) (by omega)).div (C := 1990) (by omega) (by omega) (by omega) (by omega)) (by omega)).mono (by omega)
theorem sy_rg {S : Nat → Int32} (hS : VS S) {k t : Nat} (hk : k < 6) (ht : t < 200) : rg 3990 (syA S k t) := by
  have h1 : rg 2000 (S (37 + k)) := hS.r37 k hk
  have h2 : rg 999 (S (49 + k)) := hS.r49 k hk
  exact (h1.add (C := 1990) ((h2.mul (C := 199) (rg.ofN (by omega) (by omega)) (by omega)).div (C := 1990) (by omega) (by omega) (by omega) (by omega)) (by omega)).mono (by omega)
theorem mir_rg {P : Nat → Int32} (hP : VP P) {k : Nat} (hk : k < 2) {x : Int32} (hx : rg 3990 x) : rg 9999 (nI 2 * P (72 + k) - x) := by
  have h1 : rg 2000 (P (72 + k)) := hP.r72 k hk
  exact (((rg.ofN (n := 2) (B := 2) (by omega) (by omega)).mul h1 (by omega)).sub hx (by omega)).mono (by omega)
/-- the wave in force: a source's, or a what-if question's -/
def wmd (x : Nat → Int32) (P : Nat → Int32) (k : Nat) (w : Nat → Int32) : Prop := (x 21 = -1 ∧ k < nS P ∧ w = wav P k) ∨ ∃ c p, x 21 = nI c ∧ c < nC P ∧ x 22 = nI p ∧ 2 ≤ p ∧ p ≤ 99 ∧ w = wpt p
theorem nI_nm1 {c : Nat} (h : c < 2 ^ 31) : ¬ nI c = -1 := fun z => absurd (show (0 : Int32) ≤ -1 by rw [← z]; exact nI_pos' h) (by decide)
theorem lN_ne0 {n : Nat} (h : 0 < n) (h2 : n < 2 ^ 31) : ¬ lN n = 0 := fun z => by
  have := (lN_eq h2 (by decide : (0 : Nat) < 2 ^ 31)).mp (z.trans (by decide))
  omega
/-! more of the mathematics: microphones compared, peaks, aliases, tracks, zones -/
abbrev ix (n : Nat) (v : Int32) : Prop := nI 0 ≤ v ∧ v ≤ nI n - nI 1
theorem ix_of {n : Nat} (hn : n < 2 ^ 31) {v : Int32} (h : ix n v) : ∃ j, j < n ∧ v = nI j := inR hn h
theorem ix_in {n j : Nat} (hn : n < 2 ^ 31) (h : j < n) : ix n (nI j) := inR_of hn h
theorem inR2 {a b : Nat} (ha : a < 2 ^ 31) (hb : b < 2 ^ 31) {v : Int32} (h : nI a ≤ v ∧ v ≤ nI b) : ∃ j, a ≤ j ∧ j ≤ b ∧ v = nI j := by
  obtain ⟨j, hj, rfl⟩ := nI_of (x := v) (fun q => absurd (Int32.le_trans (nI_pos' ha) h.1) (by rw [Int32.not_le]; exact q))
  exact ⟨j, (nI_leI ha hj).mp h.1, (nI_leI hj hb).mp h.2, rfl⟩
def tog (P S : Nat → Int32) (a b lag : Nat) : Int64 := fo (fun t s => s + (S (55 + 200 * a + t)).toInt64 * (S (55 + 200 * b + t + lag)).toInt64) (nT P - lag) 0
def lev (P S : Nat → Int32) (m : Nat) : Int64 := tog P S m m 0 / lN (nT P)
def wsm (S : Nat → Int32) (n : Nat) : Nat := fo (fun m a => a + (if S (1 + m) = 0 then wgt S m else 0)) n 0
def act (S : Nat → Int32) (n : Nat) : Nat := fo (fun m a => a + (if S (1 + m) = 0 then 1 else 0)) n 0
def shf (P : Nat → Int32) (c o m : Nat) : Int32 := nI (dc P c m) - nI (dc P o m)
abbrev cfe (P S : Nat → Int32) (c o p m k : Nat) : Prop := S (1 + k) = 0 ∧ (shf P c o k - shf P c o m) - (shf P c o k - shf P c o m) / nI p * nI p = 0
def cfi (P S : Nat → Int32) (c o p m n : Nat) : Nat := fo (fun k a => a + (if cfe P S c o p m k then 1 else 0)) n 0
def cnf (P S : Nat → Int32) (c o p n : Nat) : Nat := fo (fun m a => if S (1 + m) = 0 then max a (cfi P S c o p m (nM P)) else a) n 0
abbrev top (P : Nat → Int32) (pw : Nat → Int64) (c : Nat) : Prop := ∀ j, j < nY P → ∀ i, i < nX P → (j ≤ c / nX P + 1 ∧ c / nX P ≤ j + 1 ∧ i ≤ c % nX P + 1 ∧ c % nX P ≤ i + 1 ∧ nX P * j + i ≠ c) → pw (nX P * j + i) < pw c
abbrev gtr (pw : Nat → Int64) (a b : Nat) : Prop := pw b < pw a ∨ pw a = pw b ∧ a < b
abbrev mrk (P S : Nat → Int32) (pw : Nat → Int64) (c b p sh : Nat) : Prop := c ≠ b ∧ top P pw c ∧ 0 < act S (nM P) ∧ sh * act S (nM P) ≤ 100 * cnf P S c b p (nM P)
abbrev nea (P : Nat → Int32) (a b : Nat) : Prop := (a % nX P ≤ b % nX P + 1 ∧ b % nX P ≤ a % nX P + 1) ∧ a / nX P ≤ b / nX P + 1 ∧ b / nX P ≤ a / nX P + 1
abbrev inZ (P : Nat → Int32) (z c : Nat) : Prop := (zon P (4 * z) ≤ c % nX P ∧ c % nX P ≤ zon P (4 * z + 2)) ∧ zon P (4 * z + 1) ≤ c / nX P ∧ c / nX P ≤ zon P (4 * z + 3)
theorem nI_abs1 {a b : Nat} (ha : a < 2 ^ 30) (hb : b < 2 ^ 30) : (if 0 ≤ nI a - nI b then nI a - nI b else 0 - (nI a - nI b)) ≤ nI 1 ↔ a ≤ b + 1 ∧ b ≤ a + 1 := by
  have e := pk_sub_toInt (a := a) (b := b) ha hb
  have e1 : (nI 1).toInt = 1 := by decide
  by_cases h : 0 ≤ nI a - nI b
  · rw [if_pos h, Int32.le_iff_toInt_le, e, e1]
    have h2 := Int32.le_iff_toInt_le.mp h
    rw [e] at h2
    have : (0 : Int32).toInt = 0 := rfl
    omega
  · rw [if_neg h, Int32.le_iff_toInt_le, e1]
    have h2 : (nI a - nI b).toInt < 0 := by
      have := Int32.lt_iff_toInt_lt.mp (Int32.not_le.mp h)
      have z : (0 : Int32).toInt = 0 := rfl
      omega
    have e3 : (0 - (nI a - nI b)).toInt = 0 - (nI a - nI b).toInt := by
      have z : (0 : Int32).toInt = 0 := rfl
      exact (i_sub (a := 0) (b := nI a - nI b) (by omega) (by omega)).trans (by omega)
    rw [e3, e]
    rw [e] at h2
    omega
/-- a choice that may be none, as an int -/
def obI : Option Nat → Int32
  | none => -1
  | some j => nI j
/-- the first with the greatest score among those that are allowed -/
def bst (al : Nat → Bool) (sc : Nat → Int64) (i : Nat) (b : Option Nat) : Option Nat :=
  match b with
  | none => if al i = true then some i else none
  | some j => if al i = true ∧ sc j < sc i then some i else some j
def bsf (al : Nat → Bool) (sc : Nat → Int64) (n : Nat) : Option Nat := fo (bst al sc) n none
theorem bsf_lt {al : Nat → Bool} {sc : Nat → Int64} : ∀ (n j : Nat), bsf al sc n = some j → j < n := by
  intro n
  induction n with
  | zero => intro j h; cases h
  | succ n ih =>
    intro j h
    have h : bst al sc n (bsf al sc n) = some j := h
    cases e : bsf al sc n with
    | none =>
      rw [e] at h
      have h : (if al n = true then some n else none) = some j := h
      split at h
      · cases h; omega
      · cases h
    | some k =>
      have hk := ih k e
      rw [e] at h
      have h : (if al n = true ∧ sc k < sc n then some n else some k) = some j := h
      split at h
      · cases h; omega
      · cases h; omega
