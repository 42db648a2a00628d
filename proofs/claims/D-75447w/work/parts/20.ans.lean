/-! THE ANSWERS of the questions: a code (0: an answer; 1, 2, 3: which exception of the law's list) and a value. C: a camera is there; P its plan, S its state -/
set_option maxRecDepth 100000
abbrev cl (a : Int32) : Nat := a.toNatClampNeg
def ask {α : Type} (C : Bool) (p : Prop) [Decidable p] (z : α) (r : Nat × α) : Nat × α := if C = false then (1, z) else if p then r else (2, z)
def arg {α : Type} (p : Prop) [Decidable p] (z v : α) : Nat × α := if p then (0, v) else (3, z)
theorem ask_0 {α : Type} {p : Prop} [Decidable p] {z : α} {r : Nat × α} : ask false p z r = (1, z) := rfl
theorem ask_t {α : Type} {p : Prop} [Decidable p] {z : α} {r : Nat × α} (h : p) : ask true p z r = r := if_pos h
theorem ask_f {α : Type} {p : Prop} [Decidable p] {z : α} {r : Nat × α} (h : ¬ p) : ask true p z r = (2, z) := if_neg h
theorem arg_t {α : Type} {p : Prop} [Decidable p] {z v : α} (h : p) : arg p z v = (0, v) := if_pos h
theorem arg_f {α : Type} {p : Prop} [Decidable p] {z v : α} (h : ¬ p) : arg p z v = (3, z) := if_neg h
/-- the functions agree at these keys -/
def ag {α : Type} (L : List Nat) (f f' : Nat → α) : Prop := ∀ j ∈ L, f' j = f j
theorem ag_r {α : Type} {L : List Nat} {f : Nat → α} : ag L f f := fun _ _ => rfl
theorem ag_u {α : Type} {L : List Nat} {f f' : Nat → α} {k : Nat} {v : α} (h : k ∉ L) (h1 : ag L f f') : ag L f (va_up f' k v) := fun j hj => by
  rw [va_up_ne _ _ (fun e => h (by rw [← e]; exact hj))]
  exact h1 j hj
/-- what stays through a question -/
abbrev LX : List Nat := [2, 5, 6, 19, 20, 21, 28]
abbrev LI : List Nat := [1, 10, 12, 15, 16, 17, 18, 27]
theorem b2_y {p : Prop} [Decidable p] (h : p) : b2 p = nI 1 := (b2_1 h).symm.trans (by decide)
theorem b2_n {p : Prop} [Decidable p] (h : ¬ p) : b2 p = nI 0 := (b2_0 h).symm.trans (by decide)
theorem cl_I {n : Nat} (h : n < 2 ^ 31) : cl (nI n) = n := by
  unfold cl Int32.toNatClampNeg
  rw [nI_toInt h]; rfl
theorem ag_c {α : Type} {L : List Nat} {f f' : Nat → α} {k : Nat} {v : α} (h1 : ag L f f') : ag L (va_up f k v) (va_up f' k v) := fun j hj => by
  unfold va_up
  split
  · rfl
  · exact h1 j hj
/-- a question's end on the model's side -/
def MEnd {α : Type} (D : DD) (g : Nat → Nat) (x : Nat → Int32) (I : Nat → Nat → Int32) (inj : α → Value) (an : Nat × α) (v : Option Value) (H1 : Heap) : Prop :=
  ∃ (x' : Nat → Int32) (I' : Nat → Nat → Int32) (J' : Nat → Nat → Int64), MR D g x' I' J' H1 ∧ ag LX x x' ∧ ag LI I I' ∧ x' 0 = nI an.1 ∧ ∃ r : α, v = some (inj r) ∧ (an.1 = 0 → r = an.2)
theorem MEnd.of {α : Type} {D : DD} {g : Nat → Nat} {x x' : Nat → Int32} {I I' : Nat → Nat → Int32} {J' : Nat → Nat → Int64} {inj : α → Value} {an : Nat × α} {H1 : Heap} (hM : MR D g x' I' J' H1) (hx : ag LX x x') (hI : ag LI I I') (c : Nat) (w r : α) (E : an = (c, w)) (h0 : x' 0 = nI c) (hv : c = 0 → r = w) {v : Option Value} (h : v = some (inj r)) : MEnd D g x I inj an v H1 := by
  subst E
  exact ⟨x', I', J', hM, hx, hI, h0, r, h, hv⟩
abbrev iV : Int32 → Value := fun r => .int r
abbrev lV : Int64 → Value := fun r => .long r
abbrev fV : UInt32 → Value := fun r => .float r
/-- the table holds the delays -/
abbrev TB (P : Nat → Int32) (T : Nat → Int32) : Prop := ∀ c, c < nC P → ∀ m, m < nM P → T (12 * c + m) = nI (dc P c m)
/-- with a camera or without -/
def cam (C : Bool) (c20 : Int32) (P S T : Nat → Int32) : Prop := (C = false ∧ c20 = nI 0) ∨ (C = true ∧ c20 = nI 1 ∧ VC P ∧ VS S ∧ TB P T)
abbrev pnt (x y : Int32) : Prop := (-9999 ≤ x ∧ x ≤ nI 9999) ∧ (-9999 ≤ y ∧ y ≤ nI 9999)
abbrev vel (x y : Int32) : Prop := (-999 ≤ x ∧ x ≤ nI 999) ∧ (-999 ≤ y ∧ y ≤ nI 999)
abbrev prd (p : Int32) : Prop := nI 2 ≤ p ∧ p ≤ nI 99
abbrev shr (p : Int32) : Prop := nI 1 ≤ p ∧ p ≤ nI 100
abbrev bok (P : Nat → Int32) (a n : Int32) : Prop := ix (nT P) a ∧ (nI 1 ≤ n ∧ n ≤ nI (nT P))
abbrev len (P : Nat → Int32) (n : Int32) : Prop := nI 4 ≤ n ∧ n ≤ nI (nT P)
theorem rg_of {B : Nat} {x : Int32} {mB : Int32} (hm : mB.toInt = -(B : Int)) (hB : B < 2 ^ 31) (h : mB ≤ x ∧ x ≤ nI B) : rg B x := by
  have h1 := Int32.le_iff_toInt_le.mp h.1
  have h2 := Int32.le_iff_toInt_le.mp h.2
  rw [nI_toInt hB] at h2
  exact ⟨by omega, h2⟩
def an_micAt (C : Bool) (P S : Nat → Int32) (a b : Int32) : Nat × Int32 := ask C (ix (nM P) a) 0 (if b = nI 0 then (0, P (11 + cl a)) else if b = nI 1 then (0, P (23 + cl a)) else if b = nI 2 then (0, nI (gain P (cl a))) else if b = nI 3 then (0, nI (wgt S (cl a))) else (3, 0))
def an_isMuted (C : Bool) (P S : Nat → Int32) (a : Int32) : Nat × Int32 := ask C (ix (nM P) a) 0 (0, b2 (¬ S (1 + cl a) = 0))
def an_cellAt (C : Bool) (P : Nat → Int32) (a b : Int32) : Nat × Int32 := ask C (ix (nC P) a) 0 (arg (nI 0 ≤ b ∧ b ≤ nI 1) 0 (if b = 0 then cx P (cl a) else cy P (cl a)))
def an_sourceAt (C : Bool) (P S : Nat → Int32) (a b t : Int32) : Nat × Int32 := ask C (ix (nS P) a) 0 (arg ((nI 0 ≤ b ∧ b ≤ nI 1) ∧ ix (nT P) t) 0 (if b = 0 then sxA S (cl a) (cl t) else syA S (cl a) (cl t)))
def an_isOn (C : Bool) (P S : Nat → Int32) (a : Int32) : Nat × Int32 := ask C (ix (nS P) a) 0 (0, b2 (S (25 + cl a) = nI 1))
def an_waveAt (C : Bool) (P : Nat → Int32) (a t : Int32) : Nat × Int32 := ask C (ix (nS P) a) 0 (arg (ix (nT P) t) 0 (wav P (cl a) (cl t)))
def an_delay (C : Bool) (P : Nat → Int32) (a c : Int32) : Nat × Int32 := ask C (ix (nM P) a ∧ ix (nC P) c) 0 (0, nI (dc P (cl c) (cl a)))
def an_delayTo (C : Bool) (P : Nat → Int32) (a x y : Int32) : Nat × Int32 := ask C (ix (nM P) a) 0 (arg (pnt x y) 0 (nI (dN P (cl a) x y)))
/-- least and greatest delay of those that are heard -/
def spn (P S : Nat → Int32) (c n : Nat) : Int32 := fo (fun m a => if S (1 + m) = 0 then (if nI (dc P c m) < a then nI (dc P c m) else a) else a) n (nI 2147483647)
def spr (P S : Nat → Int32) (c : Nat) : Int32 := if act S (nM P) = 0 then 0 else nI (mxd S (dc P c) (nM P)) - spn P S c (nM P)
def an_spread (C : Bool) (P S : Nat → Int32) (c : Int32) : Nat × Int32 := ask C (ix (nC P) c) 0 (0, spr P S (cl c))
def an_window (C : Bool) (P S : Nat → Int32) (c : Int32) : Nat × Int32 := ask C (ix (nC P) c) 0 (0, nI (win P S (dc P (cl c))))
def an_sample (C : Bool) (P S : Nat → Int32) (a t : Int32) : Nat × Int32 := ask C (ix (nM P) a) 0 (arg (ix (nT P) t) 0 (S (55 + 200 * cl a + cl t)))
def an_beam (C : Bool) (P S : Nat → Int32) (c t : Int32) : Nat × Int32 := ask C (ix (nC P) c) 0 (arg (ix (win P S (dc P (cl c))) t) 0 (bm P S (dc P (cl c)) (cl t)))
def an_power (C : Bool) (P S : Nat → Int32) (c : Int32) : Nat × Int64 := ask C (ix (nC P) c) 0 (0, pwc P S (cl c))
def an_powerAt (C : Bool) (P S : Nat → Int32) (x y : Int32) : Nat × Int64 := ask C (pnt x y) 0 (0, pwr P S (fun m => dN P m x y))
abbrev bC (P S : Nat → Int32) : Nat := bsN (pwc P S) (nC P)
def an_best (C : Bool) (P S : Nat → Int32) : Nat × Int32 := ask C True 0 (0, nI (bC P S))
def an_bestPower (C : Bool) (P S : Nat → Int32) : Nat × Int64 := ask C True 0 (0, pwc P S (bC P S))
def msm (P S : Nat → Int32) (n : Nat) : Int64 := fo (fun c s => s + pwc P S c) n 0
def an_meanPower (C : Bool) (P S : Nat → Int32) : Nat × Int64 := ask C True 0 (0, msm P S (nC P) / lN (nC P))
def pks (P : Nat → Int32) (pw : Nat → Int64) (n : Nat) : Nat := fo (fun c a => a + (if top P pw c then 1 else 0)) n 0
def an_peaks (C : Bool) (P S : Nat → Int32) : Nat × Int32 := ask C True 0 (0, nI (pks P (pwc P S) (nC P)))
def pkr (P : Nat → Int32) (pw : Nat → Int64) (c n : Nat) : Nat := fo (fun o a => a + (if o ≠ c ∧ top P pw o ∧ gtr pw o c then 1 else 0)) n 0
/-- the first c with q -/
def fst1 (q : Nat → Prop) [DecidablePred q] (c : Nat) (b : Option Nat) : Option Nat := match b with
  | some j => some j
  | none => if q c then some c else none
def pkA (P : Nat → Int32) (pw : Nat → Int64) (r : Int32) (n : Nat) : Option Nat := fo (fst1 (fun c => top P pw c ∧ nI (pkr P pw c (nC P)) = r)) n none
def an_peakAt (C : Bool) (P S : Nat → Int32) (r : Int32) : Nat × Int32 := ask C True 0 (match pkA P (pwc P S) r (nC P) with
  | some c => (0, nI c)
  | none => (2, 0))
def an_isPeak (C : Bool) (P S : Nat → Int32) (c : Int32) : Nat × Int32 := ask C (ix (nC P) c) 0 (0, b2 (top P (pwc P S) (cl c)))
def cse (P S : Nat → Int32) (n : Nat) : Int64 := fo (fun c s => if c = bC P S then s else if s < pwc P S c then pwc P S c else s) n 0
def ctr (P S : Nat → Int32) : UInt32 := if cse P S (nC P) = 0 then 0 else FP.fdiv (FP.l2f (pwc P S (bC P S))) (FP.l2f (cse P S (nC P)))
def an_contrast (C : Bool) (P S : Nat → Int32) : Nat × UInt32 := ask C True 0 (0, ctr P S)
def an_alias (C : Bool) (P S : Nat → Int32) (a b p : Int32) : Nat × Int32 := ask C (ix (nC P) a ∧ ix (nC P) b) 0 (arg (prd p) 0 (nI (cnf P S (cl a) (cl b) (cl p) (nM P))))
def an_isAlias (C : Bool) (P S : Nat → Int32) (c p h : Int32) : Nat × Int32 := ask C (ix (nC P) c) 0 (arg (prd p ∧ shr h) 0 (b2 (mrk P S (pwc P S) (cl c) (bC P S) (cl p) (cl h))))
def als (P S : Nat → Int32) (p h n : Nat) : Nat := fo (fun c a => a + (if mrk P S (pwc P S) c (bC P S) p h then 1 else 0)) n 0
def an_aliases (C : Bool) (P S : Nat → Int32) (p h : Int32) : Nat × Int32 := ask C (prd p ∧ shr h) 0 (0, nI (als P S (cl p) (cl h) (nC P)))
/-! .. blocks, tracks, zones -/
def an_blockPower (C : Bool) (P S : Nat → Int32) (c a n : Int32) : Nat × Int64 := ask C (ix (nC P) c) 0 (arg (bok P a n) 0 (blk P S (cl c) (cl a) (cl n)))
abbrev bbk (P S : Nat → Int32) (a n : Nat) : Nat := bsN (fun c => blk P S c a n) (nC P)
def an_blockBest (C : Bool) (P S : Nat → Int32) (a n : Int32) : Nat × Int32 := ask C (bok P a n) 0 (0, nI (bbk P S (cl a) (cl n)))
def pth (P S : Nat → Int32) (n k : Nat) : Nat := fo (fun j a => a + (if bbk P S (n * (j + 1)) n ≠ bbk P S (n * j) n then 1 else 0)) k 0
def an_path (C : Bool) (P S : Nat → Int32) (n : Int32) : Nat × Int32 := ask C (len P n) 0 (0, nI (pth P S (cl n) (nT P / cl n - 1)))
def an_trackScore (C : Bool) (P S : Nat → Int32) (n : Int32) : Nat × Int64 := ask C (len P n) 0 (0, trk P S (cl n) (nT P / cl n) (nT P / cl n - 1) (bsN (trk P S (cl n) (nT P / cl n) (nT P / cl n - 1)) (nC P)))
/-- the track's cells -/
def trc (P S : Nat → Int32) (n B : Nat) : Nat → Nat
  | 0 => bsN (trk P S n B (B - 1)) (nC P)
  | k + 1 => (bsf (fun i => decide (nea P (trc P S n B k) i)) (trk P S n B (B - 1 - (k + 1))) (nC P)).getD 0
def an_trackCell (C : Bool) (P S : Nat → Int32) (n b : Int32) : Nat × Int32 := if C = false then (1, 0) else if len P n then (if ix (nT P / cl n) b then (0, nI (trc P S (cl n) (nT P / cl n) (cl b))) else (2, 0)) else (3, 0)
def zsm (P S : Nat → Int32) (z n : Nat) : Int64 := fo (fun c s => s + (if inZ P z c then pwc P S c else 0)) n 0
def an_zonePower (C : Bool) (P S : Nat → Int32) (z : Int32) : Nat × Int64 := ask C (ix (nZ P) z) 0 (0, zsm P S (cl z) (nC P))
def an_zoneBest (C : Bool) (P S : Nat → Int32) (z : Int32) : Nat × Int32 := ask C (ix (nZ P) z) 0 (0, obI (bsf (fun c => decide (inZ P (cl z) c)) (pwc P S) (nC P)))
/-! .. a moving focus, microphones compared -/
def an_movingPower (C : Bool) (P S : Nat → Int32) (c u w : Int32) : Nat × Int64 := ask C (ix (nC P) c) 0 (arg (vel u w) 0 (mov P S (cl c) u w))
abbrev bvs (P S : Nat → Int32) (c : Nat) (st : Int32) (m k : Nat) : Int64 := mov P S c (st * (nI (k / (2 * m + 1)) - nI m)) (st * (nI (k % (2 * m + 1)) - nI m))
def bvl (P S : Nat → Int32) (c : Nat) (st : Int32) (m : Nat) : Nat := bsN (bvs P S c st m) ((2 * m + 1) * (2 * m + 1))
def an_bestVelocity (C : Bool) (P S : Nat → Int32) (c st m : Int32) : Nat × Int32 := ask C (ix (nC P) c) 0 (arg ((nI 1 ≤ st ∧ st ≤ nI 99) ∧ (nI 0 ≤ m ∧ m ≤ nI 4)) 0 (nI (100 * (bvl P S (cl c) st (cl m) / (2 * cl m + 1)) + bvl P S (cl c) st (cl m) % (2 * cl m + 1))))
def an_correlation (C : Bool) (P S : Nat → Int32) (a b t : Int32) : Nat × Int64 := ask C (ix (nM P) a ∧ ix (nM P) b) 0 (arg (ix (nT P) t) 0 (tog P S (cl a) (cl b) (cl t)))
def an_bestLag (C : Bool) (P S : Nat → Int32) (a b t : Int32) : Nat × Int32 := ask C (ix (nM P) a ∧ ix (nM P) b) 0 (arg (ix (nT P) t) 0 (nI (bsN (fun k => tog P S (cl a) (cl b) k) (cl t + 1))))
def an_level (C : Bool) (P S : Nat → Int32) (a : Int32) : Nat × Int64 := ask C (ix (nM P) a) 0 (0, lev P S (cl a))
def lra (P S : Nat → Int32) (m n : Nat) : Nat := fo (fun o a => a + (if gtr (lev P S) o m then 1 else 0)) n 0
def ldA (P S : Nat → Int32) (r : Int32) (n : Nat) : Option Nat := fo (fst1 (fun m => nI (lra P S m (nM P)) = r)) n none
def an_loudest (C : Bool) (P S : Nat → Int32) (r : Int32) : Nat × Int32 := ask C (ix (nM P) r) 0 (0, obI (ldA P S r (nM P)))
/-! .. the map as a text: its length, its bytes -/
def pgn (P : Nat → Int32) : Nat := nC P + (nY P - 1)
def pgd (pw : Nat → Int64) (b c : Nat) : Int32 := nI 48 + (if pw b = 0 then nI 0 else ((9 : Int64) * pw c / pw b).toInt32)
def pgb (P : Nat → Int32) (pw : Nat → Int64) (b i : Nat) : Int32 := if i % (nX P + 1) = nX P then nI 59 else pgd pw b (nX P * (i / (nX P + 1)) + i % (nX P + 1))
def an_writeMap (C : Bool) (P : Nat → Int32) : Nat × Int32 := ask C True 0 (0, nI (pgn P))
def an_mapByte (n : Nat) (pg : Nat → Int32) (i : Int32) : Nat × Int32 := if ix n i then (0, pg (cl i)) else (1, 0)
/-! .. what-if questions -/
abbrev bP (P S : Nat → Int32) (c p : Nat) : Nat → Int32 := rcd P (rawP P c p) S
def an_pointBest (C : Bool) (P S : Nat → Int32) (c p : Int32) : Nat × Int32 := ask C (ix (nC P) c) 0 (arg (prd p) 0 (nI (bC P (bP P S (cl c) (cl p)))))
def an_pointPower (C : Bool) (P S : Nat → Int32) (c o p : Int32) : Nat × Int64 := ask C (ix (nC P) c ∧ ix (nC P) o) 0 (arg (prd p) 0 (pwc P (bP P S (cl c) (cl p)) (cl o)))
def an_bestWithout (C : Bool) (P S : Nat → Int32) (a : Int32) : Nat × Int32 := ask C (ix (nM P) a) 0 (0, nI (bC P (va_up S (1 + cl a) (nI 1))))
/-- all recordings anew -/
abbrev rcA (P S : Nat → Int32) : Nat → Int32 := rcd P (rawA P S) S
def an_bestIfOff (C : Bool) (P S : Nat → Int32) (k : Int32) : Nat × Int32 := ask C (ix (nS P) k) 0 (0, nI (bC P (rcA P (va_up S (25 + cl k) (nI 0)))))
/-! .. changes: the answer, and the state then -/
def an_mute (C : Bool) (P S : Nat → Int32) (a : Int32) : Nat × Int32 := ask C (ix (nM P) a) 0 (0, b2 (S (1 + cl a) = nI 1))
def an_setWeight (C : Bool) (P S : Nat → Int32) (a w : Int32) : Nat × Int32 := ask C (ix (nM P) a) 0 (arg (nI 0 ≤ w ∧ w ≤ nI 9) 0 (S (13 + cl a)))
def an_setOn (C : Bool) (P S : Nat → Int32) (k : Int32) : Nat × Int32 := ask C (ix (nS P) k) 0 (0, b2 (S (25 + cl k) = nI 1))
abbrev st_on (P S : Nat → Int32) (k : Nat) (v : Int32) : Nat → Int32 := rcA P (va_up S (25 + k) v)
abbrev st_two (P S : Nat → Int32) (q : Nat) (x y : Int32) : Nat → Int32 := rcA P (va_up (va_up S q x) (q + 6) y)
def an_moveSource (C : Bool) (P S : Nat → Int32) (k x y : Int32) : Nat × Int32 := ask C (ix (nS P) k) 0 (arg ((-2000 ≤ x ∧ x ≤ nI 2000) ∧ (-2000 ≤ y ∧ y ≤ nI 2000)) 0 (nI (bC P (st_two P S (31 + cl k) x y))))
def an_setVelocity (C : Bool) (P S : Nat → Int32) (k x y : Int32) : Nat × Int32 := ask C (ix (nS P) k) 0 (arg (vel x y) 0 (nI (bC P (st_two P S (43 + cl k) x y))))
/-- cleaned: the best cell's beam, in percents, is taken from those that are heard -/
def cq (P S : Nat → Int32) (b p t : Nat) : Int32 := ((bm P S (dc P b) t).toInt64 * lN p / lN (100 * wsm S (nM P))).toInt32
/-- rows below m are done, of row m the first n -/
def clp (P S : Nat → Int32) (b p m n : Nat) : Nat → Int32 := fun i =>
  if 55 ≤ i ∧ (i - 55) / 200 < nM P ∧ S (1 + (i - 55) / 200) = 0 ∧ dc P b ((i - 55) / 200) ≤ (i - 55) % 200 ∧ (i - 55) % 200 - dc P b ((i - 55) / 200) < win P S (dc P b) ∧ ((i - 55) / 200 < m ∨ (i - 55) / 200 = m ∧ (i - 55) % 200 - dc P b ((i - 55) / 200) < n) then S i - cq P S b p ((i - 55) % 200 - dc P b ((i - 55) / 200)) else S i
def cln (P S : Nat → Int32) (b p : Nat) : Nat → Int32 := va_up (clp P S b p (nM P) 0) 0 (S 0 + nI 1)
def an_clean (C : Bool) (P S : Nat → Int32) (p : Int32) : Nat × Int32 := if C = true ∧ 0 < wsm S (nM P) then (if nI 1 ≤ p ∧ p ≤ nI 100 then (0, nI (bC P S)) else (2, 0)) else (1, 0)
def an_cleaned (C : Bool) (S : Nat → Int32) : Nat × Int32 := ask C True 0 (0, S 0)
def an_undo (u : Nat) : Nat × Int32 := if u = 0 then (1, 0) else (0, nI (u - 1))
def an_save (C : Bool) (P S : Nat → Int32) (k : Int32) : Nat × Int32 := ask C (nI 0 ≤ k ∧ k ≤ nI 1) 0 (0, nI (bC P S))
def an_restore (P : Nat → Int32) (z : Nat → Int32) (T : Nat → Int32) (k : Int32) : Nat × Int32 := if nI 0 ≤ k ∧ k ≤ nI 1 then (if z (cl k) = 0 then (2, 0) else (0, nI (bC P (fun i => T (2455 * cl k + i))))) else (1, 0)
/-! congruences -/
theorem top_c {P : Nat → Int32} {p q : Nat → Int64} {c : Nat} (h : ∀ j, j < nC P → p j = q j) (hc : c < nC P) : top P p c ↔ top P q c := by
  have key : ∀ j, j < nY P → ∀ i, i < nX P → nX P * j + i < nC P := fun j hj i hi => Nat.lt_of_lt_of_le (show nX P * j + i < nX P * (j + 1) by rw [Nat.mul_succ]; omega) (Nat.mul_le_mul_left _ hj)
  exact ⟨fun z j hj i hi w => by rw [← h _ (key j hj i hi), ← h _ hc]; exact z j hj i hi w, fun z j hj i hi w => by rw [h _ (key j hj i hi), h _ hc]; exact z j hj i hi w⟩
theorem gtr_c {p q : Nat → Int64} {a b : Nat} (h : p a = q a) (h2 : p b = q b) : gtr p a b ↔ gtr q a b := by unfold gtr; rw [h, h2]
theorem mrk_c {P S : Nat → Int32} {p q : Nat → Int64} {c b r s : Nat} (h : ∀ j, j < nC P → p j = q j) (hc : c < nC P) : mrk P S p c b r s ↔ mrk P S q c b r s :=
  ⟨fun z => ⟨z.1, (top_c h hc).mp z.2.1, z.2.2⟩, fun z => ⟨z.1, (top_c h hc).mpr z.2.1, z.2.2⟩⟩
theorem b2_c {p q : Prop} [Decidable p] [Decidable q] (h : p ↔ q) : b2 p = b2 q := by
  by_cases hp : p
  · rw [← b2_1 hp, ← b2_1 (h.mp hp)]
  · rw [← b2_0 hp, ← b2_0 (fun z => hp (h.mpr z))]
/-- all are allowed -/
theorem bsf_all {sc : Nat → Int64} {n : Nat} : bsf (fun _ => true) sc (n + 1) = some (bsN sc (n + 1)) := by
  have key : ∀ k, bsf (fun _ => true) sc (k + 1) = some (fo (bs1 sc) k 0) := by
    intro k
    induction k with
    | zero => rw [bsf_s, bsf_0]; rfl
    | succ k ih =>
      rw [bsf_s, ih]
      show (if true = true ∧ sc (fo (bs1 sc) k 0) < sc (k + 1) then some (k + 1) else some (fo (bs1 sc) k 0)) = some (if sc (fo (bs1 sc) k 0) < sc (k + 1) then k + 1 else fo (bs1 sc) k 0)
      by_cases h : sc (fo (bs1 sc) k 0) < sc (k + 1)
      · rw [if_pos ⟨rfl, h⟩, if_pos h]
      · rw [if_neg (fun z => h z.2), if_neg h]
  exact key n
theorem nea_r (P : Nat → Int32) (c : Nat) : nea P c c := ⟨⟨by omega, by omega⟩, by omega, by omega⟩
/-- a state's recordings and what it is heard by: what lies below 2455 -/
theorem clp_0 (P S : Nat → Int32) (b p : Nat) : clp P S b p 0 0 = S := by
  funext i; unfold clp
  rw [if_neg (by omega)]
/-! a state's numbers, one at a time -/
def vok (i : Nat) (v : Int32) : Prop := (1 ≤ i → i ≤ 12 → v = 0 ∨ v = 1) ∧ (13 ≤ i → i ≤ 24 → v = nI v.toNatClampNeg ∧ v.toNatClampNeg ≤ 9) ∧ (25 ≤ i → i ≤ 30 → v = 0 ∨ v = 1) ∧ (31 ≤ i → i ≤ 42 → rg 2000 v) ∧ (43 ≤ i → i ≤ 54 → rg 999 v)
theorem VS.ok {S : Nat → Int32} (h : VS S) (i : Nat) : vok i (S i) := by
  refine ⟨fun h1 h2 => ?_, fun h1 h2 => ?_, fun h1 h2 => ?_, fun h1 h2 => ?_, fun h1 h2 => ?_⟩
  · obtain ⟨j, rfl⟩ : ∃ j, i = 1 + j := ⟨i - 1, by omega⟩
    exact h.mu j (by omega)
  · obtain ⟨j, rfl⟩ : ∃ j, i = 13 + j := ⟨i - 13, by omega⟩
    exact h.wgt j (by omega)
  · obtain ⟨j, rfl⟩ : ∃ j, i = 25 + j := ⟨i - 25, by omega⟩
    exact h.on j (by omega)
  · by_cases h3 : i < 37
    · obtain ⟨j, rfl⟩ : ∃ j, i = 31 + j := ⟨i - 31, by omega⟩
      exact h.r31 j (by omega)
    · obtain ⟨j, rfl⟩ : ∃ j, i = 37 + j := ⟨i - 37, by omega⟩
      exact h.r37 j (by omega)
  · by_cases h3 : i < 49
    · obtain ⟨j, rfl⟩ : ∃ j, i = 43 + j := ⟨i - 43, by omega⟩
      exact h.r43 j (by omega)
    · obtain ⟨j, rfl⟩ : ∃ j, i = 49 + j := ⟨i - 49, by omega⟩
      exact h.r49 j (by omega)
theorem VS.mk' {S : Nat → Int32} (h : ∀ i, vok i (S i)) : VS S :=
  ⟨fun m hm => (h (1 + m)).1 (by omega) (by omega), fun m hm => (h (13 + m)).2.1 (by omega) (by omega), fun m hm => (h (25 + m)).2.2.1 (by omega) (by omega), fun m hm => (h (31 + m)).2.2.2.1 (by omega) (by omega), fun m hm => (h (37 + m)).2.2.2.1 (by omega) (by omega), fun m hm => (h (43 + m)).2.2.2.2 (by omega) (by omega), fun m hm => (h (49 + m)).2.2.2.2 (by omega) (by omega)⟩
theorem VS.up {S : Nat → Int32} (h : VS S) {q : Nat} {v : Int32} (hv : vok q v) : VS (va_up S q v) := VS.mk' fun i => by
  unfold va_up
  split
  · rename_i e; rw [e]; exact hv
  · exact h.ok i
theorem vok_b {q : Nat} {v : Int32} (hq : (1 ≤ q ∧ q ≤ 12) ∨ (25 ≤ q ∧ q ≤ 30)) (hv : v = 0 ∨ v = 1) : vok q v := ⟨fun _ _ => hv, fun _ _ => by omega, fun _ _ => hv, fun _ _ => by omega, fun _ _ => by omega⟩
theorem vok_w {q w : Nat} (hq : 13 ≤ q ∧ q ≤ 24) (hw : w ≤ 9) : vok q (nI w) := ⟨fun _ _ => by omega, fun _ _ => by rw [show (nI w).toNatClampNeg = w from cl_I (by omega)]; exact ⟨rfl, hw⟩, fun _ _ => by omega, fun _ _ => by omega, fun _ _ => by omega⟩
theorem vok_p {q : Nat} {v : Int32} (hq : 31 ≤ q ∧ q ≤ 42) (hv : rg 2000 v) : vok q v := ⟨fun _ _ => by omega, fun _ _ => by omega, fun _ _ => by omega, fun _ _ => hv, fun _ _ => by omega⟩
theorem vok_v {q : Nat} {v : Int32} (hq : 43 ≤ q ∧ q ≤ 54) (hv : rg 999 v) : vok q v := ⟨fun _ _ => by omega, fun _ _ => by omega, fun _ _ => by omega, fun _ _ => by omega, fun _ _ => hv⟩
theorem vok_z {q : Nat} {v : Int32} (hq : q = 0 ∨ 55 ≤ q) : vok q v := ⟨fun _ _ => by omega, fun _ _ => by omega, fun _ _ => by omega, fun _ _ => by omega, fun _ _ => by omega⟩
/-- the end of a change: with the answer's code 0 the new state, else the old -/
def MS {α : Type} (D : DD) (g : Nat → Nat) (x : Nat → Int32) (I : Nat → Nat → Int32) (x1 : Nat → Int32) (I1 : Nat → Nat → Int32) (inj : α → Value) (an : Nat × α) (v : Option Value) (H1 : Heap) : Prop := MEnd D g (if an.1 = 0 then x1 else x) (if an.1 = 0 then I1 else I) inj an v H1
theorem MS.of {α : Type} {D : DD} {g : Nat → Nat} {x x' x1 : Nat → Int32} {I I' I1 : Nat → Nat → Int32} {J' : Nat → Nat → Int64} {inj : α → Value} {an : Nat × α} {H1 : Heap} (hM : MR D g x' I' J' H1) (hx : ag LX x1 x') (hI : ag LI I1 I') (w r : α) (E : an = (0, w)) (h0 : x' 0 = nI 0) (hv : r = w) {v : Option Value} (h : v = some (inj r)) : MS D g x I x1 I1 inj an v H1 := by
  subst E
  exact MEnd.of hM hx hI 0 w r rfl h0 (fun _ => hv) h
theorem MS.no {α : Type} {D : DD} {g : Nat → Nat} {x x' x1 : Nat → Int32} {I I' I1 : Nat → Nat → Int32} {J' : Nat → Nat → Int64} {inj : α → Value} {an : Nat × α} {H1 : Heap} (hM : MR D g x' I' J' H1) (hx : ag LX x x') (hI : ag LI I I') (c : Nat) (hc : ¬ c = 0) (w r : α) (E : an = (c, w)) (h0 : x' 0 = nI c) {v : Option Value} (h : v = some (inj r)) : MS D g x I x1 I1 inj an v H1 := by
  subst E
  unfold MS
  rw [if_neg hc, if_neg hc]
  exact MEnd.of hM hx hI c w r rfl h0 (fun z => absurd z hc) h
