/-! THE READERS, mathematically: x the parser's numbers, P the new plan, S the draft -/
set_option maxRecDepth 100000
noncomputable def wr (f : Nat → Int32) (i : Nat) (x : Nat → Int32) : Bool := @decide (wrd f (SRB.getD i []) x) (Classical.propDecidable _)
theorem wr_y {f : Nat → Int32} {i : Nat} {x : Nat → Int32} (h : wrd f (SRB.getD i []) x) : wr f i x = true := by
  unfold wr
  exact @decide_eq_true _ (Classical.propDecidable _) h
theorem wr_i {f : Nat → Int32} {i : Nat} {x : Nat → Int32} (h : wr f i x = true) : wrd f (SRB.getD i []) x := by
  unfold wr at h
  exact @of_decide_eq_true _ (Classical.propDecidable _) h
/-- the words -/
noncomputable def tks (f : Nat → Int32) (e i : Nat) (x : Nat → Int32) : Nat → Int32 := if wr f i x = true then nxt f e x else x
noncomputable def kwd (f : Nat → Int32) (e i : Nat) (x : Nat → Int32) : Nat → Int32 := if wr f i x = true then nxt f e x else fau 1 x
noncomputable def gag (f : Nat → Int32) (e i : Nat) (lo hi : Int32) (x : Nat → Int32) : Nat → Int32 := num f e lo hi (kwd f e i x)
noncomputable def gav (f : Nat → Int32) (e i : Nat) (lo hi : Int32) (x : Nat → Int32) : Int32 := lov lo hi (kwd f e i x)
def bgn (f : Nat → Int32) (e : Nat) (p : Prop) [Decidable p] (k : Nat) (x : Nat → Int32) : Nat → Int32 := nxt f e (if p then fau k x else x)
/-- the first line: the numbers behind each word -/
noncomputable def fi0 (f : Nat → Int32) (e : Nat) (x : Nat → Int32) : Nat → Int32 := kwd f e 0 x
noncomputable def fi1 (f : Nat → Int32) (e : Nat) (x : Nat → Int32) : Nat → Int32 := gag f e 1 (nI 100) (nI 5000) (fi0 f e x)
noncomputable def fi2 (f : Nat → Int32) (e : Nat) (x : Nat → Int32) : Nat → Int32 := gag f e 2 (nI 1) (nI 99) (fi1 f e x)
noncomputable def fi3 (f : Nat → Int32) (e : Nat) (x : Nat → Int32) : Nat → Int32 := gag f e 3 (nI 32) (nI 200) (fi2 f e x)
noncomputable def fi4 (f : Nat → Int32) (e : Nat) (x : Nat → Int32) : Nat → Int32 := gag f e 4 (nI 1) (nI 9999) (fi3 f e x)
noncomputable def fiP (f : Nat → Int32) (e : Nat) (x P : Nat → Int32) : Nat → Int32 := va_up (va_up (va_up (va_up P 0 (gav f e 1 (nI 100) (nI 5000) (fi0 f e x))) 1 (gav f e 2 (nI 1) (nI 99) (fi1 f e x))) 2 (gav f e 3 (nI 32) (nI 200) (fi2 f e x))) 3 (gav f e 4 (nI 1) (nI 9999) (fi3 f e x))
/-- a microphone -/
def mi0 (f : Nat → Int32) (e : Nat) (x P : Nat → Int32) : Nat → Int32 := bgn f e (nM P = 12) 4 x
def mi1 (f : Nat → Int32) (e : Nat) (x P : Nat → Int32) : Nat → Int32 := sgd f e (-500) (nI 500) (mi0 f e x P)
def mi2 (f : Nat → Int32) (e : Nat) (x P : Nat → Int32) : Nat → Int32 := sgd f e (-500) (nI 500) (mi1 f e x P)
def miX (f : Nat → Int32) (e : Nat) (x P : Nat → Int32) : Nat → Int32 := num f e (nI 1) (nI 9) (mi2 f e x P)
def miP (f : Nat → Int32) (e : Nat) (x P : Nat → Int32) : Nat → Int32 := if 0 < miX f e x P 5 then P else va_up (va_up (va_up (va_up P (11 + nM P) (sgv f e (-500) (nI 500) (mi0 f e x P))) (23 + nM P) (sgv f e (-500) (nI 500) (mi1 f e x P))) (35 + nM P) (lov (nI 1) (nI 9) (mi2 f e x P))) 4 (nI (nM P + 1))
/-- the map -/
def ma0 (f : Nat → Int32) (e : Nat) (x P : Nat → Int32) : Nat → Int32 := bgn f e (0 < pC P) 3 x
def ma1 (f : Nat → Int32) (e : Nat) (x P : Nat → Int32) : Nat → Int32 := sgd f e (-999) (nI 999) (ma0 f e x P)
def ma2 (f : Nat → Int32) (e : Nat) (x P : Nat → Int32) : Nat → Int32 := sgd f e (-999) (nI 999) (ma1 f e x P)
def ma3 (f : Nat → Int32) (e : Nat) (x P : Nat → Int32) : Nat → Int32 := num f e (nI 1) (nI 99) (ma2 f e x P)
def ma4 (f : Nat → Int32) (e : Nat) (x P : Nat → Int32) : Nat → Int32 := num f e (nI 1) (nI 12) (ma3 f e x P)
def maX (f : Nat → Int32) (e : Nat) (x P : Nat → Int32) : Nat → Int32 := num f e (nI 1) (nI 12) (ma4 f e x P)
def maP (f : Nat → Int32) (e : Nat) (x P : Nat → Int32) : Nat → Int32 := if 0 < maX f e x P 5 then P else va_up (va_up (va_up (va_up (va_up P 6 (sgv f e (-999) (nI 999) (ma0 f e x P))) 7 (sgv f e (-999) (nI 999) (ma1 f e x P))) 8 (lov (nI 1) (nI 99) (ma2 f e x P))) 9 (lov (nI 1) (nI 12) (ma3 f e x P))) 10 (lov (nI 1) (nI 12) (ma4 f e x P))
/-- a source: its kind, its numbers -/
noncomputable def ski (f : Nat → Int32) (x : Nat → Int32) : Int32 := if wr f 15 x = true then nI 0 else if wr f 16 x = true then nI 1 else if wr f 17 x = true then nI 2 else if wr f 18 x = true then nI 3 else (-1)
def so0 (f : Nat → Int32) (e : Nat) (x P : Nat → Int32) : Nat → Int32 := bgn f e (nS P = 6) 4 x
noncomputable def so1 (f : Nat → Int32) (e : Nat) (x P : Nat → Int32) : Nat → Int32 := bgn f e (ski f (so0 f e x P) = (-1)) 1 (so0 f e x P)
noncomputable def so2 (f : Nat → Int32) (e : Nat) (x P : Nat → Int32) : Nat → Int32 := sgd f e (-2000) (nI 2000) (so1 f e x P)
noncomputable def so3 (f : Nat → Int32) (e : Nat) (x P : Nat → Int32) : Nat → Int32 := sgd f e (-2000) (nI 2000) (so2 f e x P)
noncomputable def so4 (f : Nat → Int32) (e : Nat) (x P : Nat → Int32) : Nat → Int32 := sgd f e (-999) (nI 999) (so3 f e x P)
noncomputable def so5 (f : Nat → Int32) (e : Nat) (x P : Nat → Int32) : Nat → Int32 := sgd f e (-999) (nI 999) (so4 f e x P)
noncomputable def so6 (f : Nat → Int32) (e : Nat) (x P : Nat → Int32) : Nat → Int32 := num f e (nI 1) (nI 999) (so5 f e x P)
noncomputable def so7 (f : Nat → Int32) (e : Nat) (x P : Nat → Int32) : Nat → Int32 := num f e (nI 2) (nI 99) (so6 f e x P)
noncomputable def so8 (f : Nat → Int32) (e : Nat) (x P : Nat → Int32) : Nat → Int32 := num f e (nI 0) (nI 99) (so7 f e x P)
noncomputable def so9 (f : Nat → Int32) (e : Nat) (x P : Nat → Int32) : Nat → Int32 := tks f e 19 (so8 f e x P)
noncomputable def soX (f : Nat → Int32) (e : Nat) (x P : Nat → Int32) : Nat → Int32 := if wr f 19 (so8 f e x P) = true then num f e (nI 0) (nI 199) (so9 f e x P) else so9 f e x P
noncomputable def soF (f : Nat → Int32) (e : Nat) (x P : Nat → Int32) : Int32 := if wr f 19 (so8 f e x P) = true then lov (nI 0) (nI 199) (so9 f e x P) else nI 0
noncomputable def soP (f : Nat → Int32) (e : Nat) (x P : Nat → Int32) : Nat → Int32 := if 0 < soX f e x P 5 then P else va_up (va_up (va_up (va_up (va_up (va_up P (95 + nS P) (soF f e x P)) (47 + nS P) (ski f (so0 f e x P))) (53 + nS P) (lov (nI 1) (nI 999) (so5 f e x P))) (59 + nS P) (lov (nI 2) (nI 99) (so6 f e x P))) (65 + nS P) (lov (nI 0) (nI 99) (so7 f e x P))) 5 (nI (nS P + 1))
noncomputable def soS (f : Nat → Int32) (e : Nat) (x P S : Nat → Int32) : Nat → Int32 := if 0 < soX f e x P 5 then S else va_up (va_up (va_up (va_up (va_up S (25 + nS P) (nI 1)) (31 + nS P) (sgv f e (-2000) (nI 2000) (so1 f e x P))) (37 + nS P) (sgv f e (-2000) (nI 2000) (so2 f e x P))) (43 + nS P) (sgv f e (-999) (nI 999) (so3 f e x P))) (49 + nS P) (sgv f e (-999) (nI 999) (so4 f e x P))
/-- a wall -/
def wa0 (f : Nat → Int32) (e : Nat) (x P : Nat → Int32) : Nat → Int32 := bgn f e (nW P = 2) 4 x
def wa1 (f : Nat → Int32) (e : Nat) (x P : Nat → Int32) : Nat → Int32 := sgd f e (-2000) (nI 2000) (wa0 f e x P)
def waX (f : Nat → Int32) (e : Nat) (x P : Nat → Int32) : Nat → Int32 := num f e (nI 1) (nI 100) (wa1 f e x P)
def waP (f : Nat → Int32) (e : Nat) (x P : Nat → Int32) : Nat → Int32 := if 0 < waX f e x P 5 then P else va_up (va_up (va_up P (72 + nW P) (sgv f e (-2000) (nI 2000) (wa0 f e x P))) (74 + nW P) (lov (nI 1) (nI 100) (wa1 f e x P))) 71 (nI (nW P + 1))
/-- the fade -/
def fa0 (f : Nat → Int32) (e : Nat) (x P : Nat → Int32) : Nat → Int32 := bgn f e (0 < nF P) 3 x
def faX (f : Nat → Int32) (e : Nat) (x P : Nat → Int32) : Nat → Int32 := num f e (nI 1) (nI 999) (fa0 f e x P)
def faP (f : Nat → Int32) (e : Nat) (x P : Nat → Int32) : Nat → Int32 := if 0 < faX f e x P 5 then P else va_up P 76 (lov (nI 1) (nI 999) (fa0 f e x P))
/-- the filter: one number, the others behind it -/
def fl0 (f : Nat → Int32) (e : Nat) (x P : Nat → Int32) : Nat → Int32 := if nP P = 5 then fau 4 (if x 7 = nI 3 then lok (nI 0) (nI 9) x else x) else x
def fl1 (f : Nat → Int32) (e : Nat) (x P : Nat → Int32) : Nat → Int32 := sgd f e (-9) (nI 9) (fl0 f e x P)
def flP (f : Nat → Int32) (e : Nat) (x P : Nat → Int32) : Nat → Int32 := va_up (va_up P (78 + nP P) (sgv f e (-9) (nI 9) (fl0 f e x P))) 77 (nI (nP P + 1))
def fln (f : Nat → Int32) (e : Nat) : Nat → (Nat → Int32) → (Nat → Int32) → (Nat → Int32) × (Nat → Int32)
  | 0, x, P => (x, P)
  | n + 1, x, P => if 0 < fl1 f e x P 5 then (fl1 f e x P, P) else if fl1 f e x P 7 = nI 3 ∨ sgh (nI 45) (fl1 f e x P) then fln f e n (fl1 f e x P) (flP f e x P) else (fl1 f e x P, flP f e x P)
def flb (f : Nat → Int32) (e : Nat) (x P : Nat → Int32) : Nat → Int32 := bgn f e (0 < nP P) 3 x
def flA (f : Nat → Int32) (e : Nat) (x P : Nat → Int32) : (Nat → Int32) × (Nat → Int32) := fln f e (6 - nP P) (flb f e x P) P
/-- a clock -/
def ck0 (f : Nat → Int32) (e : Nat) (x : Nat → Int32) : Nat → Int32 := nxt f e x
def ckv (f : Nat → Int32) (e : Nat) (x P : Nat → Int32) : Int32 := lov (nI 0) (nI (nM P) - nI 1) (ck0 f e x)
def ck1 (f : Nat → Int32) (e : Nat) (x P : Nat → Int32) : Nat → Int32 := lok (nI 0) (nI (nM P) - nI 1) (ck0 f e x)
def ck2 (f : Nat → Int32) (e : Nat) (x P : Nat → Int32) : Nat → Int32 := bgn f e (ck1 f e x P 5 = nI 0 ∧ 0 < P (83 + cl (ckv f e x P))) 3 (ck1 f e x P)
def ckX (f : Nat → Int32) (e : Nat) (x P : Nat → Int32) : Nat → Int32 := num f e (nI 1) (nI 31) (ck2 f e x P)
def ckP (f : Nat → Int32) (e : Nat) (x P : Nat → Int32) : Nat → Int32 := if ckX f e x P 5 = nI 0 then va_up P (83 + cl (ckv f e x P)) (lov (nI 1) (nI 31) (ck2 f e x P)) else P
/-- the shade -/
def sd0 (f : Nat → Int32) (e : Nat) (x P : Nat → Int32) : Nat → Int32 := bgn f e (nH P = 12) 4 (lok (nI 0) (nI 9) x)
def sdP (x P : Nat → Int32) : Nat → Int32 := va_up (va_up P (119 + nH P) (lov (nI 0) (nI 9) x)) 118 (nI (nH P + 1))
def sdn (f : Nat → Int32) (e : Nat) : Nat → (Nat → Int32) → (Nat → Int32) → (Nat → Int32) × (Nat → Int32)
  | 0, x, P => (x, P)
  | n + 1, x, P => if 0 < sd0 f e x P 5 then (sd0 f e x P, P) else if sd0 f e x P 7 = nI 3 then sdn f e n (sd0 f e x P) (sdP x P) else (sd0 f e x P, sdP x P)
def sdb (f : Nat → Int32) (e : Nat) (x P : Nat → Int32) : Nat → Int32 := bgn f e (0 < nH P) 3 x
def sdA (f : Nat → Int32) (e : Nat) (x P : Nat → Int32) : (Nat → Int32) × (Nat → Int32) := sdn f e (13 - nH P) (sdb f e x P) P
/-- sources off -/
def ofv (f : Nat → Int32) (e : Nat) (x P : Nat → Int32) : Int32 := lov (nI 0) (nI (nS P) - nI 1) (ck0 f e x)
def of1 (f : Nat → Int32) (e : Nat) (x P : Nat → Int32) : Nat → Int32 := lok (nI 0) (nI (nS P) - nI 1) (ck0 f e x)
def ofX (f : Nat → Int32) (e : Nat) (x P S : Nat → Int32) : Nat → Int32 := bgn f e (of1 f e x P 5 = nI 0 ∧ S (25 + cl (ofv f e x P)) = nI 0) 3 (of1 f e x P)
def ofS (f : Nat → Int32) (e : Nat) (x P S : Nat → Int32) : Nat → Int32 := if ofX f e x P S 5 = nI 0 then va_up S (25 + cl (ofv f e x P)) (nI 0) else S
/-- a zone -/
def zo0 (f : Nat → Int32) (e : Nat) (x P : Nat → Int32) : Nat → Int32 := bgn f e (nZ P = 4) 4 x
def zv0 (f : Nat → Int32) (e : Nat) (x P : Nat → Int32) : Int32 := lov (nI 0) (nI (nX P) - nI 1) (zo0 f e x P)
def zo1 (f : Nat → Int32) (e : Nat) (x P : Nat → Int32) : Nat → Int32 := num f e (nI 0) (nI (nX P) - nI 1) (zo0 f e x P)
def zv1 (f : Nat → Int32) (e : Nat) (x P : Nat → Int32) : Int32 := lov (nI 0) (nI (nY P) - nI 1) (zo1 f e x P)
def zo2 (f : Nat → Int32) (e : Nat) (x P : Nat → Int32) : Nat → Int32 := num f e (nI 0) (nI (nY P) - nI 1) (zo1 f e x P)
def zv2 (f : Nat → Int32) (e : Nat) (x P : Nat → Int32) : Int32 := lov (zv0 f e x P) (nI (nX P) - nI 1) (zo2 f e x P)
def zo3 (f : Nat → Int32) (e : Nat) (x P : Nat → Int32) : Nat → Int32 := num f e (zv0 f e x P) (nI (nX P) - nI 1) (zo2 f e x P)
def zv3 (f : Nat → Int32) (e : Nat) (x P : Nat → Int32) : Int32 := lov (zv1 f e x P) (nI (nY P) - nI 1) (zo3 f e x P)
def zoX (f : Nat → Int32) (e : Nat) (x P : Nat → Int32) : Nat → Int32 := num f e (zv1 f e x P) (nI (nY P) - nI 1) (zo3 f e x P)
def zoP (f : Nat → Int32) (e : Nat) (x P : Nat → Int32) : Nat → Int32 := if 0 < zoX f e x P 5 then P else va_up (va_up (va_up (va_up (va_up P (102 + 4 * nZ P) (zv0 f e x P)) (102 + 4 * nZ P + 1) (zv1 f e x P)) (102 + 4 * nZ P + 2) (zv2 f e x P)) (102 + 4 * nZ P + 3) (zv3 f e x P)) 101 (nI (nZ P + 1))
/-- a line -/
noncomputable def liA (f : Nat → Int32) (e : Nat) (x P S : Nat → Int32) : (Nat → Int32) × (Nat → Int32) × (Nat → Int32) :=
  if wr f 5 x = true then (waX f e x P, waP f e x P, S) else if wr f 6 x = true then (faX f e x P, faP f e x P, S) else if wr f 7 x = true then ((flA f e x P).1, (flA f e x P).2, S) else if wr f 8 x = true then (ckX f e x P, ckP f e x P, S) else if wr f 9 x = true then (zoX f e x P, zoP f e x P, S) else if wr f 10 x = true then ((sdA f e x P).1, (sdA f e x P).2, S) else if wr f 11 x = true then (ofX f e x P S, P, ofS f e x P S) else if wr f 12 x = true then (miX f e x P, miP f e x P, S) else if wr f 13 x = true then (maX f e x P, maP f e x P, S) else if wr f 14 x = true then (soX f e x P, soP f e x P, soS f e x P S) else (fau 1 x, P, S)
noncomputable def lns (f : Nat → Int32) (e : Nat) : Nat → (Nat → Int32) → (Nat → Int32) → (Nat → Int32) → (Nat → Int32) × (Nat → Int32) × (Nat → Int32)
  | 0, x, P, S => (x, P, S)
  | n + 1, x, P, S => if sgh (nI 59) x then lns f e n (liA f e (nxt f e x) P S).1 (liA f e (nxt f e x) P S).2.1 (liA f e (nxt f e x) P S).2.2 else (x, P, S)
/-- the whole text, from the numbers x -/
noncomputable def txA (f : Nat → Int32) (e : Nat) (x : Nat → Int32) : (Nat → Int32) × (Nat → Int32) × (Nat → Int32) := lns f e (e + 1) (fi4 f e (nxt f e x)) (fiP f e (nxt f e x) (fun _ => nI 0)) (fun _ => nI 0)
