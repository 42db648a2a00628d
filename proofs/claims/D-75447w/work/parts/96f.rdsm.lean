/-! what the readers leave; the draft: printed by gen/rs.py -/
set_option maxRecDepth 100000
/-- only the parser's own numbers change -/
def sm (x y : Nat → Int32) : Prop := ∀ k, k < 4 ∨ 9 < k → y k = x k
theorem sm.r {x : Nat → Int32} : sm x x := fun _ _ => rfl
theorem sm.t {x y z : Nat → Int32} (h : sm x y) (h2 : sm y z) : sm x z := fun k hk => (h2 k hk).trans (h k hk)
theorem sm.u {x : Nat → Int32} {k : Nat} {v : Int32} (hk : 4 ≤ k ∧ k ≤ 9) : sm x (va_up x k v) := fun j hj => va_up_ne _ _ (by omega)
theorem sm_nxt {f : Nat → Int32} {e : Nat} {x : Nat → Int32} : sm x (nxt f e x) := by
  unfold nxt
  split
  · exact sm.r
  · unfold tkX
    exact (((sm.u (by decide)).t (sm.u (by decide))).t (sm.u (by decide))).t (sm.u (by decide))
theorem sm_fau {k : Nat} {x : Nat → Int32} : sm x (fau k x) := by
  unfold fau
  split
  · exact sm.r
  · exact (sm.u (by decide)).t (sm.u (by decide))
theorem sm_lok {lo hi : Int32} {x : Nat → Int32} : sm x (lok lo hi x) := by
  unfold lok
  split
  · exact sm.r
  · split
    · split
      · exact sm.r
      · exact sm_fau
    · exact sm_fau
theorem sm_num {f : Nat → Int32} {e : Nat} {lo hi : Int32} {x : Nat → Int32} : sm x (num f e lo hi x) := sm_lok.t sm_nxt
theorem sm_sgd {f : Nat → Int32} {e : Nat} {lo hi : Int32} {x : Nat → Int32} : sm x (sgd f e lo hi x) := by
  unfold sgd
  split
  · exact sm_nxt.t sm_num
  · exact sm_num
theorem sm_bgn {f : Nat → Int32} {e : Nat} {p : Prop} [Decidable p] {k : Nat} {x : Nat → Int32} : sm x (bgn f e p k x) := by
  unfold bgn
  split
  · exact sm_fau.t sm_nxt
  · exact sm_nxt
theorem sm_tks {f : Nat → Int32} {e i : Nat} {x : Nat → Int32} : sm x (tks f e i x) := by
  unfold tks
  split
  · exact sm_nxt
  · exact sm.r
theorem sm_kwd {f : Nat → Int32} {e i : Nat} {x : Nat → Int32} : sm x (kwd f e i x) := by
  unfold kwd
  split
  · exact sm_nxt
  · exact sm_fau
theorem sm_gag {f : Nat → Int32} {e i : Nat} {lo hi : Int32} {x : Nat → Int32} : sm x (gag f e i lo hi x) := sm_kwd.t sm_num
theorem sm_ck0 {f : Nat → Int32} {e : Nat} {x : Nat → Int32} : sm x (ck0 f e x) := sm_nxt
theorem sm_fi4 {f : Nat → Int32} {e : Nat} {x : Nat → Int32} : sm x (fi4 f e x) := sm.t (y := fi3 f e x) (sm.t (y := fi2 f e x) (sm.t (y := fi1 f e x) (sm.t (y := fi0 f e x) sm_kwd sm_gag) sm_gag) sm_gag) sm_gag
theorem sm_mi0 {f : Nat → Int32} {e : Nat} {x P : Nat → Int32} : sm x (mi0 f e x P) := sm_bgn
theorem sm_mi1 {f : Nat → Int32} {e : Nat} {x P : Nat → Int32} : sm x (mi1 f e x P) := sm.t (y := mi0 f e x P) sm_mi0 sm_sgd
theorem sm_mi2 {f : Nat → Int32} {e : Nat} {x P : Nat → Int32} : sm x (mi2 f e x P) := sm.t (y := mi1 f e x P) sm_mi1 sm_sgd
theorem sm_miX {f : Nat → Int32} {e : Nat} {x P : Nat → Int32} : sm x (miX f e x P) := sm.t (y := mi2 f e x P) sm_mi2 sm_num
theorem sm_ma0 {f : Nat → Int32} {e : Nat} {x P : Nat → Int32} : sm x (ma0 f e x P) := sm_bgn
theorem sm_ma1 {f : Nat → Int32} {e : Nat} {x P : Nat → Int32} : sm x (ma1 f e x P) := sm.t (y := ma0 f e x P) sm_ma0 sm_sgd
theorem sm_ma2 {f : Nat → Int32} {e : Nat} {x P : Nat → Int32} : sm x (ma2 f e x P) := sm.t (y := ma1 f e x P) sm_ma1 sm_sgd
theorem sm_ma3 {f : Nat → Int32} {e : Nat} {x P : Nat → Int32} : sm x (ma3 f e x P) := sm.t (y := ma2 f e x P) sm_ma2 sm_num
theorem sm_ma4 {f : Nat → Int32} {e : Nat} {x P : Nat → Int32} : sm x (ma4 f e x P) := sm.t (y := ma3 f e x P) sm_ma3 sm_num
theorem sm_maX {f : Nat → Int32} {e : Nat} {x P : Nat → Int32} : sm x (maX f e x P) := sm.t (y := ma4 f e x P) sm_ma4 sm_num
theorem sm_so0 {f : Nat → Int32} {e : Nat} {x P : Nat → Int32} : sm x (so0 f e x P) := sm_bgn
theorem sm_so1 {f : Nat → Int32} {e : Nat} {x P : Nat → Int32} : sm x (so1 f e x P) := sm.t (y := so0 f e x P) sm_so0 sm_bgn
theorem sm_so2 {f : Nat → Int32} {e : Nat} {x P : Nat → Int32} : sm x (so2 f e x P) := sm.t (y := so1 f e x P) sm_so1 sm_sgd
theorem sm_so3 {f : Nat → Int32} {e : Nat} {x P : Nat → Int32} : sm x (so3 f e x P) := sm.t (y := so2 f e x P) sm_so2 sm_sgd
theorem sm_so4 {f : Nat → Int32} {e : Nat} {x P : Nat → Int32} : sm x (so4 f e x P) := sm.t (y := so3 f e x P) sm_so3 sm_sgd
theorem sm_so5 {f : Nat → Int32} {e : Nat} {x P : Nat → Int32} : sm x (so5 f e x P) := sm.t (y := so4 f e x P) sm_so4 sm_sgd
theorem sm_so6 {f : Nat → Int32} {e : Nat} {x P : Nat → Int32} : sm x (so6 f e x P) := sm.t (y := so5 f e x P) sm_so5 sm_num
theorem sm_so7 {f : Nat → Int32} {e : Nat} {x P : Nat → Int32} : sm x (so7 f e x P) := sm.t (y := so6 f e x P) sm_so6 sm_num
theorem sm_so8 {f : Nat → Int32} {e : Nat} {x P : Nat → Int32} : sm x (so8 f e x P) := sm.t (y := so7 f e x P) sm_so7 sm_num
theorem sm_so9 {f : Nat → Int32} {e : Nat} {x P : Nat → Int32} : sm x (so9 f e x P) := sm.t (y := so8 f e x P) sm_so8 sm_tks
theorem sm_wa0 {f : Nat → Int32} {e : Nat} {x P : Nat → Int32} : sm x (wa0 f e x P) := sm_bgn
theorem sm_wa1 {f : Nat → Int32} {e : Nat} {x P : Nat → Int32} : sm x (wa1 f e x P) := sm.t (y := wa0 f e x P) sm_wa0 sm_sgd
theorem sm_waX {f : Nat → Int32} {e : Nat} {x P : Nat → Int32} : sm x (waX f e x P) := sm.t (y := wa1 f e x P) sm_wa1 sm_num
theorem sm_fa0 {f : Nat → Int32} {e : Nat} {x P : Nat → Int32} : sm x (fa0 f e x P) := sm_bgn
theorem sm_faX {f : Nat → Int32} {e : Nat} {x P : Nat → Int32} : sm x (faX f e x P) := sm.t (y := fa0 f e x P) sm_fa0 sm_num
theorem sm_zo0 {f : Nat → Int32} {e : Nat} {x P : Nat → Int32} : sm x (zo0 f e x P) := sm_bgn
theorem sm_zo1 {f : Nat → Int32} {e : Nat} {x P : Nat → Int32} : sm x (zo1 f e x P) := sm.t (y := zo0 f e x P) sm_zo0 sm_num
theorem sm_zo2 {f : Nat → Int32} {e : Nat} {x P : Nat → Int32} : sm x (zo2 f e x P) := sm.t (y := zo1 f e x P) sm_zo1 sm_num
theorem sm_zo3 {f : Nat → Int32} {e : Nat} {x P : Nat → Int32} : sm x (zo3 f e x P) := sm.t (y := zo2 f e x P) sm_zo2 sm_num
theorem sm_zoX {f : Nat → Int32} {e : Nat} {x P : Nat → Int32} : sm x (zoX f e x P) := sm.t (y := zo3 f e x P) sm_zo3 sm_num
theorem sm_ck1 {f : Nat → Int32} {e : Nat} {x P : Nat → Int32} : sm x (ck1 f e x P) := sm.t (y := ck0 f e x) sm_ck0 sm_lok
theorem sm_ck2 {f : Nat → Int32} {e : Nat} {x P : Nat → Int32} : sm x (ck2 f e x P) := sm.t (y := ck1 f e x P) sm_ck1 sm_bgn
theorem sm_ckX {f : Nat → Int32} {e : Nat} {x P : Nat → Int32} : sm x (ckX f e x P) := sm.t (y := ck2 f e x P) sm_ck2 sm_num
theorem sm_of1 {f : Nat → Int32} {e : Nat} {x P : Nat → Int32} : sm x (of1 f e x P) := sm.t (y := ck0 f e x) sm_ck0 sm_lok
theorem sm_flb {f : Nat → Int32} {e : Nat} {x P : Nat → Int32} : sm x (flb f e x P) := sm_bgn
theorem sm_sdb {f : Nat → Int32} {e : Nat} {x P : Nat → Int32} : sm x (sdb f e x P) := sm_bgn
theorem sm_soX {f : Nat → Int32} {e : Nat} {x P : Nat → Int32} : sm x (soX f e x P) := by
  unfold soX
  split
  · exact sm.t (y := so9 f e x P) sm_so9 sm_num
  · exact sm_so9
theorem sm_ofX {f : Nat → Int32} {e : Nat} {x P S : Nat → Int32} : sm x (ofX f e x P S) := sm.t (y := of1 f e x P) sm_of1 sm_bgn
theorem sm_fl0 {f : Nat → Int32} {e : Nat} {x P : Nat → Int32} : sm x (fl0 f e x P) := by
  unfold fl0
  split
  · split
    · exact sm_lok.t sm_fau
    · exact sm_fau
  · exact sm.r
theorem sm_fl1 {f : Nat → Int32} {e : Nat} {x P : Nat → Int32} : sm x (fl1 f e x P) := sm.t (y := fl0 f e x P) sm_fl0 sm_sgd
theorem sm_sd0 {f : Nat → Int32} {e : Nat} {x P : Nat → Int32} : sm x (sd0 f e x P) := sm.t (y := lok (nI 0) (nI 9) x) sm_lok sm_bgn
theorem sm_fln {f : Nat → Int32} {e : Nat} : ∀ n x P, sm x (fln f e n x P).1 := by
  intro n
  induction n with
  | zero => intro x P; exact sm.r
  | succ n ih =>
    intro x P
    rw [fln_s]
    by_cases h0 : 0 < fl1 f e x P 5
    · rw [if_pos h0]; dsimp only; exact sm_fl1
    · rw [if_neg h0]
      by_cases h1 : fl1 f e x P 7 = nI 3 ∨ sgh (nI 45) (fl1 f e x P)
      · rw [if_pos h1]; exact sm.t sm_fl1 (ih _ _)
      · rw [if_neg h1]; dsimp only; exact sm_fl1
theorem sm_sdn {f : Nat → Int32} {e : Nat} : ∀ n x P, sm x (sdn f e n x P).1 := by
  intro n
  induction n with
  | zero => intro x P; exact sm.r
  | succ n ih =>
    intro x P
    rw [sdn_s]
    by_cases h0 : 0 < sd0 f e x P 5
    · rw [if_pos h0]; dsimp only; exact sm_sd0
    · rw [if_neg h0]
      by_cases h1 : sd0 f e x P 7 = nI 3
      · rw [if_pos h1]; exact sm.t sm_sd0 (ih _ _)
      · rw [if_neg h1]; dsimp only; exact sm_sd0
theorem sm_flA {f : Nat → Int32} {e : Nat} {x P : Nat → Int32} : sm x (flA f e x P).1 := sm.t sm_flb (sm_fln _ _ _)
theorem sm_sdA {f : Nat → Int32} {e : Nat} {x P : Nat → Int32} : sm x (sdA f e x P).1 := sm.t sm_sdb (sm_sdn _ _ _)
theorem sm_liA {f : Nat → Int32} {e : Nat} {x P S : Nat → Int32} : sm x (liA f e x P S).1 := by
  unfold liA
  by_cases a5 : wr f 5 x = true
  · rw [if_pos a5]
    dsimp only
    exact sm_waX
  rw [if_neg a5]
  by_cases a6 : wr f 6 x = true
  · rw [if_pos a6]
    dsimp only
    exact sm_faX
  rw [if_neg a6]
  by_cases a7 : wr f 7 x = true
  · rw [if_pos a7]
    dsimp only
    exact sm_flA
  rw [if_neg a7]
  by_cases a8 : wr f 8 x = true
  · rw [if_pos a8]
    dsimp only
    exact sm_ckX
  rw [if_neg a8]
  by_cases a9 : wr f 9 x = true
  · rw [if_pos a9]
    dsimp only
    exact sm_zoX
  rw [if_neg a9]
  by_cases a10 : wr f 10 x = true
  · rw [if_pos a10]
    dsimp only
    exact sm_sdA
  rw [if_neg a10]
  by_cases a11 : wr f 11 x = true
  · rw [if_pos a11]
    dsimp only
    exact sm_ofX
  rw [if_neg a11]
  by_cases a12 : wr f 12 x = true
  · rw [if_pos a12]
    dsimp only
    exact sm_miX
  rw [if_neg a12]
  by_cases a13 : wr f 13 x = true
  · rw [if_pos a13]
    dsimp only
    exact sm_maX
  rw [if_neg a13]
  by_cases a14 : wr f 14 x = true
  · rw [if_pos a14]
    dsimp only
    exact sm_soX
  rw [if_neg a14]
  dsimp only
  exact sm_fau
theorem sm_lns {f : Nat → Int32} {e : Nat} : ∀ n x P S, sm x (lns f e n x P S).1 := by
  intro n
  induction n with
  | zero => intro x P S; exact sm.r
  | succ n ih =>
    intro x P S
    rw [lns_s]
    by_cases h0 : sgh (nI 59) x
    · rw [if_pos h0]
      exact sm.t (sm.t sm_nxt sm_liA) (ih _ _ _)
    · rw [if_neg h0]; dsimp only; exact sm.r
theorem sm_txA {f : Nat → Int32} {e : Nat} {x : Nat → Int32} : sm x (txA f e x).1 := sm.t (sm.t sm_nxt sm_fi4) (sm_lns _ _ _ _)
/-- the draft's numbers -/
theorem VS_0 : VS (fun _ => nI 0) := by
  refine ⟨fun m hm => Or.inl rfl, fun m hm => ⟨rfl, (show (nI 0).toNatClampNeg ≤ 9 by decide)⟩, fun m hm => Or.inl rfl, fun m hm => ?_, fun m hm => ?_, fun m hm => ?_, fun m hm => ?_⟩ <;> (dsimp only; decide)
theorem VS_so {f : Nat → Int32} {e : Nat} {x P S : Nat → Int32} (h : VS S) (hP : VP P) (hx : PY e x) : VS (soS f e x P S) := by
  unfold soS
  by_cases h0 : 0 < soX f e x P 5
  · rw [if_pos h0]; exact h
  rw [if_neg h0]
  have z := px50 (PY_soX hx).1 h0
  have z1 := so1_50 (so2_50 (so3_50 (so4_50 (so5_50 (lok_50 (so6_50 (lok_50 (so7_50 (lok_50 (so8_50 (so9_50 (soX_50 z))))))))))))
  have hn := (so0_50 z1.2).1
  have l5 := hP.l5
  have s1 := sgv_ti (f := f) (e := e) (b := nI 2000) (x := so1 f e x P) (by decide) (by decide)
  have s2 := sgv_ti (f := f) (e := e) (b := nI 2000) (x := so2 f e x P) (by decide) (by decide)
  have s3 := sgv_ti (f := f) (e := e) (b := nI 999) (x := so3 f e x P) (by decide) (by decide)
  have s4 := sgv_ti (f := f) (e := e) (b := nI 999) (x := so4 f e x P) (by decide) (by decide)
  obtain ⟨m1, m2, m3, m4, m5, m6, m7⟩ := h
  obtain ⟨k, hk⟩ : ∃ k, nS P = k := ⟨_, rfl⟩
  rw [hk]
  have hk6 : k < 6 := by omega
  refine ⟨fun m hm => ?_, fun m hm => ?_, fun m hm => ?_, fun m hm => ?_, fun m hm => ?_, fun m hm => ?_, fun m hm => ?_⟩
  · rw [va_up_ne _ _ (show (1 + m : Nat) ≠ 49 + k by omega), va_up_ne _ _ (show (1 + m : Nat) ≠ 43 + k by omega), va_up_ne _ _ (show (1 + m : Nat) ≠ 37 + k by omega), va_up_ne _ _ (show (1 + m : Nat) ≠ 31 + k by omega), va_up_ne _ _ (show (1 + m : Nat) ≠ 25 + k by omega)]
    exact m1 m hm
  · unfold wgt
    rw [va_up_ne _ _ (show (13 + m : Nat) ≠ 49 + k by omega), va_up_ne _ _ (show (13 + m : Nat) ≠ 43 + k by omega), va_up_ne _ _ (show (13 + m : Nat) ≠ 37 + k by omega), va_up_ne _ _ (show (13 + m : Nat) ≠ 31 + k by omega), va_up_ne _ _ (show (13 + m : Nat) ≠ 25 + k by omega)]
    exact m2 m hm
  · rw [va_up_ne _ _ (show (25 + m : Nat) ≠ 49 + k by omega), va_up_ne _ _ (show (25 + m : Nat) ≠ 43 + k by omega), va_up_ne _ _ (show (25 + m : Nat) ≠ 37 + k by omega), va_up_ne _ _ (show (25 + m : Nat) ≠ 31 + k by omega)]
    by_cases q : m = k
    · subst q; rw [va_up_self]; exact Or.inr rfl
    · rw [va_up_ne _ _ (show (25 + m : Nat) ≠ 25 + k by omega)]; exact m3 m hm
  · rw [va_up_ne _ _ (show (31 + m : Nat) ≠ 49 + k by omega), va_up_ne _ _ (show (31 + m : Nat) ≠ 43 + k by omega), va_up_ne _ _ (show (31 + m : Nat) ≠ 37 + k by omega)]
    by_cases q : m = k
    · subst q; rw [va_up_self]; exact s1
    · rw [va_up_ne _ _ (show (31 + m : Nat) ≠ 31 + k by omega), va_up_ne _ _ (show (31 + m : Nat) ≠ 25 + k by omega)]; exact m4 m hm
  · rw [va_up_ne _ _ (show (37 + m : Nat) ≠ 49 + k by omega), va_up_ne _ _ (show (37 + m : Nat) ≠ 43 + k by omega)]
    by_cases q : m = k
    · subst q; rw [va_up_self]; exact s2
    · rw [va_up_ne _ _ (show (37 + m : Nat) ≠ 37 + k by omega), va_up_ne _ _ (show (37 + m : Nat) ≠ 31 + k by omega), va_up_ne _ _ (show (37 + m : Nat) ≠ 25 + k by omega)]; exact m5 m hm
  · rw [va_up_ne _ _ (show (43 + m : Nat) ≠ 49 + k by omega)]
    by_cases q : m = k
    · subst q; rw [va_up_self]; exact s3
    · rw [va_up_ne _ _ (show (43 + m : Nat) ≠ 43 + k by omega), va_up_ne _ _ (show (43 + m : Nat) ≠ 37 + k by omega), va_up_ne _ _ (show (43 + m : Nat) ≠ 31 + k by omega), va_up_ne _ _ (show (43 + m : Nat) ≠ 25 + k by omega)]; exact m6 m hm
  · by_cases q : m = k
    · subst q; rw [va_up_self]; exact s4
    · rw [va_up_ne _ _ (show (49 + m : Nat) ≠ 49 + k by omega), va_up_ne _ _ (show (49 + m : Nat) ≠ 43 + k by omega), va_up_ne _ _ (show (49 + m : Nat) ≠ 37 + k by omega), va_up_ne _ _ (show (49 + m : Nat) ≠ 31 + k by omega), va_up_ne _ _ (show (49 + m : Nat) ≠ 25 + k by omega)]; exact m7 m hm
theorem VS_of {f : Nat → Int32} {e : Nat} {x P S : Nat → Int32} (h : VS S) (hP : VP P) : VS (ofS f e x P S) := by
  unfold ofS
  by_cases z : ofX f e x P S 5 = nI 0
  · rw [if_pos z]
    have l5 := hP.l5
    obtain ⟨j, hj, -, ej⟩ := ofv_nat hP (ofX_50 z).2
    rw [ej]
    obtain ⟨m1, m2, m3, m4, m5, m6, m7⟩ := h
    refine ⟨fun m hm => ?_, fun m hm => ?_, fun m hm => ?_, fun m hm => ?_, fun m hm => ?_, fun m hm => ?_, fun m hm => ?_⟩
    · rw [va_up_ne _ _ (show (1 + m : Nat) ≠ 25 + j by omega)]; exact m1 m hm
    · unfold wgt
      rw [va_up_ne _ _ (show (13 + m : Nat) ≠ 25 + j by omega)]; exact m2 m hm
    · by_cases q : m = j
      · subst q; rw [va_up_self]; exact Or.inl rfl
      · rw [va_up_ne _ _ (show (25 + m : Nat) ≠ 25 + j by omega)]; exact m3 m hm
    · rw [va_up_ne _ _ (show (31 + m : Nat) ≠ 25 + j by omega)]; exact m4 m hm
    · rw [va_up_ne _ _ (show (37 + m : Nat) ≠ 25 + j by omega)]; exact m5 m hm
    · rw [va_up_ne _ _ (show (43 + m : Nat) ≠ 25 + j by omega)]; exact m6 m hm
    · rw [va_up_ne _ _ (show (49 + m : Nat) ≠ 25 + j by omega)]; exact m7 m hm
  · rw [if_neg z]; exact h
theorem VS_liA {f : Nat → Int32} {e : Nat} {x P S : Nat → Int32} (h : VS S) (hP : VP P) (hx : PY e x) : VS (liA f e x P S).2.2 := by
  unfold liA
  by_cases a5 : wr f 5 x = true
  · rw [if_pos a5]
    dsimp only
    exact h
  rw [if_neg a5]
  by_cases a6 : wr f 6 x = true
  · rw [if_pos a6]
    dsimp only
    exact h
  rw [if_neg a6]
  by_cases a7 : wr f 7 x = true
  · rw [if_pos a7]
    dsimp only
    exact h
  rw [if_neg a7]
  by_cases a8 : wr f 8 x = true
  · rw [if_pos a8]
    dsimp only
    exact h
  rw [if_neg a8]
  by_cases a9 : wr f 9 x = true
  · rw [if_pos a9]
    dsimp only
    exact h
  rw [if_neg a9]
  by_cases a10 : wr f 10 x = true
  · rw [if_pos a10]
    dsimp only
    exact h
  rw [if_neg a10]
  by_cases a11 : wr f 11 x = true
  · rw [if_pos a11]
    dsimp only
    exact VS_of h hP
  rw [if_neg a11]
  by_cases a12 : wr f 12 x = true
  · rw [if_pos a12]
    dsimp only
    exact h
  rw [if_neg a12]
  by_cases a13 : wr f 13 x = true
  · rw [if_pos a13]
    dsimp only
    exact h
  rw [if_neg a13]
  by_cases a14 : wr f 14 x = true
  · rw [if_pos a14]
    dsimp only
    exact VS_so h hP hx
  rw [if_neg a14]
  dsimp only
  exact h
theorem lns_inv {f : Nat → Int32} {e : Nat} : ∀ n x P S, IV P → PY e x → VS S → PY e (lns f e n x P S).1 ∧ IV (lns f e n x P S).2.1 ∧ VS (lns f e n x P S).2.2 := by
  intro n
  induction n with
  | zero => intro x P S h hx hS; exact ⟨hx, h, hS⟩
  | succ n ih =>
    intro x P S h hx hS
    rw [lns_s]
    by_cases h0 : sgh (nI 59) x
    · rw [if_pos h0]
      exact ih _ _ _ (IV_liA h (PY_nxt hx)) (PY_liA h (PY_nxt hx)) (VS_liA hS h.1 (PY_nxt hx))
    · rw [if_neg h0]; exact ⟨hx, h, hS⟩
theorem txA_inv {f : Nat → Int32} {e : Nat} {x : Nat → Int32} (h : PX e x) (h5 : ¬ 0 < x 5) : PY e (txA f e x).1 ∧ IV (txA f e x).2.1 ∧ VS (txA f e x).2.2 := lns_inv _ _ _ _ IV_fi (PY_fi4 (PY_tkX h h5)) VS_0
