/-! Math.floorMod, State.alias, isAlias: printed by gen/s9.py -/
set_option maxRecDepth 100000
/-- a contract of a method without a native row, whatever its class's name -/
theorem Ct.ofF {l : Launch} {y : MethodName} {bytes : ByteArray} {nL : Nat} {ret : Option FieldType} {rm : Room} {D : DD} {av : List Value} {P : Heap → Prop} {A : Nat → Prop} {Q : Option Value → Heap → Heap → Prop} (hy : plainFor y = true) (hL : (lg_sl av).length ≤ nL)
    (body : ∀ (K : C_) (Qf : State → Prop), kL K = l → Fx K y bytes nL ret rm D → P (kS K).heap → QM K rm A Q = Qf → V K nL A (kS K).heap 0 0 Qf 0 (lv_args 0 av) []) : Ct l y bytes nL ret rm D av P A Q := by
  intro sz
  refine va_MetF (cc := bytes) (maxL := nL) (ret := ret) hy rfl ?_
  intro p e s m args below meth c s₁ B hml hv
  obtain ⟨rfl, hsz, hP, hG⟩ := hv
  subst hsz
  have hts := atoms_spec (ws := ws_ y bytes nL ret) B.pre
  have X : Fx (p, l, e, rm, s, m, av.toArray, below, meth, c) y bytes nL ret rm D := ⟨B.exec, B.bytes, hml, findClass_of_methodNamed B.named, fun w h => hts w (List.mem_cons_of_mem _ h), hG, B.returns, B.notSynchronized, rfl, (name_of_methodNamed B.named B.method).1, B.named⟩
  rw [lg_entry_eq]
  exact body _ _ rfl X hP rfl [] _ va_S.rf (lv_entry av hL)
/-- (a - b) modulo p, of small numbers -/
def fmd (a b p : Nat) : Nat := (((a : Int) - (b : Int)) % (p : Int)).toNat
theorem fmd_lt {a b p : Nat} (h : 0 < p) : fmd a b p < p := by
  unfold fmd
  have h1 := Int.emod_nonneg ((a : Int) - (b : Int)) (show (p : Int) ≠ 0 by omega)
  have h2 := Int.emod_lt_of_pos ((a : Int) - (b : Int)) (show (0 : Int) < (p : Int) by omega)
  omega
theorem i_rem {x : Int32} {p : Nat} (hx : -200000 ≤ x.toInt ∧ x.toInt ≤ 200000) (h0 : 0 < p) (hp : p ≤ 1000) : (x - x / nI p * nI p).toInt = x.toInt.tmod (p : Int) := by
  have ep : (nI p).toInt = (p : Int) := nI_toInt (by omega)
  have hq := Int.tdiv_mul_add_tmod x.toInt (p : Int)
  have hb : (x.toInt.tdiv (p : Int)).natAbs ≤ x.toInt.natAbs := by rw [Int.natAbs_tdiv]; exact Nat.div_le_self _ _
  have hd : (x / nI p).toInt = x.toInt.tdiv (p : Int) := by
    rw [Int32.toInt_div, ep]
    exact bm_id (by omega) (by omega)
  have hm := Int.tmod_lt_of_pos x.toInt (show (0 : Int) < (p : Int) by omega)
  have hm2 : -(p : Int) < x.toInt.tmod (p : Int) := by
    exact Int.lt_tmod_of_pos x.toInt (show (0 : Int) < (p : Int) by omega)
  have hmul : (x / nI p * nI p).toInt = x.toInt.tdiv (p : Int) * (p : Int) := by
    rw [i_mul (by rw [hd, ep]; omega) (by rw [hd, ep]; omega), hd, ep]
  rw [i_sub (by rw [hmul]; omega) (by rw [hmul]; omega), hmul]
  omega
theorem em_tm {a b : Int} (h : 0 < b) : a % b = if a.tmod b < 0 then a.tmod b + b else a.tmod b := by
  rw [Int.tmod_eq_emod]
  have h1 := Int.emod_nonneg a (show b ≠ 0 by omega)
  have h2 := Int.emod_lt_of_pos a h
  split <;> split <;> omega
theorem i_nn (x : Int32) : 0 ≤ x ↔ x.toBitVec.msb = false := by
  rw [Int32.le_iff_toInt_le, BitVec.msb_eq_toInt, show (0 : Int32).toInt = 0 from rfl, show x.toInt = x.toBitVec.toInt from rfl]
  simp
theorem fm_xor {x : Int32} {p : Nat} (hp : p < 2 ^ 31) : (0 ≤ x ^^^ nI p) ↔ 0 ≤ x := by
  have hpp : (nI p).toBitVec.msb = false := (i_nn _).mp (Int32.not_lt.mp (nI_pos hp))
  rw [i_nn, i_nn, Int32.toBitVec_xor, BitVec.msb_xor, hpp]
  simp
theorem fm_e {x : Int32} {p : Nat} (hx : -200000 ≤ x.toInt ∧ x.toInt ≤ 200000) (h0 : 0 < p) (hp : p ≤ 1000) (h : 0 ≤ x.toInt.tmod (p : Int)) : x - x / nI p * nI p = nI (x.toInt % (p : Int)).toNat := by
  have h1 := i_rem hx h0 hp
  have h2 := em_tm (a := x.toInt) (b := (p : Int)) (by omega)
  have h3 := Int.tmod_lt_of_pos x.toInt (show (0 : Int) < (p : Int) by omega)
  rw [if_neg (by omega)] at h2
  apply Int32.toInt_inj.mp
  rw [h1, nI_toInt (by omega), h2, Int.toNat_of_nonneg h]
theorem fm_a {x : Int32} {p : Nat} (hx : -200000 ≤ x.toInt ∧ x.toInt ≤ 200000) (h0 : 0 < p) (hp : p ≤ 1000) (hn : ¬ 0 ≤ x) (h : ¬ x - x / nI p * nI p = 0) : x - x / nI p * nI p + nI p = nI (x.toInt % (p : Int)).toNat := by
  have h1 := i_rem hx h0 hp
  have h2 := em_tm (a := x.toInt) (b := (p : Int)) (by omega)
  have h3 := Int.lt_tmod_of_pos x.toInt (show (0 : Int) < (p : Int) by omega)
  have ep : (nI p).toInt = (p : Int) := nI_toInt (by omega)
  have hxn : x.toInt < 0 := by
    rw [Int32.le_iff_toInt_le] at hn
    have e : (0 : Int32).toInt = 0 := rfl
    omega
  have h4 : x.toInt.tmod (p : Int) ≤ 0 := by
    have := Int.tmod_nonneg (a := -x.toInt) (p : Int) (by omega)
    rw [Int.neg_tmod] at this
    omega
  have h5 : x.toInt.tmod (p : Int) ≠ 0 := fun e => h (Int32.toInt_inj.mp (by rw [h1, e]; rfl))
  rw [if_pos (by omega)] at h2
  apply Int32.toInt_inj.mp
  rw [i_add (by rw [h1, ep]; omega) (by rw [h1, ep]; omega), h1, ep, nI_toInt (by omega), h2, Int.toNat_of_nonneg (by omega)]
theorem nJ15_floorMod : notMH yJ15_floorMod 2 := by decide +kernel
set_option maxHeartbeats 800000 in
theorem mJ15_floorMod (l : Launch) (D : DD) (x : Int32) (p : Nat) (hx : -200000 ≤ x.toInt ∧ x.toInt ≤ 200000) (h0 : 0 < p) (hp : p ≤ 1000) : Cp l yJ15_floorMod cJ15_floorMod 3 (some .int) { frames := 1, cells := 0, slots := 0, locals := 12 } D [.int (x), .int (nI p)] (fun H => True) (.int (nI ((x.toInt % (p : Int)).toNat))) := by
  refine Ct.ofF (by decide +kernel) (Nat.le_of_ble_eq_true rfl) (fun K Qf hkl X hM hQ => ?_)
  subst hkl
  refine vv_sub (lv' := [(0, .int (x)), (1, .int (nI p))]) [0, 1] rfl ?_
  refine vv_iload_n X dJ15_floorMod_0 rfl 0 rfl ?_
  refine vv_iload_n X dJ15_floorMod_1 rfl 1 rfl ?_
  refine vv_irem X dJ15_floorMod_2 (nI_ne0 (by omega) (by omega)) ?_
  refine vv_istore_n (lv' := [(2, .int (x - x / (nI p) * (nI p))), (0, .int (x)), (1, .int (nI p))]) X dJ15_floorMod_3 rfl (by decide) rfl ?_
  refine vv_iload_n X dJ15_floorMod_4 rfl 1 rfl ?_
  refine vv_iload_n X dJ15_floorMod_5 rfl 2 rfl ?_
  refine vv_ixor X dJ15_floorMod_6 ?_
  refine vv_if_ge (tgt := 18) X dJ15_floorMod_7 (by decide) (fun c_7 => ?_) (fun c_7 => ?_)
  · refine vv_iload_n X dJ15_floorMod_18 rfl 0 rfl ?_
    exact vv_iret X hQ dJ15_floorMod_19 (Nat.le_of_ble_eq_true rfl) (Nat.le_of_ble_eq_true rfl) (pq (fm_e hx h0 hp (Int.tmod_nonneg _ (by have := (fm_xor (p := p) (by omega)).mp c_7; rw [Int32.le_iff_toInt_le] at this; exact this))))
  · refine vv_iload_n X dJ15_floorMod_10 rfl 0 rfl ?_
    refine vv_if_eq (tgt := 18) X dJ15_floorMod_11 (by decide) (fun c_11 => ?_) (fun c_11 => ?_)
    · refine vv_iload_n X dJ15_floorMod_18 rfl 0 rfl ?_
      exact vv_iret X hQ dJ15_floorMod_19 (Nat.le_of_ble_eq_true rfl) (Nat.le_of_ble_eq_true rfl) (pq (fm_e hx h0 hp (by have h9 := i_rem hx h0 hp; rw [c_11] at h9; have e : (0 : Int32).toInt = 0 := rfl; omega)))
    · refine vv_iload_n X dJ15_floorMod_14 rfl 0 rfl ?_
      refine vv_iload_n X dJ15_floorMod_15 rfl 2 rfl ?_
      refine vv_iadd X dJ15_floorMod_16 ?_
      exact vv_iret X hQ dJ15_floorMod_17 (Nat.le_of_ble_eq_true rfl) (Nat.le_of_ble_eq_true rfl) (pq (fm_a hx h0 hp (fun z => c_7 ((fm_xor (p := p) (by omega)).mpr z)) c_11))
/-- the residue of a shift -/
def rsd (P : Nat → Int32) (c o p m : Nat) : Nat := ((shf P c o m).toInt % (p : Int)).toNat
theorem rsd_lt {P : Nat → Int32} {c o p m : Nat} (h : 0 < p) : rsd P c o p m < p := by
  unfold rsd
  have h1 := Int.emod_nonneg (shf P c o m).toInt (show (p : Int) ≠ 0 by omega)
  have h2 := Int.emod_lt_of_pos (shf P c o m).toInt (show (0 : Int) < (p : Int) by omega)
  omega
theorem shf_b (P : Nat → Int32) (c o m : Nat) : (shf P c o m).toInt = (dc P c m : Int) - (dc P o m : Int) ∧ dc P c m < 65537 ∧ dc P o m < 65537 := by
  have h1 : dc P c m < 65537 := dN_lt P m _ _
  have h2 : dc P o m < 65537 := dN_lt P m _ _
  refine ⟨?_, h1, h2⟩
  unfold shf
  rw [i_sub (by rw [nI_toInt (by omega), nI_toInt (by omega)]; omega) (by rw [nI_toInt (by omega), nI_toInt (by omega)]; omega), nI_toInt (by omega), nI_toInt (by omega)]
theorem tn_inj {A B : Int} (h1 : 0 ≤ A) (h2 : 0 ≤ B) (h : A.toNat = B.toNat) : A = B := by omega
theorem shf_rg (P : Nat → Int32) (c o m : Nat) : -200000 ≤ (shf P c o m).toInt ∧ (shf P c o m).toInt ≤ 200000 := by
  obtain ⟨e, b1, b2⟩ := shf_b P c o m
  rw [e]
  generalize dc P c m = x at b1 ⊢
  generalize dc P o m = y at b2 ⊢
  omega
theorem cfe_r {P S : Nat → Int32} {c o p m k : Nat} (h0 : 0 < p) (hp : p ≤ 1000) : cfe P S c o p m k ↔ (S (1 + k) = 0 ∧ rsd P c o p k = rsd P c o p m) := by
  unfold cfe
  refine and_congr_right (fun _ => ?_)
  obtain ⟨e1, b1, b2⟩ := shf_b P c o k
  obtain ⟨e2, b3, b4⟩ := shf_b P c o m
  have g1 := shf_rg P c o k
  have g2 := shf_rg P c o m
  have g3 : -200000 ≤ (shf P c o k).toInt - (shf P c o m).toInt ∧ (shf P c o k).toInt - (shf P c o m).toInt ≤ 200000 := by
    rw [e1, e2]
    generalize dc P c k = x1 at b1 ⊢
    generalize dc P o k = x2 at b2 ⊢
    generalize dc P c m = x3 at b3 ⊢
    generalize dc P o m = x4 at b4 ⊢
    omega
  have es : (shf P c o k - shf P c o m).toInt = (shf P c o k).toInt - (shf P c o m).toInt := i_sub (Int.le_trans (by decide) g3.1) (Int.lt_of_le_of_lt g3.2 (by decide))
  have hr := i_rem (x := shf P c o k - shf P c o m) (p := p) (by rw [es]; exact g3) h0 hp
  have h1 := Int.emod_nonneg (shf P c o k).toInt (show (p : Int) ≠ 0 by omega)
  have h2 := Int.emod_nonneg (shf P c o m).toInt (show (p : Int) ≠ 0 by omega)
  have key : (shf P c o k - shf P c o m).toInt.tmod (p : Int) = 0 ↔ (shf P c o k).toInt % (p : Int) = (shf P c o m).toInt % (p : Int) := by
    rw [← Int.dvd_iff_tmod_eq_zero, es, ← Int.emod_emod_of_dvd _ (Int.dvd_refl _), Int.emod_emod_of_dvd _ (Int.dvd_refl _)]
    exact (Int.emod_eq_emod_iff_emod_sub_eq_zero.trans (Int.dvd_iff_emod_eq_zero).symm).symm
  unfold rsd
  constructor
  · intro h
    have : (shf P c o k - shf P c o m).toInt.tmod (p : Int) = 0 := by rw [← hr, h]; rfl
    rw [key.mp this]
  · intro h
    apply Int32.toInt_inj.mp
    rw [hr, key.mpr (tn_inj h1 h2 h)]
    rfl
/-- how many of the first n active ones have residue r -/
def hst (P S : Nat → Int32) (c o p n r : Nat) : Nat := fo (fun k a => a + (if S (1 + k) = 0 ∧ rsd P c o p k = r then 1 else 0)) n 0
theorem hst_s (P S : Nat → Int32) (c o p n r : Nat) : hst P S c o p (n + 1) r = hst P S c o p n r + (if S (1 + n) = 0 ∧ rsd P c o p n = r then 1 else 0) := rfl
theorem hst_le (P S : Nat → Int32) (c o p r : Nat) : ∀ n, hst P S c o p n r ≤ n := by
  intro n
  induction n with
  | zero => exact Nat.le_refl _
  | succ n ih => rw [hst_s]; split <;> omega
/-- the greatest count among the first i, counted over the first j -/
def hmx (P S : Nat → Int32) (c o p j i : Nat) : Nat := fo (fun m a => if S (1 + m) = 0 then max a (hst P S c o p j (rsd P c o p m)) else a) i 0
theorem hmx_s (P S : Nat → Int32) (c o p j i : Nat) : hmx P S c o p j (i + 1) = if S (1 + i) = 0 then max (hmx P S c o p j i) (hst P S c o p j (rsd P c o p i)) else hmx P S c o p j i := rfl
theorem hmx_j {P S : Nat → Int32} {c o p i : Nat} : ∀ n, (¬ S (1 + i) = 0 → hmx P S c o p (i + 1) n = hmx P S c o p i n) ∧ (S (1 + i) = 0 → max (hmx P S c o p (i + 1) n) (hst P S c o p (i + 1) (rsd P c o p i)) = max (hmx P S c o p i n) (hst P S c o p (i + 1) (rsd P c o p i))) := by
  intro n
  induction n with
  | zero => exact ⟨fun _ => rfl, fun _ => rfl⟩
  | succ n ih =>
    refine ⟨fun h => ?_, fun h => ?_⟩
    · rw [hmx_s, hmx_s, ih.1 h, show hst P S c o p (i + 1) (rsd P c o p n) = hst P S c o p i (rsd P c o p n) by rw [hst_s, if_neg (fun z => h z.1)]; rfl]
    · have e := ih.2 h
      rw [hmx_s, hmx_s]
      by_cases hn : S (1 + n) = 0
      · rw [if_pos hn, if_pos hn]
        by_cases q : rsd P c o p i = rsd P c o p n
        · have h9 : hst P S c o p i (rsd P c o p n) ≤ hst P S c o p (i + 1) (rsd P c o p n) := by rw [hst_s]; omega
          rw [q] at e ⊢
          omega
        · rw [show hst P S c o p (i + 1) (rsd P c o p n) = hst P S c o p i (rsd P c o p n) by rw [hst_s, if_neg (fun z => q z.2)]; rfl]
          omega
      · rw [if_neg hn, if_neg hn]; exact e
theorem hmx_le (P S : Nat → Int32) (c o p j : Nat) : ∀ i, hmx P S c o p j i ≤ j := by
  intro i
  induction i with
  | zero => exact Nat.zero_le _
  | succ i ih =>
    rw [hmx_s]
    have := hst_le P S c o p (rsd P c o p i) j
    split
    · exact Nat.max_le.mpr ⟨ih, this⟩
    · exact ih
theorem hmx_cnf {P S : Nat → Int32} {c o p : Nat} (h0 : 0 < p) (hp : p ≤ 1000) : hmx P S c o p (nM P) (nM P) = cnf P S c o p (nM P) := by
  unfold hmx cnf
  refine fo_congr _ (fun m _ a => ?_)
  have : hst P S c o p (nM P) (rsd P c o p m) = cfi P S c o p m (nM P) := by
    unfold hst cfi
    refine fo_congr _ (fun k _ b => ?_)
    by_cases q : cfe P S c o p m k
    · rw [if_pos q, if_pos ((cfe_r h0 hp).mp q)]
    · rw [if_neg q, if_neg (fun z => q ((cfe_r h0 hp).mpr z))]
  rw [this]
theorem nX3_alias : notMH yX3_alias 3 := by decide +kernel
set_option maxHeartbeats 800000 in
theorem mX3_alias (l : Launch) (D : DD) (u : Nat → Nat) (P T : Nat → Int32) (o : Nat) (g : Nat → Nat) (S : Nat → Int32) (pw : Option Nat) (c b p : Nat) (hC : VC P) (hV : VS S) (hA : AP g u P) (hc : c < nC P) (hb : b < nC P) (hp : 2 ≤ p ∧ p ≤ 99) : Ct l yX3_alias cX3_alias 8 (some .int) { frames := 4, cells := 1, slots := 99, locals := 75 } D [.ref (g 0), .int (nI c), .int (nI b), .int (nI p)] (fun H => KH D H ∧ UR D u P T o H ∧ SR D g u P S pw H) (fun _ => False) (fun r H H1 => r = some (.int (nI (cnf P S c b p (nM P))))) := by
  refine Ct.of (by decide +kernel) (Nat.le_of_ble_eq_true rfl) (fun K Qf hkl X hM hQ => ?_)
  subst hkl
  obtain ⟨hK, hU, hR⟩ := hM
  have hz : (kS K).heap.size ≤ (kS K).heap.size := Nat.le_refl _
  have hP := hC.v
  have l0 := hP.l0
  have l1 := hP.l1
  have l2 := hP.l2
  have l4 := hP.l4
  have l5 := hP.l5
  have l8 := hP.l8
  have l9 := hP.l9
  have l10 := hP.l10
  have l71 := hP.l71
  have l76 := hP.l76
  have l77 := hP.l77
  have hx1 := hC.x1
  have hy1 := hC.y1
  have ht1 := hC.t1
  have he1 := hC.e1
  have hm1 := hC.m1
  have hcc : nC P ≤ 144 := Nat.mul_le_mul l9 l10
  have hp0 : 0 < p := by omega
  have hp9 : p ≤ 1000 := by omega
  refine vv_sub (lv' := [(0, .ref (g 0)), (1, .int (nI c)), (2, .int (nI b)), (3, .int (nI p))]) [0, 1, 2, 3] rfl ?_
  refine vv_iload_n X dX3_alias_0 rfl 3 rfl ?_
  refine vv_newiA (M := 99) X (by omega) (by decide) (Nat.le_of_ble_eq_true rfl) (Nat.le_of_ble_eq_true rfl) rfl dX3_alias_1 (fun a_1 H eq_2 hx ho => ?_)
  have ng_3 : ∀ k, UK (nM P) k → a_1 ≠ g k := fun k hk e => by have h9 := hR.ltA k hk; rw [eq_2] at e; omega
  have ns_4 : ∀ j, SJ P j → a_1 ≠ g j := fun k hk e => by have h9 := hR.ltS k hk; rw [eq_2] at e; omega
  have nu_5 : ∀ j, VK P j → a_1 ≠ u j := fun k hk e => by have h9 := hU.ltB k hk; rw [eq_2] at e; omega
  have ge_6 : (kS K).heap.size ≤ a_1 := by rw [eq_2]; exact hz
  have kn_7 : KN D a_1 := KN.new hK (Nat.le_of_eq eq_2.symm)
  replace hU := hU.ex hx
  replace hR := hR.ex hx
  replace hK := hK.ex hx
  replace hz : (kS K).heap.size ≤ H.size := by have := hx.1; omega
  have hR_8 : iA D H a_1 p (fun _ => 0) := ho
  clear ho hx
  refine vv_astore (lv' := [(4, .ref a_1), (0, .ref (g 0)), (1, .int (nI c)), (2, .int (nI b)), (3, .int (nI p))]) X dX3_alias_3 (by decide) rfl ?_
  refine vv_iconst (v := nI 0) X dX3_alias_5 (by decide) ?_
  refine vv_istore (lv' := [(5, .int (nI 0)), (4, .ref a_1), (0, .ref (g 0)), (1, .int (nI c)), (2, .int (nI b)), (3, .int (nI p))]) X dX3_alias_6 (by decide) rfl ?_
  refine vv_iconst (v := nI 0) X dX3_alias_8 (by decide) ?_
  refine vv_istore (lv' := [(6, .int (nI 0)), (5, .int (nI 0)), (4, .ref a_1), (0, .ref (g 0)), (1, .int (nI c)), (2, .int (nI b)), (3, .int (nI p))]) X dX3_alias_9 (by decide) rfl ?_
  have hx_9 : ∀ (H : Heap) (f : Nat → Int32) (a : Nat) (hK : KH D H) (hU : UR D u P T o H) (hR : SR D g u P S pw H) (hz : (kS K).heap.size ≤ H.size) (hm : iA D H a_1 p f) (hf : ∀ r, r < p → f r = nI (hst P S c b p (nM P) r)) (ha : a = hmx P S c b p (nM P) (nM P)), V K 8 (fun _ => False) H 1 99 Qf 91 [(0, .ref (g 0)), (1, .int (nI c)), (2, .int (nI b)), (3, .int (nI p)), (4, .ref a_1), (5, .int (nI a)), (6, .int (nI (nM P)))] [] := by
    intro H f a hK hU hR hz hm hf ha
    refine vv_iload X dX3_alias_91 5 rfl ?_
    exact vv_iret X hQ dX3_alias_93 (Nat.le_of_ble_eq_true rfl) (Nat.le_of_ble_eq_true rfl) (by rw [ha, hmx_cnf hp0 hp9])
  have hl_10 : ∀ (n_i i : Nat) (H : Heap) (f : Nat → Int32) (a : Nat), i + n_i = nM P → (KH D H) → (UR D u P T o H) → (SR D g u P S pw H) → ((kS K).heap.size ≤ H.size) → (iA D H a_1 p f) → (∀ r, r < p → f r = nI (hst P S c b p i r)) → (a = hmx P S c b p i i) → V K 8 (fun _ => False) H 1 99 Qf 11 [(0, .ref (g 0)), (1, .int (nI c)), (2, .int (nI b)), (3, .int (nI p)), (4, .ref a_1), (5, .int (nI a)), (6, .int (nI i))] [] := by
    intro n_i
    induction n_i with
    | zero =>
      intro i H f a hi hK hU hR hz hm hf ha
      obtain rfl : i = nM P := by omega
      have hal : a ≤ nM P := by rw [ha]; exact Nat.le_trans (hmx_le P S c b p _ _) (by omega)
      refine vv_iload X dX3_alias_11 6 rfl ?_
      refine vv_aload_n X dX3_alias_13 rfl 0 rfl ?_
      refine vv_getf (C := RX3) (T := TX3) (N := 8) (ref := "AcousticCamera$State") X hR.ob in_X3 CL_X3 4 (by decide) q1695 rfl rfl dX3_alias_14 ?_
      refine vv_alen (ty := 0) X hR.wt rfl dX3_alias_17 ?_
      refine vn_ge (tgt := 91) X (by omega) (by omega) dX3_alias_18 (by decide) (fun c_18 => ?_) (fun c_18 => ?_)
      · exact hx_9 H f a hK hU hR hz hm hf ha
      · exact absurd c_18 (by omega)
    | succ n_i ihi =>
      intro i H f a hi hK hU hR hz hm hf ha
      have hal : a ≤ nM P := by rw [ha]; exact Nat.le_trans (hmx_le P S c b p _ _) (by omega)
      refine vv_iload X dX3_alias_11 6 rfl ?_
      refine vv_aload_n X dX3_alias_13 rfl 0 rfl ?_
      refine vv_getf (C := RX3) (T := TX3) (N := 8) (ref := "AcousticCamera$State") X hR.ob in_X3 CL_X3 4 (by decide) q1695 rfl rfl dX3_alias_14 ?_
      refine vv_alen (ty := 0) X hR.wt rfl dX3_alias_17 ?_
      refine vn_ge (tgt := 91) X (by omega) (by omega) dX3_alias_18 (by decide) (fun c_18 => ?_) (fun c_18 => ?_)
      · exact absurd hi (by omega)
      · refine vv_aload_n X dX3_alias_21 rfl 0 rfl ?_
        refine vv_iload X dX3_alias_22 6 rfl ?_
        refine vv_callVp X (mX3_isActive (kL K) D u P T o g S pw i hC hV (by omega)) q1919 q1834 q1835 q150 q1836 nX3_isActive ⟨(Nat.le_of_ble_eq_true rfl), (Nat.le_of_ble_eq_true rfl)⟩ dX3_alias_24 rfl (Nat.le_of_ble_eq_true rfl) (recv X hR.ob CL_X3) ⟨hK, hU, hR⟩ ⟨(Nat.le_of_ble_eq_true rfl), (Nat.le_of_ble_eq_true rfl)⟩ ?_
        refine vb_ne (tgt := 33) X dX3_alias_27 (by decide) (fun c_27 => ?_) (fun c_27 => ?_)
        · refine vv_aload_n X dX3_alias_33 rfl 0 rfl ?_
          refine vv_getf (C := RX3) (T := TX3) (N := 8) (ref := "AcousticCamera$State") X hR.ob in_X3 CL_X3 0 (by decide) q1687 rfl rfl dX3_alias_34 ?_
          refine vv_getfN (C := RX5) (T := TX5) (N := 19) (ref := "AcousticCamera$Setup") X hU.ob in_X5 CL_X5 18 (by decide) q824 rfl rfl dX3_alias_37 ?_
          refine vv_iload X dX3_alias_40 6 rfl ?_
          refine vv_aald (ty := 5) X hU.de rfl rfl (i) (by omega) (by omega) rfl dX3_alias_42 (v := .ref (u (20 + i))) rfl ?_
          refine vv_iload_n X dX3_alias_43 rfl 1 rfl ?_
          refine vv_iald X (hU.row i (by omega)) (c) (by omega) (by omega) rfl dX3_alias_44 ?_
          refine vv_aload_n X dX3_alias_45 rfl 0 rfl ?_
          refine vv_getf (C := RX3) (T := TX3) (N := 8) (ref := "AcousticCamera$State") X hR.ob in_X3 CL_X3 0 (by decide) q1687 rfl rfl dX3_alias_46 ?_
          refine vv_getfN (C := RX5) (T := TX5) (N := 19) (ref := "AcousticCamera$Setup") X hU.ob in_X5 CL_X5 18 (by decide) q824 rfl rfl dX3_alias_49 ?_
          refine vv_iload X dX3_alias_52 6 rfl ?_
          refine vv_aald (ty := 5) X hU.de rfl rfl (i) (by omega) (by omega) rfl dX3_alias_54 (v := .ref (u (20 + i))) rfl ?_
          refine vv_iload_n X dX3_alias_55 rfl 2 rfl ?_
          refine vv_iald X (hU.row i (by omega)) (b) (by omega) (by omega) rfl dX3_alias_56 ?_
          refine vv_isub X dX3_alias_57 ?_
          refine vv_iload_n X dX3_alias_58 rfl 3 rfl ?_
          refine vv_callSp X (mJ15_floorMod (kL K) D ((nI (dc P c i)) - (nI (dc P b i))) p (shf_rg P c b i) (by omega) (by omega)) q2399 q2400 q157 q2401 nJ15_floorMod ⟨(Nat.le_of_ble_eq_true rfl), (Nat.le_of_ble_eq_true rfl)⟩ dX3_alias_59 rfl (Nat.le_of_ble_eq_true rfl) trivial ⟨(Nat.le_of_ble_eq_true rfl), (Nat.le_of_ble_eq_true rfl)⟩ ?_
          refine vv_eqi (show _ = nI (rsd P c b p i) from rfl) ?_
          have hrl := rsd_lt (P := P) (c := c) (o := b) (m := i) hp0
          have hhl := hst_le P S c b p (rsd P c b p i) i
          refine vv_istore (lv' := [(7, .int (nI (rsd P c b p i))), (0, .ref (g 0)), (1, .int (nI c)), (2, .int (nI b)), (3, .int (nI p)), (4, .ref a_1), (5, .int (nI a)), (6, .int (nI i))]) X dX3_alias_62 (by decide) rfl ?_
          refine vv_aload X dX3_alias_64 5 rfl ?_
          refine vv_iload X dX3_alias_66 0 rfl ?_
          refine vv_dup2_11 X dX3_alias_68 rfl rfl ?_
          refine vv_iald X hm (rsd P c b p i) (by omega) (by omega) rfl dX3_alias_69 ?_
          refine vv_eqi (hf _ hrl) ?_
          refine vv_iconst (v := nI 1) X dX3_alias_70 (by decide) ?_
          refine vn_add X dX3_alias_71 ?_
          refine vv_iast X hm (rsd P c b p i) (by omega) (by omega) rfl (Or.inr ge_6) dX3_alias_72 (fun H hc ho => ?_)
          replace hK := hK.ch hc kn_7
          replace hU := hU.kept (fun q hl hq => hc.2 q (fun e => by obtain ⟨j_, h_, e_⟩ := hq; exact nu_5 j_ h_ (e.symm.trans e_)))
          replace hR := hR.kept (fun q hl hq => hc.2 q (fun e => by obtain ⟨k_, hk_, e_⟩ := hq; exact ng_3 k_ hk_ (e.symm.trans e_))) (fun q hl hq => hc.2 q (fun e => by obtain ⟨j_, h_, e_⟩ := hq; exact ns_4 j_ h_ (e.symm.trans e_)))
          replace hz := Nat.le_trans hz (Nat.le_of_eq hc.1.symm)
          clear hm
          have hm := ho
          clear hc ho
          refine vv_iload X dX3_alias_73 6 rfl ?_
          refine vv_aload X dX3_alias_75 5 rfl ?_
          refine vv_iload X dX3_alias_77 0 rfl ?_
          refine vv_iald X hm (rsd P c b p i) (by omega) (by omega) rfl dX3_alias_79 ?_
          refine vv_eqi (va_up_self _ _ _) ?_
          refine vn_max X q1771 (Nat.le_of_ble_eq_true rfl) (Nat.le_of_ble_eq_true rfl) ((Nat.le_of_ble_eq_true rfl)) ((Nat.le_of_ble_eq_true rfl)) (by omega) (by omega) dX3_alias_80 ?_
          refine vv_istore (lv' := [(5, .int (nI (max a (hst P S c b p i (rsd P c b p i) + 1)))), (7, .int (nI (rsd P c b p i))), (0, .ref (g 0)), (1, .int (nI c)), (2, .int (nI b)), (3, .int (nI p)), (4, .ref a_1), (6, .int (nI i))]) X dX3_alias_83 (by decide) rfl ?_
          refine vv_iinc (v := nI (i + 1)) (lv' := [(6, .int (nI (i + 1))), (5, .int (nI (max a (hst P S c b p i (rsd P c b p i) + 1)))), (7, .int (nI (rsd P c b p i))), (0, .ref (g 0)), (1, .int (nI c)), (2, .int (nI b)), (3, .int (nI p)), (4, .ref a_1)]) X dX3_alias_85 (k := 7) rfl (nI_add _ 1) (by decide) rfl ?_
          refine vv_goto (tgt := 11) X dX3_alias_88 (by decide) ?_
          refine vv_sub [3, 4, 5, 6, 7, 1, 0] rfl ?_
          exact ihi (i + 1) H (va_up f (rsd P c b p i) (nI ((hst P S c b p i (rsd P c b p i)) + 1))) (max a (hst P S c b p i (rsd P c b p i) + 1)) (by omega) (hK) (hU) (hR) (hz) (hm) (fun r hr => by
                      rw [hst_s]
                      by_cases z : r = rsd P c b p i
                      · subst z; rw [va_up_self, if_pos ⟨c_27, rfl⟩]
                      · rw [va_up_ne _ _ z, if_neg (fun y => z y.2.symm)]; exact hf r hr) (by rw [ha, hmx_s, if_pos c_27, (hmx_j i).2 c_27, hst_s P S c b p i (rsd P c b p i), if_pos ⟨c_27, rfl⟩])
        · refine vv_goto (tgt := 85) X dX3_alias_30 (by decide) ?_
          refine vv_iinc (v := nI (i + 1)) (lv' := [(6, .int (nI (i + 1))), (0, .ref (g 0)), (1, .int (nI c)), (2, .int (nI b)), (3, .int (nI p)), (4, .ref a_1), (5, .int (nI a))]) X dX3_alias_85 (k := 6) rfl (nI_add _ 1) (by decide) rfl ?_
          refine vv_goto (tgt := 11) X dX3_alias_88 (by decide) ?_
          refine vv_sub [1, 2, 3, 4, 5, 6, 0] rfl ?_
          exact ihi (i + 1) H f a (by omega) (hK) (hU) (hR) (hz) (hm) (fun r hr => by rw [hst_s, if_neg (fun z => c_27 z.1)]; exact hf r hr) (by rw [ha, hmx_s, if_neg c_27, (hmx_j i).1 c_27])
  refine vv_sub [3, 4, 5, 6, 2, 1, 0] rfl ?_
  exact hl_10 (nM P) 0 H (fun _ => 0) 0 (by first | omega | assumption) (hK) (hU) (hR) (hz) (hR_8) (fun r hr => rfl) (rfl)
