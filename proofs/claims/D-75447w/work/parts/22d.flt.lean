/-! a long as a float is a number; a quotient by one that isn't zero is no NaN -/
set_option maxRecDepth 100000
theorem fl_k : FP.Core.b32.tails = 8388608 ∧ FP.Core.b32.exps = 256 ∧ FP.Core.b32.qmin = -149 ∧ FP.Core.b32.qmax = 104 ∧ FP.Core.b32.p = 24 ∧ 2 ^ FP.Core.b32.p = 16777216 := by decide
theorem fl_as (s : Bool) (e t : Nat) : FP.Core.assemble FP.Core.b32 s e t = (s.toNat * 256 + e) * 8388608 + t := by
  obtain ⟨t1, t2, _⟩ := fl_k
  unfold FP.Core.assemble
  rw [t1, t2]
/-- a rounded magnitude -/
def fl_ok (d : FP.Core.Datum) : Prop := (∃ s, d = .inf s) ∨ ∃ s c q, d = .fin s c q ∧ c < 16777216 ∧ q ≤ 104
theorem fl_rr (s : Bool) (a b : Nat) (e : Int) : fl_ok (FP.Core.roundRatio FP.Core.b32 s a b e) := by
  obtain ⟨t1, t2, t3, t4, t5, t6⟩ := fl_k
  unfold FP.Core.roundRatio
  split
  · exact Or.inr ⟨s, 0, _, rfl, by omega, by omega⟩
  · unfold FP.Core.roundAt
    generalize FP.Core.nearest _ _ = w
    generalize FP.Core.quantum _ _ _ _ = q
    unfold FP.Core.settle FP.Core.bound
    split
    · split
      · exact Or.inr ⟨s, w, q, rfl, by omega, by omega⟩
      · exact Or.inl ⟨s, rfl⟩
    · split
      · exact Or.inr ⟨s, _, _, rfl, by omega, by omega⟩
      · exact Or.inl ⟨s, rfl⟩
theorem fl_n32 {n : Nat} (h : ∃ s : Bool, ∃ m, n = s.toNat * 2147483648 + m ∧ m ≤ 2139095040) : vf_n32 (UInt32.ofNat n) := by
  obtain ⟨s, m, rfl, hm⟩ := h
  have hs : s.toNat ≤ 1 := by cases s <;> decide
  unfold vf_n32
  rw [UInt32.le_iff_toNat_le, UInt32.toNat_and]
  have e : (0x7fffffff : UInt32).toNat = 2 ^ 31 - 1 := by decide
  have e2 : (0x7f800000 : UInt32).toNat = 2139095040 := by decide
  have e3 : (UInt32.ofNat (s.toNat * 2147483648 + m)).toNat = s.toNat * 2147483648 + m := UInt32.toNat_ofNat_of_lt' (by show _ < 4294967296; omega)
  rw [e, e2, e3, Nat.and_two_pow_sub_one_eq_mod]
  omega
theorem fl_en {d : FP.Core.Datum} (h : fl_ok d) : vf_n32 (UInt32.ofNat (FP.Core.encode FP.Core.b32 d)) := by
  obtain ⟨t1, t2, t3, t4, t5, t6⟩ := fl_k
  rcases h with ⟨s, rfl⟩ | ⟨s, c, q, rfl, h1, h2⟩
  · refine fl_n32 ⟨s, 2139095040, ?_, Nat.le_refl _⟩
    show FP.Core.assemble _ _ _ _ = _
    rw [fl_as, t2]
    omega
  · by_cases hc : c < FP.Core.b32.tails
    · refine fl_n32 ⟨s, c, ?_, by omega⟩
      simp only [FP.Core.encode]
      rw [if_pos hc, fl_as]
      omega
    · refine fl_n32 ⟨s, ((q - FP.Core.b32.qmin).toNat + 1) * 8388608 + (c - 8388608), ?_, by omega⟩
      simp only [FP.Core.encode]
      rw [if_neg hc, fl_as, t1]
      omega
theorem fl_de {s : Bool} {c : Nat} {q : Int} (h1 : c < 16777216) (h2 : q ≤ 104) (h3 : -149 ≤ q) (h4 : 8388608 ≤ c ∨ q = -149) : FP.Core.decode FP.Core.b32 (FP.Core.encode FP.Core.b32 (.fin s c q)) = .fin s c q := by
  obtain ⟨t1, t2, t3, t4, t5, t6⟩ := fl_k
  have hs : s.toNat ≤ 1 := by cases s <;> decide
  have key : ∀ e t : Nat, e < 255 → t < 8388608 → FP.Core.decode FP.Core.b32 ((s.toNat * 256 + e) * 8388608 + t) = if e = 0 then .fin s t (-149) else .fin s (8388608 + t) (-149 + ((e : Int) - 1)) := by
    intro e t he ht
    have e1 : ((s.toNat * 256 + e) * 8388608 + t) / 8388608 % 256 = e := by omega
    have e2 : ((s.toNat * 256 + e) * 8388608 + t) % 8388608 = t := by omega
    have e3 : (((s.toNat * 256 + e) * 8388608 + t) / 8388608 / 256 % 2 == 1) = s := by
      have : ((s.toNat * 256 + e) * 8388608 + t) / 8388608 / 256 % 2 = s.toNat := by omega
      rw [this]; cases s <;> rfl
    unfold FP.Core.decode FP.Core.fieldE FP.Core.fieldT FP.Core.fieldS
    rw [t1, t2, t3, e1, e2, e3, if_neg (by omega)]
  by_cases hc : c < FP.Core.b32.tails
  · simp only [FP.Core.encode]
    rw [if_pos hc, fl_as, key 0 c (by omega) (by omega), if_pos rfl]
    congr 1
    omega
  · simp only [FP.Core.encode]
    rw [if_neg hc, fl_as, t1, key _ _ (by omega) (by omega), if_neg (by omega), t3]
    rw [Nat.add_sub_cancel' (show 8388608 ≤ c by omega), show (-149 : Int) + (((q - -149).toNat + 1 : Nat) - 1 : Int) = q by omega]
theorem fl_fin (s : Bool) {c : Nat} (h0 : 0 < c) (h : c < 2 ^ 64) : ∃ c' q, FP.Core.roundRatio FP.Core.b32 s c 1 0 = .fin s c' q ∧ 8388608 ≤ c' ∧ c' < 16777216 ∧ -149 ≤ q ∧ q ≤ 104 := by
  obtain ⟨t1, t2, t3, t4, t5, t6⟩ := fl_k
  obtain ⟨k, hk⟩ : ∃ k, c.log2 = k := ⟨_, rfl⟩
  have hk1 : k < 64 := by rw [← hk]; exact (Nat.log2_lt (by omega)).mpr h
  have hk2 : 2 ^ k ≤ c := by rw [← hk]; exact Nat.log2_self_le (by omega)
  have hl : FP.Core.leading c 1 = (k : Int) := by
    have e1 : ((1 : Nat).log2 : Int) = 0 := by decide
    unfold FP.Core.leading
    dsimp only
    rw [e1, hk, Int.sub_zero, if_pos]
    rw [show ((k : Int)).toNat = k by omega, show (-(k : Int)).toNat = 0 by omega]
    omega
  have hq : FP.Core.quantum FP.Core.b32 c 1 0 = (k : Int) - 23 := by
    unfold FP.Core.quantum
    rw [hl, t3, t5]
    omega
  have hn : 8388608 ≤ FP.Core.nearest (FP.Core.unitsNum c 0 ((k : Int) - 23)) (FP.Core.unitsDen 1 0 ((k : Int) - 23)) := by
    have hd : 0 < FP.Core.unitsDen 1 0 ((k : Int) - 23) := by unfold FP.Core.unitsDen; rw [Nat.one_mul]; exact Nat.two_pow_pos _
    have hm : 8388608 * FP.Core.unitsDen 1 0 ((k : Int) - 23) ≤ FP.Core.unitsNum c 0 ((k : Int) - 23) := by
      unfold FP.Core.unitsDen FP.Core.unitsNum
      rw [Nat.one_mul]
      rcases Nat.lt_or_ge k 23 with q | q
      · rw [show ((k : Int) - 23 - 0).toNat = 0 by omega, show (0 - ((k : Int) - 23)).toNat = 23 - k by omega]
        refine Nat.le_trans ?_ (Nat.mul_le_mul_right _ hk2)
        rw [← Nat.pow_add, show k + (23 - k) = 23 by omega]
        decide
      · rw [show ((k : Int) - 23 - 0).toNat = k - 23 by omega, show (0 - ((k : Int) - 23)).toNat = 0 by omega, show (8388608 : Nat) = 2 ^ 23 by decide, ← Nat.pow_add, show 23 + (k - 23) = k by omega]
        omega
    have h1 : 8388608 ≤ FP.Core.unitsNum c 0 ((k : Int) - 23) / FP.Core.unitsDen 1 0 ((k : Int) - 23) := (Nat.le_div_iff_mul_le hd).mpr hm
    unfold FP.Core.nearest
    split
    · exact h1
    · split <;> omega
  unfold FP.Core.roundRatio
  rw [if_neg (by omega)]
  unfold FP.Core.roundAt
  rw [hq]
  revert hn
  generalize FP.Core.nearest _ _ = w
  intro hn
  unfold FP.Core.settle FP.Core.bound
  by_cases hw : w < 2 ^ FP.Core.b32.p
  · rw [if_pos hw, if_pos (by omega)]
    exact ⟨_, _, rfl, by omega, by omega, by omega, by omega⟩
  · rw [if_neg hw, if_pos (by omega)]
    exact ⟨_, _, rfl, by omega, by omega, by omega, by omega⟩
theorem fl_l2f (z : Int64) : ∃ s c q, FP.Core.decode FP.Core.b32 (FP.Core.l2f z).toNat = .fin s c q ∧ (¬ z = 0 → ¬ c = 0) := by
  have h1 := Int64.le_toInt z
  have h2 := Int64.toInt_lt z
  have hx : ∃ s c q, FP.Core.round FP.Core.b32 (FP.Core.ofInt z.toInt) = .fin s c q ∧ c < 16777216 ∧ q ≤ 104 ∧ -149 ≤ q ∧ (8388608 ≤ c ∨ q = -149) ∧ (¬ z = 0 → ¬ c = 0) := by
    unfold FP.Core.ofInt FP.Core.round
    by_cases h : z.toInt.natAbs = 0
    · refine ⟨decide (z.toInt < 0), 0, -149, ?_, by omega, by omega, by omega, Or.inr rfl, fun hz => absurd ?_ hz⟩
      · dsimp only
        rw [h]
        unfold FP.Core.roundRatio
        rw [if_pos rfl, fl_k.2.2.1]
      · have e : z.toInt = 0 := by omega
        exact Int64.toInt_inj.mp e
    · obtain ⟨c, q, h3, h4, h5, h6, h7⟩ := fl_fin (decide (z.toInt < 0)) (c := z.toInt.natAbs) (by omega) (by omega)
      exact ⟨_, c, q, h3, h5, h7, h6, Or.inl h4, fun _ => by omega⟩
  obtain ⟨s, c, q, h3, h4, h5, h6, h7, h8⟩ := hx
  refine ⟨s, c, q, ?_, h8⟩
  unfold FP.Core.l2f FP.Core.fromInt
  rw [h3, UInt32.toNat_ofNat_of_lt', fl_de h4 h5 h6 h7]
  obtain ⟨t1, t2, t3, t4, t5, t6⟩ := fl_k
  have hs : s.toNat ≤ 1 := by cases s <;> decide
  show _ < 4294967296
  simp only [FP.Core.encode]
  split
  · rw [fl_as]; omega
  · rw [fl_as, t1, t3]; omega
theorem fl_div {a b : Int64} (h : ¬ b = 0) : vf_n32 (FP.fdiv (FP.l2f a) (FP.l2f b)) := by
  obtain ⟨s, c, q, h1, _⟩ := fl_l2f a
  obtain ⟨t, d, r, h3, h4⟩ := fl_l2f b
  show vf_n32 (UInt32.ofNat (FP.Core.encode FP.Core.b32 (FP.Core.quotient FP.Core.b32 (FP.Core.decode FP.Core.b32 (FP.Core.l2f a).toNat) (FP.Core.decode FP.Core.b32 (FP.Core.l2f b).toNat))))
  rw [h1, h3]
  unfold FP.Core.quotient
  dsimp only
  rw [if_neg (h4 h)]
  exact fl_en (fl_rr _ _ _ _)
theorem vv_fret {K : C_} {y : MethodName} {cc : ByteArray} {nL : Nat} {rm : Room} {D : DD} {A : Nat → Prop} {H : Heap} {cells slots : Nat} {pc : Nat} {lv : List (Nat × Value)} {QQ : Option Value → Heap → Heap → Prop} {Qf : State → Prop} {v : UInt32} (X : Fx K y cc nL (some .float) rm D) (hQ : QM K rm A QQ = Qf) (d : decode cc pc = .ok (.freturn, 1)) (hc : cells ≤ rm.cells) (hs : slots ≤ rm.slots) (hq : QQ (some (.float v)) (kS K).heap H) : V K nL A H cells slots Qf pc lv [.float v] := by
  subst hQ
  intro L ls hS h0
  refine W.widen hc hs ?_
  exact W.fret X.exec X.code X.returns (fun t ht hW => ⟨_, rfl, by rw [ht]; exact hq, hS.F ht⟩) hS.2.2 d X.locks
theorem vv_mmaxL {K : C_} {y : MethodName} {cc : ByteArray} {nL : Nat} {ret : Option FieldType} {rm : Room} {D : DD} {A : Nat → Prop} {H : Heap} {cells slots : Nat} {Q : State → Prop} {pc : Nat} {lv : List (Nat × Value)} {rest : List Value} {idx : Nat} (X : Fx K y cc nL ret rm D) (q1 : Cond.methodLink y.cls idx ⟨"java/lang/Math", "max", "(JJ)J"⟩ ∈ lw_all) (hf : 1 ≤ rm.frames) (hl : (rest.map fun v => v.category).sum + 15 ≤ rm.locals) (hc : cells ≤ rm.cells) (hs : slots ≤ rm.slots) {x z : Int64} (d : decode cc pc = .ok (.invokestatic idx, 3)) (kk : V K nL A H cells slots Q (pc + 3) lv (.long (if z < x then x else z) :: rest)) : V K nL A H cells slots Q pc lv (.long z :: .long x :: rest) := by
  intro L ls hS h0 T hT Y
  obtain ⟨vm', X', st⟩ := va_max_longV Y X.exec X.own (X.words _ q1) (X.words _ q3413) (X.words _ q157) (X.words _ q3414) (g := F0 (kM K) pc ls (.long z :: .long x :: rest)) rfl (by rw [X.maxL]; exact h0.1) (a := x) (b := z) (rest := rest) rfl (by rw [X.code]; exact d) (by rw [X.room]; exact hf) (by rw [X.room]; show 2 * 0 + _ + 15 ≤ _; omega) (by rw [X.room]; exact hc) (by rw [X.room]; exact hs)
  obtain ⟨t, a1, b1⟩ := kk L ls hS h0 (T.setVm vm') hT X'
  exact ⟨t, st t a1, b1⟩
