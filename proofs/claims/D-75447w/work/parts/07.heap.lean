/-! raw heap facts and the rows over them; rows over small numbers (nI); truth values -/
set_option maxRecDepth 100000
section HRW
abbrev oB (D : DD) (H : Heap) (a ci : Nat) (fs : List Value) : Prop := va_at D.1 CL (a, .inr (ci, fs)) H
abbrev aR (D : DD) (H : Heap) (a ty : Nat) (x : vp_A) : Prop := va_at D.1 CL (a, .inl (D.2.1 ty, x)) H
abbrev iA (D : DD) (H : Heap) (a n : Nat) (f : Nat → Int32) : Prop := aR D H a 0 (n, .inl f)
abbrev lA (D : DD) (H : Heap) (a n : Nat) (f : Nat → Int64) : Prop := aR D H a 1 (n, .inr (.inl f))
abbrev bA (D : DD) (H : Heap) (a n : Nat) (f : Nat → Int32) : Prop := aR D H a 2 (n, .inl f)
abbrev zA (D : DD) (H : Heap) (a n : Nat) (f : Nat → Int32) : Prop := aR D H a 3 (n, .inl f)
abbrev dA (D : DD) (H : Heap) (a n : Nat) (f : Nat → UInt64) : Prop := aR D H a 4 (n, .inr (.inr (.inr (.inl f))))
abbrev qA (D : DD) (H : Heap) (a ty n : Nat) (f : Nat → Option Nat) : Prop := aR D H a ty (n, .inr (.inr (.inr (.inr f))))
/-- one cell changed; one cell more -/
def Ch (a : Nat) (H H1 : Heap) : Prop := H1.size = H.size ∧ ∀ q : Nat, q ≠ a → H1[q]? = H[q]?
def Ex (H H1 : Heap) : Prop := H1.size = H.size + 1 ∧ ∀ q : Nat, q < H.size → H1[q]? = H[q]?
theorem one {D : va_G} {cl : List vw_C} {q : Nat × va_E} {H : Heap} (h : va_at D cl q H) : va_P D cl [q] H := fun k x hk => by
  cases k with
  | zero => cases hk; exact h
  | succ k => simp at hk
theorem Ch.keep {D : va_G} {cl : List vw_C} {a : Nat} {q : Nat × va_E} {H H1 : Heap} (h : Ch a H H1) (hq : va_at D cl q H) (hn : q.1 ≠ a) : va_at D cl q H1 := hq.kept (h.2 _ hn)
theorem Ex.keep {D : va_G} {cl : List vw_C} {q : Nat × va_E} {H H1 : Heap} (h : Ex H H1) (hq : va_at D cl q H) : va_at D cl q H1 := hq.kept (h.2 _ hq.lt)
variable {K : C_} {y : MethodName} {cc : ByteArray} {nL : Nat} {ret : Option FieldType} {rm : Room} {D : DD} {A : Nat → Prop} {H : Heap} {cells slots : Nat} {Q : State → Prop} {pc : Nat} {lv : List (Nat × Value)} {rest : List Value}
variable {C ref : String} {T : u_T} {N ci idx a n : Nat} {fs : List Value}
theorem recv (X : Fx K y cc nL ret rm D) (ho : oB D H a ci fs) (hc : CL[ci]? = some (C, T, N)) : ∃ cell : Cell, H[a]? = some cell ∧ cell.vm.isStatics = false ∧ (kS K).vm.findClass C = some cell.cls := va_recv X.kk (one ho) hc (q0 := 0) rfl
theorem vv_getf (X : Fx K y cc nL ret rm D) (ho : oB D H a ci fs) (hin : ∀ w ∈ u_ws C T N, w ∈ lw_all) (hc : CL[ci]? = some (C, T, N)) (j : Nat) (hj : j < N) (hlink : Cond.fieldLink y.cls idx ref (T j).2.1 (T j).2.2.1 ∈ lw_all) (hsame : ref = (T j).1) {v : Value} (hv : fs[j]? = some v) (d : decode cc pc = .ok (.getfield idx, 3))
    (kk : V K nL A H cells slots Q (pc + 3) lv (v :: rest)) : V K nL A H cells slots Q pc lv (.ref a :: rest) := fun L ls hS h0 => va_get X.exec X.code X.words hin X.own X.kk (one ho) 0 rfl hc j hj (X.words _ hlink) (fun x h => by rw [hsame]; exact h) hv d (kk L ls hS h0)
theorem vv_putf (X : Fx K y cc nL ret rm D) (ho : oB D H a ci fs) (hin : ∀ w ∈ u_ws C T N, w ∈ lw_all) (hc : CL[ci]? = some (C, T, N)) (ty0 : Nat → FieldType) (hty : ∀ k, k < N → parseFieldDescriptor (T k).2.2.1 = some (ty0 k)) (hnm : ∀ a, a < N → ∀ b, b < N → a ≠ b → (T a).2.1 ≠ (T b).2.1) (j : Nat) (hj : j < N) (hlink : Cond.fieldLink y.cls idx ref (T j).2.1 (T j).2.2.1 ∈ lw_all) (hsame : ref = (T j).1) (hfin : (T j).2.2.2 = false) {v : Value} (hn : narrow (ty0 j) v = v) (hfit : fits (ty0 j) v = true) (hl : j < fs.length) (hA : kF K A a) (d : decode cc pc = .ok (.putfield idx, 3))
    (kk : ∀ H1 : Heap, Ch a H H1 → oB D H1 a ci (fs.set j v) → V K nL A H1 cells slots Q (pc + 3) lv rest) : V K nL A H cells slots Q pc lv (v :: .ref a :: rest) := by
  intro L ls hS h0
  have hap := va_apart (own := y.cls) X.words hin ty0 hty hnm X.kk hc
  obtain ⟨r, h1, cell, q1, q2, q3, q4⟩ := ho
  have hr : r = (C, T, N) := Option.some.inj (h1.symm.trans hc)
  subst hr
  obtain ⟨hSl, hfc, kC, hkC, hkind⟩ := X.kk.1 ci _ hc
  obtain ⟨cf, kf, fi, f, hi, hsl⟩ := hSl j hj
  have hlay := X.words _ (hin _ (u_in_lay hj))
  unfold u_lay at hlay
  rw [if_neg (by rw [hfin]; decide)] at hlay
  have hst := (u_facts hfc hkC (u_lays X.words hin hj) hi).1
  have h6 := u_store hfc hkC hkind hlay hi (hty j hj) hn hfit
  refine W.putK X.exec X.code (f := f) ⟨X.own, X.words _ hlink, ⟨_, _, _, by rw [hsame]; exact hi⟩, hst⟩ (by rw [q2]; exact h6) q1 q3 (by rw [hsl]; exact k2_hasslot (q4 j hj)) rfl rfl d fun H' e1 e2 e3 => ?_
  rw [hsl] at e1 ⊢
  exact kk H' ⟨e2, e3⟩ ⟨_, hc, t_OB.to (V := updV (vp_V fs) j v) ⟨_, e1, q2, q3, t_set q4 hap hj v⟩ (fun i _ => vp_updV_set hl v i)⟩ _ ls (hS.put e2 e3 hA) h0
theorem vv_putfF (X : Fx K y cc nL ret rm D) (ho : oB D H a ci fs) (hin : ∀ w ∈ u_ws C T N, w ∈ lw_all) (hc : CL[ci]? = some (C, T, N)) (ty0 : Nat → FieldType) (hty : ∀ k, k < N → parseFieldDescriptor (T k).2.2.1 = some (ty0 k)) (hnm : ∀ a, a < N → ∀ b, b < N → a ≠ b → (T a).2.1 ≠ (T b).2.1) (j : Nat) (hj : j < N) (hlink : Cond.fieldLink y.cls idx ref (T j).2.1 (T j).2.2.1 ∈ lw_all) (hsame : ref = (T j).1) (hfin : (T j).2.2.2 = true) (hin2 : y.name = "<init>") (hdecl : (T j).1 = y.cls) {v : Value} (hn : narrow (ty0 j) v = v) (hfit : fits (ty0 j) v = true) (hl : j < fs.length) (hA : kF K A a) (d : decode cc pc = .ok (.putfield idx, 3))
    (kk : ∀ H1 : Heap, Ch a H H1 → oB D H1 a ci (fs.set j v) → V K nL A H1 cells slots Q (pc + 3) lv rest) : V K nL A H cells slots Q pc lv (v :: .ref a :: rest) := by
  intro L ls hS h0
  have hap := va_apart (own := y.cls) X.words hin ty0 hty hnm X.kk hc
  obtain ⟨r, h1, cell, q1, q2, q3, q4⟩ := ho
  have hr : r = (C, T, N) := Option.some.inj (h1.symm.trans hc)
  subst hr
  obtain ⟨hSl, hfc, kC, hkC, hkind⟩ := X.kk.1 ci _ hc
  obtain ⟨cf, kf, fi, f, hi, hsl⟩ := hSl j hj
  have hlay := X.words _ (hin _ (u_in_lay hj))
  unfold u_lay at hlay
  rw [if_pos hfin] at hlay
  have hst := (u_facts hfc hkC (u_lays X.words hin hj) hi).1
  have hcf : (kM K).cls = cf := by
    obtain ⟨_, _, c', _, _, _, -, -, hf', -, -, -, hown2, -⟩ := Cond.laysFinal_spec hlay
    have e1 : c' = cf := by have := hi.symm.trans hf'; simp at this; exact this.1.symm
    rw [hdecl] at hown2
    rw [← e1]; exact Option.some.inj (X.own.symm.trans hown2)
  have h6 := u_fits hfc hkC hkind (Or.inr hlay) hi (hty j hj) hn hfit
  refine W.putFinK X.exec X.code X.own (X.words _ hlink) (by rw [hsame]; exact hi) hst hcf (by rw [X.name]; exact hin2) (by rw [q2]; exact h6) q1 q3 (by rw [hsl]; exact k2_hasslot (q4 j hj)) rfl rfl d fun H' e1 e2 e3 => ?_
  rw [hsl] at e1 ⊢
  exact kk H' ⟨e2, e3⟩ ⟨_, hc, t_OB.to (V := updV (vp_V fs) j v) ⟨_, e1, q2, q3, t_set q4 hap hj v⟩ (fun i _ => vp_updV_set hl v i)⟩ _ ls (hS.put e2 e3 hA) h0
/-! arrays -/
theorem vv_iald (X : Fx K y cc nL ret rm D) {f : Nat → Int32} (ha : iA D H a n f) {i : Int32} (k : Nat) (hk : k < n) (hn : n < 2 ^ 31) (e : i = nI k) (d : decode cc pc = .ok (.iaload, 1)) (kk : V K nL A H cells slots Q (pc + 1) lv (.int (f k) :: rest)) : V K nL A H cells slots Q pc lv (.int i :: .ref a :: rest) := by
  subst e
  intro L ls hS h0
  refine va_iald (tys := tysOf D) X.exec X.code X.kk (one ha) 0 0 rfl rfl (vp_in_nI hk hn) d ?_
  rw [nI_clamp (by omega)]
  exact kk L ls hS h0
theorem vv_zald (X : Fx K y cc nL ret rm D) {f : Nat → Int32} (ha : zA D H a n f) {i : Int32} (k : Nat) (hk : k < n) (hn : n < 2 ^ 31) (e : i = nI k) (d : decode cc pc = .ok (.baload, 1)) (kk : V K nL A H cells slots Q (pc + 1) lv (.int (f k) :: rest)) : V K nL A H cells slots Q pc lv (.int i :: .ref a :: rest) := by
  subst e
  intro L ls hS h0
  refine va_zald (tys := tysOf D) X.exec X.code X.kk (one ha) 0 3 rfl rfl (vp_in_nI hk hn) d ?_
  rw [nI_clamp (by omega)]
  exact kk L ls hS h0
theorem vv_bald (X : Fx K y cc nL ret rm D) {f : Nat → Int32} (ha : bA D H a n f) {i : Int32} (k : Nat) (hk : k < n) (hn : n < 2 ^ 31) (e : i = nI k) (d : decode cc pc = .ok (.baload, 1)) (kk : V K nL A H cells slots Q (pc + 1) lv (.int (f k) :: rest)) : V K nL A H cells slots Q pc lv (.int i :: .ref a :: rest) := by
  subst e
  intro L ls hS h0
  refine va_bald (tys := tysOf D) X.exec X.code X.kk (one ha) 0 2 rfl rfl (vp_in_nI hk hn) d ?_
  rw [nI_clamp (by omega)]
  exact kk L ls hS h0
theorem vv_lald (X : Fx K y cc nL ret rm D) {f : Nat → Int64} (ha : lA D H a n f) {i : Int32} (k : Nat) (hk : k < n) (hn : n < 2 ^ 31) (e : i = nI k) (d : decode cc pc = .ok (.laload, 1)) (kk : V K nL A H cells slots Q (pc + 1) lv (.long (f k) :: rest)) : V K nL A H cells slots Q pc lv (.int i :: .ref a :: rest) := by
  subst e
  intro L ls hS h0
  refine va_lald (tys := tysOf D) X.exec X.code X.kk (one ha) 0 1 rfl rfl (vp_in_nI hk hn) d ?_
  rw [nI_clamp (by omega)]
  exact kk L ls hS h0
theorem vv_alen (X : Fx K y cc nL ret rm D) {ty : Nat} {x : vp_A} (ha : aR D H a ty x) {t : FieldType} (ht : (tysOf D)[ty]? = some (D.2.1 ty, t)) (d : decode cc pc = .ok (.arraylength, 1)) (kk : V K nL A H cells slots Q (pc + 1) lv (.int (nI x.1) :: rest)) : V K nL A H cells slots Q pc lv (.ref a :: rest) :=
  fun L ls hS h0 => va_alen X.exec X.code X.kk (one ha) 0 ty rfl ht rfl d (kk L ls hS h0)
theorem vv_iast (X : Fx K y cc nL ret rm D) {f : Nat → Int32} (ha : iA D H a n f) {i x : Int32} (k : Nat) (hk : k < n) (hn : n < 2 ^ 31) (e : i = nI k) (hA : kF K A a) (d : decode cc pc = .ok (.iastore, 1)) (kk : ∀ H1 : Heap, Ch a H H1 → iA D H1 a n (va_up f k x) → V K nL A H1 cells slots Q (pc + 1) lv rest) : V K nL A H cells slots Q pc lv (.int x :: .int i :: .ref a :: rest) := by
  intro L ls hS h0
  subst e
  refine W.iast X.exec X.code ha ((X.kk.2 0 _ rfl).1 n (fun j => .int (f j))) (fun q => by cases q) (by show ¬ (nI k < 0 ∨ (arrV _ _ _).slots.size ≤ _); rw [arrV_size]; exact nI_in hk hn) rfl rfl d fun H1 e1 z oq => ?_
  refine kk H1 ⟨z, oq⟩ ?_ _ ls (hS.put z oq hA) h0
  show H1[a]? = some (vp_cell _ _)
  rw [e1, vp_cell_i, vp_cell_i, arrV_store, nI_clamp (by omega)]
  congr 2
  funext q
  by_cases hq : q = k
  · subst hq
    simp [updV, va_up]
  · simp [updV, va_up, hq]
theorem vv_zast (X : Fx K y cc nL ret rm D) {f : Nat → Int32} (ha : zA D H a n f) {i x : Int32} (k : Nat) (hk : k < n) (hn : n < 2 ^ 31) (e : i = nI k) (hA : kF K A a) (d : decode cc pc = .ok (.bastore, 1)) (kk : ∀ H1 : Heap, Ch a H H1 → zA D H1 a n (va_up f k (vp_nar .boolean x)) → V K nL A H1 cells slots Q (pc + 1) lv rest) : V K nL A H cells slots Q pc lv (.int x :: .int i :: .ref a :: rest) := by
  intro L ls hS h0
  subst e
  refine W.zast X.exec X.code ha ((X.kk.2 3 _ rfl).1 n (fun j => .int (f j))) (fun q => by cases q) (by show ¬ (nI k < 0 ∨ (arrV _ _ _).slots.size ≤ _); rw [arrV_size]; exact nI_in hk hn) rfl rfl d fun H1 e1 z oq => ?_
  refine kk H1 ⟨z, oq⟩ ?_ _ ls (hS.put z oq hA) h0
  show H1[a]? = some (vp_cell _ _)
  rw [e1, vp_cell_i, vp_cell_i, arrV_store, nI_clamp (by omega)]
  congr 2
  funext q
  by_cases hq : q = k
  · subst hq
    simp [updV, va_up, vp_nar]
    try rfl
  · simp [updV, va_up, hq]
theorem vv_bast (X : Fx K y cc nL ret rm D) {f : Nat → Int32} (ha : bA D H a n f) {i x : Int32} (k : Nat) (hk : k < n) (hn : n < 2 ^ 31) (e : i = nI k) (hA : kF K A a) (d : decode cc pc = .ok (.bastore, 1)) (kk : ∀ H1 : Heap, Ch a H H1 → bA D H1 a n (va_up f k (vp_nar .byte x)) → V K nL A H1 cells slots Q (pc + 1) lv rest) : V K nL A H cells slots Q pc lv (.int x :: .int i :: .ref a :: rest) := by
  intro L ls hS h0
  subst e
  refine W.bast X.exec X.code ha ((X.kk.2 2 _ rfl).1 n (fun j => .int (f j))) (fun q => by cases q) (by show ¬ (nI k < 0 ∨ (arrV _ _ _).slots.size ≤ _); rw [arrV_size]; exact nI_in hk hn) rfl rfl d fun H1 e1 z oq => ?_
  refine kk H1 ⟨z, oq⟩ ?_ _ ls (hS.put z oq hA) h0
  show H1[a]? = some (vp_cell _ _)
  rw [e1, vp_cell_i, vp_cell_i, arrV_store, nI_clamp (by omega)]
  congr 2
  funext q
  by_cases hq : q = k
  · subst hq
    simp [updV, va_up, vp_nar]
    try rfl
  · simp [updV, va_up, hq]
theorem vv_last (X : Fx K y cc nL ret rm D) {f : Nat → Int64} (ha : lA D H a n f) {i : Int32} {x : Int64} (k : Nat) (hk : k < n) (hn : n < 2 ^ 31) (e : i = nI k) (hA : kF K A a) (d : decode cc pc = .ok (.lastore, 1)) (kk : ∀ H1 : Heap, Ch a H H1 → lA D H1 a n (va_up f k x) → V K nL A H1 cells slots Q (pc + 1) lv rest) : V K nL A H cells slots Q pc lv (.long x :: .int i :: .ref a :: rest) := by
  intro L ls hS h0
  subst e
  refine W.last X.exec X.code ha ((X.kk.2 1 _ rfl).1 n (fun j => .long (f j))) (fun q => by cases q) (by show ¬ (nI k < 0 ∨ (arrV _ _ _).slots.size ≤ _); rw [arrV_size]; exact nI_in hk hn) rfl rfl d fun H1 e1 z oq => ?_
  refine kk H1 ⟨z, oq⟩ ?_ _ ls (hS.put z oq hA) h0
  show H1[a]? = some (vp_cell _ _)
  rw [e1, vp_cell_l, vp_cell_l, arrV_store, nI_clamp (by omega)]
  congr 2
  funext q
  by_cases hq : q = k
  · subst hq
    simp [updV, va_up]
  · simp [updV, va_up, hq]
/-! new cells -/
theorem vv_new (X : Fx K y cc nL ret rm D) (hin : ∀ w ∈ u_ws C T N, w ∈ lw_all) (hc : CL[ci]? = some (C, T, N)) (ty : Nat → FieldType) (hty : ∀ k, k < N → parseFieldDescriptor (T k).2.2.1 = some (ty k)) (hcl : Cond.classLink y.cls idx C ∈ lw_all) (hinst : Cond.instantiable C N ∈ lw_all) (hini : Cond.initialized C ∈ lw_all) (hfs : ∀ j, j < N → defaultValue (ty j) = vp_V fs j) (hcells : cells + 1 ≤ rm.cells) (hslots : slots + N ≤ rm.slots) (d : decode cc pc = .ok (.new idx, 3))
    (kk : ∀ H1 : Heap, Ex H H1 → oB D H1 H.size ci fs → V K nL A H1 (cells + 1) (slots + N) Q (pc + 3) lv (.ref H.size :: rest)) : V K nL A H cells slots Q pc lv rest := by
  intro L ls hS h0
  have hKn := X.kk.1 ci _ hc
  refine W.newcK X.exec X.code X.own (X.words _ hcl) (X.words _ hinst) (X.words _ hini) rfl d (by rw [X.room]; exact hcells) (by rw [X.room]; exact hslots) hKn.2.1 rfl fun H1 kC hkC e1 z1 o1 => ?_
  exact kk H1 ⟨z1, o1⟩ ⟨_, hc, (u_born ty X.words hin hKn hkC e1 hty).to hfs⟩ L ls ⟨Nat.le_trans hS.1 (by omega), fun x h1 h2 => (o1 x (Nat.lt_of_lt_of_le h1 hS.1)).trans (hS.2.1 x h1 h2), hS.2.2⟩ h0
/-! numbers -/
theorem vn_add (X : Fx K y cc nL ret rm D) {a b : Nat} (d : decode cc pc = .ok (.iadd, 1)) (kk : V K nL A H cells slots Q (pc + 1) lv (.int (nI (a + b)) :: rest)) : V K nL A H cells slots Q pc lv (.int (nI b) :: .int (nI a) :: rest) := vv_iadd X d (by rw [nI_add]; exact kk)
theorem vn_mul (X : Fx K y cc nL ret rm D) {a b : Nat} (d : decode cc pc = .ok (.imul, 1)) (kk : V K nL A H cells slots Q (pc + 1) lv (.int (nI (a * b)) :: rest)) : V K nL A H cells slots Q pc lv (.int (nI b) :: .int (nI a) :: rest) := vv_imul X d (by rw [pk_mul]; exact kk)
theorem vn_sub (X : Fx K y cc nL ret rm D) {a b : Nat} (h : b ≤ a) (d : decode cc pc = .ok (.isub, 1)) (kk : V K nL A H cells slots Q (pc + 1) lv (.int (nI (a - b)) :: rest)) : V K nL A H cells slots Q pc lv (.int (nI b) :: .int (nI a) :: rest) := vv_isub X d (by rw [pk_sub h]; exact kk)
theorem vn_div (X : Fx K y cc nL ret rm D) {a b : Nat} (ha : a < 2 ^ 31) (h0 : 0 < b) (hb : b < 2 ^ 31) (d : decode cc pc = .ok (.idiv, 1)) (kk : V K nL A H cells slots Q (pc + 1) lv (.int (nI (a / b)) :: rest)) : V K nL A H cells slots Q pc lv (.int (nI b) :: .int (nI a) :: rest) := vv_idiv X d (nI_ne0 h0 hb) (by rw [pk_div ha h0 hb]; exact kk)
theorem vn_rem (X : Fx K y cc nL ret rm D) {a b : Nat} (ha : a < 2 ^ 31) (h0 : 0 < b) (hb : b < 2 ^ 31) (d : decode cc pc = .ok (.irem, 1)) (kk : V K nL A H cells slots Q (pc + 1) lv (.int (nI (a % b)) :: rest)) : V K nL A H cells slots Q pc lv (.int (nI b) :: .int (nI a) :: rest) := vv_irem X d (nI_ne0 h0 hb) (by rw [pk_rem ha h0 hb]; exact kk)
theorem vn_lt (X : Fx K y cc nL ret rm D) {a b tgt : Nat} {off : Int} (ha : a < 2 ^ 31) (hb : b < 2 ^ 31) (d : decode cc pc = .ok (.if_icmp .lt off, 3)) (ht : (pc : Int) + off = (tgt : Int)) (kt : a < b → V K nL A H cells slots Q tgt lv rest) (kf : b ≤ a → V K nL A H cells slots Q (pc + 3) lv rest) : V K nL A H cells slots Q pc lv (.int (nI b) :: .int (nI a) :: rest) :=
  vv_icmp_lt X d ht (fun c => kt ((nI_ltI ha hb).mp c)) (fun c => kf (Nat.not_lt.mp fun z => c ((nI_ltI ha hb).mpr z)))
theorem vn_ge (X : Fx K y cc nL ret rm D) {a b tgt : Nat} {off : Int} (ha : a < 2 ^ 31) (hb : b < 2 ^ 31) (d : decode cc pc = .ok (.if_icmp .ge off, 3)) (ht : (pc : Int) + off = (tgt : Int)) (kt : b ≤ a → V K nL A H cells slots Q tgt lv rest) (kf : a < b → V K nL A H cells slots Q (pc + 3) lv rest) : V K nL A H cells slots Q pc lv (.int (nI b) :: .int (nI a) :: rest) :=
  vv_icmp_ge X d ht (fun c => kt ((nI_leI hb ha).mp c)) (fun c => kf (Nat.not_le.mp fun z => c ((nI_leI hb ha).mpr z)))
theorem vn_gt (X : Fx K y cc nL ret rm D) {a b tgt : Nat} {off : Int} (ha : a < 2 ^ 31) (hb : b < 2 ^ 31) (d : decode cc pc = .ok (.if_icmp .gt off, 3)) (ht : (pc : Int) + off = (tgt : Int)) (kt : b < a → V K nL A H cells slots Q tgt lv rest) (kf : a ≤ b → V K nL A H cells slots Q (pc + 3) lv rest) : V K nL A H cells slots Q pc lv (.int (nI b) :: .int (nI a) :: rest) :=
  vv_icmp_gt X d ht (fun c => kt ((nI_ltI hb ha).mp c)) (fun c => kf (Nat.not_lt.mp fun z => c ((nI_ltI hb ha).mpr z)))
theorem vn_le (X : Fx K y cc nL ret rm D) {a b tgt : Nat} {off : Int} (ha : a < 2 ^ 31) (hb : b < 2 ^ 31) (d : decode cc pc = .ok (.if_icmp .le off, 3)) (ht : (pc : Int) + off = (tgt : Int)) (kt : a ≤ b → V K nL A H cells slots Q tgt lv rest) (kf : b < a → V K nL A H cells slots Q (pc + 3) lv rest) : V K nL A H cells slots Q pc lv (.int (nI b) :: .int (nI a) :: rest) :=
  vv_icmp_le X d ht (fun c => kt ((nI_leI ha hb).mp c)) (fun c => kf (Nat.not_le.mp fun z => c ((nI_leI ha hb).mpr z)))
theorem vn_eq (X : Fx K y cc nL ret rm D) {a b tgt : Nat} {off : Int} (ha : a < 2 ^ 31) (hb : b < 2 ^ 31) (d : decode cc pc = .ok (.if_icmp .eq off, 3)) (ht : (pc : Int) + off = (tgt : Int)) (kt : a = b → V K nL A H cells slots Q tgt lv rest) (kf : a ≠ b → V K nL A H cells slots Q (pc + 3) lv rest) : V K nL A H cells slots Q pc lv (.int (nI b) :: .int (nI a) :: rest) :=
  vv_icmp_eq X d ht (fun c => kt ((nI_eq ha hb).mp c)) (fun c => kf fun z => c ((nI_eq ha hb).mpr z))
theorem vn_ne (X : Fx K y cc nL ret rm D) {a b tgt : Nat} {off : Int} (ha : a < 2 ^ 31) (hb : b < 2 ^ 31) (d : decode cc pc = .ok (.if_icmp .ne off, 3)) (ht : (pc : Int) + off = (tgt : Int)) (kt : a ≠ b → V K nL A H cells slots Q tgt lv rest) (kf : a = b → V K nL A H cells slots Q (pc + 3) lv rest) : V K nL A H cells slots Q pc lv (.int (nI b) :: .int (nI a) :: rest) :=
  vv_icmp_ne X d ht (fun c => kt fun z => c ((nI_eq ha hb).mpr z)) (fun c => kf ((nI_eq ha hb).mp c))
theorem vn_if_eq (X : Fx K y cc nL ret rm D) {a tgt : Nat} {off : Int} (ha : a < 2 ^ 31) (d : decode cc pc = .ok (.ifCond .eq off, 3)) (ht : (pc : Int) + off = (tgt : Int)) (kt : a = 0 → V K nL A H cells slots Q tgt lv rest) (kf : 0 < a → V K nL A H cells slots Q (pc + 3) lv rest) : V K nL A H cells slots Q pc lv (.int (nI a) :: rest) :=
  vv_if_eq X d ht (fun c => kt ((nI_eq ha (by decide)).mp (c.trans nI_0.symm))) (fun c => kf (Nat.pos_of_ne_zero fun z => c (by rw [z]; exact nI_0)))
theorem vn_if_ne (X : Fx K y cc nL ret rm D) {a tgt : Nat} {off : Int} (ha : a < 2 ^ 31) (d : decode cc pc = .ok (.ifCond .ne off, 3)) (ht : (pc : Int) + off = (tgt : Int)) (kt : 0 < a → V K nL A H cells slots Q tgt lv rest) (kf : a = 0 → V K nL A H cells slots Q (pc + 3) lv rest) : V K nL A H cells slots Q pc lv (.int (nI a) :: rest) :=
  vv_if_ne X d ht (fun c => kt (Nat.pos_of_ne_zero fun z => c (by rw [z]; exact nI_0))) (fun c => kf ((nI_eq ha (by decide)).mp (c.trans nI_0.symm)))
theorem vn_if_le (X : Fx K y cc nL ret rm D) {a tgt : Nat} {off : Int} (ha : a < 2 ^ 31) (d : decode cc pc = .ok (.ifCond .le off, 3)) (ht : (pc : Int) + off = (tgt : Int)) (kt : a = 0 → V K nL A H cells slots Q tgt lv rest) (kf : 0 < a → V K nL A H cells slots Q (pc + 3) lv rest) : V K nL A H cells slots Q pc lv (.int (nI a) :: rest) :=
  vv_if_le X d ht (fun c => kt (Nat.eq_zero_of_le_zero ((nI_leI ha (by decide)).mp (by rw [nI_0]; exact c)))) (fun c => kf (Nat.pos_of_ne_zero fun z => c (by rw [z, nI_0]; exact Int32.le_refl 0)))
/-! truth values -/
def b2 (p : Prop) [Decidable p] : Int32 := if p then 1 else 0
theorem b2_t {p : Prop} [Decidable p] (h : p) : b2 p = 1 := if_pos h
theorem b2_f {p : Prop} [Decidable p] (h : ¬ p) : b2 p = 0 := if_neg h
theorem b2_1 {p : Prop} [Decidable p] (h : p) : (1 : Int32) = b2 p := (if_pos h).symm
theorem b2_0 {p : Prop} [Decidable p] (h : ¬ p) : (0 : Int32) = b2 p := (if_neg h).symm
theorem b2_eq {p q : Prop} [Decidable p] [Decidable q] (h : p ↔ q) : b2 p = b2 q := by
  by_cases z : p
  · rw [b2_t z, b2_t (h.mp z)]
  · rw [b2_f z, b2_f (fun w => z (h.mpr w))]
theorem b2_nar (p : Prop) [Decidable p] : narrow .boolean (.int (b2 p)) = .int (b2 p) := by
  by_cases z : p
  · rw [b2_t z]; rfl
  · rw [b2_f z]; rfl
theorem vb_eq (X : Fx K y cc nL ret rm D) {p : Prop} [Decidable p] {tgt : Nat} {off : Int} (d : decode cc pc = .ok (.ifCond .eq off, 3)) (ht : (pc : Int) + off = (tgt : Int)) (kt : ¬ p → V K nL A H cells slots Q tgt lv rest) (kf : p → V K nL A H cells slots Q (pc + 3) lv rest) : V K nL A H cells slots Q pc lv (.int (b2 p) :: rest) :=
  vv_if_eq X d ht (fun c => kt fun z => by rw [b2_t z] at c; exact absurd c (by decide)) (fun c => kf (Decidable.byContradiction fun z => c (b2_f z)))
theorem vb_ne (X : Fx K y cc nL ret rm D) {p : Prop} [Decidable p] {tgt : Nat} {off : Int} (d : decode cc pc = .ok (.ifCond .ne off, 3)) (ht : (pc : Int) + off = (tgt : Int)) (kt : p → V K nL A H cells slots Q tgt lv rest) (kf : ¬ p → V K nL A H cells slots Q (pc + 3) lv rest) : V K nL A H cells slots Q pc lv (.int (b2 p) :: rest) :=
  vv_if_ne X d ht (fun c => kt (Decidable.byContradiction fun z => c (b2_f z))) (fun c => kf fun z => by rw [b2_t z] at c; exact absurd c (by decide))
end HRW
