/-! java.lang.Integer, java.util.LinkedList: printed by gen/s37.py -/
set_option maxRecDepth 100000
section FIELDI
variable {K : C_} {y : MethodName} {cc : ByteArray} {nL : Nat} {ret : Option FieldType} {rm : Room} {D : DD} {A : Nat → Prop} {H : Heap} {cells slots : Nat} {Q : State → Prop} {pc : Nat} {lv : List (Nat × Value)} {rest : List Value}
variable {C ref : String} {T : u_T} {N ci idx a n : Nat} {fs : List Value}
theorem vv_getfI (X : Fx K y cc nL ret rm D) (ho : oB D H a ci fs) (hin : ∀ w ∈ u_ws C T N, w ∈ lw_all) (hc : CL[ci]? = some (C, T, N)) (j : Nat) (hj : j < N) (hlink : Cond.fieldLink y.cls idx ref (T j).2.1 (T j).2.2.1 ∈ lw_all) (hsf : Cond.sameField ref (T j).1 (T j).2.1 (T j).2.2.1 ∈ lw_all) {v : Value} (hv : fs[j]? = some v) (d : decode cc pc = .ok (.getfield idx, 3))
    (kk : V K nL A H cells slots Q (pc + 3) lv (v :: rest)) : V K nL A H cells slots Q pc lv (.ref a :: rest) := fun L ls hS h0 => va_get X.exec X.code X.words hin X.own X.kk (one ho) 0 rfl hc j hj (X.words _ hlink) (fun x h => u_same (X.words _ hsf) x h) hv d (kk L ls hS h0)
theorem vv_putfI (X : Fx K y cc nL ret rm D) (ho : oB D H a ci fs) (hin : ∀ w ∈ u_ws C T N, w ∈ lw_all) (hc : CL[ci]? = some (C, T, N)) (ty0 : Nat → FieldType) (hty : ∀ k, k < N → parseFieldDescriptor (T k).2.2.1 = some (ty0 k)) (hnm : ∀ a, a < N → ∀ b, b < N → a ≠ b → (T a).2.1 ≠ (T b).2.1) (j : Nat) (hj : j < N) (hlink : Cond.fieldLink y.cls idx ref (T j).2.1 (T j).2.2.1 ∈ lw_all) (hsf : Cond.sameField ref (T j).1 (T j).2.1 (T j).2.2.1 ∈ lw_all) (hfin : (T j).2.2.2 = false) {v : Value} (hn : narrow (ty0 j) v = v) (hfit : fits (ty0 j) v = true) (hl : j < fs.length) (hA : kF K A a) (d : decode cc pc = .ok (.putfield idx, 3))
    (kk : ∀ H1 : Heap, Ch a H H1 → oB D H1 a ci (fs.set j v) → V K nL A H1 cells slots Q (pc + 3) lv rest) : V K nL A H cells slots Q pc lv (v :: .ref a :: rest) := by
  intro L ls hS h0
  have hap := va_apart (own := y.cls) X.words hin ty0 hty hnm X.kk hc
  obtain ⟨r, h1, cell, q1, q2, q3, q4⟩ := ho
  have hr : r = (C, T, N) := Option.some.inj (h1.symm.trans hc)
  subst hr
  obtain ⟨hSl, hfc, kC, hkC, hkind⟩ := X.kk.1 ci _ hc
  obtain ⟨cf, kf, fi, f, hi, hsl⟩ := hSl j hj
  have hlay := X.words _ (hin _ (u_in_lay hj))
  unfold u_lay at hlay
  rw [if_neg (by rw [hfin]; decide)] at hlay
  have hst := (u_facts hfc hkC (u_lays X.words hin hj) hi).1
  have h6 := u_store hfc hkC hkind hlay hi (hty j hj) hn hfit
  refine W.putK X.exec X.code (f := f) ⟨X.own, X.words _ hlink, ⟨_, _, _, u_same (X.words _ hsf) _ hi⟩, hst⟩ (by rw [q2]; exact h6) q1 q3 (by rw [hsl]; exact k2_hasslot (q4 j hj)) rfl rfl d fun H' e1 e2 e3 => ?_
  rw [hsl] at e1 ⊢
  exact kk H' ⟨e2, e3⟩ ⟨_, hc, t_OB.to (V := updV (vp_V fs) j v) ⟨_, e1, q2, q3, t_set q4 hap hj v⟩ (fun i _ => vp_updV_set hl v i)⟩ _ ls (hS.put e2 e3 hA) h0
end FIELDI
section CALLO
variable {K : C_} {y : MethodName} {cc : ByteArray} {nL : Nat} {ret : Option FieldType} {rm : Room} {D : DD} {A : Nat → Prop} {H : Heap} {cells slots : Nat} {Q : State → Prop} {pc : Nat} {lv : List (Nat × Value)}
variable {x y2 : MethodName} {b2 : ByteArray} {nL2 idx b count : Nat} {ret2 : Option FieldType} {rm2 : Room} {As st stk : List Value} {P : Heap → Prop} {A2 : Nat → Prop} {Q2 : Option Value → Heap → Heap → Prop} {C owner host : String} {T : u_T} {N ci : Nat} {fs : List Value}
/-- a method that overrides the one named -/
theorem vv_callO (X : Fx K y cc nL ret rm D) (hM : Ct (kL K) y2 b2 nL2 ret2 rm2 D (.ref b :: As) P A2 Q2) (q1 : Cond.methodLink y.cls idx x ∈ lw_all) (q0 : Cond.sameMethod x.cls owner x.name x.desc ∈ lw_all) (qd : Cond.declares ⟨owner, x.name, x.desc⟩ ∈ lw_tbl) (q2 : Cond.instanceMethod y2 ∈ lw_all) (q3 : Cond.selects C x y2 ∈ lw_all) (q4 : Cond.initialized y2.cls ∈ lw_all) (q5 : Cond.code y2 b2 nL2 ret2 ∈ lw_all) (hd : owner ≠ "java/lang/invoke/MethodHandle" ∧ owner ≠ "java/lang/invoke/VarHandle" ∧ (parseMethodDescriptor x.desc).map (fun d => d.parameters.length) = some As.length) (hR : rm2.frames + 1 ≤ rm.frames ∧ 8 + (nL2 + 11) + rm2.locals ≤ rm.locals)
    (d : decode cc pc = .ok (.invokevirtual idx, 3)) (hstk : stk = As.reverse ++ .ref b :: st) (hw : (st.map fun v => v.category).sum ≤ 8) (ho : oB D H b ci fs) (hcl : CL[ci]? = some (C, T, N)) (hP : P H) (hA : ∀ q, A2 q → kF K A q) (hc : cells + rm2.cells ≤ rm.cells ∧ slots + rm2.slots ≤ rm.slots)
    (kk : ∀ (v : Option Value) (H1 : Heap), Q2 v H H1 → H.size ≤ H1.size → (∀ q : Nat, q < H.size → ¬ A2 q → H1[q]? = H[q]?) → V K nL A H1 (cells + rm2.cells) (slots + rm2.slots) Q (pc + 3) lv (v.toList ++ st)) : V K nL A H cells slots Q pc lv stk := by
  subst hstk
  exact vv_after (fun L ls h0 => va_runU (As := As) (rest := st) ⟨X.exec, X.code, X.maxL, X.own, X.words⟩ (hM H.size) (va_cwA As.length X.words (lw_U q1 q0 q3 q2 q4 q5) rfl rfl rfl (X.nest qd rfl) hd (by rw [X.room]; exact hR)) ⟨PcT_blind, recv X ho hcl, fun U hU hW => ⟨rfl, by rw [hU], by rw [hU]; exact hP, X.gk.warm hW⟩⟩ rfl rfl h0.1 rfl (lv_room hw) d (by rw [X.room]; exact hc)) hA kk
end CALLO
/-- a number's object -/
def IN (D : DD) (H : Heap) (a k : Nat) : Prop := oB D H a 18 [.int (nI k)]
def nxv (nd : Nat → Nat) (n k : Nat) : Value := if k + 1 < n then .ref (nd (k + 1)) else .null
def pvv (nd : Nat → Nat) (k : Nat) : Value := if k = 0 then .null else .ref (nd (k - 1))
/-- a linked list of n nodes with these items -/
def LL (D : DD) (H : Heap) (b n : Nat) (nd it : Nat → Nat) : Prop := oB D H b 24 [.int (nI n), .int (nI n), if n = 0 then .null else .ref (nd 0), if n = 0 then .null else .ref (nd (n - 1))] ∧ (∀ k, k < n → oB D H (nd k) 20 [.ref (it k), nxv nd n k, pvv nd k]) ∧ (∀ j k, j < n → k < n → nd j = nd k → j = k)
def insF (f : Nat → Nat) (p x : Nat) : Nat → Nat := fun k => if k < p then f k else if k = p then x else f (k - 1)
theorem insF_lo {f : Nat → Nat} {p x k : Nat} (h : k < p) : insF f p x k = f k := if_pos h
theorem insF_at {f : Nat → Nat} {p x : Nat} : insF f p x p = x := by unfold insF; rw [if_neg (Nat.lt_irrefl _), if_pos rfl]
theorem insF_hi {f : Nat → Nat} {p x k : Nat} (h : p < k) : insF f p x k = f (k - 1) := by unfold insF; rw [if_neg (by omega), if_neg (by omega)]
section LLS
variable {D : DD} {H H1 : Heap} {b n : Nat} {nd it : Nat → Nat}
theorem LL.kept (h : LL D H b n nd it) (hb : H1[b]? = H[b]?) (hn : ∀ k, k < n → nd k < H.size → H1[nd k]? = H[nd k]?) : LL D H1 b n nd it := ⟨h.1.kept hb, fun k hk => (h.2.1 k hk).kept (hn k hk (h.2.1 k hk).lt), h.2.2⟩
theorem LL.mid (h : LL D H b n nd it) {k : Nat} (hk : k + 1 < n) : oB D H (nd k) 20 [.ref (it k), .ref (nd (k + 1)), pvv nd k] := by
  have := h.2.1 k (by omega)
  unfold nxv at this
  rwa [if_pos hk] at this
theorem LL.pre (h : LL D H b n nd it) {k : Nat} (hk : k + 1 < n) : oB D H (nd (k + 1)) 20 [.ref (it (k + 1)), nxv nd n (k + 1), .ref (nd k)] := by
  have := h.2.1 (k + 1) hk
  unfold pvv at this
  rwa [if_neg (by omega)] at this
theorem LL.nil (h : LL D H b 0 nd it) : oB D H b 24 [.int (nI 0), .int (nI 0), .null, .null] := h.1
theorem LL.cons (h : LL D H b n nd it) (h0 : 0 < n) : oB D H b 24 [.int (nI n), .int (nI n), .ref (nd 0), .ref (nd (n - 1))] := by
  have := h.1
  rwa [if_neg (by omega), if_neg (by omega)] at this
theorem LL.ne (h : LL D H b n nd it) {j k : Nat} (hj : j < n) (hk : k < n) (e : j ≠ k) : nd j ≠ nd k := fun z => e (h.2.2 j k hj hk z)
end LLS
theorem shr1 : ∀ n, n < 200 → nI n >>> (nI 1 &&& 31) = nI (n / 2) := by decide +kernel
theorem nJ19_init : notMH yJ19_init 0 := by decide +kernel
set_option maxHeartbeats 800000 in
theorem mJ19_init (l : Launch) (D : DD) (a : Nat)  : Ct l yJ19_init cJ19_init 1 none { frames := 1, cells := 0, slots := 0, locals := 21 } D [.ref a] (fun H => True) (fun _ => False) (fun r H H1 => r = none) := by
  refine Ct.of (by decide +kernel) (Nat.le_of_ble_eq_true rfl) (fun K Qf hkl X hM hQ => ?_)
  subst hkl
  have hz : (kS K).heap.size ≤ (kS K).heap.size := Nat.le_refl _
  refine vv_sub (lv' := [(0, .ref a)]) [0] rfl ?_
  refine vv_aload_n X dJ19_init_0 rfl 0 rfl ?_
  refine vv_obj X q2316 q197 q198 (Nat.le_of_ble_eq_true rfl) (Nat.le_of_ble_eq_true rfl) dJ19_init_1 ?_
  exact vv_vret X hQ dJ19_init_4 (Nat.le_of_ble_eq_true rfl) (Nat.le_of_ble_eq_true rfl) (rfl)
theorem nJ20_init : notMH yJ20_init 1 := by decide +kernel
set_option maxHeartbeats 800000 in
theorem mJ20_init (l : Launch) (D : DD) (a : Nat) (i : Int32) (hka : KN D a) : Ct l yJ20_init cJ20_init 2 none { frames := 2, cells := 0, slots := 0, locals := 41 } D [.ref a, .int (i)] (fun H => KH D H ∧ oB D H a 18 [.int (nI 0)]) (fun q => q = a) (fun r H H1 => r = none ∧ oB D H1 a 18 [.int i]) := by
  refine Ct.of (by decide +kernel) (Nat.le_of_ble_eq_true rfl) (fun K Qf hkl X hM hQ => ?_)
  subst hkl
  obtain ⟨hK, hi9⟩ := hM
  have hz : (kS K).heap.size ≤ (kS K).heap.size := Nat.le_refl _
  refine vv_sub (lv' := [(0, .ref a), (1, .int (i))]) [0, 1] rfl ?_
  refine vv_aload_n X dJ20_init_0 rfl 0 rfl ?_
  refine vv_callI X (mJ19_init (kL K) D a) q2313 q2314 q162 q2315 rfl nJ19_init ⟨(Nat.le_of_ble_eq_true rfl), (Nat.le_of_ble_eq_true rfl)⟩ dJ20_init_1 rfl (Nat.le_of_ble_eq_true rfl) trivial (fun _ z => z.elim) ⟨(Nat.le_of_ble_eq_true rfl), (Nat.le_of_ble_eq_true rfl)⟩ (fun v_ H hq hz_ hk => ?_)
  obtain rfl := hq
  replace hi9 := hi9.kept (hk _ hi9.lt (fun z => z))
  replace hK := hK.to hk (fun _ z => z.elim)
  replace hz := Nat.le_trans hz hz_
  clear hk hz_
  refine vv_aload_n X dJ20_init_4 rfl 0 rfl ?_
  refine vv_iload_n X dJ20_init_5 rfl 1 rfl ?_
  refine vv_putfF (C := RJ20) (T := TJ20) (N := 1) (ref := "java/lang/Integer") X hi9 in_J20 CL_J20 tyJ20 tyJ20_ok nmJ20 0 (by decide) q2317 rfl rfl rfl rfl rfl rfl (Nat.le_of_ble_eq_true rfl) (Or.inl rfl) dJ20_init_6 (fun H hc ho => ?_)
  replace hK := hK.ch hc hka
  replace hz := Nat.le_trans hz (Nat.le_of_eq hc.1.symm)
  clear hi9
  have hi9 : oB D H a 18 [.int (i)] := ho
  clear hc ho
  exact vv_vret X hQ dJ20_init_9 (Nat.le_of_ble_eq_true rfl) (Nat.le_of_ble_eq_true rfl) (⟨rfl, hi9⟩)
theorem nJ20_valueOf : notMH yJ20_valueOf 1 := by decide +kernel
set_option maxHeartbeats 800000 in
theorem mJ20_valueOf (l : Launch) (D : DD) (k : Nat) (hk9 : k < 1000) : Ct l yJ20_valueOf cJ20_valueOf 1 (some (.object "java/lang/Integer")) { frames := 3, cells := 1, slots := 1, locals := 62 } D [.int (nI k)] (fun H => KH D H) (fun _ => False) (fun r H H1 => ∃ a, r = some (.ref a) ∧ IN D H1 a k) := by
  refine Ct.of (by decide +kernel) (Nat.le_of_ble_eq_true rfl) (fun K Qf hkl X hM hQ => ?_)
  subst hkl
  have hK := hM
  have hz : (kS K).heap.size ≤ (kS K).heap.size := Nat.le_refl _
  refine vv_sub (lv' := [(0, .int (nI k))]) [0] rfl ?_
  refine vv_iload_n X dJ20_valueOf_0 rfl 0 rfl ?_
  refine vv_bipush (v := -128) X dJ20_valueOf_1 (by decide) ?_
  refine vv_icmp_lt (tgt := 23) X dJ20_valueOf_3 (by decide) (fun c_3 => ?_) (fun c_3 => ?_)
  · exact absurd c_3 (by rw [Int32.lt_iff_toInt_lt, nI_toInt (by omega)]; show ¬ ((k : Int) < -128); omega)
  · refine vv_iload_n X dJ20_valueOf_6 rfl 0 rfl ?_
    refine vv_gets X hK (C := "java/lang/Integer$IntegerCache") (n := "high") (t := "I") (ref := "java/lang/Integer$IntegerCache") 3 (by decide) rfl q2305 (fun x hx => hx) dJ20_valueOf_7 ?_
    refine vv_eqi (show _ = nI 127 from by decide) ?_
    refine vn_gt (tgt := 23) X (by omega) (by omega) dJ20_valueOf_10 (by decide) (fun c_10 => ?_) (fun c_10 => ?_)
    · refine vv_newA (C := RJ20) (T := TJ20) (N := 1) (fs := [.int (nI 0)]) X in_J20 CL_J20 tyJ20 tyJ20_ok q1321 q2309 q163 (tyJ20_d) (Nat.le_of_ble_eq_true rfl) (Nat.le_of_ble_eq_true rfl) dJ20_valueOf_23 (fun a_1 H eq_2 hx ho => ?_)
      have ge_3 : (kS K).heap.size ≤ a_1 := by rw [eq_2]; exact hz
      have kn_4 : KN D a_1 := KN.new hK (Nat.le_of_eq eq_2.symm)
      replace hK := hK.ex hx
      replace hz : (kS K).heap.size ≤ H.size := by have := hx.1; omega
      have hO_5 : oB D H a_1 18 [.int (nI 0)] := ho
      clear ho hx
      refine vv_dup X dJ20_valueOf_26 rfl ?_
      refine vv_iload_n X dJ20_valueOf_27 rfl 0 rfl ?_
      refine vv_callI X (mJ20_init (kL K) D a_1 (nI k) kn_4) q2310 q2311 q163 q2312 rfl nJ20_init ⟨(Nat.le_of_ble_eq_true rfl), (Nat.le_of_ble_eq_true rfl)⟩ dJ20_valueOf_28 rfl (Nat.le_of_ble_eq_true rfl) ⟨hK, hO_5⟩ (fun q z => by rcases z with rfl; exact (Or.inr ge_3)) ⟨(Nat.le_of_ble_eq_true rfl), (Nat.le_of_ble_eq_true rfl)⟩ (fun v_ H hq hz_ hk => ?_)
      obtain ⟨rfl, hq2⟩ := hq
      replace hK := hK.to hk (fun q z => by rcases z with rfl; exact kn_4)
      replace hz := Nat.le_trans hz hz_
      clear hO_5
      have hO_5 := hq2
      clear hq2
      clear hk hz_
      exact vv_aret X (Or.inl ⟨_, rfl⟩) (Or.inr ⟨_, rfl⟩) hQ dJ20_valueOf_31 (Nat.le_of_ble_eq_true rfl) (Nat.le_of_ble_eq_true rfl) (⟨_, rfl, hO_5⟩)
    · refine vv_gets X hK (C := "java/lang/Integer$IntegerCache") (n := "cache") (t := "[Ljava/lang/Integer;") (ref := "java/lang/Integer$IntegerCache") 4 (by decide) rfl q2307 (fun x hx => hx) dJ20_valueOf_13 ?_
      refine vv_iload_n X dJ20_valueOf_16 rfl 0 rfl ?_
      refine vv_sipush (v := nI 128) X dJ20_valueOf_17 (by decide) ?_
      refine vn_add X dJ20_valueOf_20 ?_
      refine vv_aald (ty := 10) X hK.2.2.1 rfl rfl (k + 128) (by omega) (by decide) rfl dJ20_valueOf_21 (v := .ref (D.2.2 (1000 + (k + 128)))) rfl ?_
      exact vv_aret X (Or.inl ⟨_, rfl⟩) (Or.inr ⟨_, rfl⟩) hQ dJ20_valueOf_22 (Nat.le_of_ble_eq_true rfl) (Nat.le_of_ble_eq_true rfl) (⟨_, rfl, by have h9 := hK.2.2.2.1 (k + 128) (by omega); unfold IN; rw [pk_sub (show 128 ≤ k + 128 by omega), Nat.add_sub_cancel] at h9; exact h9⟩)
theorem nJ20_intValue : notMH yJ20_intValue 0 := by decide +kernel
set_option maxHeartbeats 800000 in
theorem mJ20_intValue (l : Launch) (D : DD) (a k : Nat)  : Cp l yJ20_intValue cJ20_intValue 1 (some .int) { frames := 1, cells := 0, slots := 0, locals := 12 } D [.ref a] (fun H => oB D H a 18 [.int (nI k)]) (.int (nI k)) := by
  refine Ct.of (by decide +kernel) (Nat.le_of_ble_eq_true rfl) (fun K Qf hkl X hM hQ => ?_)
  subst hkl
  have ho := hM
  refine vv_sub (lv' := [(0, .ref a)]) [0] rfl ?_
  refine vv_aload_n X dJ20_intValue_0 rfl 0 rfl ?_
  refine vv_getf (C := RJ20) (T := TJ20) (N := 1) (ref := "java/lang/Integer") X ho in_J20 CL_J20 0 (by decide) q2317 rfl rfl dJ20_intValue_1 ?_
  exact vv_iret X hQ dJ20_intValue_4 (Nat.le_of_ble_eq_true rfl) (Nat.le_of_ble_eq_true rfl) (pq (rfl))
theorem nJ0_init : notMH yJ0_init 0 := by decide +kernel
set_option maxHeartbeats 800000 in
theorem mJ0_init (l : Launch) (D : DD) (a : Nat)  : Ct l yJ0_init cJ0_init 1 none { frames := 1, cells := 0, slots := 0, locals := 21 } D [.ref a] (fun H => True) (fun _ => False) (fun r H H1 => r = none) := by
  refine Ct.of (by decide +kernel) (Nat.le_of_ble_eq_true rfl) (fun K Qf hkl X hM hQ => ?_)
  subst hkl
  have hz : (kS K).heap.size ≤ (kS K).heap.size := Nat.le_refl _
  refine vv_sub (lv' := [(0, .ref a)]) [0] rfl ?_
  refine vv_aload_n X dJ0_init_0 rfl 0 rfl ?_
  refine vv_obj X q207 q197 q198 (Nat.le_of_ble_eq_true rfl) (Nat.le_of_ble_eq_true rfl) dJ0_init_1 ?_
  exact vv_vret X hQ dJ0_init_4 (Nat.le_of_ble_eq_true rfl) (Nat.le_of_ble_eq_true rfl) (rfl)
theorem nJ11_init : notMH yJ11_init 0 := by decide +kernel
set_option maxHeartbeats 800000 in
theorem mJ11_init (l : Launch) (D : DD) (b : Nat)  : Ct l yJ11_init cJ11_init 1 none { frames := 2, cells := 0, slots := 0, locals := 41 } D [.ref b] (fun H => KH D H ∧ oB D H b 24 [.int (nI 0), .int (nI 0), .null, .null]) (fun q => q = b) (fun r H H1 => r = none ∧ oB D H1 b 24 [.int (nI 0), .int (nI 0), .null, .null]) := by
  refine Ct.of (by decide +kernel) (Nat.le_of_ble_eq_true rfl) (fun K Qf hkl X hM hQ => ?_)
  subst hkl
  obtain ⟨hK, hb⟩ := hM
  have hz : (kS K).heap.size ≤ (kS K).heap.size := Nat.le_refl _
  refine vv_sub (lv' := [(0, .ref b)]) [0] rfl ?_
  refine vv_aload_n X dJ11_init_0 rfl 0 rfl ?_
  refine vv_callI X (mJ0_init (kL K) D b) q495 q205 q138 q206 rfl nJ0_init ⟨(Nat.le_of_ble_eq_true rfl), (Nat.le_of_ble_eq_true rfl)⟩ dJ11_init_1 rfl (Nat.le_of_ble_eq_true rfl) trivial (fun _ z => z.elim) ⟨(Nat.le_of_ble_eq_true rfl), (Nat.le_of_ble_eq_true rfl)⟩ (fun v_ H hq hz_ hk => ?_)
  obtain rfl := hq
  replace hb := hb.kept (hk _ hb.lt (fun z => z))
  replace hK := hK.to hk (fun _ z => z.elim)
  replace hz := Nat.le_trans hz hz_
  clear hk hz_
  refine vv_aload_n X dJ11_init_4 rfl 0 rfl ?_
  refine vv_iconst (v := nI 0) X dJ11_init_5 (by decide) ?_
  refine vv_putf (C := RJ33) (T := TJ33) (N := 4) (ref := "java/util/AbstractList") X hb in_J33 CL_J33 tyJ33 tyJ33_ok nmJ33 0 (by decide) q731 rfl rfl rfl rfl (Nat.le_of_ble_eq_true rfl) (Or.inl rfl) dJ11_init_6 (fun H hc ho => ?_)
  replace hK := hK.ch hc (X.ko hK hb CL_J33 (by decide) (by decide))
  replace hz := Nat.le_trans hz (Nat.le_of_eq hc.1.symm)
  clear hb
  have hb : oB D H b 24 [.int (nI 0), .int (nI 0), .null, .null] := ho
  clear hc ho
  exact vv_vret X hQ dJ11_init_9 (Nat.le_of_ble_eq_true rfl) (Nat.le_of_ble_eq_true rfl) (⟨rfl, hb⟩)
theorem nJ32_init : notMH yJ32_init 0 := by decide +kernel
set_option maxHeartbeats 800000 in
theorem mJ32_init (l : Launch) (D : DD) (b : Nat)  : Ct l yJ32_init cJ32_init 1 none { frames := 3, cells := 0, slots := 0, locals := 61 } D [.ref b] (fun H => KH D H ∧ oB D H b 24 [.int (nI 0), .int (nI 0), .null, .null]) (fun q => q = b) (fun r H H1 => r = none ∧ oB D H1 b 24 [.int (nI 0), .int (nI 0), .null, .null]) := by
  refine Ct.of (by decide +kernel) (Nat.le_of_ble_eq_true rfl) (fun K Qf hkl X hM hQ => ?_)
  subst hkl
  obtain ⟨hK, hb⟩ := hM
  have hz : (kS K).heap.size ≤ (kS K).heap.size := Nat.le_refl _
  refine vv_sub (lv' := [(0, .ref b)]) [0] rfl ?_
  refine vv_aload_n X dJ32_init_0 rfl 0 rfl ?_
  refine vv_callI X (mJ11_init (kL K) D b) q2068 q493 q153 q494 rfl nJ11_init ⟨(Nat.le_of_ble_eq_true rfl), (Nat.le_of_ble_eq_true rfl)⟩ dJ32_init_1 rfl (Nat.le_of_ble_eq_true rfl) ⟨hK, hb⟩ (fun q z => by rcases z with rfl; exact (Or.inl rfl)) ⟨(Nat.le_of_ble_eq_true rfl), (Nat.le_of_ble_eq_true rfl)⟩ (fun v_ H hq hz_ hk => ?_)
  obtain ⟨rfl, hq2⟩ := hq
  replace hK := hK.to hk (fun q z => by rcases z with rfl; exact (X.ko hK hb CL_J33 (by decide) (by decide)))
  replace hz := Nat.le_trans hz hz_
  clear hb
  have hb := hq2
  clear hq2
  clear hk hz_
  exact vv_vret X hQ dJ32_init_4 (Nat.le_of_ble_eq_true rfl) (Nat.le_of_ble_eq_true rfl) (⟨rfl, hb⟩)
theorem nJ33_init : notMH yJ33_init 0 := by decide +kernel
set_option maxHeartbeats 800000 in
theorem mJ33_init (l : Launch) (D : DD) (b : Nat)  : Ct l yJ33_init cJ33_init 1 none { frames := 4, cells := 0, slots := 0, locals := 81 } D [.ref b] (fun H => KH D H ∧ oB D H b 24 [.int (nI 0), .int (nI 0), .null, .null]) (fun q => q = b) (fun r H H1 => r = none ∧ oB D H1 b 24 [.int (nI 0), .int (nI 0), .null, .null]) := by
  refine Ct.of (by decide +kernel) (Nat.le_of_ble_eq_true rfl) (fun K Qf hkl X hM hQ => ?_)
  subst hkl
  obtain ⟨hK, hb⟩ := hM
  have hz : (kS K).heap.size ≤ (kS K).heap.size := Nat.le_refl _
  refine vv_sub (lv' := [(0, .ref b)]) [0] rfl ?_
  refine vv_aload_n X dJ33_init_0 rfl 0 rfl ?_
  refine vv_callI X (mJ32_init (kL K) D b) q2065 q2066 q181 q2067 rfl nJ32_init ⟨(Nat.le_of_ble_eq_true rfl), (Nat.le_of_ble_eq_true rfl)⟩ dJ33_init_1 rfl (Nat.le_of_ble_eq_true rfl) ⟨hK, hb⟩ (fun q z => by rcases z with rfl; exact (Or.inl rfl)) ⟨(Nat.le_of_ble_eq_true rfl), (Nat.le_of_ble_eq_true rfl)⟩ (fun v_ H hq hz_ hk => ?_)
  obtain ⟨rfl, hq2⟩ := hq
  replace hK := hK.to hk (fun q z => by rcases z with rfl; exact (X.ko hK hb CL_J33 (by decide) (by decide)))
  replace hz := Nat.le_trans hz hz_
  clear hb
  have hb := hq2
  clear hq2
  clear hk hz_
  refine vv_aload_n X dJ33_init_4 rfl 0 rfl ?_
  refine vv_iconst (v := nI 0) X dJ33_init_5 (by decide) ?_
  refine vv_putf (C := RJ33) (T := TJ33) (N := 4) (ref := "java/util/LinkedList") X hb in_J33 CL_J33 tyJ33 tyJ33_ok nmJ33 1 (by decide) q2069 rfl rfl rfl rfl (Nat.le_of_ble_eq_true rfl) (Or.inl rfl) dJ33_init_6 (fun H hc ho => ?_)
  replace hK := hK.ch hc (X.ko hK hb CL_J33 (by decide) (by decide))
  replace hz := Nat.le_trans hz (Nat.le_of_eq hc.1.symm)
  clear hb
  have hb : oB D H b 24 [.int (nI 0), .int (nI 0), .null, .null] := ho
  clear hc ho
  exact vv_vret X hQ dJ33_init_9 (Nat.le_of_ble_eq_true rfl) (Nat.le_of_ble_eq_true rfl) (⟨rfl, hb⟩)
theorem nJ33_isPositionIndex : notMH yJ33_isPositionIndex 1 := by decide +kernel
set_option maxHeartbeats 800000 in
theorem mJ33_isPositionIndex (l : Launch) (D : DD) (b n i : Nat) (x1 x2 : Value) (hi : i ≤ n) (hn : n < 200) : Cp l yJ33_isPositionIndex cJ33_isPositionIndex 2 (some .boolean) { frames := 1, cells := 0, slots := 0, locals := 12 } D [.ref b, .int (nI i)] (fun H => oB D H b 24 [.int (nI n), .int (nI n), x1, x2]) (.int (nI 1)) := by
  refine Ct.of (by decide +kernel) (Nat.le_of_ble_eq_true rfl) (fun K Qf hkl X hM hQ => ?_)
  subst hkl
  have hb := hM
  refine vv_sub (lv' := [(0, .ref b), (1, .int (nI i))]) [0, 1] rfl ?_
  refine vv_iload_n X dJ33_isPositionIndex_0 rfl 1 rfl ?_
  refine vn_if_lt (tgt := 16) X (by omega) dJ33_isPositionIndex_1 (by decide) ?_
  refine vv_iload_n X dJ33_isPositionIndex_4 rfl 1 rfl ?_
  refine vv_aload_n X dJ33_isPositionIndex_5 rfl 0 rfl ?_
  refine vv_getf (C := RJ33) (T := TJ33) (N := 4) (ref := "java/util/LinkedList") X hb in_J33 CL_J33 1 (by decide) q2069 rfl rfl dJ33_isPositionIndex_6 ?_
  refine vn_gt (tgt := 16) X (by omega) (by omega) dJ33_isPositionIndex_9 (by decide) (fun c_9 => ?_) (fun c_9 => ?_)
  · exact absurd c_9 (by omega)
  · refine vv_iconst (v := nI 1) X dJ33_isPositionIndex_12 (by decide) ?_
    refine vv_goto (tgt := 17) X dJ33_isPositionIndex_13 (by decide) ?_
    exact vv_zret X (rfl) hQ dJ33_isPositionIndex_17 (Nat.le_of_ble_eq_true rfl) (Nat.le_of_ble_eq_true rfl) (pq (rfl))
theorem nJ33_isElementIndex : notMH yJ33_isElementIndex 1 := by decide +kernel
set_option maxHeartbeats 800000 in
theorem mJ33_isElementIndex (l : Launch) (D : DD) (b n i : Nat) (x1 x2 : Value) (hi : i < n) (hn : n < 200) : Cp l yJ33_isElementIndex cJ33_isElementIndex 2 (some .boolean) { frames := 1, cells := 0, slots := 0, locals := 12 } D [.ref b, .int (nI i)] (fun H => oB D H b 24 [.int (nI n), .int (nI n), x1, x2]) (.int (nI 1)) := by
  refine Ct.of (by decide +kernel) (Nat.le_of_ble_eq_true rfl) (fun K Qf hkl X hM hQ => ?_)
  subst hkl
  have hb := hM
  refine vv_sub (lv' := [(0, .ref b), (1, .int (nI i))]) [0, 1] rfl ?_
  refine vv_iload_n X dJ33_isElementIndex_0 rfl 1 rfl ?_
  refine vn_if_lt (tgt := 16) X (by omega) dJ33_isElementIndex_1 (by decide) ?_
  refine vv_iload_n X dJ33_isElementIndex_4 rfl 1 rfl ?_
  refine vv_aload_n X dJ33_isElementIndex_5 rfl 0 rfl ?_
  refine vv_getf (C := RJ33) (T := TJ33) (N := 4) (ref := "java/util/LinkedList") X hb in_J33 CL_J33 1 (by decide) q2069 rfl rfl dJ33_isElementIndex_6 ?_
  refine vn_ge (tgt := 16) X (by omega) (by omega) dJ33_isElementIndex_9 (by decide) (fun c_9 => ?_) (fun c_9 => ?_)
  · exact absurd c_9 (by omega)
  · refine vv_iconst (v := nI 1) X dJ33_isElementIndex_12 (by decide) ?_
    refine vv_goto (tgt := 17) X dJ33_isElementIndex_13 (by decide) ?_
    exact vv_zret X (rfl) hQ dJ33_isElementIndex_17 (Nat.le_of_ble_eq_true rfl) (Nat.le_of_ble_eq_true rfl) (pq (rfl))
theorem nJ33_checkPositionIndex : notMH yJ33_checkPositionIndex 1 := by decide +kernel
set_option maxHeartbeats 800000 in
theorem mJ33_checkPositionIndex (l : Launch) (D : DD) (b n i : Nat) (x1 x2 : Value) (hi : i ≤ n) (hn : n < 200) : Cv l yJ33_checkPositionIndex cJ33_checkPositionIndex 2 { frames := 2, cells := 0, slots := 0, locals := 33 } D [.ref b, .int (nI i)] (fun H => oB D H b 24 [.int (nI n), .int (nI n), x1, x2]) := by
  refine Ct.of (by decide +kernel) (Nat.le_of_ble_eq_true rfl) (fun K Qf hkl X hM hQ => ?_)
  subst hkl
  have hb := hM
  refine vv_sub (lv' := [(0, .ref b), (1, .int (nI i))]) [0, 1] rfl ?_
  refine vv_aload_n X dJ33_checkPositionIndex_0 rfl 0 rfl ?_
  refine vv_iload_n X dJ33_checkPositionIndex_1 rfl 1 rfl ?_
  refine vv_callVp X (mJ33_isPositionIndex (kL K) D b n i _ _ (by omega) (by omega)) q2145 q2147 qs46 q182 q2148 nJ33_isPositionIndex ⟨(Nat.le_of_ble_eq_true rfl), (Nat.le_of_ble_eq_true rfl)⟩ dJ33_checkPositionIndex_2 rfl (Nat.le_of_ble_eq_true rfl) (recv X hb CL_J33) hb ⟨(Nat.le_of_ble_eq_true rfl), (Nat.le_of_ble_eq_true rfl)⟩ ?_
  refine vn_if_ne (tgt := 21) X (by omega) dJ33_checkPositionIndex_5 (by decide) (fun c_5 => ?_) (fun c_5 => ?_)
  · exact vv_vret X hQ dJ33_checkPositionIndex_21 (Nat.le_of_ble_eq_true rfl) (Nat.le_of_ble_eq_true rfl) (⟨rfl, rfl⟩)
  · exact absurd c_5 (by decide)
theorem nJ33_checkElementIndex : notMH yJ33_checkElementIndex 1 := by decide +kernel
set_option maxHeartbeats 800000 in
theorem mJ33_checkElementIndex (l : Launch) (D : DD) (b n i : Nat) (x1 x2 : Value) (hi : i < n) (hn : n < 200) : Cv l yJ33_checkElementIndex cJ33_checkElementIndex 2 { frames := 2, cells := 0, slots := 0, locals := 33 } D [.ref b, .int (nI i)] (fun H => oB D H b 24 [.int (nI n), .int (nI n), x1, x2]) := by
  refine Ct.of (by decide +kernel) (Nat.le_of_ble_eq_true rfl) (fun K Qf hkl X hM hQ => ?_)
  subst hkl
  have hb := hM
  refine vv_sub (lv' := [(0, .ref b), (1, .int (nI i))]) [0, 1] rfl ?_
  refine vv_aload_n X dJ33_checkElementIndex_0 rfl 0 rfl ?_
  refine vv_iload_n X dJ33_checkElementIndex_1 rfl 1 rfl ?_
  refine vv_callVp X (mJ33_isElementIndex (kL K) D b n i _ _ (by omega) (by omega)) q1627 q1629 qs28 q182 q1630 nJ33_isElementIndex ⟨(Nat.le_of_ble_eq_true rfl), (Nat.le_of_ble_eq_true rfl)⟩ dJ33_checkElementIndex_2 rfl (Nat.le_of_ble_eq_true rfl) (recv X hb CL_J33) hb ⟨(Nat.le_of_ble_eq_true rfl), (Nat.le_of_ble_eq_true rfl)⟩ ?_
  refine vn_if_ne (tgt := 21) X (by omega) dJ33_checkElementIndex_5 (by decide) (fun c_5 => ?_) (fun c_5 => ?_)
  · exact vv_vret X hQ dJ33_checkElementIndex_21 (Nat.le_of_ble_eq_true rfl) (Nat.le_of_ble_eq_true rfl) (⟨rfl, rfl⟩)
  · exact absurd c_5 (by decide)
theorem nJ33_size : notMH yJ33_size 0 := by decide +kernel
set_option maxHeartbeats 800000 in
theorem mJ33_size (l : Launch) (D : DD) (b n : Nat) (x1 x2 : Value)  : Cp l yJ33_size cJ33_size 1 (some .int) { frames := 1, cells := 0, slots := 0, locals := 12 } D [.ref b] (fun H => oB D H b 24 [.int (nI n), .int (nI n), x1, x2]) (.int (nI n)) := by
  refine Ct.of (by decide +kernel) (Nat.le_of_ble_eq_true rfl) (fun K Qf hkl X hM hQ => ?_)
  subst hkl
  have hb := hM
  refine vv_sub (lv' := [(0, .ref b)]) [0] rfl ?_
  refine vv_aload_n X dJ33_size_0 rfl 0 rfl ?_
  refine vv_getf (C := RJ33) (T := TJ33) (N := 4) (ref := "java/util/LinkedList") X hb in_J33 CL_J33 1 (by decide) q2069 rfl rfl dJ33_size_1 ?_
  exact vv_iret X hQ dJ33_size_4 (Nat.le_of_ble_eq_true rfl) (Nat.le_of_ble_eq_true rfl) (pq (rfl))
theorem nJ33_node : notMH yJ33_node 1 := by decide +kernel
set_option maxHeartbeats 800000 in
theorem mJ33_node (l : Launch) (D : DD) (b n i : Nat) (nd it : Nat → Nat) (hi : i < n) (hn : n < 200) : Cp l yJ33_node cJ33_node 4 (some (.object "java/util/LinkedList$Node")) { frames := 1, cells := 0, slots := 0, locals := 12 } D [.ref b, .int (nI i)] (fun H => LL D H b n nd it) (.ref (nd i)) := by
  refine Ct.of (by decide +kernel) (Nat.le_of_ble_eq_true rfl) (fun K Qf hkl X hM hQ => ?_)
  subst hkl
  have hL := hM
  refine vv_sub (lv' := [(0, .ref b), (1, .int (nI i))]) [0, 1] rfl ?_
  have hb := hL.cons (by omega)
  refine vv_iload_n X dJ33_node_0 rfl 1 rfl ?_
  refine vv_aload_n X dJ33_node_1 rfl 0 rfl ?_
  refine vv_getf (C := RJ33) (T := TJ33) (N := 4) (ref := "java/util/LinkedList") X hb in_J33 CL_J33 1 (by decide) q2069 rfl rfl dJ33_node_2 ?_
  refine vv_iconst (v := nI 1) X dJ33_node_5 (by decide) ?_
  refine vv_ishr X dJ33_node_6 ?_
  refine vv_eqi (shr1 n hn) ?_
  refine vn_ge (tgt := 35) X (by omega) (by omega) dJ33_node_7 (by decide) (fun c_7 => ?_) (fun c_7 => ?_)
  · refine vv_aload_n X dJ33_node_35 rfl 0 rfl ?_
    refine vv_getf (C := RJ33) (T := TJ33) (N := 4) (ref := "java/util/LinkedList") X hb in_J33 CL_J33 3 (by decide) q2072 rfl rfl dJ33_node_36 ?_
    refine vv_astore_n (lv' := [(2, .ref (nd (n - 1))), (0, .ref b), (1, .int (nI i))]) X dJ33_node_39 rfl (by decide) rfl ?_
    refine vv_aload_n X dJ33_node_40 rfl 1 rfl ?_
    refine vv_getf (C := RJ33) (T := TJ33) (N := 4) (ref := "java/util/LinkedList") X hb in_J33 CL_J33 1 (by decide) q2069 rfl rfl dJ33_node_41 ?_
    refine vv_iconst (v := nI 1) X dJ33_node_44 (by decide) ?_
    refine vn_sub X (by omega) dJ33_node_45 ?_
    refine vv_istore_n (lv' := [(3, .int (nI (n - 1))), (2, .ref (nd (n - 1))), (0, .ref b), (1, .int (nI i))]) X dJ33_node_46 rfl (by decide) rfl ?_
    have hx_1 : V K 4 (fun _ => False) (kS K).heap 0 0 Qf 63 [(0, .ref b), (1, .int (nI i)), (2, .ref (nd (n - 1 - (n - 1 - i)))), (3, .int (nI (n - 1 - (n - 1 - i))))] [] := by
      refine vv_aload_n X dJ33_node_63 rfl 2 rfl ?_
      exact vv_aret X (Or.inl ⟨_, rfl⟩) (Or.inr ⟨_, rfl⟩) hQ dJ33_node_64 (Nat.le_of_ble_eq_true rfl) (Nat.le_of_ble_eq_true rfl) (pqa (by rw [show n - 1 - (n - 1 - i) = i by omega]))
    have hl_2 : ∀ (n_j j : Nat), j + n_j = n - 1 - i → V K 4 (fun _ => False) (kS K).heap 0 0 Qf 47 [(0, .ref b), (1, .int (nI i)), (2, .ref (nd (n - 1 - j))), (3, .int (nI (n - 1 - j)))] [] := by
      intro n_j
      induction n_j with
      | zero =>
        intro j hj
        obtain rfl : j = n - 1 - i := by omega
        refine vv_iload_n X dJ33_node_47 rfl 3 rfl ?_
        refine vv_iload_n X dJ33_node_48 rfl 1 rfl ?_
        refine vn_le (tgt := 63) X (by omega) (by omega) dJ33_node_49 (by decide) (fun c_49 => ?_) (fun c_49 => ?_)
        · exact hx_1
        · exact absurd c_49 (by omega)
      | succ n_j ihj =>
        intro j hj
        refine vv_iload_n X dJ33_node_47 rfl 3 rfl ?_
        refine vv_iload_n X dJ33_node_48 rfl 1 rfl ?_
        refine vn_le (tgt := 63) X (by omega) (by omega) dJ33_node_49 (by decide) (fun c_49 => ?_) (fun c_49 => ?_)
        · exact absurd hj (by omega)
        · obtain ⟨e_, he_⟩ : ∃ e, n - 1 - j = e + 1 := ⟨n - 1 - j - 1, by omega⟩
          have he2 : n - 1 - (j + 1) = e_ := by omega
          have hn_3 := hL.pre (k := e_) (by omega)
          refine vv_aload_n X dJ33_node_52 rfl 2 rfl ?_
          rw [he_]
          refine vv_getf (C := RJ23) (T := TJ23) (N := 3) (ref := "java/util/LinkedList$Node") X hn_3 in_J23 CL_J23 2 (by decide) q1207 rfl rfl dJ33_node_53 ?_
          refine vv_astore_n (lv' := [(2, .ref (nd e_)), (0, .ref b), (1, .int (nI i)), (3, .int (nI (e_ + 1)))]) X dJ33_node_56 rfl (by decide) rfl ?_
          refine vv_iinc (v := nI e_) (lv' := [(3, .int (nI e_)), (2, .ref (nd e_)), (0, .ref b), (1, .int (nI i))]) X dJ33_node_57 (k := 3) rfl (pk_m1 _) (by decide) rfl ?_
          rw [← he2]
          refine vv_goto (tgt := 47) X dJ33_node_60 (by decide) ?_
          refine vv_sub [2, 3, 1, 0] rfl ?_
          exact ihj (j + 1) (by omega)
    refine vv_sub [2, 3, 1, 0] rfl ?_
    exact hl_2 (n - 1 - i) 0 (by first | omega | assumption)
  · refine vv_aload_n X dJ33_node_10 rfl 0 rfl ?_
    refine vv_getf (C := RJ33) (T := TJ33) (N := 4) (ref := "java/util/LinkedList") X hb in_J33 CL_J33 2 (by decide) q2071 rfl rfl dJ33_node_11 ?_
    refine vv_astore_n (lv' := [(2, .ref (nd 0)), (0, .ref b), (1, .int (nI i))]) X dJ33_node_14 rfl (by decide) rfl ?_
    refine vv_iconst (v := nI 0) X dJ33_node_15 (by decide) ?_
    refine vv_istore_n (lv' := [(3, .int (nI 0)), (2, .ref (nd 0)), (0, .ref b), (1, .int (nI i))]) X dJ33_node_16 rfl (by decide) rfl ?_
    have hx_4 : V K 4 (fun _ => False) (kS K).heap 0 0 Qf 33 [(0, .ref b), (1, .int (nI i)), (2, .ref (nd i)), (3, .int (nI i))] [] := by
      refine vv_aload_n X dJ33_node_33 rfl 2 rfl ?_
      exact vv_aret X (Or.inl ⟨_, rfl⟩) (Or.inr ⟨_, rfl⟩) hQ dJ33_node_34 (Nat.le_of_ble_eq_true rfl) (Nat.le_of_ble_eq_true rfl) (pqa (rfl))
    have hl_5 : ∀ (n_j j : Nat), j + n_j = i → V K 4 (fun _ => False) (kS K).heap 0 0 Qf 17 [(0, .ref b), (1, .int (nI i)), (2, .ref (nd j)), (3, .int (nI j))] [] := by
      intro n_j
      induction n_j with
      | zero =>
        intro j hj
        obtain rfl : j = i := by omega
        refine vv_iload_n X dJ33_node_17 rfl 3 rfl ?_
        refine vv_iload_n X dJ33_node_18 rfl 1 rfl ?_
        refine vn_ge (tgt := 33) X (by omega) (by omega) dJ33_node_19 (by decide) (fun c_19 => ?_) (fun c_19 => ?_)
        · exact hx_4
        · exact absurd c_19 (by omega)
      | succ n_j ihj =>
        intro j hj
        refine vv_iload_n X dJ33_node_17 rfl 3 rfl ?_
        refine vv_iload_n X dJ33_node_18 rfl 1 rfl ?_
        refine vn_ge (tgt := 33) X (by omega) (by omega) dJ33_node_19 (by decide) (fun c_19 => ?_) (fun c_19 => ?_)
        · exact absurd hj (by omega)
        · have hn_6 := hL.mid (k := j) (by omega)
          refine vv_aload_n X dJ33_node_22 rfl 2 rfl ?_
          refine vv_getf (C := RJ23) (T := TJ23) (N := 3) (ref := "java/util/LinkedList$Node") X hn_6 in_J23 CL_J23 1 (by decide) q1205 rfl rfl dJ33_node_23 ?_
          refine vv_astore_n (lv' := [(2, .ref (nd (j + 1))), (0, .ref b), (1, .int (nI i)), (3, .int (nI j))]) X dJ33_node_26 rfl (by decide) rfl ?_
          refine vv_iinc (v := nI (j + 1)) (lv' := [(3, .int (nI (j + 1))), (2, .ref (nd (j + 1))), (0, .ref b), (1, .int (nI i))]) X dJ33_node_27 (k := 3) rfl (nI_add _ 1) (by decide) rfl ?_
          refine vv_goto (tgt := 17) X dJ33_node_30 (by decide) ?_
          refine vv_sub [2, 3, 1, 0] rfl ?_
          exact ihj (j + 1) (by omega)
    refine vv_sub [2, 3, 1, 0] rfl ?_
    exact hl_5 (i) 0 (by first | omega | assumption)
theorem LL.ins {D : DD} {H : Heap} {b n p q x : Nat} {nd it : Nat → Nat} (hp : p ≤ n) (hb : oB D H b 24 [.int (nI (n + 1)), .int (nI (n + 1)), .ref (insF nd p q 0), .ref (insF nd p q n)]) (hq : oB D H q 20 [.ref x, if p < n then .ref (nd p) else .null, if p = 0 then .null else .ref (nd (p - 1))]) (hs : p < n → oB D H (nd p) 20 [.ref (it p), nxv nd n p, .ref q]) (hpr : 0 < p → oB D H (nd (p - 1)) 20 [.ref (it (p - 1)), .ref q, pvv nd (p - 1)]) (hF : ∀ k, k < n → k ≠ p → k + 1 ≠ p → oB D H (nd k) 20 [.ref (it k), nxv nd n k, pvv nd k]) (hinj : ∀ j k, j < n → k < n → nd j = nd k → j = k) (hqn : ∀ k, k < n → nd k ≠ q) : LL D H b (n + 1) (insF nd p q) (insF it p x) := by
  refine ⟨by rw [if_neg (by omega), if_neg (by omega), Nat.add_sub_cancel]; exact hb, fun k hk => ?_, fun j k hj hk e => ?_⟩
  · rcases Nat.lt_trichotomy k p with h | h | h
    · rw [insF_lo h, insF_lo h]
      have e2 : pvv (insF nd p q) k = pvv nd k := by
        unfold pvv
        split
        · rfl
        · rw [insF_lo (by omega)]
      rw [e2]
      by_cases z : k + 1 = p
      · have := hpr (by omega)
        rw [show p - 1 = k by omega] at this
        unfold nxv
        rw [if_pos (by omega), z, insF_at]
        exact this
      · have := hF k (by omega) (by omega) z
        unfold nxv at this ⊢
        rw [if_pos (by omega)] at this
        rw [if_pos (by omega), insF_lo (by omega)]
        exact this
    · subst h
      rw [insF_at, insF_at]
      have e2 : pvv (insF nd k q) k = if k = 0 then .null else .ref (nd (k - 1)) := by
        unfold pvv
        split
        · rfl
        · rw [insF_lo (by omega)]
      have e1 : nxv (insF nd k q) (n + 1) k = if k < n then .ref (nd k) else .null := by
        unfold nxv
        by_cases z : k < n
        · rw [if_pos (by omega), if_pos z, insF_hi (by omega), Nat.add_sub_cancel]
        · rw [if_neg (by omega), if_neg z]
      rw [e1, e2]
      exact hq
    · obtain ⟨j, rfl⟩ : ∃ j, k = j + 1 := ⟨k - 1, by omega⟩
      rw [insF_hi h, insF_hi h, Nat.add_sub_cancel]
      have e1 : nxv (insF nd p q) (n + 1) (j + 1) = nxv nd n j := by
        unfold nxv
        by_cases z : j + 1 < n
        · rw [if_pos (by omega), if_pos z, insF_hi (by omega), Nat.add_sub_cancel]
        · rw [if_neg (by omega), if_neg z]
      rw [e1]
      by_cases z : j = p
      · subst z
        have := hs (by omega)
        unfold pvv
        rw [if_neg (by omega), Nat.add_sub_cancel, insF_at]
        exact this
      · have := hF j (by omega) z (by omega)
        unfold pvv at this ⊢
        rw [if_neg (by omega)] at this
        rw [if_neg (by omega), Nat.add_sub_cancel, insF_hi (by omega)]
        exact this
  · unfold insF at e
    by_cases j1 : j < p
    · rw [if_pos j1] at e
      by_cases k1 : k < p
      · rw [if_pos k1] at e; exact hinj j k (by omega) (by omega) e
      · rw [if_neg k1] at e
        by_cases k2 : k = p
        · rw [if_pos k2] at e; exact absurd e (hqn j (by omega))
        · rw [if_neg k2] at e; have := hinj j (k - 1) (by omega) (by omega) e; omega
    · rw [if_neg j1] at e
      by_cases j2 : j = p
      · rw [if_pos j2] at e
        by_cases k1 : k < p
        · rw [if_pos k1] at e; exact absurd e.symm (hqn k (by omega))
        · rw [if_neg k1] at e
          by_cases k2 : k = p
          · omega
          · rw [if_neg k2] at e; exact absurd e.symm (hqn (k - 1) (by omega))
      · rw [if_neg j2] at e
        by_cases k1 : k < p
        · rw [if_pos k1] at e; have := hinj (j - 1) k (by omega) (by omega) e; omega
        · rw [if_neg k1] at e
          by_cases k2 : k = p
          · rw [if_pos k2] at e; exact absurd e (hqn (j - 1) (by omega))
          · rw [if_neg k2] at e; have := hinj (j - 1) (k - 1) (by omega) (by omega) e; omega
theorem nJ23_init : notMH yJ23_init 3 := by decide +kernel
set_option maxHeartbeats 800000 in
theorem mJ23_init_00 (l : Launch) (D : DD) (w x : Nat)  : Ct l yJ23_init cJ23_init 4 none { frames := 1, cells := 0, slots := 0, locals := 21 } D [.ref w, .null, .ref x, .null] (fun H => KH D H ∧ oB D H w 20 [.null, .null, .null]) (fun q => q = w) (fun r H H1 => r = none ∧ oB D H1 w 20 [.ref x, .null, .null]) := by
  refine Ct.of (by decide +kernel) (Nat.le_of_ble_eq_true rfl) (fun K Qf hkl X hM hQ => ?_)
  subst hkl
  obtain ⟨hK, hq⟩ := hM
  have hz : (kS K).heap.size ≤ (kS K).heap.size := Nat.le_refl _
  refine vv_sub (lv' := [(0, .ref w), (1, .null), (2, .ref x), (3, .null)]) [0, 1, 2, 3] rfl ?_
  refine vv_aload_n X dJ23_init_0 rfl 0 rfl ?_
  refine vv_obj X q1199 q197 q198 (Nat.le_of_ble_eq_true rfl) (Nat.le_of_ble_eq_true rfl) dJ23_init_1 ?_
  refine vv_aload_n X dJ23_init_4 rfl 0 rfl ?_
  refine vv_aload_n X dJ23_init_5 rfl 2 rfl ?_
  refine vv_putf (C := RJ23) (T := TJ23) (N := 3) (ref := "java/util/LinkedList$Node") X hq in_J23 CL_J23 tyJ23 tyJ23_ok nmJ23 0 (by decide) q1200 rfl rfl rfl rfl (Nat.le_of_ble_eq_true rfl) (Or.inl rfl) dJ23_init_6 (fun H hc ho => ?_)
  replace hK := hK.ch hc (X.ko hK hq CL_J23 (by decide) (by decide))
  replace hz := Nat.le_trans hz (Nat.le_of_eq hc.1.symm)
  clear hq
  have hq : oB D H w 20 [.ref x, .null, .null] := ho
  clear hc ho
  refine vv_aload_n X dJ23_init_9 rfl 0 rfl ?_
  refine vv_aload_nN X dJ23_init_10 rfl 3 rfl ?_
  refine vv_putf (C := RJ23) (T := TJ23) (N := 3) (ref := "java/util/LinkedList$Node") X hq in_J23 CL_J23 tyJ23 tyJ23_ok nmJ23 1 (by decide) q1203 rfl rfl rfl rfl (Nat.le_of_ble_eq_true rfl) (Or.inl rfl) dJ23_init_11 (fun H hc ho => ?_)
  replace hK := hK.ch hc (X.ko hK hq CL_J23 (by decide) (by decide))
  replace hz := Nat.le_trans hz (Nat.le_of_eq hc.1.symm)
  clear hq
  have hq : oB D H w 20 [.ref x, .null, .null] := ho
  clear hc ho
  refine vv_aload_n X dJ23_init_14 rfl 0 rfl ?_
  refine vv_aload_nN X dJ23_init_15 rfl 1 rfl ?_
  refine vv_putf (C := RJ23) (T := TJ23) (N := 3) (ref := "java/util/LinkedList$Node") X hq in_J23 CL_J23 tyJ23 tyJ23_ok nmJ23 2 (by decide) q1206 rfl rfl rfl rfl (Nat.le_of_ble_eq_true rfl) (Or.inl rfl) dJ23_init_16 (fun H hc ho => ?_)
  replace hK := hK.ch hc (X.ko hK hq CL_J23 (by decide) (by decide))
  replace hz := Nat.le_trans hz (Nat.le_of_eq hc.1.symm)
  clear hq
  have hq : oB D H w 20 [.ref x, .null, .null] := ho
  clear hc ho
  exact vv_vret X hQ dJ23_init_19 (Nat.le_of_ble_eq_true rfl) (Nat.le_of_ble_eq_true rfl) (⟨rfl, hq⟩)
set_option maxHeartbeats 800000 in
theorem mJ23_init_01 (l : Launch) (D : DD) (w x x2 : Nat)  : Ct l yJ23_init cJ23_init 4 none { frames := 1, cells := 0, slots := 0, locals := 21 } D [.ref w, .null, .ref x, .ref x2] (fun H => KH D H ∧ oB D H w 20 [.null, .null, .null]) (fun q => q = w) (fun r H H1 => r = none ∧ oB D H1 w 20 [.ref x, .ref x2, .null]) := by
  refine Ct.of (by decide +kernel) (Nat.le_of_ble_eq_true rfl) (fun K Qf hkl X hM hQ => ?_)
  subst hkl
  obtain ⟨hK, hq⟩ := hM
  have hz : (kS K).heap.size ≤ (kS K).heap.size := Nat.le_refl _
  refine vv_sub (lv' := [(0, .ref w), (1, .null), (2, .ref x), (3, .ref x2)]) [0, 1, 2, 3] rfl ?_
  refine vv_aload_n X dJ23_init_0 rfl 0 rfl ?_
  refine vv_obj X q1199 q197 q198 (Nat.le_of_ble_eq_true rfl) (Nat.le_of_ble_eq_true rfl) dJ23_init_1 ?_
  refine vv_aload_n X dJ23_init_4 rfl 0 rfl ?_
  refine vv_aload_n X dJ23_init_5 rfl 2 rfl ?_
  refine vv_putf (C := RJ23) (T := TJ23) (N := 3) (ref := "java/util/LinkedList$Node") X hq in_J23 CL_J23 tyJ23 tyJ23_ok nmJ23 0 (by decide) q1200 rfl rfl rfl rfl (Nat.le_of_ble_eq_true rfl) (Or.inl rfl) dJ23_init_6 (fun H hc ho => ?_)
  replace hK := hK.ch hc (X.ko hK hq CL_J23 (by decide) (by decide))
  replace hz := Nat.le_trans hz (Nat.le_of_eq hc.1.symm)
  clear hq
  have hq : oB D H w 20 [.ref x, .null, .null] := ho
  clear hc ho
  refine vv_aload_n X dJ23_init_9 rfl 0 rfl ?_
  refine vv_aload_n X dJ23_init_10 rfl 3 rfl ?_
  refine vv_putf (C := RJ23) (T := TJ23) (N := 3) (ref := "java/util/LinkedList$Node") X hq in_J23 CL_J23 tyJ23 tyJ23_ok nmJ23 1 (by decide) q1203 rfl rfl rfl rfl (Nat.le_of_ble_eq_true rfl) (Or.inl rfl) dJ23_init_11 (fun H hc ho => ?_)
  replace hK := hK.ch hc (X.ko hK hq CL_J23 (by decide) (by decide))
  replace hz := Nat.le_trans hz (Nat.le_of_eq hc.1.symm)
  clear hq
  have hq : oB D H w 20 [.ref x, .ref x2, .null] := ho
  clear hc ho
  refine vv_aload_n X dJ23_init_14 rfl 0 rfl ?_
  refine vv_aload_nN X dJ23_init_15 rfl 1 rfl ?_
  refine vv_putf (C := RJ23) (T := TJ23) (N := 3) (ref := "java/util/LinkedList$Node") X hq in_J23 CL_J23 tyJ23 tyJ23_ok nmJ23 2 (by decide) q1206 rfl rfl rfl rfl (Nat.le_of_ble_eq_true rfl) (Or.inl rfl) dJ23_init_16 (fun H hc ho => ?_)
  replace hK := hK.ch hc (X.ko hK hq CL_J23 (by decide) (by decide))
  replace hz := Nat.le_trans hz (Nat.le_of_eq hc.1.symm)
  clear hq
  have hq : oB D H w 20 [.ref x, .ref x2, .null] := ho
  clear hc ho
  exact vv_vret X hQ dJ23_init_19 (Nat.le_of_ble_eq_true rfl) (Nat.le_of_ble_eq_true rfl) (⟨rfl, hq⟩)
set_option maxHeartbeats 800000 in
theorem mJ23_init_10 (l : Launch) (D : DD) (w x p : Nat)  : Ct l yJ23_init cJ23_init 4 none { frames := 1, cells := 0, slots := 0, locals := 21 } D [.ref w, .ref p, .ref x, .null] (fun H => KH D H ∧ oB D H w 20 [.null, .null, .null]) (fun q => q = w) (fun r H H1 => r = none ∧ oB D H1 w 20 [.ref x, .null, .ref p]) := by
  refine Ct.of (by decide +kernel) (Nat.le_of_ble_eq_true rfl) (fun K Qf hkl X hM hQ => ?_)
  subst hkl
  obtain ⟨hK, hq⟩ := hM
  have hz : (kS K).heap.size ≤ (kS K).heap.size := Nat.le_refl _
  refine vv_sub (lv' := [(0, .ref w), (1, .ref p), (2, .ref x), (3, .null)]) [0, 1, 2, 3] rfl ?_
  refine vv_aload_n X dJ23_init_0 rfl 0 rfl ?_
  refine vv_obj X q1199 q197 q198 (Nat.le_of_ble_eq_true rfl) (Nat.le_of_ble_eq_true rfl) dJ23_init_1 ?_
  refine vv_aload_n X dJ23_init_4 rfl 0 rfl ?_
  refine vv_aload_n X dJ23_init_5 rfl 2 rfl ?_
  refine vv_putf (C := RJ23) (T := TJ23) (N := 3) (ref := "java/util/LinkedList$Node") X hq in_J23 CL_J23 tyJ23 tyJ23_ok nmJ23 0 (by decide) q1200 rfl rfl rfl rfl (Nat.le_of_ble_eq_true rfl) (Or.inl rfl) dJ23_init_6 (fun H hc ho => ?_)
  replace hK := hK.ch hc (X.ko hK hq CL_J23 (by decide) (by decide))
  replace hz := Nat.le_trans hz (Nat.le_of_eq hc.1.symm)
  clear hq
  have hq : oB D H w 20 [.ref x, .null, .null] := ho
  clear hc ho
  refine vv_aload_n X dJ23_init_9 rfl 0 rfl ?_
  refine vv_aload_nN X dJ23_init_10 rfl 3 rfl ?_
  refine vv_putf (C := RJ23) (T := TJ23) (N := 3) (ref := "java/util/LinkedList$Node") X hq in_J23 CL_J23 tyJ23 tyJ23_ok nmJ23 1 (by decide) q1203 rfl rfl rfl rfl (Nat.le_of_ble_eq_true rfl) (Or.inl rfl) dJ23_init_11 (fun H hc ho => ?_)
  replace hK := hK.ch hc (X.ko hK hq CL_J23 (by decide) (by decide))
  replace hz := Nat.le_trans hz (Nat.le_of_eq hc.1.symm)
  clear hq
  have hq : oB D H w 20 [.ref x, .null, .null] := ho
  clear hc ho
  refine vv_aload_n X dJ23_init_14 rfl 0 rfl ?_
  refine vv_aload_n X dJ23_init_15 rfl 1 rfl ?_
  refine vv_putf (C := RJ23) (T := TJ23) (N := 3) (ref := "java/util/LinkedList$Node") X hq in_J23 CL_J23 tyJ23 tyJ23_ok nmJ23 2 (by decide) q1206 rfl rfl rfl rfl (Nat.le_of_ble_eq_true rfl) (Or.inl rfl) dJ23_init_16 (fun H hc ho => ?_)
  replace hK := hK.ch hc (X.ko hK hq CL_J23 (by decide) (by decide))
  replace hz := Nat.le_trans hz (Nat.le_of_eq hc.1.symm)
  clear hq
  have hq : oB D H w 20 [.ref x, .null, .ref p] := ho
  clear hc ho
  exact vv_vret X hQ dJ23_init_19 (Nat.le_of_ble_eq_true rfl) (Nat.le_of_ble_eq_true rfl) (⟨rfl, hq⟩)
set_option maxHeartbeats 800000 in
theorem mJ23_init_11 (l : Launch) (D : DD) (w x p x2 : Nat)  : Ct l yJ23_init cJ23_init 4 none { frames := 1, cells := 0, slots := 0, locals := 21 } D [.ref w, .ref p, .ref x, .ref x2] (fun H => KH D H ∧ oB D H w 20 [.null, .null, .null]) (fun q => q = w) (fun r H H1 => r = none ∧ oB D H1 w 20 [.ref x, .ref x2, .ref p]) := by
  refine Ct.of (by decide +kernel) (Nat.le_of_ble_eq_true rfl) (fun K Qf hkl X hM hQ => ?_)
  subst hkl
  obtain ⟨hK, hq⟩ := hM
  have hz : (kS K).heap.size ≤ (kS K).heap.size := Nat.le_refl _
  refine vv_sub (lv' := [(0, .ref w), (1, .ref p), (2, .ref x), (3, .ref x2)]) [0, 1, 2, 3] rfl ?_
  refine vv_aload_n X dJ23_init_0 rfl 0 rfl ?_
  refine vv_obj X q1199 q197 q198 (Nat.le_of_ble_eq_true rfl) (Nat.le_of_ble_eq_true rfl) dJ23_init_1 ?_
  refine vv_aload_n X dJ23_init_4 rfl 0 rfl ?_
  refine vv_aload_n X dJ23_init_5 rfl 2 rfl ?_
  refine vv_putf (C := RJ23) (T := TJ23) (N := 3) (ref := "java/util/LinkedList$Node") X hq in_J23 CL_J23 tyJ23 tyJ23_ok nmJ23 0 (by decide) q1200 rfl rfl rfl rfl (Nat.le_of_ble_eq_true rfl) (Or.inl rfl) dJ23_init_6 (fun H hc ho => ?_)
  replace hK := hK.ch hc (X.ko hK hq CL_J23 (by decide) (by decide))
  replace hz := Nat.le_trans hz (Nat.le_of_eq hc.1.symm)
  clear hq
  have hq : oB D H w 20 [.ref x, .null, .null] := ho
  clear hc ho
  refine vv_aload_n X dJ23_init_9 rfl 0 rfl ?_
  refine vv_aload_n X dJ23_init_10 rfl 3 rfl ?_
  refine vv_putf (C := RJ23) (T := TJ23) (N := 3) (ref := "java/util/LinkedList$Node") X hq in_J23 CL_J23 tyJ23 tyJ23_ok nmJ23 1 (by decide) q1203 rfl rfl rfl rfl (Nat.le_of_ble_eq_true rfl) (Or.inl rfl) dJ23_init_11 (fun H hc ho => ?_)
  replace hK := hK.ch hc (X.ko hK hq CL_J23 (by decide) (by decide))
  replace hz := Nat.le_trans hz (Nat.le_of_eq hc.1.symm)
  clear hq
  have hq : oB D H w 20 [.ref x, .ref x2, .null] := ho
  clear hc ho
  refine vv_aload_n X dJ23_init_14 rfl 0 rfl ?_
  refine vv_aload_n X dJ23_init_15 rfl 1 rfl ?_
  refine vv_putf (C := RJ23) (T := TJ23) (N := 3) (ref := "java/util/LinkedList$Node") X hq in_J23 CL_J23 tyJ23 tyJ23_ok nmJ23 2 (by decide) q1206 rfl rfl rfl rfl (Nat.le_of_ble_eq_true rfl) (Or.inl rfl) dJ23_init_16 (fun H hc ho => ?_)
  replace hK := hK.ch hc (X.ko hK hq CL_J23 (by decide) (by decide))
  replace hz := Nat.le_trans hz (Nat.le_of_eq hc.1.symm)
  clear hq
  have hq : oB D H w 20 [.ref x, .ref x2, .ref p] := ho
  clear hc ho
  exact vv_vret X hQ dJ23_init_19 (Nat.le_of_ble_eq_true rfl) (Nat.le_of_ble_eq_true rfl) (⟨rfl, hq⟩)
theorem nJ33_linkLast : notMH yJ33_linkLast 1 := by decide +kernel
set_option maxHeartbeats 800000 in
theorem mJ33_linkLast (l : Launch) (D : DD) (b n x : Nat) (nd it : Nat → Nat) (hn : n < 200) : Ct l yJ33_linkLast cJ33_linkLast 4 none { frames := 2, cells := 1, slots := 3, locals := 44 } D [.ref b, .ref x] (fun H => KH D H ∧ LL D H b n nd it) (fun q => q = b ∨ ∃ k, k < n ∧ q = nd k) (fun r H H1 => r = none ∧ ∃ q, H.size ≤ q ∧ LL D H1 b (n + 1) (insF nd n q) (insF it n x)) := by
  refine Ct.of (by decide +kernel) (Nat.le_of_ble_eq_true rfl) (fun K Qf hkl X hM hQ => ?_)
  subst hkl
  obtain ⟨hK, hL⟩ := hM
  have hz : (kS K).heap.size ≤ (kS K).heap.size := Nat.le_refl _
  have hinj9 : ∀ j k, j < n → k < n → j ≠ k → nd j ≠ nd k := fun j k h1 h2 h3 => hL.ne h1 h2 h3
  have hlt9 : ∀ k, k < n → nd k < (kS K).heap.size := fun k hk => (hL.2.1 k hk).lt
  refine vv_sub (lv' := [(0, .ref b), (1, .ref x)]) [0, 1] rfl ?_
  rcases Nat.eq_zero_or_pos n with e0 | e0
  · subst e0
    have hb := hL.nil
    refine vv_aload_n X dJ33_linkLast_0 rfl 0 rfl ?_
    refine vv_getf (C := RJ33) (T := TJ33) (N := 4) (ref := "java/util/LinkedList") X hb in_J33 CL_J33 3 (by decide) q2072 rfl rfl dJ33_linkLast_1 ?_
    refine vv_astore_nN (lv' := [(2, .null), (0, .ref b), (1, .ref x)]) X dJ33_linkLast_4 rfl (by decide) rfl ?_
    refine vv_newA (C := RJ23) (T := TJ23) (N := 3) (fs := [.null, .null, .null]) X in_J23 CL_J23 tyJ23 tyJ23_ok q1194 q1195 q168 (tyJ23_d) (Nat.le_of_ble_eq_true rfl) (Nat.le_of_ble_eq_true rfl) dJ33_linkLast_5 (fun a_1 H eq_2 hx ho => ?_)
    have ne_3 : b ≠ a_1 := Nat.ne_of_lt (eq_2.symm ▸ hb.lt)
    have ge_4 : (kS K).heap.size ≤ a_1 := by rw [eq_2]; exact hz
    have kn_5 : KN D a_1 := KN.new hK (Nat.le_of_eq eq_2.symm)
    replace hb := hb.kept (hx.2 _ hb.lt)
    replace hK := hK.ex hx
    replace hz : (kS K).heap.size ≤ H.size := by have := hx.1; omega
    have hO_6 : oB D H a_1 20 [.null, .null, .null] := ho
    clear ho hx
    refine vv_dup X dJ33_linkLast_8 rfl ?_
    refine vv_aload_nN X dJ33_linkLast_9 rfl 0 rfl ?_
    refine vv_aload_n X dJ33_linkLast_10 rfl 2 rfl ?_
    refine vv_null X dJ33_linkLast_11 ?_
    refine vv_callI X (mJ23_init_00 (kL K) D a_1 x) q1196 q1197 q168 q1198 rfl nJ23_init ⟨(Nat.le_of_ble_eq_true rfl), (Nat.le_of_ble_eq_true rfl)⟩ dJ33_linkLast_12 rfl (Nat.le_of_ble_eq_true rfl) ⟨hK, hO_6⟩ (fun q z => by rcases z with rfl; exact (Or.inr ge_4)) ⟨(Nat.le_of_ble_eq_true rfl), (Nat.le_of_ble_eq_true rfl)⟩ (fun v_ H hq hz_ hk => ?_)
    obtain ⟨rfl, hq2⟩ := hq
    replace hb := hb.kept (hk _ hb.lt ne_3)
    replace hK := hK.to hk (fun q z => by rcases z with rfl; exact kn_5)
    replace hz := Nat.le_trans hz hz_
    clear hO_6
    have hO_6 := hq2
    clear hq2
    clear hk hz_
    refine vv_astore_n (lv' := [(3, .ref a_1), (2, .null), (0, .ref b), (1, .ref x)]) X dJ33_linkLast_15 rfl (by decide) rfl ?_
    refine vv_aload_n X dJ33_linkLast_16 rfl 2 rfl ?_
    refine vv_aload_n X dJ33_linkLast_17 rfl 0 rfl ?_
    refine vv_putf (C := RJ33) (T := TJ33) (N := 4) (ref := "java/util/LinkedList") X hb in_J33 CL_J33 tyJ33 tyJ33_ok nmJ33 3 (by decide) q2072 rfl rfl rfl rfl (Nat.le_of_ble_eq_true rfl) (Or.inl (Or.inl rfl)) dJ33_linkLast_18 (fun H hc ho => ?_)
    have k_0 := hO_6.kept (hc.2 _ (Ne.symm ne_3))
    replace hK := hK.ch hc (X.ko hK hb CL_J33 (by decide) (by decide))
    clear hO_6
    have hO_6 := k_0
    clear k_0
    replace hz := Nat.le_trans hz (Nat.le_of_eq hc.1.symm)
    clear hb
    have hb : oB D H b 24 [.int (nI 0), .int (nI 0), .null, .ref a_1] := ho
    clear hc ho
    refine vv_aload_nN X dJ33_linkLast_21 rfl 1 rfl ?_
    refine vv_ifnonnullN X dJ33_linkLast_22 ?_
    refine vv_aload_n X dJ33_linkLast_25 rfl 2 rfl ?_
    refine vv_aload_n X dJ33_linkLast_26 rfl 0 rfl ?_
    refine vv_putf (C := RJ33) (T := TJ33) (N := 4) (ref := "java/util/LinkedList") X hb in_J33 CL_J33 tyJ33 tyJ33_ok nmJ33 2 (by decide) q2071 rfl rfl rfl rfl (Nat.le_of_ble_eq_true rfl) (Or.inl (Or.inl rfl)) dJ33_linkLast_27 (fun H hc ho => ?_)
    have k_0 := hO_6.kept (hc.2 _ (Ne.symm ne_3))
    replace hK := hK.ch hc (X.ko hK hb CL_J33 (by decide) (by decide))
    clear hO_6
    have hO_6 := k_0
    clear k_0
    replace hz := Nat.le_trans hz (Nat.le_of_eq hc.1.symm)
    clear hb
    have hb : oB D H b 24 [.int (nI 0), .int (nI 0), .ref a_1, .ref a_1] := ho
    clear hc ho
    refine vv_goto (tgt := 38) X dJ33_linkLast_30 (by decide) ?_
    refine vv_aload_n X dJ33_linkLast_38 rfl 2 rfl ?_
    refine vv_dup X dJ33_linkLast_39 rfl ?_
    refine vv_getf (C := RJ33) (T := TJ33) (N := 4) (ref := "java/util/LinkedList") X hb in_J33 CL_J33 1 (by decide) q2069 rfl rfl dJ33_linkLast_40 ?_
    refine vv_iconst (v := nI 1) X dJ33_linkLast_43 (by decide) ?_
    refine vn_add X dJ33_linkLast_44 ?_
    refine vv_putf (C := RJ33) (T := TJ33) (N := 4) (ref := "java/util/LinkedList") X hb in_J33 CL_J33 tyJ33 tyJ33_ok nmJ33 1 (by decide) q2069 rfl rfl rfl rfl (Nat.le_of_ble_eq_true rfl) (Or.inl (Or.inl rfl)) dJ33_linkLast_45 (fun H hc ho => ?_)
    have k_0 := hO_6.kept (hc.2 _ (Ne.symm ne_3))
    replace hK := hK.ch hc (X.ko hK hb CL_J33 (by decide) (by decide))
    clear hO_6
    have hO_6 := k_0
    clear k_0
    replace hz := Nat.le_trans hz (Nat.le_of_eq hc.1.symm)
    clear hb
    have hb : oB D H b 24 [.int (nI 0), .int (nI (0 + 1)), .ref a_1, .ref a_1] := ho
    clear hc ho
    refine vv_aload_n X dJ33_linkLast_48 rfl 2 rfl ?_
    refine vv_dup X dJ33_linkLast_49 rfl ?_
    refine vv_getfI (C := RJ33) (T := TJ33) (N := 4) (ref := "java/util/LinkedList") X hb in_J33 CL_J33 0 (by decide) q737 q733 rfl dJ33_linkLast_50 ?_
    refine vv_iconst (v := nI 1) X dJ33_linkLast_53 (by decide) ?_
    refine vn_add X dJ33_linkLast_54 ?_
    refine vv_putfI (C := RJ33) (T := TJ33) (N := 4) (ref := "java/util/LinkedList") X hb in_J33 CL_J33 tyJ33 tyJ33_ok nmJ33 0 (by decide) q737 q733 rfl rfl rfl (Nat.le_of_ble_eq_true rfl) (Or.inl (Or.inl rfl)) dJ33_linkLast_55 (fun H hc ho => ?_)
    have k_0 := hO_6.kept (hc.2 _ (Ne.symm ne_3))
    replace hK := hK.ch hc (X.ko hK hb CL_J33 (by decide) (by decide))
    clear hO_6
    have hO_6 := k_0
    clear k_0
    replace hz := Nat.le_trans hz (Nat.le_of_eq hc.1.symm)
    clear hb
    have hb : oB D H b 24 [.int (nI (0 + 1)), .int (nI (0 + 1)), .ref a_1, .ref a_1] := ho
    clear hc ho
    exact vv_vret X hQ dJ33_linkLast_58 (Nat.le_of_ble_eq_true rfl) (Nat.le_of_ble_eq_true rfl) (⟨rfl, a_1, ge_4, LL.ins (Nat.le_refl _) (by rw [insF_at]; exact hb) (by rw [if_neg (Nat.lt_irrefl _), if_pos rfl]; exact hO_6) (fun z => absurd z (by omega)) (fun z => absurd z (by omega)) (fun k hk => absurd hk (by omega)) (fun j k hj => absurd hj (by omega)) (fun k hk => absurd hk (by omega))⟩)
  · have hb := hL.cons e0
    have hl : oB D (kS K).heap (nd (n - 1)) 20 [.ref (it (n - 1)), .null, pvv nd (n - 1)] := by
      have h9 := hL.2.1 (n - 1) (by omega)
      unfold nxv at h9
      rwa [if_neg (by omega)] at h9
    have hF : ∀ k, k < n → k ≠ n - 1 → oB D (kS K).heap (nd k) 20 [.ref (it k), nxv nd n k, pvv nd k] := fun k hk _ => hL.2.1 k hk
    refine vv_aload_n X dJ33_linkLast_0 rfl 0 rfl ?_
    refine vv_getf (C := RJ33) (T := TJ33) (N := 4) (ref := "java/util/LinkedList") X hb in_J33 CL_J33 3 (by decide) q2072 rfl rfl dJ33_linkLast_1 ?_
    refine vv_astore_n (lv' := [(2, .ref (nd (n - 1))), (0, .ref b), (1, .ref x)]) X dJ33_linkLast_4 rfl (by decide) rfl ?_
    refine vv_newA (C := RJ23) (T := TJ23) (N := 3) (fs := [.null, .null, .null]) X in_J23 CL_J23 tyJ23 tyJ23_ok q1194 q1195 q168 (tyJ23_d) (Nat.le_of_ble_eq_true rfl) (Nat.le_of_ble_eq_true rfl) dJ33_linkLast_5 (fun a_7 H eq_8 hx ho => ?_)
    have ne_9 : b ≠ a_7 := Nat.ne_of_lt (eq_8.symm ▸ hb.lt)
    have ne_10 : (nd (n - 1)) ≠ a_7 := Nat.ne_of_lt (eq_8.symm ▸ hl.lt)
    have gq_11 : (kS K).heap.size ≤ a_7 := by rw [eq_8]; exact hz
    have ge_12 : (kS K).heap.size ≤ a_7 := by rw [eq_8]; exact hz
    have kn_13 : KN D a_7 := KN.new hK (Nat.le_of_eq eq_8.symm)
    replace hb := hb.kept (hx.2 _ hb.lt)
    replace hl := hl.kept (hx.2 _ hl.lt)
    replace hF := (show ∀ k, k < n → k ≠ n - 1 → oB D H (nd k) 20 [.ref (it k), nxv nd n k, pvv nd k] from fun k hl_ e0 => (hF k hl_ e0).kept (by first | exact hx.2 _ (hF k hl_ e0).lt | exact hc.2 _ (X.oo (hF k hl_ e0) hb CL_J23 CL_J33 (by decide)) | exact hc.2 _ (hinj9 k _ hl_ (by omega) e0) | exact hc.2 _ (Nat.ne_of_lt (Nat.lt_of_lt_of_le (hlt9 k hl_) gq_11)) | exact hk _ (hF k hl_ e0).lt (Nat.ne_of_lt (Nat.lt_of_lt_of_le (hlt9 k hl_) gq_11))))
    replace hK := hK.ex hx
    replace hz : (kS K).heap.size ≤ H.size := by have := hx.1; omega
    have hO_14 : oB D H a_7 20 [.null, .null, .null] := ho
    clear ho hx
    refine vv_dup X dJ33_linkLast_8 rfl ?_
    refine vv_aload_n X dJ33_linkLast_9 rfl 0 rfl ?_
    refine vv_aload_n X dJ33_linkLast_10 rfl 2 rfl ?_
    refine vv_null X dJ33_linkLast_11 ?_
    refine vv_callI X (mJ23_init_10 (kL K) D a_7 x (nd (n - 1))) q1196 q1197 q168 q1198 rfl nJ23_init ⟨(Nat.le_of_ble_eq_true rfl), (Nat.le_of_ble_eq_true rfl)⟩ dJ33_linkLast_12 rfl (Nat.le_of_ble_eq_true rfl) ⟨hK, hO_14⟩ (fun q z => by rcases z with rfl; exact (Or.inr ge_12)) ⟨(Nat.le_of_ble_eq_true rfl), (Nat.le_of_ble_eq_true rfl)⟩ (fun v_ H hq hz_ hk => ?_)
    obtain ⟨rfl, hq2⟩ := hq
    replace hb := hb.kept (hk _ hb.lt ne_9)
    replace hl := hl.kept (hk _ hl.lt ne_10)
    replace hF := (show ∀ k, k < n → k ≠ n - 1 → oB D H (nd k) 20 [.ref (it k), nxv nd n k, pvv nd k] from fun k hl_ e0 => (hF k hl_ e0).kept (by first | exact hx.2 _ (hF k hl_ e0).lt | exact hc.2 _ (X.oo (hF k hl_ e0) hb CL_J23 CL_J33 (by decide)) | exact hc.2 _ (hinj9 k _ hl_ (by omega) e0) | exact hc.2 _ (Nat.ne_of_lt (Nat.lt_of_lt_of_le (hlt9 k hl_) gq_11)) | exact hk _ (hF k hl_ e0).lt (Nat.ne_of_lt (Nat.lt_of_lt_of_le (hlt9 k hl_) gq_11))))
    replace hK := hK.to hk (fun q z => by rcases z with rfl; exact kn_13)
    replace hz := Nat.le_trans hz hz_
    clear hO_14
    have hO_14 := hq2
    clear hq2
    clear hk hz_
    refine vv_astore_n (lv' := [(3, .ref a_7), (2, .ref (nd (n - 1))), (0, .ref b), (1, .ref x)]) X dJ33_linkLast_15 rfl (by decide) rfl ?_
    refine vv_aload_n X dJ33_linkLast_16 rfl 2 rfl ?_
    refine vv_aload_n X dJ33_linkLast_17 rfl 0 rfl ?_
    refine vv_putf (C := RJ33) (T := TJ33) (N := 4) (ref := "java/util/LinkedList") X hb in_J33 CL_J33 tyJ33 tyJ33_ok nmJ33 3 (by decide) q2072 rfl rfl rfl rfl (Nat.le_of_ble_eq_true rfl) (Or.inl (Or.inl rfl)) dJ33_linkLast_18 (fun H hc ho => ?_)
    have k_0 := hl.kept (hc.2 _ (X.oo hl hb CL_J23 CL_J33 (by decide)))
    have k_1 := (show ∀ k, k < n → k ≠ n - 1 → oB D H (nd k) 20 [.ref (it k), nxv nd n k, pvv nd k] from fun k hl_ e0 => (hF k hl_ e0).kept (by first | exact hx.2 _ (hF k hl_ e0).lt | exact hc.2 _ (X.oo (hF k hl_ e0) hb CL_J23 CL_J33 (by decide)) | exact hc.2 _ (hinj9 k _ hl_ (by omega) e0) | exact hc.2 _ (Nat.ne_of_lt (Nat.lt_of_lt_of_le (hlt9 k hl_) gq_11)) | exact hk _ (hF k hl_ e0).lt (Nat.ne_of_lt (Nat.lt_of_lt_of_le (hlt9 k hl_) gq_11))))
    have k_2 := hO_14.kept (hc.2 _ (Ne.symm ne_9))
    replace hK := hK.ch hc (X.ko hK hb CL_J33 (by decide) (by decide))
    clear hl
    have hl := k_0
    clear k_0
    clear hF
    have hF := k_1
    clear k_1
    clear hO_14
    have hO_14 := k_2
    clear k_2
    replace hz := Nat.le_trans hz (Nat.le_of_eq hc.1.symm)
    clear hb
    have hb : oB D H b 24 [.int (nI n), .int (nI n), .ref (nd 0), .ref a_7] := ho
    clear hc ho
    refine vv_aload_n X dJ33_linkLast_21 rfl 1 rfl ?_
    refine vv_ifnonnull (tgt := 33) X dJ33_linkLast_22 (by decide) ?_
    refine vv_aload_n X dJ33_linkLast_33 rfl 1 rfl ?_
    refine vv_aload_n X dJ33_linkLast_34 rfl 0 rfl ?_
    refine vv_putf (C := RJ23) (T := TJ23) (N := 3) (ref := "java/util/LinkedList$Node") X hl in_J23 CL_J23 tyJ23 tyJ23_ok nmJ23 1 (by decide) q1205 rfl rfl rfl rfl (Nat.le_of_ble_eq_true rfl) (Or.inl (Or.inr ⟨_, by omega, rfl⟩)) dJ33_linkLast_35 (fun H hc ho => ?_)
    have k_0 := hb.kept (hc.2 _ (X.oo hb hl CL_J33 CL_J23 (by decide)))
    have k_1 := (show ∀ k, k < n → k ≠ n - 1 → oB D H (nd k) 20 [.ref (it k), nxv nd n k, pvv nd k] from fun k hl_ e0 => (hF k hl_ e0).kept (by first | exact hx.2 _ (hF k hl_ e0).lt | exact hc.2 _ (X.oo (hF k hl_ e0) hb CL_J23 CL_J33 (by decide)) | exact hc.2 _ (hinj9 k _ hl_ (by omega) e0) | exact hc.2 _ (Nat.ne_of_lt (Nat.lt_of_lt_of_le (hlt9 k hl_) gq_11)) | exact hk _ (hF k hl_ e0).lt (Nat.ne_of_lt (Nat.lt_of_lt_of_le (hlt9 k hl_) gq_11))))
    have k_2 := hO_14.kept (hc.2 _ (Ne.symm ne_10))
    replace hK := hK.ch hc (X.ko hK hl CL_J23 (by decide) (by decide))
    clear hb
    have hb := k_0
    clear k_0
    clear hF
    have hF := k_1
    clear k_1
    clear hO_14
    have hO_14 := k_2
    clear k_2
    replace hz := Nat.le_trans hz (Nat.le_of_eq hc.1.symm)
    clear hl
    have hl : oB D H (nd (n - 1)) 20 [.ref (it (n - 1)), .ref a_7, pvv nd (n - 1)] := ho
    clear hc ho
    refine vv_aload_n X dJ33_linkLast_38 rfl 2 rfl ?_
    refine vv_dup X dJ33_linkLast_39 rfl ?_
    refine vv_getf (C := RJ33) (T := TJ33) (N := 4) (ref := "java/util/LinkedList") X hb in_J33 CL_J33 1 (by decide) q2069 rfl rfl dJ33_linkLast_40 ?_
    refine vv_iconst (v := nI 1) X dJ33_linkLast_43 (by decide) ?_
    refine vn_add X dJ33_linkLast_44 ?_
    refine vv_putf (C := RJ33) (T := TJ33) (N := 4) (ref := "java/util/LinkedList") X hb in_J33 CL_J33 tyJ33 tyJ33_ok nmJ33 1 (by decide) q2069 rfl rfl rfl rfl (Nat.le_of_ble_eq_true rfl) (Or.inl (Or.inl rfl)) dJ33_linkLast_45 (fun H hc ho => ?_)
    have k_0 := hl.kept (hc.2 _ (X.oo hl hb CL_J23 CL_J33 (by decide)))
    have k_1 := (show ∀ k, k < n → k ≠ n - 1 → oB D H (nd k) 20 [.ref (it k), nxv nd n k, pvv nd k] from fun k hl_ e0 => (hF k hl_ e0).kept (by first | exact hx.2 _ (hF k hl_ e0).lt | exact hc.2 _ (X.oo (hF k hl_ e0) hb CL_J23 CL_J33 (by decide)) | exact hc.2 _ (hinj9 k _ hl_ (by omega) e0) | exact hc.2 _ (Nat.ne_of_lt (Nat.lt_of_lt_of_le (hlt9 k hl_) gq_11)) | exact hk _ (hF k hl_ e0).lt (Nat.ne_of_lt (Nat.lt_of_lt_of_le (hlt9 k hl_) gq_11))))
    have k_2 := hO_14.kept (hc.2 _ (Ne.symm ne_9))
    replace hK := hK.ch hc (X.ko hK hb CL_J33 (by decide) (by decide))
    clear hl
    have hl := k_0
    clear k_0
    clear hF
    have hF := k_1
    clear k_1
    clear hO_14
    have hO_14 := k_2
    clear k_2
    replace hz := Nat.le_trans hz (Nat.le_of_eq hc.1.symm)
    clear hb
    have hb : oB D H b 24 [.int (nI n), .int (nI (n + 1)), .ref (nd 0), .ref a_7] := ho
    clear hc ho
    refine vv_aload_n X dJ33_linkLast_48 rfl 2 rfl ?_
    refine vv_dup X dJ33_linkLast_49 rfl ?_
    refine vv_getfI (C := RJ33) (T := TJ33) (N := 4) (ref := "java/util/LinkedList") X hb in_J33 CL_J33 0 (by decide) q737 q733 rfl dJ33_linkLast_50 ?_
    refine vv_iconst (v := nI 1) X dJ33_linkLast_53 (by decide) ?_
    refine vn_add X dJ33_linkLast_54 ?_
    refine vv_putfI (C := RJ33) (T := TJ33) (N := 4) (ref := "java/util/LinkedList") X hb in_J33 CL_J33 tyJ33 tyJ33_ok nmJ33 0 (by decide) q737 q733 rfl rfl rfl (Nat.le_of_ble_eq_true rfl) (Or.inl (Or.inl rfl)) dJ33_linkLast_55 (fun H hc ho => ?_)
    have k_0 := hl.kept (hc.2 _ (X.oo hl hb CL_J23 CL_J33 (by decide)))
    have k_1 := (show ∀ k, k < n → k ≠ n - 1 → oB D H (nd k) 20 [.ref (it k), nxv nd n k, pvv nd k] from fun k hl_ e0 => (hF k hl_ e0).kept (by first | exact hx.2 _ (hF k hl_ e0).lt | exact hc.2 _ (X.oo (hF k hl_ e0) hb CL_J23 CL_J33 (by decide)) | exact hc.2 _ (hinj9 k _ hl_ (by omega) e0) | exact hc.2 _ (Nat.ne_of_lt (Nat.lt_of_lt_of_le (hlt9 k hl_) gq_11)) | exact hk _ (hF k hl_ e0).lt (Nat.ne_of_lt (Nat.lt_of_lt_of_le (hlt9 k hl_) gq_11))))
    have k_2 := hO_14.kept (hc.2 _ (Ne.symm ne_9))
    replace hK := hK.ch hc (X.ko hK hb CL_J33 (by decide) (by decide))
    clear hl
    have hl := k_0
    clear k_0
    clear hF
    have hF := k_1
    clear k_1
    clear hO_14
    have hO_14 := k_2
    clear k_2
    replace hz := Nat.le_trans hz (Nat.le_of_eq hc.1.symm)
    clear hb
    have hb : oB D H b 24 [.int (nI (n + 1)), .int (nI (n + 1)), .ref (nd 0), .ref a_7] := ho
    clear hc ho
    exact vv_vret X hQ dJ33_linkLast_58 (Nat.le_of_ble_eq_true rfl) (Nat.le_of_ble_eq_true rfl) (⟨rfl, a_7, ge_12, LL.ins (Nat.le_refl _) (by rw [insF_at, insF_lo e0]; exact hb) (by rw [if_neg (Nat.lt_irrefl _), if_neg (by omega)]; exact hO_14) (fun z => absurd z (by omega)) (fun _ => hl) (fun k hk h1 h2 => hF k hk (by omega)) hL.2.2 (fun k hk => Nat.ne_of_lt (Nat.lt_of_lt_of_le (hlt9 k hk) ge_12))⟩)
theorem nJ33_linkBefore : notMH yJ33_linkBefore 2 := by decide +kernel
set_option maxHeartbeats 800000 in
theorem mJ33_linkBefore (l : Launch) (D : DD) (b n p x : Nat) (nd it : Nat → Nat) (hn : n < 200) (hp : p < n) : Ct l yJ33_linkBefore cJ33_linkBefore 5 none { frames := 2, cells := 1, slots := 3, locals := 44 } D [.ref b, .ref x, .ref (nd p)] (fun H => KH D H ∧ LL D H b n nd it) (fun q => q = b ∨ ∃ k, k < n ∧ q = nd k) (fun r H H1 => r = none ∧ ∃ q, H.size ≤ q ∧ LL D H1 b (n + 1) (insF nd p q) (insF it p x)) := by
  refine Ct.of (by decide +kernel) (Nat.le_of_ble_eq_true rfl) (fun K Qf hkl X hM hQ => ?_)
  subst hkl
  obtain ⟨hK, hL⟩ := hM
  have hz : (kS K).heap.size ≤ (kS K).heap.size := Nat.le_refl _
  have hinj9 : ∀ j k, j < n → k < n → j ≠ k → nd j ≠ nd k := fun j k h1 h2 h3 => hL.ne h1 h2 h3
  have hlt9 : ∀ k, k < n → nd k < (kS K).heap.size := fun k hk => (hL.2.1 k hk).lt
  refine vv_sub (lv' := [(0, .ref b), (1, .ref x), (2, .ref (nd p))]) [0, 1, 2] rfl ?_
  have hb := hL.cons (by omega)
  rcases Nat.eq_zero_or_pos p with e0 | e0
  · subst e0
    have hs : oB D (kS K).heap (nd 0) 20 [.ref (it 0), nxv nd n 0, .null] := hL.2.1 0 (by omega)
    have hF : ∀ k, k < n → k ≠ 0 → oB D (kS K).heap (nd k) 20 [.ref (it k), nxv nd n k, pvv nd k] := fun k hk _ => hL.2.1 k hk
    refine vv_aload_n X dJ33_linkBefore_0 rfl 2 rfl ?_
    refine vv_getf (C := RJ23) (T := TJ23) (N := 3) (ref := "java/util/LinkedList$Node") X hs in_J23 CL_J23 2 (by decide) q1207 rfl rfl dJ33_linkBefore_1 ?_
    refine vv_astore_nN (lv' := [(3, .null), (0, .ref b), (1, .ref x), (2, .ref (nd 0))]) X dJ33_linkBefore_4 rfl (by decide) rfl ?_
    refine vv_newA (C := RJ23) (T := TJ23) (N := 3) (fs := [.null, .null, .null]) X in_J23 CL_J23 tyJ23 tyJ23_ok q1194 q1195 q168 (tyJ23_d) (Nat.le_of_ble_eq_true rfl) (Nat.le_of_ble_eq_true rfl) dJ33_linkBefore_5 (fun a_1 H eq_2 hx ho => ?_)
    have ne_3 : b ≠ a_1 := Nat.ne_of_lt (eq_2.symm ▸ hb.lt)
    have ne_4 : (nd 0) ≠ a_1 := Nat.ne_of_lt (eq_2.symm ▸ hs.lt)
    have gq_5 : (kS K).heap.size ≤ a_1 := by rw [eq_2]; exact hz
    have ge_6 : (kS K).heap.size ≤ a_1 := by rw [eq_2]; exact hz
    have kn_7 : KN D a_1 := KN.new hK (Nat.le_of_eq eq_2.symm)
    replace hb := hb.kept (hx.2 _ hb.lt)
    replace hs := hs.kept (hx.2 _ hs.lt)
    replace hF := (show ∀ k, k < n → k ≠ 0 → oB D H (nd k) 20 [.ref (it k), nxv nd n k, pvv nd k] from fun k hl_ e0 => (hF k hl_ e0).kept (by first | exact hx.2 _ (hF k hl_ e0).lt | exact hc.2 _ (X.oo (hF k hl_ e0) hb CL_J23 CL_J33 (by decide)) | exact hc.2 _ (hinj9 k _ hl_ (by omega) e0) | exact hc.2 _ (Nat.ne_of_lt (Nat.lt_of_lt_of_le (hlt9 k hl_) gq_5)) | exact hk _ (hF k hl_ e0).lt (Nat.ne_of_lt (Nat.lt_of_lt_of_le (hlt9 k hl_) gq_5))))
    replace hK := hK.ex hx
    replace hz : (kS K).heap.size ≤ H.size := by have := hx.1; omega
    have hO_8 : oB D H a_1 20 [.null, .null, .null] := ho
    clear ho hx
    refine vv_dup X dJ33_linkBefore_8 rfl ?_
    refine vv_aload_nN X dJ33_linkBefore_9 rfl 0 rfl ?_
    refine vv_aload_n X dJ33_linkBefore_10 rfl 2 rfl ?_
    refine vv_aload_n X dJ33_linkBefore_11 rfl 3 rfl ?_
    refine vv_callI X (mJ23_init_01 (kL K) D a_1 x (nd 0)) q1196 q1197 q168 q1198 rfl nJ23_init ⟨(Nat.le_of_ble_eq_true rfl), (Nat.le_of_ble_eq_true rfl)⟩ dJ33_linkBefore_12 rfl (Nat.le_of_ble_eq_true rfl) ⟨hK, hO_8⟩ (fun q z => by rcases z with rfl; exact (Or.inr ge_6)) ⟨(Nat.le_of_ble_eq_true rfl), (Nat.le_of_ble_eq_true rfl)⟩ (fun v_ H hq hz_ hk => ?_)
    obtain ⟨rfl, hq2⟩ := hq
    replace hb := hb.kept (hk _ hb.lt ne_3)
    replace hs := hs.kept (hk _ hs.lt ne_4)
    replace hF := (show ∀ k, k < n → k ≠ 0 → oB D H (nd k) 20 [.ref (it k), nxv nd n k, pvv nd k] from fun k hl_ e0 => (hF k hl_ e0).kept (by first | exact hx.2 _ (hF k hl_ e0).lt | exact hc.2 _ (X.oo (hF k hl_ e0) hb CL_J23 CL_J33 (by decide)) | exact hc.2 _ (hinj9 k _ hl_ (by omega) e0) | exact hc.2 _ (Nat.ne_of_lt (Nat.lt_of_lt_of_le (hlt9 k hl_) gq_5)) | exact hk _ (hF k hl_ e0).lt (Nat.ne_of_lt (Nat.lt_of_lt_of_le (hlt9 k hl_) gq_5))))
    replace hK := hK.to hk (fun q z => by rcases z with rfl; exact kn_7)
    replace hz := Nat.le_trans hz hz_
    clear hO_8
    have hO_8 := hq2
    clear hq2
    clear hk hz_
    refine vv_astore (lv' := [(4, .ref a_1), (3, .null), (0, .ref b), (1, .ref x), (2, .ref (nd 0))]) X dJ33_linkBefore_15 (by decide) rfl ?_
    refine vv_aload_n X dJ33_linkBefore_17 rfl 4 rfl ?_
    refine vv_aload X dJ33_linkBefore_18 0 rfl ?_
    refine vv_putf (C := RJ23) (T := TJ23) (N := 3) (ref := "java/util/LinkedList$Node") X hs in_J23 CL_J23 tyJ23 tyJ23_ok nmJ23 2 (by decide) q1207 rfl rfl rfl rfl (Nat.le_of_ble_eq_true rfl) (Or.inl (Or.inr ⟨_, by omega, rfl⟩)) dJ33_linkBefore_20 (fun H hc ho => ?_)
    have k_0 := hb.kept (hc.2 _ (X.oo hb hs CL_J33 CL_J23 (by decide)))
    have k_1 := (show ∀ k, k < n → k ≠ 0 → oB D H (nd k) 20 [.ref (it k), nxv nd n k, pvv nd k] from fun k hl_ e0 => (hF k hl_ e0).kept (by first | exact hx.2 _ (hF k hl_ e0).lt | exact hc.2 _ (X.oo (hF k hl_ e0) hb CL_J23 CL_J33 (by decide)) | exact hc.2 _ (hinj9 k _ hl_ (by omega) e0) | exact hc.2 _ (Nat.ne_of_lt (Nat.lt_of_lt_of_le (hlt9 k hl_) gq_5)) | exact hk _ (hF k hl_ e0).lt (Nat.ne_of_lt (Nat.lt_of_lt_of_le (hlt9 k hl_) gq_5))))
    have k_2 := hO_8.kept (hc.2 _ (Ne.symm ne_4))
    replace hK := hK.ch hc (X.ko hK hs CL_J23 (by decide) (by decide))
    clear hb
    have hb := k_0
    clear k_0
    clear hF
    have hF := k_1
    clear k_1
    clear hO_8
    have hO_8 := k_2
    clear k_2
    replace hz := Nat.le_trans hz (Nat.le_of_eq hc.1.symm)
    clear hs
    have hs : oB D H (nd 0) 20 [.ref (it 0), nxv nd n 0, .ref a_1] := ho
    clear hc ho
    refine vv_aload_nN X dJ33_linkBefore_23 rfl 1 rfl ?_
    refine vv_ifnonnullN X dJ33_linkBefore_24 ?_
    refine vv_aload_n X dJ33_linkBefore_27 rfl 2 rfl ?_
    refine vv_aload X dJ33_linkBefore_28 0 rfl ?_
    refine vv_putf (C := RJ33) (T := TJ33) (N := 4) (ref := "java/util/LinkedList") X hb in_J33 CL_J33 tyJ33 tyJ33_ok nmJ33 2 (by decide) q2071 rfl rfl rfl rfl (Nat.le_of_ble_eq_true rfl) (Or.inl (Or.inl rfl)) dJ33_linkBefore_30 (fun H hc ho => ?_)
    have k_0 := hs.kept (hc.2 _ (X.oo hs hb CL_J23 CL_J33 (by decide)))
    have k_1 := (show ∀ k, k < n → k ≠ 0 → oB D H (nd k) 20 [.ref (it k), nxv nd n k, pvv nd k] from fun k hl_ e0 => (hF k hl_ e0).kept (by first | exact hx.2 _ (hF k hl_ e0).lt | exact hc.2 _ (X.oo (hF k hl_ e0) hb CL_J23 CL_J33 (by decide)) | exact hc.2 _ (hinj9 k _ hl_ (by omega) e0) | exact hc.2 _ (Nat.ne_of_lt (Nat.lt_of_lt_of_le (hlt9 k hl_) gq_5)) | exact hk _ (hF k hl_ e0).lt (Nat.ne_of_lt (Nat.lt_of_lt_of_le (hlt9 k hl_) gq_5))))
    have k_2 := hO_8.kept (hc.2 _ (Ne.symm ne_3))
    replace hK := hK.ch hc (X.ko hK hb CL_J33 (by decide) (by decide))
    clear hs
    have hs := k_0
    clear k_0
    clear hF
    have hF := k_1
    clear k_1
    clear hO_8
    have hO_8 := k_2
    clear k_2
    replace hz := Nat.le_trans hz (Nat.le_of_eq hc.1.symm)
    clear hb
    have hb : oB D H b 24 [.int (nI n), .int (nI n), .ref a_1, .ref (nd (n - 1))] := ho
    clear hc ho
    refine vv_goto (tgt := 42) X dJ33_linkBefore_33 (by decide) ?_
    refine vv_aload_n X dJ33_linkBefore_42 rfl 2 rfl ?_
    refine vv_dup X dJ33_linkBefore_43 rfl ?_
    refine vv_getf (C := RJ33) (T := TJ33) (N := 4) (ref := "java/util/LinkedList") X hb in_J33 CL_J33 1 (by decide) q2069 rfl rfl dJ33_linkBefore_44 ?_
    refine vv_iconst (v := nI 1) X dJ33_linkBefore_47 (by decide) ?_
    refine vn_add X dJ33_linkBefore_48 ?_
    refine vv_putf (C := RJ33) (T := TJ33) (N := 4) (ref := "java/util/LinkedList") X hb in_J33 CL_J33 tyJ33 tyJ33_ok nmJ33 1 (by decide) q2069 rfl rfl rfl rfl (Nat.le_of_ble_eq_true rfl) (Or.inl (Or.inl rfl)) dJ33_linkBefore_49 (fun H hc ho => ?_)
    have k_0 := hs.kept (hc.2 _ (X.oo hs hb CL_J23 CL_J33 (by decide)))
    have k_1 := (show ∀ k, k < n → k ≠ 0 → oB D H (nd k) 20 [.ref (it k), nxv nd n k, pvv nd k] from fun k hl_ e0 => (hF k hl_ e0).kept (by first | exact hx.2 _ (hF k hl_ e0).lt | exact hc.2 _ (X.oo (hF k hl_ e0) hb CL_J23 CL_J33 (by decide)) | exact hc.2 _ (hinj9 k _ hl_ (by omega) e0) | exact hc.2 _ (Nat.ne_of_lt (Nat.lt_of_lt_of_le (hlt9 k hl_) gq_5)) | exact hk _ (hF k hl_ e0).lt (Nat.ne_of_lt (Nat.lt_of_lt_of_le (hlt9 k hl_) gq_5))))
    have k_2 := hO_8.kept (hc.2 _ (Ne.symm ne_3))
    replace hK := hK.ch hc (X.ko hK hb CL_J33 (by decide) (by decide))
    clear hs
    have hs := k_0
    clear k_0
    clear hF
    have hF := k_1
    clear k_1
    clear hO_8
    have hO_8 := k_2
    clear k_2
    replace hz := Nat.le_trans hz (Nat.le_of_eq hc.1.symm)
    clear hb
    have hb : oB D H b 24 [.int (nI n), .int (nI (n + 1)), .ref a_1, .ref (nd (n - 1))] := ho
    clear hc ho
    refine vv_aload_n X dJ33_linkBefore_52 rfl 2 rfl ?_
    refine vv_dup X dJ33_linkBefore_53 rfl ?_
    refine vv_getfI (C := RJ33) (T := TJ33) (N := 4) (ref := "java/util/LinkedList") X hb in_J33 CL_J33 0 (by decide) q737 q733 rfl dJ33_linkBefore_54 ?_
    refine vv_iconst (v := nI 1) X dJ33_linkBefore_57 (by decide) ?_
    refine vn_add X dJ33_linkBefore_58 ?_
    refine vv_putfI (C := RJ33) (T := TJ33) (N := 4) (ref := "java/util/LinkedList") X hb in_J33 CL_J33 tyJ33 tyJ33_ok nmJ33 0 (by decide) q737 q733 rfl rfl rfl (Nat.le_of_ble_eq_true rfl) (Or.inl (Or.inl rfl)) dJ33_linkBefore_59 (fun H hc ho => ?_)
    have k_0 := hs.kept (hc.2 _ (X.oo hs hb CL_J23 CL_J33 (by decide)))
    have k_1 := (show ∀ k, k < n → k ≠ 0 → oB D H (nd k) 20 [.ref (it k), nxv nd n k, pvv nd k] from fun k hl_ e0 => (hF k hl_ e0).kept (by first | exact hx.2 _ (hF k hl_ e0).lt | exact hc.2 _ (X.oo (hF k hl_ e0) hb CL_J23 CL_J33 (by decide)) | exact hc.2 _ (hinj9 k _ hl_ (by omega) e0) | exact hc.2 _ (Nat.ne_of_lt (Nat.lt_of_lt_of_le (hlt9 k hl_) gq_5)) | exact hk _ (hF k hl_ e0).lt (Nat.ne_of_lt (Nat.lt_of_lt_of_le (hlt9 k hl_) gq_5))))
    have k_2 := hO_8.kept (hc.2 _ (Ne.symm ne_3))
    replace hK := hK.ch hc (X.ko hK hb CL_J33 (by decide) (by decide))
    clear hs
    have hs := k_0
    clear k_0
    clear hF
    have hF := k_1
    clear k_1
    clear hO_8
    have hO_8 := k_2
    clear k_2
    replace hz := Nat.le_trans hz (Nat.le_of_eq hc.1.symm)
    clear hb
    have hb : oB D H b 24 [.int (nI (n + 1)), .int (nI (n + 1)), .ref a_1, .ref (nd (n - 1))] := ho
    clear hc ho
    exact vv_vret X hQ dJ33_linkBefore_62 (Nat.le_of_ble_eq_true rfl) (Nat.le_of_ble_eq_true rfl) (⟨rfl, a_1, ge_6, LL.ins (Nat.zero_le _) (by rw [insF_at, insF_hi hp]; exact hb) (by rw [if_pos hp, if_pos rfl]; exact hO_8) (fun _ => hs) (fun z => absurd z (by omega)) (fun k hk h1 h2 => hF k hk h1) hL.2.2 (fun k hk => Nat.ne_of_lt (Nat.lt_of_lt_of_le (hlt9 k hk) ge_6))⟩)
  · obtain ⟨p, rfl⟩ : ∃ p2, p = p2 + 1 := ⟨p - 1, by omega⟩
    have hs := hL.pre (k := p) (by omega)
    have hp9 := hL.mid (k := p) (by omega)
    have hF : ∀ k, k < n → k ≠ p → k ≠ p + 1 → oB D (kS K).heap (nd k) 20 [.ref (it k), nxv nd n k, pvv nd k] := fun k hk _ _ => hL.2.1 k hk
    refine vv_aload_n X dJ33_linkBefore_0 rfl 2 rfl ?_
    refine vv_getf (C := RJ23) (T := TJ23) (N := 3) (ref := "java/util/LinkedList$Node") X hs in_J23 CL_J23 2 (by decide) q1207 rfl rfl dJ33_linkBefore_1 ?_
    refine vv_astore_n (lv' := [(3, .ref (nd p)), (0, .ref b), (1, .ref x), (2, .ref (nd (p + 1)))]) X dJ33_linkBefore_4 rfl (by decide) rfl ?_
    refine vv_newA (C := RJ23) (T := TJ23) (N := 3) (fs := [.null, .null, .null]) X in_J23 CL_J23 tyJ23 tyJ23_ok q1194 q1195 q168 (tyJ23_d) (Nat.le_of_ble_eq_true rfl) (Nat.le_of_ble_eq_true rfl) dJ33_linkBefore_5 (fun a_9 H eq_10 hx ho => ?_)
    have ne_11 : b ≠ a_9 := Nat.ne_of_lt (eq_10.symm ▸ hb.lt)
    have ne_12 : (nd (p + 1)) ≠ a_9 := Nat.ne_of_lt (eq_10.symm ▸ hs.lt)
    have ne_13 : (nd p) ≠ a_9 := Nat.ne_of_lt (eq_10.symm ▸ hp9.lt)
    have gq_14 : (kS K).heap.size ≤ a_9 := by rw [eq_10]; exact hz
    have ge_15 : (kS K).heap.size ≤ a_9 := by rw [eq_10]; exact hz
    have kn_16 : KN D a_9 := KN.new hK (Nat.le_of_eq eq_10.symm)
    replace hb := hb.kept (hx.2 _ hb.lt)
    replace hs := hs.kept (hx.2 _ hs.lt)
    replace hp9 := hp9.kept (hx.2 _ hp9.lt)
    replace hF := (show ∀ k, k < n → k ≠ p → k ≠ p + 1 → oB D H (nd k) 20 [.ref (it k), nxv nd n k, pvv nd k] from fun k hl_ e0 e1 => (hF k hl_ e0 e1).kept (by first | exact hx.2 _ (hF k hl_ e0 e1).lt | exact hc.2 _ (X.oo (hF k hl_ e0 e1) hb CL_J23 CL_J33 (by decide)) | exact hc.2 _ (hinj9 k _ hl_ (by omega) e0) | exact hc.2 _ (hinj9 k _ hl_ (by omega) e1) | exact hc.2 _ (Nat.ne_of_lt (Nat.lt_of_lt_of_le (hlt9 k hl_) gq_14)) | exact hk _ (hF k hl_ e0 e1).lt (Nat.ne_of_lt (Nat.lt_of_lt_of_le (hlt9 k hl_) gq_14))))
    replace hK := hK.ex hx
    replace hz : (kS K).heap.size ≤ H.size := by have := hx.1; omega
    have hO_17 : oB D H a_9 20 [.null, .null, .null] := ho
    clear ho hx
    refine vv_dup X dJ33_linkBefore_8 rfl ?_
    refine vv_aload_n X dJ33_linkBefore_9 rfl 0 rfl ?_
    refine vv_aload_n X dJ33_linkBefore_10 rfl 2 rfl ?_
    refine vv_aload_n X dJ33_linkBefore_11 rfl 3 rfl ?_
    refine vv_callI X (mJ23_init_11 (kL K) D a_9 x (nd p) (nd (p + 1))) q1196 q1197 q168 q1198 rfl nJ23_init ⟨(Nat.le_of_ble_eq_true rfl), (Nat.le_of_ble_eq_true rfl)⟩ dJ33_linkBefore_12 rfl (Nat.le_of_ble_eq_true rfl) ⟨hK, hO_17⟩ (fun q z => by rcases z with rfl; exact (Or.inr ge_15)) ⟨(Nat.le_of_ble_eq_true rfl), (Nat.le_of_ble_eq_true rfl)⟩ (fun v_ H hq hz_ hk => ?_)
    obtain ⟨rfl, hq2⟩ := hq
    replace hb := hb.kept (hk _ hb.lt ne_11)
    replace hs := hs.kept (hk _ hs.lt ne_12)
    replace hp9 := hp9.kept (hk _ hp9.lt ne_13)
    replace hF := (show ∀ k, k < n → k ≠ p → k ≠ p + 1 → oB D H (nd k) 20 [.ref (it k), nxv nd n k, pvv nd k] from fun k hl_ e0 e1 => (hF k hl_ e0 e1).kept (by first | exact hx.2 _ (hF k hl_ e0 e1).lt | exact hc.2 _ (X.oo (hF k hl_ e0 e1) hb CL_J23 CL_J33 (by decide)) | exact hc.2 _ (hinj9 k _ hl_ (by omega) e0) | exact hc.2 _ (hinj9 k _ hl_ (by omega) e1) | exact hc.2 _ (Nat.ne_of_lt (Nat.lt_of_lt_of_le (hlt9 k hl_) gq_14)) | exact hk _ (hF k hl_ e0 e1).lt (Nat.ne_of_lt (Nat.lt_of_lt_of_le (hlt9 k hl_) gq_14))))
    replace hK := hK.to hk (fun q z => by rcases z with rfl; exact kn_16)
    replace hz := Nat.le_trans hz hz_
    clear hO_17
    have hO_17 := hq2
    clear hq2
    clear hk hz_
    refine vv_astore (lv' := [(4, .ref a_9), (3, .ref (nd p)), (0, .ref b), (1, .ref x), (2, .ref (nd (p + 1)))]) X dJ33_linkBefore_15 (by decide) rfl ?_
    refine vv_aload_n X dJ33_linkBefore_17 rfl 4 rfl ?_
    refine vv_aload X dJ33_linkBefore_18 0 rfl ?_
    refine vv_putf (C := RJ23) (T := TJ23) (N := 3) (ref := "java/util/LinkedList$Node") X hs in_J23 CL_J23 tyJ23 tyJ23_ok nmJ23 2 (by decide) q1207 rfl rfl rfl rfl (Nat.le_of_ble_eq_true rfl) (Or.inl (Or.inr ⟨_, by omega, rfl⟩)) dJ33_linkBefore_20 (fun H hc ho => ?_)
    have k_0 := hb.kept (hc.2 _ (X.oo hb hs CL_J33 CL_J23 (by decide)))
    have k_1 := hp9.kept (hc.2 _ (hL.ne (by omega) (by omega) (by omega)))
    have k_2 := (show ∀ k, k < n → k ≠ p → k ≠ p + 1 → oB D H (nd k) 20 [.ref (it k), nxv nd n k, pvv nd k] from fun k hl_ e0 e1 => (hF k hl_ e0 e1).kept (by first | exact hx.2 _ (hF k hl_ e0 e1).lt | exact hc.2 _ (X.oo (hF k hl_ e0 e1) hb CL_J23 CL_J33 (by decide)) | exact hc.2 _ (hinj9 k _ hl_ (by omega) e0) | exact hc.2 _ (hinj9 k _ hl_ (by omega) e1) | exact hc.2 _ (Nat.ne_of_lt (Nat.lt_of_lt_of_le (hlt9 k hl_) gq_14)) | exact hk _ (hF k hl_ e0 e1).lt (Nat.ne_of_lt (Nat.lt_of_lt_of_le (hlt9 k hl_) gq_14))))
    have k_3 := hO_17.kept (hc.2 _ (Ne.symm ne_12))
    replace hK := hK.ch hc (X.ko hK hs CL_J23 (by decide) (by decide))
    clear hb
    have hb := k_0
    clear k_0
    clear hp9
    have hp9 := k_1
    clear k_1
    clear hF
    have hF := k_2
    clear k_2
    clear hO_17
    have hO_17 := k_3
    clear k_3
    replace hz := Nat.le_trans hz (Nat.le_of_eq hc.1.symm)
    clear hs
    have hs : oB D H (nd (p + 1)) 20 [.ref (it (p + 1)), nxv nd n (p + 1), .ref a_9] := ho
    clear hc ho
    refine vv_aload_n X dJ33_linkBefore_23 rfl 1 rfl ?_
    refine vv_ifnonnull (tgt := 36) X dJ33_linkBefore_24 (by decide) ?_
    refine vv_aload_n X dJ33_linkBefore_36 rfl 1 rfl ?_
    refine vv_aload X dJ33_linkBefore_37 0 rfl ?_
    refine vv_putf (C := RJ23) (T := TJ23) (N := 3) (ref := "java/util/LinkedList$Node") X hp9 in_J23 CL_J23 tyJ23 tyJ23_ok nmJ23 1 (by decide) q1205 rfl rfl rfl rfl (Nat.le_of_ble_eq_true rfl) (Or.inl (Or.inr ⟨_, by omega, rfl⟩)) dJ33_linkBefore_39 (fun H hc ho => ?_)
    have k_0 := hb.kept (hc.2 _ (X.oo hb hp9 CL_J33 CL_J23 (by decide)))
    have k_1 := hs.kept (hc.2 _ (hL.ne (by omega) (by omega) (by omega)))
    have k_2 := (show ∀ k, k < n → k ≠ p → k ≠ p + 1 → oB D H (nd k) 20 [.ref (it k), nxv nd n k, pvv nd k] from fun k hl_ e0 e1 => (hF k hl_ e0 e1).kept (by first | exact hx.2 _ (hF k hl_ e0 e1).lt | exact hc.2 _ (X.oo (hF k hl_ e0 e1) hb CL_J23 CL_J33 (by decide)) | exact hc.2 _ (hinj9 k _ hl_ (by omega) e0) | exact hc.2 _ (hinj9 k _ hl_ (by omega) e1) | exact hc.2 _ (Nat.ne_of_lt (Nat.lt_of_lt_of_le (hlt9 k hl_) gq_14)) | exact hk _ (hF k hl_ e0 e1).lt (Nat.ne_of_lt (Nat.lt_of_lt_of_le (hlt9 k hl_) gq_14))))
    have k_3 := hO_17.kept (hc.2 _ (Ne.symm ne_13))
    replace hK := hK.ch hc (X.ko hK hp9 CL_J23 (by decide) (by decide))
    clear hb
    have hb := k_0
    clear k_0
    clear hs
    have hs := k_1
    clear k_1
    clear hF
    have hF := k_2
    clear k_2
    clear hO_17
    have hO_17 := k_3
    clear k_3
    replace hz := Nat.le_trans hz (Nat.le_of_eq hc.1.symm)
    clear hp9
    have hp9 : oB D H (nd p) 20 [.ref (it p), .ref a_9, pvv nd p] := ho
    clear hc ho
    refine vv_aload_n X dJ33_linkBefore_42 rfl 2 rfl ?_
    refine vv_dup X dJ33_linkBefore_43 rfl ?_
    refine vv_getf (C := RJ33) (T := TJ33) (N := 4) (ref := "java/util/LinkedList") X hb in_J33 CL_J33 1 (by decide) q2069 rfl rfl dJ33_linkBefore_44 ?_
    refine vv_iconst (v := nI 1) X dJ33_linkBefore_47 (by decide) ?_
    refine vn_add X dJ33_linkBefore_48 ?_
    refine vv_putf (C := RJ33) (T := TJ33) (N := 4) (ref := "java/util/LinkedList") X hb in_J33 CL_J33 tyJ33 tyJ33_ok nmJ33 1 (by decide) q2069 rfl rfl rfl rfl (Nat.le_of_ble_eq_true rfl) (Or.inl (Or.inl rfl)) dJ33_linkBefore_49 (fun H hc ho => ?_)
    have k_0 := hs.kept (hc.2 _ (X.oo hs hb CL_J23 CL_J33 (by decide)))
    have k_1 := hp9.kept (hc.2 _ (X.oo hp9 hb CL_J23 CL_J33 (by decide)))
    have k_2 := (show ∀ k, k < n → k ≠ p → k ≠ p + 1 → oB D H (nd k) 20 [.ref (it k), nxv nd n k, pvv nd k] from fun k hl_ e0 e1 => (hF k hl_ e0 e1).kept (by first | exact hx.2 _ (hF k hl_ e0 e1).lt | exact hc.2 _ (X.oo (hF k hl_ e0 e1) hb CL_J23 CL_J33 (by decide)) | exact hc.2 _ (hinj9 k _ hl_ (by omega) e0) | exact hc.2 _ (hinj9 k _ hl_ (by omega) e1) | exact hc.2 _ (Nat.ne_of_lt (Nat.lt_of_lt_of_le (hlt9 k hl_) gq_14)) | exact hk _ (hF k hl_ e0 e1).lt (Nat.ne_of_lt (Nat.lt_of_lt_of_le (hlt9 k hl_) gq_14))))
    have k_3 := hO_17.kept (hc.2 _ (Ne.symm ne_11))
    replace hK := hK.ch hc (X.ko hK hb CL_J33 (by decide) (by decide))
    clear hs
    have hs := k_0
    clear k_0
    clear hp9
    have hp9 := k_1
    clear k_1
    clear hF
    have hF := k_2
    clear k_2
    clear hO_17
    have hO_17 := k_3
    clear k_3
    replace hz := Nat.le_trans hz (Nat.le_of_eq hc.1.symm)
    clear hb
    have hb : oB D H b 24 [.int (nI n), .int (nI (n + 1)), .ref (nd 0), .ref (nd (n - 1))] := ho
    clear hc ho
    refine vv_aload_n X dJ33_linkBefore_52 rfl 2 rfl ?_
    refine vv_dup X dJ33_linkBefore_53 rfl ?_
    refine vv_getfI (C := RJ33) (T := TJ33) (N := 4) (ref := "java/util/LinkedList") X hb in_J33 CL_J33 0 (by decide) q737 q733 rfl dJ33_linkBefore_54 ?_
    refine vv_iconst (v := nI 1) X dJ33_linkBefore_57 (by decide) ?_
    refine vn_add X dJ33_linkBefore_58 ?_
    refine vv_putfI (C := RJ33) (T := TJ33) (N := 4) (ref := "java/util/LinkedList") X hb in_J33 CL_J33 tyJ33 tyJ33_ok nmJ33 0 (by decide) q737 q733 rfl rfl rfl (Nat.le_of_ble_eq_true rfl) (Or.inl (Or.inl rfl)) dJ33_linkBefore_59 (fun H hc ho => ?_)
    have k_0 := hs.kept (hc.2 _ (X.oo hs hb CL_J23 CL_J33 (by decide)))
    have k_1 := hp9.kept (hc.2 _ (X.oo hp9 hb CL_J23 CL_J33 (by decide)))
    have k_2 := (show ∀ k, k < n → k ≠ p → k ≠ p + 1 → oB D H (nd k) 20 [.ref (it k), nxv nd n k, pvv nd k] from fun k hl_ e0 e1 => (hF k hl_ e0 e1).kept (by first | exact hx.2 _ (hF k hl_ e0 e1).lt | exact hc.2 _ (X.oo (hF k hl_ e0 e1) hb CL_J23 CL_J33 (by decide)) | exact hc.2 _ (hinj9 k _ hl_ (by omega) e0) | exact hc.2 _ (hinj9 k _ hl_ (by omega) e1) | exact hc.2 _ (Nat.ne_of_lt (Nat.lt_of_lt_of_le (hlt9 k hl_) gq_14)) | exact hk _ (hF k hl_ e0 e1).lt (Nat.ne_of_lt (Nat.lt_of_lt_of_le (hlt9 k hl_) gq_14))))
    have k_3 := hO_17.kept (hc.2 _ (Ne.symm ne_11))
    replace hK := hK.ch hc (X.ko hK hb CL_J33 (by decide) (by decide))
    clear hs
    have hs := k_0
    clear k_0
    clear hp9
    have hp9 := k_1
    clear k_1
    clear hF
    have hF := k_2
    clear k_2
    clear hO_17
    have hO_17 := k_3
    clear k_3
    replace hz := Nat.le_trans hz (Nat.le_of_eq hc.1.symm)
    clear hb
    have hb : oB D H b 24 [.int (nI (n + 1)), .int (nI (n + 1)), .ref (nd 0), .ref (nd (n - 1))] := ho
    clear hc ho
    exact vv_vret X hQ dJ33_linkBefore_62 (Nat.le_of_ble_eq_true rfl) (Nat.le_of_ble_eq_true rfl) (⟨rfl, a_9, ge_15, LL.ins (by omega) (by rw [insF_lo (Nat.succ_pos _), insF_hi hp]; exact hb) (by rw [if_pos hp, if_neg (Nat.succ_ne_zero _)]; exact hO_17) (fun _ => hs) (fun _ => hp9) (fun k hk h1 h2 => hF k hk (by omega) h1) hL.2.2 (fun k hk => Nat.ne_of_lt (Nat.lt_of_lt_of_le (hlt9 k hk) ge_15))⟩)
theorem nJ33_add_2 : notMH yJ33_add_2 2 := by decide +kernel
set_option maxHeartbeats 800000 in
theorem mJ33_add_2 (l : Launch) (D : DD) (b n p x : Nat) (nd it : Nat → Nat) (hn : n < 200) (hp : p ≤ n) : Ct l yJ33_add_2 cJ33_add_2 3 none { frames := 3, cells := 1, slots := 3, locals := 68 } D [.ref b, .int (nI p), .ref x] (fun H => KH D H ∧ LL D H b n nd it) (fun q => q = b ∨ ∃ k, k < n ∧ q = nd k) (fun r H H1 => r = none ∧ ∃ q, H.size ≤ q ∧ LL D H1 b (n + 1) (insF nd p q) (insF it p x)) := by
  refine Ct.of (by decide +kernel) (Nat.le_of_ble_eq_true rfl) (fun K Qf hkl X hM hQ => ?_)
  subst hkl
  obtain ⟨hK, hL⟩ := hM
  have hz : (kS K).heap.size ≤ (kS K).heap.size := Nat.le_refl _
  have hinj9 : ∀ j k, j < n → k < n → j ≠ k → nd j ≠ nd k := fun j k h1 h2 h3 => hL.ne h1 h2 h3
  have hlt9 : ∀ k, k < n → nd k < (kS K).heap.size := fun k hk => (hL.2.1 k hk).lt
  refine vv_sub (lv' := [(0, .ref b), (1, .int (nI p)), (2, .ref x)]) [0, 1, 2] rfl ?_
  have hb := hL.1
  refine vv_aload_n X dJ33_add_2_0 rfl 0 rfl ?_
  refine vv_iload_n X dJ33_add_2_1 rfl 1 rfl ?_
  refine vv_callVv X (mJ33_checkPositionIndex (kL K) D b n p _ _ (by omega) (by omega)) q2141 q2143 qs45 q182 q2144 nJ33_checkPositionIndex ⟨(Nat.le_of_ble_eq_true rfl), (Nat.le_of_ble_eq_true rfl)⟩ dJ33_add_2_2 rfl (Nat.le_of_ble_eq_true rfl) (recv X hb CL_J33) hb ⟨(Nat.le_of_ble_eq_true rfl), (Nat.le_of_ble_eq_true rfl)⟩ ?_
  refine vv_iload_n X dJ33_add_2_5 rfl 1 rfl ?_
  refine vv_aload_n X dJ33_add_2_6 rfl 0 rfl ?_
  refine vv_getf (C := RJ33) (T := TJ33) (N := 4) (ref := "java/util/LinkedList") X hb in_J33 CL_J33 1 (by decide) q2069 rfl rfl dJ33_add_2_7 ?_
  refine vn_ne (tgt := 21) X (by omega) (by omega) dJ33_add_2_10 (by decide) (fun c_10 => ?_) (fun c_10 => ?_)
  · refine vv_aload_n X dJ33_add_2_21 rfl 0 rfl ?_
    refine vv_aload_n X dJ33_add_2_22 rfl 2 rfl ?_
    refine vv_aload_n X dJ33_add_2_23 rfl 0 rfl ?_
    refine vv_iload_n X dJ33_add_2_24 rfl 1 rfl ?_
    refine vv_callVp X (mJ33_node (kL K) D b n p nd it (by omega) (by omega)) q1644 q1645 q1646 q182 q1647 nJ33_node ⟨(Nat.le_of_ble_eq_true rfl), (Nat.le_of_ble_eq_true rfl)⟩ dJ33_add_2_25 rfl (Nat.le_of_ble_eq_true rfl) (recv X hb CL_J33) hL ⟨(Nat.le_of_ble_eq_true rfl), (Nat.le_of_ble_eq_true rfl)⟩ ?_
    refine vv_callV X (mJ33_linkBefore (kL K) D b n p x nd it (by omega) (by omega)) q2325 q2326 q2327 q182 q2328 nJ33_linkBefore ⟨(Nat.le_of_ble_eq_true rfl), (Nat.le_of_ble_eq_true rfl)⟩ dJ33_add_2_28 rfl (Nat.le_of_ble_eq_true rfl) (recv X hb CL_J33) ⟨hK, hL⟩ (fun _ z => Or.inl z) ⟨(Nat.le_of_ble_eq_true rfl), (Nat.le_of_ble_eq_true rfl)⟩ (fun v_ H hq hz_ hk => ?_)
    obtain ⟨rfl, q, hqz, hL2⟩ := hq
    replace hK := hK.to hk (fun z hz9 => by rcases hz9 with rfl | ⟨k, hk9, rfl⟩; exact X.ko hK hL.1 CL_J33 (by decide) (by decide); exact X.ko hK (hL.2.1 k hk9) CL_J23 (by decide) (by decide))
    have hqz2 := Nat.le_trans hz hqz
    replace hz := Nat.le_trans hz hz_
    clear hk hz_ hL
    have hL := hL2
    exact vv_vret X hQ dJ33_add_2_31 (Nat.le_of_ble_eq_true rfl) (Nat.le_of_ble_eq_true rfl) (⟨rfl, q, hqz2, hL⟩)
  · refine vv_aload_n X dJ33_add_2_13 rfl 0 rfl ?_
    refine vv_aload_n X dJ33_add_2_14 rfl 2 rfl ?_
    refine vv_callV X (mJ33_linkLast (kL K) D b n x nd it (by omega)) q1190 q1191 q1192 q182 q1193 nJ33_linkLast ⟨(Nat.le_of_ble_eq_true rfl), (Nat.le_of_ble_eq_true rfl)⟩ dJ33_add_2_15 rfl (Nat.le_of_ble_eq_true rfl) (recv X hb CL_J33) ⟨hK, hL⟩ (fun _ z => Or.inl z) ⟨(Nat.le_of_ble_eq_true rfl), (Nat.le_of_ble_eq_true rfl)⟩ (fun v_ H hq hz_ hk => ?_)
    obtain ⟨rfl, q, hqz, hL2⟩ := hq
    replace hK := hK.to hk (fun z hz9 => by rcases hz9 with rfl | ⟨k, hk9, rfl⟩; exact X.ko hK hL.1 CL_J33 (by decide) (by decide); exact X.ko hK (hL.2.1 k hk9) CL_J23 (by decide) (by decide))
    have hqz2 := Nat.le_trans hz hqz
    replace hz := Nat.le_trans hz hz_
    clear hk hz_ hL
    have hL := hL2
    refine vv_goto (tgt := 31) X dJ33_add_2_18 (by decide) ?_
    exact vv_vret X hQ dJ33_add_2_31 (Nat.le_of_ble_eq_true rfl) (Nat.le_of_ble_eq_true rfl) (⟨rfl, q, hqz2, by rw [c_10]; exact hL⟩)
theorem nJ33_get : notMH yJ33_get 1 := by decide +kernel
set_option maxHeartbeats 800000 in
theorem mJ33_get (l : Launch) (D : DD) (b n i : Nat) (nd it : Nat → Nat) (hi : i < n) (hn : n < 200) : Cp l yJ33_get cJ33_get 2 (some (.object "java/lang/Object")) { frames := 3, cells := 0, slots := 0, locals := 54 } D [.ref b, .int (nI i)] (fun H => LL D H b n nd it) (.ref (it i)) := by
  refine Ct.of (by decide +kernel) (Nat.le_of_ble_eq_true rfl) (fun K Qf hkl X hM hQ => ?_)
  subst hkl
  have hL := hM
  refine vv_sub (lv' := [(0, .ref b), (1, .int (nI i))]) [0, 1] rfl ?_
  have hb := hL.1
  refine vv_aload_n X dJ33_get_0 rfl 0 rfl ?_
  refine vv_iload_n X dJ33_get_1 rfl 1 rfl ?_
  refine vv_callVv X (mJ33_checkElementIndex (kL K) D b n i _ _ (by omega) (by omega)) q1622 q1624 qs27 q182 q1626 nJ33_checkElementIndex ⟨(Nat.le_of_ble_eq_true rfl), (Nat.le_of_ble_eq_true rfl)⟩ dJ33_get_2 rfl (Nat.le_of_ble_eq_true rfl) (recv X hb CL_J33) hb ⟨(Nat.le_of_ble_eq_true rfl), (Nat.le_of_ble_eq_true rfl)⟩ ?_
  refine vv_aload_n X dJ33_get_5 rfl 0 rfl ?_
  refine vv_iload_n X dJ33_get_6 rfl 1 rfl ?_
  refine vv_callVp X (mJ33_node (kL K) D b n i nd it (by omega) (by omega)) q1644 q1645 q1646 q182 q1647 nJ33_node ⟨(Nat.le_of_ble_eq_true rfl), (Nat.le_of_ble_eq_true rfl)⟩ dJ33_get_7 rfl (Nat.le_of_ble_eq_true rfl) (recv X hb CL_J33) hL ⟨(Nat.le_of_ble_eq_true rfl), (Nat.le_of_ble_eq_true rfl)⟩ ?_
  have hn_1 := hL.2.1 i (by omega)
  refine vv_getf (C := RJ23) (T := TJ23) (N := 3) (ref := "java/util/LinkedList$Node") X hn_1 in_J23 CL_J23 0 (by decide) q1202 rfl rfl dJ33_get_10 ?_
  exact vv_aret X (Or.inl ⟨_, rfl⟩) (Or.inr ⟨_, rfl⟩) hQ dJ33_get_13 (Nat.le_of_ble_eq_true rfl) (Nat.le_of_ble_eq_true rfl) (pqa (rfl))
/-- where an iterator at place j stands -/
def nx0 (nd : Nat → Nat) (n j : Nat) : Value := if j < n then .ref (nd j) else .null
theorem nx0_s (nd : Nat → Nat) (n j : Nat) : nxv nd n j = nx0 nd n (j + 1) := rfl
/-- an iterator -/
def IT (D : DD) (H : Heap) (i b n : Nat) (nd : Nat → Nat) (j : Nat) : Prop := ∃ lr, oB D H i 26 [lr, nx0 nd n j, .int (nI j), .int (nI n), .ref b]
theorem IT.lt {D : DD} {H : Heap} {i b n j : Nat} {nd : Nat → Nat} (h : IT D H i b n nd j) : i < H.size := by obtain ⟨_, h⟩ := h; exact h.lt
theorem IT.kept {D : DD} {H H1 : Heap} {i b n j : Nat} {nd : Nat → Nat} (h : IT D H i b n nd j) (hk : H1[i]? = H[i]?) : IT D H1 i b n nd j := by obtain ⟨l, h⟩ := h; exact ⟨l, h.kept hk⟩
theorem nJ37_checkForComodification : notMH yJ37_checkForComodification 0 := by decide +kernel
set_option maxHeartbeats 800000 in
theorem mJ37_checkForComodification (l : Launch) (D : DD) (i b n j : Nat) (x1 x2 x3 x4 : Value) (hn : n < 200) : Cv l yJ37_checkForComodification cJ37_checkForComodification 1 { frames := 1, cells := 0, slots := 0, locals := 12 } D [.ref i] (fun H => oB D H i 26 [x3, x4, .int (nI j), .int (nI n), .ref b] ∧ oB D H b 24 [.int (nI n), .int (nI n), x1, x2]) := by
  refine Ct.of (by decide +kernel) (Nat.le_of_ble_eq_true rfl) (fun K Qf hkl X hM hQ => ?_)
  subst hkl
  obtain ⟨hi, hb⟩ := hM
  refine vv_sub (lv' := [(0, .ref i)]) [0] rfl ?_
  refine vv_aload_n X dJ37_checkForComodification_0 rfl 0 rfl ?_
  refine vv_getf (C := RJ37) (T := TJ37) (N := 5) (ref := "java/util/LinkedList$ListItr") X hi in_J37 CL_J37 4 (by decide) q2160 rfl rfl dJ37_checkForComodification_1 ?_
  refine vv_getfI (C := RJ33) (T := TJ33) (N := 4) (ref := "java/util/LinkedList") X hb in_J33 CL_J33 0 (by decide) q732 q733 rfl dJ37_checkForComodification_4 ?_
  refine vv_aload_n X dJ37_checkForComodification_7 rfl 0 rfl ?_
  refine vv_getf (C := RJ37) (T := TJ37) (N := 5) (ref := "java/util/LinkedList$ListItr") X hi in_J37 CL_J37 3 (by decide) q2159 rfl rfl dJ37_checkForComodification_8 ?_
  refine vn_eq (tgt := 22) X (by omega) (by omega) dJ37_checkForComodification_11 (by decide) (fun c_11 => ?_) (fun c_11 => ?_)
  · exact vv_vret X hQ dJ37_checkForComodification_22 (Nat.le_of_ble_eq_true rfl) (Nat.le_of_ble_eq_true rfl) (⟨rfl, rfl⟩)
  · exact absurd rfl c_11
theorem nJ37_hasNext : notMH yJ37_hasNext 0 := by decide +kernel
set_option maxHeartbeats 800000 in
theorem mJ37_hasNext (l : Launch) (D : DD) (i b n j : Nat) (x1 x2 x3 x4 : Value) (hn : n < 200) (hj : j ≤ n) : Cp l yJ37_hasNext cJ37_hasNext 1 (some .boolean) { frames := 1, cells := 0, slots := 0, locals := 12 } D [.ref i] (fun H => oB D H i 26 [x3, x4, .int (nI j), .int (nI n), .ref b] ∧ oB D H b 24 [.int (nI n), .int (nI n), x1, x2]) (.int (b2 (j < n))) := by
  refine Ct.of (by decide +kernel) (Nat.le_of_ble_eq_true rfl) (fun K Qf hkl X hM hQ => ?_)
  subst hkl
  obtain ⟨hi, hb⟩ := hM
  refine vv_sub (lv' := [(0, .ref i)]) [0] rfl ?_
  refine vv_aload_n X dJ37_hasNext_0 rfl 0 rfl ?_
  refine vv_getf (C := RJ37) (T := TJ37) (N := 5) (ref := "java/util/LinkedList$ListItr") X hi in_J37 CL_J37 2 (by decide) q2158 rfl rfl dJ37_hasNext_1 ?_
  refine vv_aload_n X dJ37_hasNext_4 rfl 0 rfl ?_
  refine vv_getf (C := RJ37) (T := TJ37) (N := 5) (ref := "java/util/LinkedList$ListItr") X hi in_J37 CL_J37 4 (by decide) q2160 rfl rfl dJ37_hasNext_5 ?_
  refine vv_getf (C := RJ33) (T := TJ33) (N := 4) (ref := "java/util/LinkedList") X hb in_J33 CL_J33 1 (by decide) q2070 rfl rfl dJ37_hasNext_8 ?_
  refine vn_ge (tgt := 18) X (by omega) (by omega) dJ37_hasNext_11 (by decide) (fun c_11 => ?_) (fun c_11 => ?_)
  · refine vv_iconst (v := nI 0) X dJ37_hasNext_18 (by decide) ?_
    exact vv_zret X (rfl) hQ dJ37_hasNext_19 (Nat.le_of_ble_eq_true rfl) (Nat.le_of_ble_eq_true rfl) (pq (b2_0 (by omega)))
  · refine vv_iconst (v := nI 1) X dJ37_hasNext_14 (by decide) ?_
    refine vv_goto (tgt := 19) X dJ37_hasNext_15 (by decide) ?_
    exact vv_zret X (rfl) hQ dJ37_hasNext_19 (Nat.le_of_ble_eq_true rfl) (Nat.le_of_ble_eq_true rfl) (pq (b2_1 c_11))
theorem nJ37_next : notMH yJ37_next 0 := by decide +kernel
set_option maxHeartbeats 800000 in
theorem mJ37_next (l : Launch) (D : DD) (i b n j : Nat) (nd it : Nat → Nat) (hn : n < 200) (hj : j < n) : Ct l yJ37_next cJ37_next 1 (some (.object "java/lang/Object")) { frames := 2, cells := 0, slots := 0, locals := 32 } D [.ref i] (fun H => KH D H ∧ IT D H i b n nd j ∧ LL D H b n nd it) (fun q => q = i) (fun r H H1 => r = some (.ref (it j)) ∧ IT D H1 i b n nd (j + 1)) := by
  refine Ct.of (by decide +kernel) (Nat.le_of_ble_eq_true rfl) (fun K Qf hkl X hM hQ => ?_)
  subst hkl
  obtain ⟨hK, hI, hL⟩ := hM
  have hz : (kS K).heap.size ≤ (kS K).heap.size := Nat.le_refl _
  refine vv_sub (lv' := [(0, .ref i)]) [0] rfl ?_
  obtain ⟨lr, hi0⟩ := hI
  have hi : oB D (kS K).heap i 26 [lr, .ref (nd j), .int (nI j), .int (nI n), .ref b] := by
    unfold nx0 at hi0
    rwa [if_pos hj] at hi0
  clear hi0
  have hb := hL.1
  have hn_1 := hL.2.1 j hj
  refine vv_aload_n X dJ37_next_0 rfl 0 rfl ?_
  refine vv_callVv X (mJ37_checkForComodification (kL K) D i b n j _ _ _ _ (by omega)) q2295 q2296 q2297 q187 q2298 nJ37_checkForComodification ⟨(Nat.le_of_ble_eq_true rfl), (Nat.le_of_ble_eq_true rfl)⟩ dJ37_next_1 rfl (Nat.le_of_ble_eq_true rfl) (recv X hi CL_J37) ⟨hi, hb⟩ ⟨(Nat.le_of_ble_eq_true rfl), (Nat.le_of_ble_eq_true rfl)⟩ ?_
  refine vv_aload_n X dJ37_next_4 rfl 0 rfl ?_
  refine vv_callVp X (mJ37_hasNext (kL K) D i b n j _ _ _ _ (by omega) (by omega)) q2299 q2196 q3652 q187 q2198 nJ37_hasNext ⟨(Nat.le_of_ble_eq_true rfl), (Nat.le_of_ble_eq_true rfl)⟩ dJ37_next_5 rfl (Nat.le_of_ble_eq_true rfl) (recv X hi CL_J37) ⟨hi, hb⟩ ⟨(Nat.le_of_ble_eq_true rfl), (Nat.le_of_ble_eq_true rfl)⟩ ?_
  refine vb_ne (tgt := 19) X dJ37_next_8 (by decide) (fun c_8 => ?_) (fun c_8 => ?_)
  · refine vv_aload_n X dJ37_next_19 rfl 0 rfl ?_
    refine vv_aload_n X dJ37_next_20 rfl 0 rfl ?_
    refine vv_getf (C := RJ37) (T := TJ37) (N := 5) (ref := "java/util/LinkedList$ListItr") X hi in_J37 CL_J37 1 (by decide) q2157 rfl rfl dJ37_next_21 ?_
    refine vv_putf (C := RJ37) (T := TJ37) (N := 5) (ref := "java/util/LinkedList$ListItr") X hi in_J37 CL_J37 tyJ37 tyJ37_ok nmJ37 0 (by decide) q2156 rfl rfl rfl rfl (Nat.le_of_ble_eq_true rfl) (Or.inl rfl) dJ37_next_24 (fun H hc ho => ?_)
    have k_0 := hb.kept (hc.2 _ (X.oo hb hi CL_J33 CL_J37 (by decide)))
    have k_1 := hn_1.kept (hc.2 _ (X.oo hn_1 hi CL_J23 CL_J37 (by decide)))
    replace hK := hK.ch hc (X.ko hK hi CL_J37 (by decide) (by decide))
    clear hb
    have hb := k_0
    clear k_0
    clear hn_1
    have hn_1 := k_1
    clear k_1
    replace hz := Nat.le_trans hz (Nat.le_of_eq hc.1.symm)
    clear hi
    have hi : oB D H i 26 [.ref (nd j), .ref (nd j), .int (nI j), .int (nI n), .ref b] := ho
    clear hc ho
    refine vv_aload_n X dJ37_next_27 rfl 0 rfl ?_
    refine vv_aload_n X dJ37_next_28 rfl 0 rfl ?_
    refine vv_getf (C := RJ37) (T := TJ37) (N := 5) (ref := "java/util/LinkedList$ListItr") X hi in_J37 CL_J37 1 (by decide) q2157 rfl rfl dJ37_next_29 ?_
    refine vv_getf (C := RJ23) (T := TJ23) (N := 3) (ref := "java/util/LinkedList$Node") X hn_1 in_J23 CL_J23 1 (by decide) q1204 rfl rfl dJ37_next_32 ?_
    by_cases e9 : j + 1 < n
    · have e8 : nxv nd n j = .ref (nd (j + 1)) := if_pos e9
      rw [e8]
      refine vv_putf (C := RJ37) (T := TJ37) (N := 5) (ref := "java/util/LinkedList$ListItr") X hi in_J37 CL_J37 tyJ37 tyJ37_ok nmJ37 1 (by decide) q2157 rfl rfl rfl rfl (Nat.le_of_ble_eq_true rfl) (Or.inl rfl) dJ37_next_35 (fun H hc ho => ?_)
      have k_0 := hb.kept (hc.2 _ (X.oo hb hi CL_J33 CL_J37 (by decide)))
      have k_1 := hn_1.kept (hc.2 _ (X.oo hn_1 hi CL_J23 CL_J37 (by decide)))
      replace hK := hK.ch hc (X.ko hK hi CL_J37 (by decide) (by decide))
      clear hb
      have hb := k_0
      clear k_0
      clear hn_1
      have hn_1 := k_1
      clear k_1
      replace hz := Nat.le_trans hz (Nat.le_of_eq hc.1.symm)
      clear hi
      have hi : oB D H i 26 [.ref (nd j), .ref (nd (j + 1)), .int (nI j), .int (nI n), .ref b] := ho
      clear hc ho
      refine vv_aload_n X dJ37_next_38 rfl 0 rfl ?_
      refine vv_dup X dJ37_next_39 rfl ?_
      refine vv_getf (C := RJ37) (T := TJ37) (N := 5) (ref := "java/util/LinkedList$ListItr") X hi in_J37 CL_J37 2 (by decide) q2158 rfl rfl dJ37_next_40 ?_
      refine vv_iconst (v := nI 1) X dJ37_next_43 (by decide) ?_
      refine vn_add X dJ37_next_44 ?_
      refine vv_putf (C := RJ37) (T := TJ37) (N := 5) (ref := "java/util/LinkedList$ListItr") X hi in_J37 CL_J37 tyJ37 tyJ37_ok nmJ37 2 (by decide) q2158 rfl rfl rfl rfl (Nat.le_of_ble_eq_true rfl) (Or.inl rfl) dJ37_next_45 (fun H hc ho => ?_)
      have k_0 := hb.kept (hc.2 _ (X.oo hb hi CL_J33 CL_J37 (by decide)))
      have k_1 := hn_1.kept (hc.2 _ (X.oo hn_1 hi CL_J23 CL_J37 (by decide)))
      replace hK := hK.ch hc (X.ko hK hi CL_J37 (by decide) (by decide))
      clear hb
      have hb := k_0
      clear k_0
      clear hn_1
      have hn_1 := k_1
      clear k_1
      replace hz := Nat.le_trans hz (Nat.le_of_eq hc.1.symm)
      clear hi
      have hi : oB D H i 26 [.ref (nd j), .ref (nd (j + 1)), .int (nI (j + 1)), .int (nI n), .ref b] := ho
      clear hc ho
      refine vv_aload_n X dJ37_next_48 rfl 0 rfl ?_
      refine vv_getf (C := RJ37) (T := TJ37) (N := 5) (ref := "java/util/LinkedList$ListItr") X hi in_J37 CL_J37 0 (by decide) q2156 rfl rfl dJ37_next_49 ?_
      refine vv_getf (C := RJ23) (T := TJ23) (N := 3) (ref := "java/util/LinkedList$Node") X hn_1 in_J23 CL_J23 0 (by decide) q1201 rfl rfl dJ37_next_52 ?_
      exact vv_aret X (Or.inl ⟨_, rfl⟩) (Or.inr ⟨_, rfl⟩) hQ dJ37_next_55 (Nat.le_of_ble_eq_true rfl) (Nat.le_of_ble_eq_true rfl) (⟨rfl, _, by rw [← nx0_s, e8]; exact hi⟩)
    · have e8 : nxv nd n j = .null := if_neg e9
      rw [e8]
      refine vv_putf (C := RJ37) (T := TJ37) (N := 5) (ref := "java/util/LinkedList$ListItr") X hi in_J37 CL_J37 tyJ37 tyJ37_ok nmJ37 1 (by decide) q2157 rfl rfl rfl rfl (Nat.le_of_ble_eq_true rfl) (Or.inl rfl) dJ37_next_35 (fun H hc ho => ?_)
      have k_0 := hb.kept (hc.2 _ (X.oo hb hi CL_J33 CL_J37 (by decide)))
      have k_1 := hn_1.kept (hc.2 _ (X.oo hn_1 hi CL_J23 CL_J37 (by decide)))
      replace hK := hK.ch hc (X.ko hK hi CL_J37 (by decide) (by decide))
      clear hb
      have hb := k_0
      clear k_0
      clear hn_1
      have hn_1 := k_1
      clear k_1
      replace hz := Nat.le_trans hz (Nat.le_of_eq hc.1.symm)
      clear hi
      have hi : oB D H i 26 [.ref (nd j), .null, .int (nI j), .int (nI n), .ref b] := ho
      clear hc ho
      refine vv_aload_n X dJ37_next_38 rfl 0 rfl ?_
      refine vv_dup X dJ37_next_39 rfl ?_
      refine vv_getf (C := RJ37) (T := TJ37) (N := 5) (ref := "java/util/LinkedList$ListItr") X hi in_J37 CL_J37 2 (by decide) q2158 rfl rfl dJ37_next_40 ?_
      refine vv_iconst (v := nI 1) X dJ37_next_43 (by decide) ?_
      refine vn_add X dJ37_next_44 ?_
      refine vv_putf (C := RJ37) (T := TJ37) (N := 5) (ref := "java/util/LinkedList$ListItr") X hi in_J37 CL_J37 tyJ37 tyJ37_ok nmJ37 2 (by decide) q2158 rfl rfl rfl rfl (Nat.le_of_ble_eq_true rfl) (Or.inl rfl) dJ37_next_45 (fun H hc ho => ?_)
      have k_0 := hb.kept (hc.2 _ (X.oo hb hi CL_J33 CL_J37 (by decide)))
      have k_1 := hn_1.kept (hc.2 _ (X.oo hn_1 hi CL_J23 CL_J37 (by decide)))
      replace hK := hK.ch hc (X.ko hK hi CL_J37 (by decide) (by decide))
      clear hb
      have hb := k_0
      clear k_0
      clear hn_1
      have hn_1 := k_1
      clear k_1
      replace hz := Nat.le_trans hz (Nat.le_of_eq hc.1.symm)
      clear hi
      have hi : oB D H i 26 [.ref (nd j), .null, .int (nI (j + 1)), .int (nI n), .ref b] := ho
      clear hc ho
      refine vv_aload_n X dJ37_next_48 rfl 0 rfl ?_
      refine vv_getf (C := RJ37) (T := TJ37) (N := 5) (ref := "java/util/LinkedList$ListItr") X hi in_J37 CL_J37 0 (by decide) q2156 rfl rfl dJ37_next_49 ?_
      refine vv_getf (C := RJ23) (T := TJ23) (N := 3) (ref := "java/util/LinkedList$Node") X hn_1 in_J23 CL_J23 0 (by decide) q1201 rfl rfl dJ37_next_52 ?_
      exact vv_aret X (Or.inl ⟨_, rfl⟩) (Or.inr ⟨_, rfl⟩) hQ dJ37_next_55 (Nat.le_of_ble_eq_true rfl) (Nat.le_of_ble_eq_true rfl) (⟨rfl, _, by rw [← nx0_s, e8]; exact hi⟩)
  · exact absurd hj c_8
theorem nJ37_init : notMH yJ37_init 2 := by decide +kernel
set_option maxHeartbeats 800000 in
theorem mJ37_init (l : Launch) (D : DD) (i b n : Nat) (nd it : Nat → Nat) (hn : n < 200) : Ct l yJ37_init cJ37_init 3 none { frames := 2, cells := 0, slots := 0, locals := 35 } D [.ref i, .ref b, .int (nI 0)] (fun H => KH D H ∧ oB D H i 26 [.null, .null, .int (nI 0), .int (nI 0), .null] ∧ LL D H b n nd it) (fun q => q = i) (fun r H H1 => r = none ∧ IT D H1 i b n nd 0) := by
  refine Ct.of (by decide +kernel) (Nat.le_of_ble_eq_true rfl) (fun K Qf hkl X hM hQ => ?_)
  subst hkl
  obtain ⟨hK, hi, hL⟩ := hM
  have hz : (kS K).heap.size ≤ (kS K).heap.size := Nat.le_refl _
  refine vv_sub (lv' := [(0, .ref i), (1, .ref b), (2, .int (nI 0))]) [0, 1, 2] rfl ?_
  have hb := hL.1
  refine vv_aload_n X dJ37_init_0 rfl 0 rfl ?_
  refine vv_aload_n X dJ37_init_1 rfl 1 rfl ?_
  refine vv_putfF (C := RJ37) (T := TJ37) (N := 5) (ref := "java/util/LinkedList$ListItr") X hi in_J37 CL_J37 tyJ37 tyJ37_ok nmJ37 4 (by decide) q2160 rfl rfl rfl rfl rfl rfl (Nat.le_of_ble_eq_true rfl) (Or.inl rfl) dJ37_init_2 (fun H hc ho => ?_)
  have k_0 := (show LL D H b n nd it from hL.kept (hc.2 _ (X.oo hL.1 hi CL_J33 CL_J37 (by decide))) (fun k hk9 _ => hc.2 _ (X.oo (hL.2.1 k hk9) hi CL_J23 CL_J37 (by decide))))
  have k_1 := hb.kept (hc.2 _ (X.oo hb hi CL_J33 CL_J37 (by decide)))
  replace hK := hK.ch hc (X.ko hK hi CL_J37 (by decide) (by decide))
  clear hL
  have hL := k_0
  clear k_0
  clear hb
  have hb := k_1
  clear k_1
  replace hz := Nat.le_trans hz (Nat.le_of_eq hc.1.symm)
  clear hi
  have hi : oB D H i 26 [.null, .null, .int (nI 0), .int (nI 0), .ref b] := ho
  clear hc ho
  refine vv_aload_n X dJ37_init_5 rfl 0 rfl ?_
  refine vv_obj X q2154 q197 q198 (Nat.le_of_ble_eq_true rfl) (Nat.le_of_ble_eq_true rfl) dJ37_init_6 ?_
  refine vv_aload_n X dJ37_init_9 rfl 0 rfl ?_
  refine vv_aload_n X dJ37_init_10 rfl 0 rfl ?_
  refine vv_getf (C := RJ37) (T := TJ37) (N := 5) (ref := "java/util/LinkedList$ListItr") X hi in_J37 CL_J37 4 (by decide) q2160 rfl rfl dJ37_init_11 ?_
  refine vv_getfI (C := RJ33) (T := TJ33) (N := 4) (ref := "java/util/LinkedList") X hb in_J33 CL_J33 0 (by decide) q732 q733 rfl dJ37_init_14 ?_
  refine vv_putf (C := RJ37) (T := TJ37) (N := 5) (ref := "java/util/LinkedList$ListItr") X hi in_J37 CL_J37 tyJ37 tyJ37_ok nmJ37 3 (by decide) q2159 rfl rfl rfl rfl (Nat.le_of_ble_eq_true rfl) (Or.inl rfl) dJ37_init_17 (fun H hc ho => ?_)
  have k_0 := (show LL D H b n nd it from hL.kept (hc.2 _ (X.oo hL.1 hi CL_J33 CL_J37 (by decide))) (fun k hk9 _ => hc.2 _ (X.oo (hL.2.1 k hk9) hi CL_J23 CL_J37 (by decide))))
  have k_1 := hb.kept (hc.2 _ (X.oo hb hi CL_J33 CL_J37 (by decide)))
  replace hK := hK.ch hc (X.ko hK hi CL_J37 (by decide) (by decide))
  clear hL
  have hL := k_0
  clear k_0
  clear hb
  have hb := k_1
  clear k_1
  replace hz := Nat.le_trans hz (Nat.le_of_eq hc.1.symm)
  clear hi
  have hi : oB D H i 26 [.null, .null, .int (nI 0), .int (nI n), .ref b] := ho
  clear hc ho
  refine vv_aload_n X dJ37_init_20 rfl 0 rfl ?_
  refine vv_iload_n X dJ37_init_21 rfl 2 rfl ?_
  refine vv_aload_n X dJ37_init_22 rfl 1 rfl ?_
  refine vv_getf (C := RJ33) (T := TJ33) (N := 4) (ref := "java/util/LinkedList") X hb in_J33 CL_J33 1 (by decide) q2070 rfl rfl dJ37_init_23 ?_
  refine vn_ne (tgt := 33) X (by omega) (by omega) dJ37_init_26 (by decide) (fun c_26 => ?_) (fun c_26 => ?_)
  · refine vv_aload_n X dJ37_init_33 rfl 1 rfl ?_
    refine vv_iload_n X dJ37_init_34 rfl 2 rfl ?_
    refine vv_callVp X (mJ33_node (kL K) D b n 0 nd it (by omega) (by omega)) q2155 q1645 q1646 q182 q1647 nJ33_node ⟨(Nat.le_of_ble_eq_true rfl), (Nat.le_of_ble_eq_true rfl)⟩ dJ37_init_35 rfl (Nat.le_of_ble_eq_true rfl) (recv X hb CL_J33) hL ⟨(Nat.le_of_ble_eq_true rfl), (Nat.le_of_ble_eq_true rfl)⟩ ?_
    refine vv_putf (C := RJ37) (T := TJ37) (N := 5) (ref := "java/util/LinkedList$ListItr") X hi in_J37 CL_J37 tyJ37 tyJ37_ok nmJ37 1 (by decide) q2157 rfl rfl rfl rfl (Nat.le_of_ble_eq_true rfl) (Or.inl rfl) dJ37_init_38 (fun H hc ho => ?_)
    have k_0 := (show LL D H b n nd it from hL.kept (hc.2 _ (X.oo hL.1 hi CL_J33 CL_J37 (by decide))) (fun k hk9 _ => hc.2 _ (X.oo (hL.2.1 k hk9) hi CL_J23 CL_J37 (by decide))))
    have k_1 := hb.kept (hc.2 _ (X.oo hb hi CL_J33 CL_J37 (by decide)))
    replace hK := hK.ch hc (X.ko hK hi CL_J37 (by decide) (by decide))
    clear hL
    have hL := k_0
    clear k_0
    clear hb
    have hb := k_1
    clear k_1
    replace hz := Nat.le_trans hz (Nat.le_of_eq hc.1.symm)
    clear hi
    have hi : oB D H i 26 [.null, .ref (nd 0), .int (nI 0), .int (nI n), .ref b] := ho
    clear hc ho
    refine vv_aload_n X dJ37_init_41 rfl 0 rfl ?_
    refine vv_iload_n X dJ37_init_42 rfl 2 rfl ?_
    refine vv_putf (C := RJ37) (T := TJ37) (N := 5) (ref := "java/util/LinkedList$ListItr") X hi in_J37 CL_J37 tyJ37 tyJ37_ok nmJ37 2 (by decide) q2158 rfl rfl rfl rfl (Nat.le_of_ble_eq_true rfl) (Or.inl rfl) dJ37_init_43 (fun H hc ho => ?_)
    have k_0 := (show LL D H b n nd it from hL.kept (hc.2 _ (X.oo hL.1 hi CL_J33 CL_J37 (by decide))) (fun k hk9 _ => hc.2 _ (X.oo (hL.2.1 k hk9) hi CL_J23 CL_J37 (by decide))))
    have k_1 := hb.kept (hc.2 _ (X.oo hb hi CL_J33 CL_J37 (by decide)))
    replace hK := hK.ch hc (X.ko hK hi CL_J37 (by decide) (by decide))
    clear hL
    have hL := k_0
    clear k_0
    clear hb
    have hb := k_1
    clear k_1
    replace hz := Nat.le_trans hz (Nat.le_of_eq hc.1.symm)
    clear hi
    have hi : oB D H i 26 [.null, .ref (nd 0), .int (nI 0), .int (nI n), .ref b] := ho
    clear hc ho
    exact vv_vret X hQ dJ37_init_46 (Nat.le_of_ble_eq_true rfl) (Nat.le_of_ble_eq_true rfl) (⟨rfl, _, by unfold nx0; rw [if_pos (by omega)]; exact hi⟩)
  · refine vv_null X dJ37_init_29 ?_
    refine vv_goto (tgt := 38) X dJ37_init_30 (by decide) ?_
    refine vv_putf (C := RJ37) (T := TJ37) (N := 5) (ref := "java/util/LinkedList$ListItr") X hi in_J37 CL_J37 tyJ37 tyJ37_ok nmJ37 1 (by decide) q2157 rfl rfl rfl rfl (Nat.le_of_ble_eq_true rfl) (Or.inl rfl) dJ37_init_38 (fun H hc ho => ?_)
    have k_0 := (show LL D H b n nd it from hL.kept (hc.2 _ (X.oo hL.1 hi CL_J33 CL_J37 (by decide))) (fun k hk9 _ => hc.2 _ (X.oo (hL.2.1 k hk9) hi CL_J23 CL_J37 (by decide))))
    have k_1 := hb.kept (hc.2 _ (X.oo hb hi CL_J33 CL_J37 (by decide)))
    replace hK := hK.ch hc (X.ko hK hi CL_J37 (by decide) (by decide))
    clear hL
    have hL := k_0
    clear k_0
    clear hb
    have hb := k_1
    clear k_1
    replace hz := Nat.le_trans hz (Nat.le_of_eq hc.1.symm)
    clear hi
    have hi : oB D H i 26 [.null, .null, .int (nI 0), .int (nI n), .ref b] := ho
    clear hc ho
    refine vv_aload_n X dJ37_init_41 rfl 0 rfl ?_
    refine vv_iload_n X dJ37_init_42 rfl 2 rfl ?_
    refine vv_putf (C := RJ37) (T := TJ37) (N := 5) (ref := "java/util/LinkedList$ListItr") X hi in_J37 CL_J37 tyJ37 tyJ37_ok nmJ37 2 (by decide) q2158 rfl rfl rfl rfl (Nat.le_of_ble_eq_true rfl) (Or.inl rfl) dJ37_init_43 (fun H hc ho => ?_)
    have k_0 := (show LL D H b n nd it from hL.kept (hc.2 _ (X.oo hL.1 hi CL_J33 CL_J37 (by decide))) (fun k hk9 _ => hc.2 _ (X.oo (hL.2.1 k hk9) hi CL_J23 CL_J37 (by decide))))
    have k_1 := hb.kept (hc.2 _ (X.oo hb hi CL_J33 CL_J37 (by decide)))
    replace hK := hK.ch hc (X.ko hK hi CL_J37 (by decide) (by decide))
    clear hL
    have hL := k_0
    clear k_0
    clear hb
    have hb := k_1
    clear k_1
    replace hz := Nat.le_trans hz (Nat.le_of_eq hc.1.symm)
    clear hi
    have hi : oB D H i 26 [.null, .null, .int (nI 0), .int (nI n), .ref b] := ho
    clear hc ho
    exact vv_vret X hQ dJ37_init_46 (Nat.le_of_ble_eq_true rfl) (Nat.le_of_ble_eq_true rfl) (⟨rfl, _, by unfold nx0; rw [if_neg (by omega)]; exact hi⟩)
theorem nJ33_listIterator : notMH yJ33_listIterator 1 := by decide +kernel
set_option maxHeartbeats 800000 in
theorem mJ33_listIterator (l : Launch) (D : DD) (b n : Nat) (nd it : Nat → Nat) (hn : n < 200) : Ct l yJ33_listIterator cJ33_listIterator 2 (some (.object "java/util/ListIterator")) { frames := 3, cells := 1, slots := 5, locals := 57 } D [.ref b, .int (nI 0)] (fun H => KH D H ∧ LL D H b n nd it) (fun _ => False) (fun r H H1 => ∃ i, r = some (.ref i) ∧ H.size ≤ i ∧ IT D H1 i b n nd 0) := by
  refine Ct.of (by decide +kernel) (Nat.le_of_ble_eq_true rfl) (fun K Qf hkl X hM hQ => ?_)
  subst hkl
  obtain ⟨hK, hL⟩ := hM
  have hz : (kS K).heap.size ≤ (kS K).heap.size := Nat.le_refl _
  refine vv_sub (lv' := [(0, .ref b), (1, .int (nI 0))]) [0, 1] rfl ?_
  have hb := hL.1
  refine vv_aload_n X dJ33_listIterator_0 rfl 0 rfl ?_
  refine vv_iload_n X dJ33_listIterator_1 rfl 1 rfl ?_
  refine vv_callVv X (mJ33_checkPositionIndex (kL K) D b n 0 _ _ (by omega) (by omega)) q2141 q2143 qs45 q182 q2144 nJ33_checkPositionIndex ⟨(Nat.le_of_ble_eq_true rfl), (Nat.le_of_ble_eq_true rfl)⟩ dJ33_listIterator_2 rfl (Nat.le_of_ble_eq_true rfl) (recv X hb CL_J33) hb ⟨(Nat.le_of_ble_eq_true rfl), (Nat.le_of_ble_eq_true rfl)⟩ ?_
  refine vv_newA (C := RJ37) (T := TJ37) (N := 5) (fs := [.null, .null, .int (nI 0), .int (nI 0), .null]) X in_J37 CL_J37 tyJ37 tyJ37_ok q2149 q2150 q187 (tyJ37_d) (Nat.le_of_ble_eq_true rfl) (Nat.le_of_ble_eq_true rfl) dJ33_listIterator_5 (fun a_1 H eq_2 hx ho => ?_)
  have ne_3 : b ≠ a_1 := Nat.ne_of_lt (eq_2.symm ▸ hb.lt)
  have ge_4 : (kS K).heap.size ≤ a_1 := by rw [eq_2]; exact hz
  have kn_5 : KN D a_1 := KN.new hK (Nat.le_of_eq eq_2.symm)
  replace hL := (show LL D H b n nd it from hL.kept (by first | exact hk _ hL.1.lt (fun z => z) | exact hx.2 _ hL.1.lt | exact hk _ hL.1.lt hnb9) (fun k hk9 hl9 => by first | exact hk _ hl9 (fun z => z) | exact hx.2 _ hl9 | exact hk _ hl9 (hnn9 k hk9)))
  replace hb := hb.kept (hx.2 _ hb.lt)
  replace hK := hK.ex hx
  replace hz : (kS K).heap.size ≤ H.size := by have := hx.1; omega
  have hO_6 : oB D H a_1 26 [.null, .null, .int (nI 0), .int (nI 0), .null] := ho
  clear ho hx
  refine vv_dup X dJ33_listIterator_8 rfl ?_
  refine vv_aload_n X dJ33_listIterator_9 rfl 0 rfl ?_
  refine vv_iload_n X dJ33_listIterator_10 rfl 1 rfl ?_
  have hnb9 : ¬ b = a_1 := X.oo hL.1 hO_6 CL_J33 CL_J37 (by decide)
  have hnn9 : ∀ k, k < n → ¬ nd k = a_1 := fun k hk => X.oo (hL.2.1 k hk) hO_6 CL_J23 CL_J37 (by decide)
  refine vv_callI X (mJ37_init (kL K) D a_1 b n nd it (by omega)) q2151 q2152 q187 q2153 rfl nJ37_init ⟨(Nat.le_of_ble_eq_true rfl), (Nat.le_of_ble_eq_true rfl)⟩ dJ33_listIterator_11 rfl (Nat.le_of_ble_eq_true rfl) ⟨hK, hO_6, hL⟩ (fun q z => by rcases z with rfl; exact (Or.inr ge_4)) ⟨(Nat.le_of_ble_eq_true rfl), (Nat.le_of_ble_eq_true rfl)⟩ (fun v_ H hq hz_ hk => ?_)
  obtain ⟨rfl, hI⟩ := hq
  clear hO_6
  clear hb
  replace hL := (show LL D H b n nd it from hL.kept (by first | exact hk _ hL.1.lt (fun z => z) | exact hx.2 _ hL.1.lt | exact hk _ hL.1.lt hnb9) (fun k hk9 hl9 => by first | exact hk _ hl9 (fun z => z) | exact hx.2 _ hl9 | exact hk _ hl9 (hnn9 k hk9)))
  replace hK := hK.to hk (fun q z => by rcases z with rfl; exact kn_5)
  replace hz := Nat.le_trans hz hz_
  clear hk hz_
  exact vv_aret X (Or.inl ⟨_, rfl⟩) (Or.inr ⟨_, rfl⟩) hQ dJ33_listIterator_14 (Nat.le_of_ble_eq_true rfl) (Nat.le_of_ble_eq_true rfl) (⟨_, rfl, ge_4, hI⟩)
theorem nJ11_listIterator : notMH yJ11_listIterator 0 := by decide +kernel
set_option maxHeartbeats 800000 in
theorem mJ11_listIterator (l : Launch) (D : DD) (b n : Nat) (nd it : Nat → Nat) (hn : n < 200) : Ct l yJ11_listIterator cJ11_listIterator 1 (some (.object "java/util/ListIterator")) { frames := 4, cells := 1, slots := 5, locals := 78 } D [.ref b] (fun H => KH D H ∧ LL D H b n nd it) (fun _ => False) (fun r H H1 => ∃ i, r = some (.ref i) ∧ H.size ≤ i ∧ IT D H1 i b n nd 0) := by
  refine Ct.of (by decide +kernel) (Nat.le_of_ble_eq_true rfl) (fun K Qf hkl X hM hQ => ?_)
  subst hkl
  obtain ⟨hK, hL⟩ := hM
  have hz : (kS K).heap.size ≤ (kS K).heap.size := Nat.le_refl _
  refine vv_sub (lv' := [(0, .ref b)]) [0] rfl ?_
  have hb := hL.1
  refine vv_aload_n X dJ11_listIterator_0 rfl 0 rfl ?_
  refine vv_iconst (v := nI 0) X dJ11_listIterator_1 (by decide) ?_
  refine vv_callO X (mJ33_listIterator (kL K) D b n nd it (by omega)) q2093 q2095 q2172 q2139 q2138 q182 q2140 (show "java/util/AbstractList" ≠ "java/lang/invoke/MethodHandle" ∧ "java/util/AbstractList" ≠ "java/lang/invoke/VarHandle" ∧ (parseMethodDescriptor "(I)Ljava/util/ListIterator;").map (fun d => d.parameters.length) = some 1 by decide +kernel) ⟨(Nat.le_of_ble_eq_true rfl), (Nat.le_of_ble_eq_true rfl)⟩ dJ11_listIterator_2 rfl (Nat.le_of_ble_eq_true rfl) hb CL_J33 ⟨hK, hL⟩ (fun _ z => z.elim) ⟨(Nat.le_of_ble_eq_true rfl), (Nat.le_of_ble_eq_true rfl)⟩ (fun v_ H hq hz_ hk => ?_)
  obtain ⟨i, rfl, hiz, hI⟩ := hq
  replace hL := (show LL D H b n nd it from hL.kept (by first | exact hk _ hL.1.lt (fun z => z) | exact hx.2 _ hL.1.lt | exact hk _ hL.1.lt hnb9) (fun k hk9 hl9 => by first | exact hk _ hl9 (fun z => z) | exact hx.2 _ hl9 | exact hk _ hl9 (hnn9 k hk9)))
  replace hb := hb.kept (hk _ hb.lt (fun z => z))
  have hiz2 := Nat.le_trans hz hiz
  replace hK := hK.to hk (fun _ z => z.elim)
  replace hz := Nat.le_trans hz hz_
  clear hk hz_
  exact vv_aret X (Or.inl ⟨_, rfl⟩) (Or.inr ⟨_, rfl⟩) hQ dJ11_listIterator_5 (Nat.le_of_ble_eq_true rfl) (Nat.le_of_ble_eq_true rfl) (⟨_, rfl, hiz2, hI⟩)
theorem nJ32_iterator : notMH yJ32_iterator 0 := by decide +kernel
set_option maxHeartbeats 800000 in
theorem mJ32_iterator (l : Launch) (D : DD) (b n : Nat) (nd it : Nat → Nat) (hn : n < 200) : Ct l yJ32_iterator cJ32_iterator 1 (some (.object "java/util/Iterator")) { frames := 5, cells := 1, slots := 5, locals := 98 } D [.ref b] (fun H => KH D H ∧ LL D H b n nd it) (fun _ => False) (fun r H H1 => ∃ i, r = some (.ref i) ∧ H.size ≤ i ∧ IT D H1 i b n nd 0) := by
  refine Ct.of (by decide +kernel) (Nat.le_of_ble_eq_true rfl) (fun K Qf hkl X hM hQ => ?_)
  subst hkl
  obtain ⟨hK, hL⟩ := hM
  have hz : (kS K).heap.size ≤ (kS K).heap.size := Nat.le_refl _
  refine vv_sub (lv' := [(0, .ref b)]) [0] rfl ?_
  have hb := hL.1
  refine vv_aload_n X dJ32_iterator_0 rfl 0 rfl ?_
  refine vv_callU X (mJ11_listIterator (kL K) D b n nd it (by omega)) q2087 q2088 q2091 q2090 q153 q2092 rfl (show "java/util/AbstractList" ≠ "java/lang/invoke/MethodHandle" ∧ "java/util/AbstractList" ≠ "java/lang/invoke/VarHandle" ∧ (parseMethodDescriptor "()Ljava/util/ListIterator;").map (fun d => d.parameters.length) = some 0 by decide +kernel) ⟨(Nat.le_of_ble_eq_true rfl), (Nat.le_of_ble_eq_true rfl)⟩ dJ32_iterator_1 rfl (Nat.le_of_ble_eq_true rfl) hb CL_J33 ⟨hK, hL⟩ (fun _ z => z.elim) ⟨(Nat.le_of_ble_eq_true rfl), (Nat.le_of_ble_eq_true rfl)⟩ (fun v_ H hq hz_ hk => ?_)
  obtain ⟨i, rfl, hiz, hI⟩ := hq
  replace hL := (show LL D H b n nd it from hL.kept (by first | exact hk _ hL.1.lt (fun z => z) | exact hx.2 _ hL.1.lt | exact hk _ hL.1.lt hnb9) (fun k hk9 hl9 => by first | exact hk _ hl9 (fun z => z) | exact hx.2 _ hl9 | exact hk _ hl9 (hnn9 k hk9)))
  replace hb := hb.kept (hk _ hb.lt (fun z => z))
  have hiz2 := Nat.le_trans hz hiz
  replace hK := hK.to hk (fun _ z => z.elim)
  replace hz := Nat.le_trans hz hz_
  clear hk hz_
  exact vv_aret X (Or.inl ⟨_, rfl⟩) (Or.inr ⟨_, rfl⟩) hQ dJ32_iterator_4 (Nat.le_of_ble_eq_true rfl) (Nat.le_of_ble_eq_true rfl) (⟨_, rfl, hiz2, hI⟩)
