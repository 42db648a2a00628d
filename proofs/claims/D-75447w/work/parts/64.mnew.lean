/-! multianewarray with a name for the address: printed by gen/s11.py -/
set_option maxRecDepth 100000
section MNW
variable {K : C_} {y : MethodName} {cc : ByteArray} {nL : Nat} {ret : Option FieldType} {rm : Room} {D : DD} {A : Nat → Prop} {H : Heap} {cells slots : Nat} {Q : State → Prop} {pc : Nat} {lv : List (Nat × Value)} {rest : List Value} {N k M Mc idx : Nat} {i j : Int32}
theorem vv_mnewiA (X : Fx K y cc nL ret rm D) (hcl : Cond.classLink y.cls idx "[[I" ∈ lw_all) (hN : N ≤ 2 ^ 10) (hk : k ≤ 2 ^ 10) (hMc : N ≤ Mc) (hM : N + N * k ≤ M) (hc : cells + 1 + Mc ≤ rm.cells) (hs : slots + M ≤ rm.slots) (e : i = nI N) (e2 : j = nI k) (d : decode cc pc = .ok (.multianewarray idx 2, 4))
    (kk : ∀ (a : Nat) (H1 : Heap), a = H.size → H1.size = H.size + 1 + N → (∀ q : Nat, q < H.size → H1[q]? = H[q]?) → qA D H1 a 5 N (fun j => some (a + 1 + j)) → (∀ j, j < N → iA D H1 (a + 1 + j) k (fun _ => 0)) → V K nL A H1 (cells + 1 + Mc) (slots + M) Q (pc + 4) lv (.ref a :: rest)) : V K nL A H cells slots Q pc lv (.int j :: .int i :: rest) :=
  vv_mnew (t := .int) (ty := 5) (tz := 0) (x := (k, .inl (fun _ => 0))) X hcl X.ge.1 q284 rfl rfl (by decide +kernel) (fun _ => rfl) hN hk (by decide) rfl rfl hMc hM hc hs e e2 d (fun H1 h => kk _ H1 rfl h.1 h.2.1 h.2.2.1 h.2.2.2)
theorem vv_mnewlA (X : Fx K y cc nL ret rm D) (hcl : Cond.classLink y.cls idx "[[J" ∈ lw_all) (hN : N ≤ 2 ^ 10) (hk : k ≤ 2 ^ 10) (hMc : N ≤ Mc) (hM : N + N * k ≤ M) (hc : cells + 1 + Mc ≤ rm.cells) (hs : slots + M ≤ rm.slots) (e : i = nI N) (e2 : j = nI k) (d : decode cc pc = .ok (.multianewarray idx 2, 4))
    (kk : ∀ (a : Nat) (H1 : Heap), a = H.size → H1.size = H.size + 1 + N → (∀ q : Nat, q < H.size → H1[q]? = H[q]?) → qA D H1 a 6 N (fun j => some (a + 1 + j)) → (∀ j, j < N → lA D H1 (a + 1 + j) k (fun _ => 0)) → V K nL A H1 (cells + 1 + Mc) (slots + M) Q (pc + 4) lv (.ref a :: rest)) : V K nL A H cells slots Q pc lv (.int j :: .int i :: rest) :=
  vv_mnew (t := .long) (ty := 6) (tz := 1) (x := (k, .inr (.inl (fun _ => 0)))) X hcl X.ge.2.1 q769 rfl rfl (by decide +kernel) (fun _ => rfl) hN hk (by decide) rfl rfl hMc hM hc hs e e2 d (fun H1 h => kk _ H1 rfl h.1 h.2.1 h.2.2.1 h.2.2.2)
end MNW
