/-! invokedynamic at the lambda sites: printed by gen/mklam.py -/
set_option maxRecDepth 100000
theorem se_a {α : Type} {x : Array Nat} {f : Nat → Nat → Nat → Option α} {r : α} (h : Lambda.shapeOf?.match_15 (fun _ => Option α) x f (fun _ => none) = some r) : ∃ a b c, f a b c = some r := by
  obtain ⟨L⟩ := x
  match L, h with
  | [], h => cases h
  | [_], h => cases h
  | [_, _], h => cases h
  | [a, b, c], h => exact ⟨a, b, c, h⟩
  | _ :: _ :: _ :: _ :: _, h => cases h
theorem shape_entry {cf : ClassFile} {ix : Nat} {sh : Lambda.Shape} (h : Lambda.shapeOf? cf ix = some sh) : ∃ (bsm nt : Nat) (name desc : String) (sig : MethodDescriptor), cf.constantPool[ix]? = some (.invokeDynamic bsm nt) ∧ cf.constantPool.nameAndType? nt = some (name, desc) ∧ parseLongMethodDescriptor desc = some sig ∧ sig.parameters = sh.captured := by
  unfold Lambda.shapeOf? at h
  split at h
  · rename_i b nt hb
    obtain ⟨entries, -, h⟩ := Option.bind_eq_some_iff.mp h
    obtain ⟨bm, -, h⟩ := Option.bind_eq_some_iff.mp h
    split at h
    · obtain ⟨_, -, h⟩ := Option.bind_eq_some_iff.mp h
      obtain ⟨a0, a1, a2, h⟩ := se_a h
      split at h
      · split at h
        · split at h
          · obtain ⟨⟨name, desc⟩, hnt, h⟩ := Option.bind_eq_some_iff.mp h
            obtain ⟨site, hsite, h⟩ := Option.bind_eq_some_iff.mp h
            split at h
            · obtain ⟨⟨a1, a2, a3, a4⟩, -, h⟩ := Option.bind_eq_some_iff.mp h
              obtain ⟨_, -, h⟩ := Option.bind_eq_some_iff.mp h
              obtain ⟨_, -, h⟩ := Option.bind_eq_some_iff.mp h
              obtain ⟨_, -, h⟩ := Option.bind_eq_some_iff.mp h
              obtain ⟨_, -, h⟩ := Option.bind_eq_some_iff.mp h
              obtain ⟨_, -, h⟩ := Option.bind_eq_some_iff.mp h
              cases h
              exact ⟨b, nt, name, desc, site, hb, hnt, parseLong_of_parse hsite, rfl⟩
            · cases h
          · cases h
        · cases h
      · cases h
    · cases h
  · cases h
set_option maxHeartbeats 1000000 in
theorem vv_indy0 {K : C_} {y : MethodName} {cc : ByteArray} {nL : Nat} {ret : Option FieldType} {rm : Room} {D : DD} {A : Nat → Prop} {H : Heap} {cells slots : Nat} {Q : State → Prop} {lv : List (Nat × Value)} {st stk : List Value} {v0 : Int32} {v1 : Int32} {v2 : Int32} (X : Fx K y cc nL ret rm D) (hy : y = ({ cls := "AcousticCamera$Waves", name := "square", desc := "(III)LAcousticCamera$Wave;" } : MethodName)) (d : decode cc 3 = .ok (.invokedynamic 7, 5)) (hstk : stk = .int v2 :: .int v1 :: .int v0 :: st) (hw : (stk.map fun v => v.category).sum + 3072 ≤ rm.locals) (hc : cells + 1 ≤ rm.cells) (hs : slots + 3 ≤ rm.slots) (kk : ∀ H1 : Heap, Ex H H1 → LO D H1 H.size 0 [.int v0, .int v1, .int v2] → V K nL A H1 (cells + 1) (slots + 3) Q 8 lv (.ref H.size :: st)) : V K nL A H cells slots Q 3 lv stk := by
  subst hstk
  intro L ls hS h0 T hT XX
  have hLS := X.ge.2.2.2.1 0 _ rfl
  obtain ⟨kc, tk, methk, ck, toy, iface, t, found, file, f0, f1, f2, hkc, hkind, hty, hpl, -⟩ := lam_site0 hLS X.ge.2.2.1
  obtain ⟨m, k, cf, i0, p0, lk, hm, hk, hcf, hsh, hfind, hmade, hcall, hl⟩ := hLS
  have hn := X.named
  rw [hy] at hn
  cases hm.symm.trans hn
  obtain ⟨rfl, -⟩ : lk = .makes (D.2.1 100) ∧ True := by
    rcases hl with ⟨-, h⟩ | ⟨h, -⟩
    · exact absurd h (by decide +kernel)
    · exact ⟨h, trivial⟩
  obtain ⟨bsm, nt, name, desc, sig, hcp, hnt, hsig, hpar⟩ := shape_entry hsh
  have hsl : ((kc.instanceTypes.toList.zip ([.int v0, .int v1, .int v2] : List Value)).map fun (t, v) => narrow t v) = [.int v0, .int v1, .int v2] := by rw [hty]; rfl
  obtain ⟨X₁, st1⟩ := XX.lambdaMakes X.exec (g := F0 (kM K) 3 ls (.int v2 :: .int v1 :: .int v0 :: st)) rfl (by rw [X.maxL]; exact h0.1) (by rw [X.code]; exact d) (vals := [.int v0, .int v1, .int v2]) (rest := st) hk hfind hcf hcp hnt hsig (by rw [hpar]; rfl) rfl hkc (by rw [XX.admits.platform, X.room]; show 2 * 0 + ((.int v2 :: .int v1 :: .int v0 :: st).map fun v => v.category).sum + 3072 ≤ _; omega) (by rw [X.room]; exact hc) (by rw [hsl, X.room]; exact hs)
    (fun i v hv => by
      rw [hsl] at hv
      have hk9 : (kS K).vm.classes[D.2.1 100]? = some kc := hkc
      match i, hv with
      | 0, hv => simp at hv; subst hv; simp [State.fitsSlot, State.slotType?, hk9, hkind, hty, fits]
      | 1, hv => simp at hv; subst hv; simp [State.fitsSlot, State.slotType?, hk9, hkind, hty, fits]
      | 2, hv => simp at hv; subst hv; simp [State.fitsSlot, State.slotType?, hk9, hkind, hty, fits]
      | i + 3, hv => simp at hv)
  rw [hsl] at X₁ st1
  have hex : Ex H (H.push ({ cls := D.2.1 100, slots := ([.int v0, .int v1, .int v2] : List Value).toArray, vm := .none } : Cell)) := ⟨Array.size_push _, fun q hq => by rw [Array.getElem?_push, if_neg (Nat.ne_of_lt hq)]⟩
  obtain ⟨t2, a1, b1⟩ := kk _ hex (by unfold LO; rw [Array.getElem?_push_size]) L ls (hex.va hS) h0 (T.pushCell { cls := D.2.1 100, slots := ([.int v0, .int v1, .int v2] : List Value).toArray, vm := .none }) (by rw [← hT]; rfl) X₁
  refine ⟨t2, st1 _ ?_, b1⟩
  rw [hT]
  exact a1
set_option maxHeartbeats 1000000 in
theorem vv_indy1 {K : C_} {y : MethodName} {cc : ByteArray} {nL : Nat} {ret : Option FieldType} {rm : Room} {D : DD} {A : Nat → Prop} {H : Heap} {cells slots : Nat} {Q : State → Prop} {lv : List (Nat × Value)} {st stk : List Value} {v0 : Int32} {v1 : Int32} {v2 : Int32} (X : Fx K y cc nL ret rm D) (hy : y = ({ cls := "AcousticCamera$Waves", name := "triangle", desc := "(III)LAcousticCamera$Wave;" } : MethodName)) (d : decode cc 3 = .ok (.invokedynamic 11, 5)) (hstk : stk = .int v2 :: .int v1 :: .int v0 :: st) (hw : (stk.map fun v => v.category).sum + 3072 ≤ rm.locals) (hc : cells + 1 ≤ rm.cells) (hs : slots + 3 ≤ rm.slots) (kk : ∀ H1 : Heap, Ex H H1 → LO D H1 H.size 1 [.int v0, .int v1, .int v2] → V K nL A H1 (cells + 1) (slots + 3) Q 8 lv (.ref H.size :: st)) : V K nL A H cells slots Q 3 lv stk := by
  subst hstk
  intro L ls hS h0 T hT XX
  have hLS := X.ge.2.2.2.1 1 _ rfl
  obtain ⟨kc, tk, methk, ck, toy, iface, t, found, file, f0, f1, f2, hkc, hkind, hty, hpl, -⟩ := lam_site1 hLS X.ge.2.2.1
  obtain ⟨m, k, cf, i0, p0, lk, hm, hk, hcf, hsh, hfind, hmade, hcall, hl⟩ := hLS
  have hn := X.named
  rw [hy] at hn
  cases hm.symm.trans hn
  obtain ⟨rfl, -⟩ : lk = .makes (D.2.1 101) ∧ True := by
    rcases hl with ⟨-, h⟩ | ⟨h, -⟩
    · exact absurd h (by decide +kernel)
    · exact ⟨h, trivial⟩
  obtain ⟨bsm, nt, name, desc, sig, hcp, hnt, hsig, hpar⟩ := shape_entry hsh
  have hsl : ((kc.instanceTypes.toList.zip ([.int v0, .int v1, .int v2] : List Value)).map fun (t, v) => narrow t v) = [.int v0, .int v1, .int v2] := by rw [hty]; rfl
  obtain ⟨X₁, st1⟩ := XX.lambdaMakes X.exec (g := F0 (kM K) 3 ls (.int v2 :: .int v1 :: .int v0 :: st)) rfl (by rw [X.maxL]; exact h0.1) (by rw [X.code]; exact d) (vals := [.int v0, .int v1, .int v2]) (rest := st) hk hfind hcf hcp hnt hsig (by rw [hpar]; rfl) rfl hkc (by rw [XX.admits.platform, X.room]; show 2 * 0 + ((.int v2 :: .int v1 :: .int v0 :: st).map fun v => v.category).sum + 3072 ≤ _; omega) (by rw [X.room]; exact hc) (by rw [hsl, X.room]; exact hs)
    (fun i v hv => by
      rw [hsl] at hv
      have hk9 : (kS K).vm.classes[D.2.1 101]? = some kc := hkc
      match i, hv with
      | 0, hv => simp at hv; subst hv; simp [State.fitsSlot, State.slotType?, hk9, hkind, hty, fits]
      | 1, hv => simp at hv; subst hv; simp [State.fitsSlot, State.slotType?, hk9, hkind, hty, fits]
      | 2, hv => simp at hv; subst hv; simp [State.fitsSlot, State.slotType?, hk9, hkind, hty, fits]
      | i + 3, hv => simp at hv)
  rw [hsl] at X₁ st1
  have hex : Ex H (H.push ({ cls := D.2.1 101, slots := ([.int v0, .int v1, .int v2] : List Value).toArray, vm := .none } : Cell)) := ⟨Array.size_push _, fun q hq => by rw [Array.getElem?_push, if_neg (Nat.ne_of_lt hq)]⟩
  obtain ⟨t2, a1, b1⟩ := kk _ hex (by unfold LO; rw [Array.getElem?_push_size]) L ls (hex.va hS) h0 (T.pushCell { cls := D.2.1 101, slots := ([.int v0, .int v1, .int v2] : List Value).toArray, vm := .none }) (by rw [← hT]; rfl) X₁
  refine ⟨t2, st1 _ ?_, b1⟩
  rw [hT]
  exact a1
set_option maxHeartbeats 1000000 in
theorem vv_indy2 {K : C_} {y : MethodName} {cc : ByteArray} {nL : Nat} {ret : Option FieldType} {rm : Room} {D : DD} {A : Nat → Prop} {H : Heap} {cells slots : Nat} {Q : State → Prop} {lv : List (Nat × Value)} {st stk : List Value} {v0 : Int32} {v1 : Int32} {v2 : Int32} (X : Fx K y cc nL ret rm D) (hy : y = ({ cls := "AcousticCamera$Waves", name := "pulse", desc := "(III)LAcousticCamera$Wave;" } : MethodName)) (d : decode cc 3 = .ok (.invokedynamic 12, 5)) (hstk : stk = .int v2 :: .int v1 :: .int v0 :: st) (hw : (stk.map fun v => v.category).sum + 3072 ≤ rm.locals) (hc : cells + 1 ≤ rm.cells) (hs : slots + 3 ≤ rm.slots) (kk : ∀ H1 : Heap, Ex H H1 → LO D H1 H.size 2 [.int v0, .int v1, .int v2] → V K nL A H1 (cells + 1) (slots + 3) Q 8 lv (.ref H.size :: st)) : V K nL A H cells slots Q 3 lv stk := by
  subst hstk
  intro L ls hS h0 T hT XX
  have hLS := X.ge.2.2.2.1 2 _ rfl
  obtain ⟨kc, tk, methk, ck, toy, iface, t, found, file, f0, f1, f2, hkc, hkind, hty, hpl, -⟩ := lam_site2 hLS X.ge.2.2.1
  obtain ⟨m, k, cf, i0, p0, lk, hm, hk, hcf, hsh, hfind, hmade, hcall, hl⟩ := hLS
  have hn := X.named
  rw [hy] at hn
  cases hm.symm.trans hn
  obtain ⟨rfl, -⟩ : lk = .makes (D.2.1 102) ∧ True := by
    rcases hl with ⟨-, h⟩ | ⟨h, -⟩
    · exact absurd h (by decide +kernel)
    · exact ⟨h, trivial⟩
  obtain ⟨bsm, nt, name, desc, sig, hcp, hnt, hsig, hpar⟩ := shape_entry hsh
  have hsl : ((kc.instanceTypes.toList.zip ([.int v0, .int v1, .int v2] : List Value)).map fun (t, v) => narrow t v) = [.int v0, .int v1, .int v2] := by rw [hty]; rfl
  obtain ⟨X₁, st1⟩ := XX.lambdaMakes X.exec (g := F0 (kM K) 3 ls (.int v2 :: .int v1 :: .int v0 :: st)) rfl (by rw [X.maxL]; exact h0.1) (by rw [X.code]; exact d) (vals := [.int v0, .int v1, .int v2]) (rest := st) hk hfind hcf hcp hnt hsig (by rw [hpar]; rfl) rfl hkc (by rw [XX.admits.platform, X.room]; show 2 * 0 + ((.int v2 :: .int v1 :: .int v0 :: st).map fun v => v.category).sum + 3072 ≤ _; omega) (by rw [X.room]; exact hc) (by rw [hsl, X.room]; exact hs)
    (fun i v hv => by
      rw [hsl] at hv
      have hk9 : (kS K).vm.classes[D.2.1 102]? = some kc := hkc
      match i, hv with
      | 0, hv => simp at hv; subst hv; simp [State.fitsSlot, State.slotType?, hk9, hkind, hty, fits]
      | 1, hv => simp at hv; subst hv; simp [State.fitsSlot, State.slotType?, hk9, hkind, hty, fits]
      | 2, hv => simp at hv; subst hv; simp [State.fitsSlot, State.slotType?, hk9, hkind, hty, fits]
      | i + 3, hv => simp at hv)
  rw [hsl] at X₁ st1
  have hex : Ex H (H.push ({ cls := D.2.1 102, slots := ([.int v0, .int v1, .int v2] : List Value).toArray, vm := .none } : Cell)) := ⟨Array.size_push _, fun q hq => by rw [Array.getElem?_push, if_neg (Nat.ne_of_lt hq)]⟩
  obtain ⟨t2, a1, b1⟩ := kk _ hex (by unfold LO; rw [Array.getElem?_push_size]) L ls (hex.va hS) h0 (T.pushCell { cls := D.2.1 102, slots := ([.int v0, .int v1, .int v2] : List Value).toArray, vm := .none }) (by rw [← hT]; rfl) X₁
  refine ⟨t2, st1 _ ?_, b1⟩
  rw [hT]
  exact a1
set_option maxHeartbeats 1000000 in
theorem vv_indy3 {K : C_} {y : MethodName} {cc : ByteArray} {nL : Nat} {ret : Option FieldType} {rm : Room} {D : DD} {A : Nat → Prop} {H : Heap} {cells slots : Nat} {Q : State → Prop} {lv : List (Nat × Value)} {st stk : List Value} {v0 : Int32} {v1 : Int32} (X : Fx K y cc nL ret rm D) (hy : y = ({ cls := "AcousticCamera$Waves", name := "noise", desc := "(II)LAcousticCamera$Wave;" } : MethodName)) (d : decode cc 2 = .ok (.invokedynamic 13, 5)) (hstk : stk = .int v1 :: .int v0 :: st) (hw : (stk.map fun v => v.category).sum + 3072 ≤ rm.locals) (hc : cells + 1 ≤ rm.cells) (hs : slots + 2 ≤ rm.slots) (kk : ∀ H1 : Heap, Ex H H1 → LO D H1 H.size 3 [.int v0, .int v1] → V K nL A H1 (cells + 1) (slots + 2) Q 7 lv (.ref H.size :: st)) : V K nL A H cells slots Q 2 lv stk := by
  subst hstk
  intro L ls hS h0 T hT XX
  have hLS := X.ge.2.2.2.1 3 _ rfl
  obtain ⟨kc, tk, methk, ck, toy, iface, t, found, file, f0, f1, hkc, hkind, hty, hpl, -⟩ := lam_site3 hLS X.ge.2.2.1
  obtain ⟨m, k, cf, i0, p0, lk, hm, hk, hcf, hsh, hfind, hmade, hcall, hl⟩ := hLS
  have hn := X.named
  rw [hy] at hn
  cases hm.symm.trans hn
  obtain ⟨rfl, -⟩ : lk = .makes (D.2.1 103) ∧ True := by
    rcases hl with ⟨-, h⟩ | ⟨h, -⟩
    · exact absurd h (by decide +kernel)
    · exact ⟨h, trivial⟩
  obtain ⟨bsm, nt, name, desc, sig, hcp, hnt, hsig, hpar⟩ := shape_entry hsh
  have hsl : ((kc.instanceTypes.toList.zip ([.int v0, .int v1] : List Value)).map fun (t, v) => narrow t v) = [.int v0, .int v1] := by rw [hty]; rfl
  obtain ⟨X₁, st1⟩ := XX.lambdaMakes X.exec (g := F0 (kM K) 2 ls (.int v1 :: .int v0 :: st)) rfl (by rw [X.maxL]; exact h0.1) (by rw [X.code]; exact d) (vals := [.int v0, .int v1]) (rest := st) hk hfind hcf hcp hnt hsig (by rw [hpar]; rfl) rfl hkc (by rw [XX.admits.platform, X.room]; show 2 * 0 + ((.int v1 :: .int v0 :: st).map fun v => v.category).sum + 3072 ≤ _; omega) (by rw [X.room]; exact hc) (by rw [hsl, X.room]; exact hs)
    (fun i v hv => by
      rw [hsl] at hv
      have hk9 : (kS K).vm.classes[D.2.1 103]? = some kc := hkc
      match i, hv with
      | 0, hv => simp at hv; subst hv; simp [State.fitsSlot, State.slotType?, hk9, hkind, hty, fits]
      | 1, hv => simp at hv; subst hv; simp [State.fitsSlot, State.slotType?, hk9, hkind, hty, fits]
      | i + 2, hv => simp at hv)
  rw [hsl] at X₁ st1
  have hex : Ex H (H.push ({ cls := D.2.1 103, slots := ([.int v0, .int v1] : List Value).toArray, vm := .none } : Cell)) := ⟨Array.size_push _, fun q hq => by rw [Array.getElem?_push, if_neg (Nat.ne_of_lt hq)]⟩
  obtain ⟨t2, a1, b1⟩ := kk _ hex (by unfold LO; rw [Array.getElem?_push_size]) L ls (hex.va hS) h0 (T.pushCell { cls := D.2.1 103, slots := ([.int v0, .int v1] : List Value).toArray, vm := .none }) (by rw [← hT]; rfl) X₁
  refine ⟨t2, st1 _ ?_, b1⟩
  rw [hT]
  exact a1
set_option maxHeartbeats 1000000 in
theorem vv_indy4 {K : C_} {y : MethodName} {cc : ByteArray} {nL : Nat} {ret : Option FieldType} {rm : Room} {D : DD} {A : Nat → Prop} {H : Heap} {cells slots : Nat} {Q : State → Prop} {lv : List (Nat × Value)} {st stk : List Value} {v0 : Nat} (X : Fx K y cc nL ret rm D) (hy : y = ({ cls := "AcousticCamera$State", name := "best", desc := "()I" } : MethodName)) (d : decode cc 8 = .ok (.invokedynamic 209, 5)) (hstk : stk = .ref v0 :: st) (hw : (stk.map fun v => v.category).sum + 3072 ≤ rm.locals) (hc : cells + 1 ≤ rm.cells) (hs : slots + 1 ≤ rm.slots) (kk : ∀ H1 : Heap, Ex H H1 → LO D H1 H.size 4 [.ref v0] → V K nL A H1 (cells + 1) (slots + 1) Q 13 lv (.ref H.size :: st)) : V K nL A H cells slots Q 8 lv stk := by
  subst hstk
  intro L ls hS h0 T hT XX
  have hLS := X.ge.2.2.2.1 4 _ rfl
  obtain ⟨kc, tk, methk, ck, toy, iface, t, found, file, f0, hkc, hkind, hty, hpl, -⟩ := lam_site4 hLS X.ge.2.2.1
  obtain ⟨m, k, cf, i0, p0, lk, hm, hk, hcf, hsh, hfind, hmade, hcall, hl⟩ := hLS
  have hn := X.named
  rw [hy] at hn
  cases hm.symm.trans hn
  obtain ⟨rfl, -⟩ : lk = .makes (D.2.1 104) ∧ True := by
    rcases hl with ⟨-, h⟩ | ⟨h, -⟩
    · exact absurd h (by decide +kernel)
    · exact ⟨h, trivial⟩
  obtain ⟨bsm, nt, name, desc, sig, hcp, hnt, hsig, hpar⟩ := shape_entry hsh
  have hsl : ((kc.instanceTypes.toList.zip ([.ref v0] : List Value)).map fun (t, v) => narrow t v) = [.ref v0] := by rw [hty]; rfl
  obtain ⟨X₁, st1⟩ := XX.lambdaMakes X.exec (g := F0 (kM K) 8 ls (.ref v0 :: st)) rfl (by rw [X.maxL]; exact h0.1) (by rw [X.code]; exact d) (vals := [.ref v0]) (rest := st) hk hfind hcf hcp hnt hsig (by rw [hpar]; rfl) rfl hkc (by rw [XX.admits.platform, X.room]; show 2 * 0 + ((.ref v0 :: st).map fun v => v.category).sum + 3072 ≤ _; omega) (by rw [X.room]; exact hc) (by rw [hsl, X.room]; exact hs)
    (fun i v hv => by
      rw [hsl] at hv
      have hk9 : (kS K).vm.classes[D.2.1 104]? = some kc := hkc
      match i, hv with
      | 0, hv => simp at hv; subst hv; simp [State.fitsSlot, State.slotType?, hk9, hkind, hty, fits]
      | i + 1, hv => simp at hv)
  rw [hsl] at X₁ st1
  have hex : Ex H (H.push ({ cls := D.2.1 104, slots := ([.ref v0] : List Value).toArray, vm := .none } : Cell)) := ⟨Array.size_push _, fun q hq => by rw [Array.getElem?_push, if_neg (Nat.ne_of_lt hq)]⟩
  obtain ⟨t2, a1, b1⟩ := kk _ hex (by unfold LO; rw [Array.getElem?_push_size]) L ls (hex.va hS) h0 (T.pushCell { cls := D.2.1 104, slots := ([.ref v0] : List Value).toArray, vm := .none }) (by rw [← hT]; rfl) X₁
  refine ⟨t2, st1 _ ?_, b1⟩
  rw [hT]
  exact a1
set_option maxHeartbeats 1000000 in
theorem vv_indy5 {K : C_} {y : MethodName} {cc : ByteArray} {nL : Nat} {ret : Option FieldType} {rm : Room} {D : DD} {A : Nat → Prop} {H : Heap} {cells slots : Nat} {Q : State → Prop} {lv : List (Nat × Value)} {st stk : List Value} {v0 : Nat} (X : Fx K y cc nL ret rm D) (hy : y = ({ cls := "AcousticCamera", name := "peaks", desc := "()I" } : MethodName)) (d : decode cc 13 = .ok (.invokedynamic 284, 5)) (hstk : stk = .ref v0 :: st) (hw : (stk.map fun v => v.category).sum + 3072 ≤ rm.locals) (hc : cells + 1 ≤ rm.cells) (hs : slots + 1 ≤ rm.slots) (kk : ∀ H1 : Heap, Ex H H1 → LO D H1 H.size 5 [.ref v0] → V K nL A H1 (cells + 1) (slots + 1) Q 18 lv (.ref H.size :: st)) : V K nL A H cells slots Q 13 lv stk := by
  subst hstk
  intro L ls hS h0 T hT XX
  have hLS := X.ge.2.2.2.1 5 _ rfl
  obtain ⟨kc, tk, methk, ck, toy, iface, t, found, file, f0, hkc, hkind, hty, hpl, -⟩ := lam_site5 hLS X.ge.2.2.1
  obtain ⟨m, k, cf, i0, p0, lk, hm, hk, hcf, hsh, hfind, hmade, hcall, hl⟩ := hLS
  have hn := X.named
  rw [hy] at hn
  cases hm.symm.trans hn
  obtain ⟨rfl, -⟩ : lk = .makes (D.2.1 105) ∧ True := by
    rcases hl with ⟨-, h⟩ | ⟨h, -⟩
    · exact absurd h (by decide +kernel)
    · exact ⟨h, trivial⟩
  obtain ⟨bsm, nt, name, desc, sig, hcp, hnt, hsig, hpar⟩ := shape_entry hsh
  have hsl : ((kc.instanceTypes.toList.zip ([.ref v0] : List Value)).map fun (t, v) => narrow t v) = [.ref v0] := by rw [hty]; rfl
  obtain ⟨X₁, st1⟩ := XX.lambdaMakes X.exec (g := F0 (kM K) 13 ls (.ref v0 :: st)) rfl (by rw [X.maxL]; exact h0.1) (by rw [X.code]; exact d) (vals := [.ref v0]) (rest := st) hk hfind hcf hcp hnt hsig (by rw [hpar]; rfl) rfl hkc (by rw [XX.admits.platform, X.room]; show 2 * 0 + ((.ref v0 :: st).map fun v => v.category).sum + 3072 ≤ _; omega) (by rw [X.room]; exact hc) (by rw [hsl, X.room]; exact hs)
    (fun i v hv => by
      rw [hsl] at hv
      have hk9 : (kS K).vm.classes[D.2.1 105]? = some kc := hkc
      match i, hv with
      | 0, hv => simp at hv; subst hv; simp [State.fitsSlot, State.slotType?, hk9, hkind, hty, fits]
      | i + 1, hv => simp at hv)
  rw [hsl] at X₁ st1
  have hex : Ex H (H.push ({ cls := D.2.1 105, slots := ([.ref v0] : List Value).toArray, vm := .none } : Cell)) := ⟨Array.size_push _, fun q hq => by rw [Array.getElem?_push, if_neg (Nat.ne_of_lt hq)]⟩
  obtain ⟨t2, a1, b1⟩ := kk _ hex (by unfold LO; rw [Array.getElem?_push_size]) L ls (hex.va hS) h0 (T.pushCell { cls := D.2.1 105, slots := ([.ref v0] : List Value).toArray, vm := .none }) (by rw [← hT]; rfl) X₁
  refine ⟨t2, st1 _ ?_, b1⟩
  rw [hT]
  exact a1
set_option maxHeartbeats 1000000 in
theorem vv_indy6 {K : C_} {y : MethodName} {cc : ByteArray} {nL : Nat} {ret : Option FieldType} {rm : Room} {D : DD} {A : Nat → Prop} {H : Heap} {cells slots : Nat} {Q : State → Prop} {lv : List (Nat × Value)} {st stk : List Value} {v0 : Nat} (X : Fx K y cc nL ret rm D) (hy : y = ({ cls := "AcousticCamera$State", name := "peaks", desc := "()Ljava/util/LinkedList;" } : MethodName)) (d : decode cc 8 = .ok (.invokedynamic 260, 5)) (hstk : stk = .ref v0 :: st) (hw : (stk.map fun v => v.category).sum + 3072 ≤ rm.locals) (hc : cells + 1 ≤ rm.cells) (hs : slots + 1 ≤ rm.slots) (kk : ∀ H1 : Heap, Ex H H1 → LO D H1 H.size 6 [.ref v0] → V K nL A H1 (cells + 1) (slots + 1) Q 13 lv (.ref H.size :: st)) : V K nL A H cells slots Q 8 lv stk := by
  subst hstk
  intro L ls hS h0 T hT XX
  have hLS := X.ge.2.2.2.1 6 _ rfl
  obtain ⟨kc, tk, methk, ck, toy, iface, t, found, file, f0, hkc, hkind, hty, hpl, -⟩ := lam_site6 hLS X.ge.2.2.1
  obtain ⟨m, k, cf, i0, p0, lk, hm, hk, hcf, hsh, hfind, hmade, hcall, hl⟩ := hLS
  have hn := X.named
  rw [hy] at hn
  cases hm.symm.trans hn
  obtain ⟨rfl, -⟩ : lk = .makes (D.2.1 106) ∧ True := by
    rcases hl with ⟨-, h⟩ | ⟨h, -⟩
    · exact absurd h (by decide +kernel)
    · exact ⟨h, trivial⟩
  obtain ⟨bsm, nt, name, desc, sig, hcp, hnt, hsig, hpar⟩ := shape_entry hsh
  have hsl : ((kc.instanceTypes.toList.zip ([.ref v0] : List Value)).map fun (t, v) => narrow t v) = [.ref v0] := by rw [hty]; rfl
  obtain ⟨X₁, st1⟩ := XX.lambdaMakes X.exec (g := F0 (kM K) 8 ls (.ref v0 :: st)) rfl (by rw [X.maxL]; exact h0.1) (by rw [X.code]; exact d) (vals := [.ref v0]) (rest := st) hk hfind hcf hcp hnt hsig (by rw [hpar]; rfl) rfl hkc (by rw [XX.admits.platform, X.room]; show 2 * 0 + ((.ref v0 :: st).map fun v => v.category).sum + 3072 ≤ _; omega) (by rw [X.room]; exact hc) (by rw [hsl, X.room]; exact hs)
    (fun i v hv => by
      rw [hsl] at hv
      have hk9 : (kS K).vm.classes[D.2.1 106]? = some kc := hkc
      match i, hv with
      | 0, hv => simp at hv; subst hv; simp [State.fitsSlot, State.slotType?, hk9, hkind, hty, fits]
      | i + 1, hv => simp at hv)
  rw [hsl] at X₁ st1
  have hex : Ex H (H.push ({ cls := D.2.1 106, slots := ([.ref v0] : List Value).toArray, vm := .none } : Cell)) := ⟨Array.size_push _, fun q hq => by rw [Array.getElem?_push, if_neg (Nat.ne_of_lt hq)]⟩
  obtain ⟨t2, a1, b1⟩ := kk _ hex (by unfold LO; rw [Array.getElem?_push_size]) L ls (hex.va hS) h0 (T.pushCell { cls := D.2.1 106, slots := ([.ref v0] : List Value).toArray, vm := .none }) (by rw [← hT]; rfl) X₁
  refine ⟨t2, st1 _ ?_, b1⟩
  rw [hT]
  exact a1
set_option maxHeartbeats 1000000 in
theorem vv_indy7 {K : C_} {y : MethodName} {cc : ByteArray} {nL : Nat} {ret : Option FieldType} {rm : Room} {D : DD} {A : Nat → Prop} {H : Heap} {cells slots : Nat} {Q : State → Prop} {lv : List (Nat × Value)} {st stk : List Value} {v0 : Nat} (X : Fx K y cc nL ret rm D) (hy : y = ({ cls := "AcousticCamera$State", name := "peaks", desc := "()Ljava/util/LinkedList;" } : MethodName)) (d : decode cc 14 = .ok (.invokedynamic 264, 5)) (hstk : stk = .ref v0 :: st) (hw : (stk.map fun v => v.category).sum + 3072 ≤ rm.locals) (hc : cells + 1 ≤ rm.cells) (hs : slots + 1 ≤ rm.slots) (kk : ∀ H1 : Heap, Ex H H1 → LO D H1 H.size 7 [.ref v0] → V K nL A H1 (cells + 1) (slots + 1) Q 19 lv (.ref H.size :: st)) : V K nL A H cells slots Q 14 lv stk := by
  subst hstk
  intro L ls hS h0 T hT XX
  have hLS := X.ge.2.2.2.1 7 _ rfl
  obtain ⟨kc, tk, methk, ck, toy, iface, t, found, file, f0, hkc, hkind, hty, hpl, -⟩ := lam_site7 hLS X.ge.2.2.1
  obtain ⟨m, k, cf, i0, p0, lk, hm, hk, hcf, hsh, hfind, hmade, hcall, hl⟩ := hLS
  have hn := X.named
  rw [hy] at hn
  cases hm.symm.trans hn
  obtain ⟨rfl, -⟩ : lk = .makes (D.2.1 107) ∧ True := by
    rcases hl with ⟨-, h⟩ | ⟨h, -⟩
    · exact absurd h (by decide +kernel)
    · exact ⟨h, trivial⟩
  obtain ⟨bsm, nt, name, desc, sig, hcp, hnt, hsig, hpar⟩ := shape_entry hsh
  have hsl : ((kc.instanceTypes.toList.zip ([.ref v0] : List Value)).map fun (t, v) => narrow t v) = [.ref v0] := by rw [hty]; rfl
  obtain ⟨X₁, st1⟩ := XX.lambdaMakes X.exec (g := F0 (kM K) 14 ls (.ref v0 :: st)) rfl (by rw [X.maxL]; exact h0.1) (by rw [X.code]; exact d) (vals := [.ref v0]) (rest := st) hk hfind hcf hcp hnt hsig (by rw [hpar]; rfl) rfl hkc (by rw [XX.admits.platform, X.room]; show 2 * 0 + ((.ref v0 :: st).map fun v => v.category).sum + 3072 ≤ _; omega) (by rw [X.room]; exact hc) (by rw [hsl, X.room]; exact hs)
    (fun i v hv => by
      rw [hsl] at hv
      have hk9 : (kS K).vm.classes[D.2.1 107]? = some kc := hkc
      match i, hv with
      | 0, hv => simp at hv; subst hv; simp [State.fitsSlot, State.slotType?, hk9, hkind, hty, fits]
      | i + 1, hv => simp at hv)
  rw [hsl] at X₁ st1
  have hex : Ex H (H.push ({ cls := D.2.1 107, slots := ([.ref v0] : List Value).toArray, vm := .none } : Cell)) := ⟨Array.size_push _, fun q hq => by rw [Array.getElem?_push, if_neg (Nat.ne_of_lt hq)]⟩
  obtain ⟨t2, a1, b1⟩ := kk _ hex (by unfold LO; rw [Array.getElem?_push_size]) L ls (hex.va hS) h0 (T.pushCell { cls := D.2.1 107, slots := ([.ref v0] : List Value).toArray, vm := .none }) (by rw [← hT]; rfl) X₁
  refine ⟨t2, st1 _ ?_, b1⟩
  rw [hT]
  exact a1
set_option maxHeartbeats 1000000 in
theorem vv_indy8 {K : C_} {y : MethodName} {cc : ByteArray} {nL : Nat} {ret : Option FieldType} {rm : Room} {D : DD} {A : Nat → Prop} {H : Heap} {cells slots : Nat} {Q : State → Prop} {lv : List (Nat × Value)} {st stk : List Value} {v0 : Nat} {v1 : Int32} {v2 : Nat} (X : Fx K y cc nL ret rm D) (hy : y = ({ cls := "AcousticCamera", name := "zoneBest", desc := "(I)I" } : MethodName)) (d : decode cc 16 = .ok (.invokedynamic 309, 5)) (hstk : stk = .ref v2 :: .int v1 :: .ref v0 :: st) (hw : (stk.map fun v => v.category).sum + 3072 ≤ rm.locals) (hc : cells + 1 ≤ rm.cells) (hs : slots + 3 ≤ rm.slots) (kk : ∀ H1 : Heap, Ex H H1 → LO D H1 H.size 8 [.ref v0, .int v1, .ref v2] → V K nL A H1 (cells + 1) (slots + 3) Q 21 lv (.ref H.size :: st)) : V K nL A H cells slots Q 16 lv stk := by
  subst hstk
  intro L ls hS h0 T hT XX
  have hLS := X.ge.2.2.2.1 8 _ rfl
  obtain ⟨kc, tk, methk, ck, toy, iface, t, found, file, f0, f1, f2, hkc, hkind, hty, hpl, -⟩ := lam_site8 hLS X.ge.2.2.1
  obtain ⟨m, k, cf, i0, p0, lk, hm, hk, hcf, hsh, hfind, hmade, hcall, hl⟩ := hLS
  have hn := X.named
  rw [hy] at hn
  cases hm.symm.trans hn
  obtain ⟨rfl, -⟩ : lk = .makes (D.2.1 108) ∧ True := by
    rcases hl with ⟨-, h⟩ | ⟨h, -⟩
    · exact absurd h (by decide +kernel)
    · exact ⟨h, trivial⟩
  obtain ⟨bsm, nt, name, desc, sig, hcp, hnt, hsig, hpar⟩ := shape_entry hsh
  have hsl : ((kc.instanceTypes.toList.zip ([.ref v0, .int v1, .ref v2] : List Value)).map fun (t, v) => narrow t v) = [.ref v0, .int v1, .ref v2] := by rw [hty]; rfl
  obtain ⟨X₁, st1⟩ := XX.lambdaMakes X.exec (g := F0 (kM K) 16 ls (.ref v2 :: .int v1 :: .ref v0 :: st)) rfl (by rw [X.maxL]; exact h0.1) (by rw [X.code]; exact d) (vals := [.ref v0, .int v1, .ref v2]) (rest := st) hk hfind hcf hcp hnt hsig (by rw [hpar]; rfl) rfl hkc (by rw [XX.admits.platform, X.room]; show 2 * 0 + ((.ref v2 :: .int v1 :: .ref v0 :: st).map fun v => v.category).sum + 3072 ≤ _; omega) (by rw [X.room]; exact hc) (by rw [hsl, X.room]; exact hs)
    (fun i v hv => by
      rw [hsl] at hv
      have hk9 : (kS K).vm.classes[D.2.1 108]? = some kc := hkc
      match i, hv with
      | 0, hv => simp at hv; subst hv; simp [State.fitsSlot, State.slotType?, hk9, hkind, hty, fits]
      | 1, hv => simp at hv; subst hv; simp [State.fitsSlot, State.slotType?, hk9, hkind, hty, fits]
      | 2, hv => simp at hv; subst hv; simp [State.fitsSlot, State.slotType?, hk9, hkind, hty, fits]
      | i + 3, hv => simp at hv)
  rw [hsl] at X₁ st1
  have hex : Ex H (H.push ({ cls := D.2.1 108, slots := ([.ref v0, .int v1, .ref v2] : List Value).toArray, vm := .none } : Cell)) := ⟨Array.size_push _, fun q hq => by rw [Array.getElem?_push, if_neg (Nat.ne_of_lt hq)]⟩
  obtain ⟨t2, a1, b1⟩ := kk _ hex (by unfold LO; rw [Array.getElem?_push_size]) L ls (hex.va hS) h0 (T.pushCell { cls := D.2.1 108, slots := ([.ref v0, .int v1, .ref v2] : List Value).toArray, vm := .none }) (by rw [← hT]; rfl) X₁
  refine ⟨t2, st1 _ ?_, b1⟩
  rw [hT]
  exact a1
set_option maxHeartbeats 1000000 in
theorem vv_indy9 {K : C_} {y : MethodName} {cc : ByteArray} {nL : Nat} {ret : Option FieldType} {rm : Room} {D : DD} {A : Nat → Prop} {H : Heap} {cells slots : Nat} {Q : State → Prop} {lv : List (Nat × Value)} {st stk : List Value} {v0 : Int32} {v1 : Nat} (X : Fx K y cc nL ret rm D) (hy : y = ({ cls := "AcousticCamera", name := "contrast", desc := "()F" } : MethodName)) (d : decode cc 28 = .ok (.invokedynamic 315, 5)) (hstk : stk = .ref v1 :: .int v0 :: st) (hw : (stk.map fun v => v.category).sum + 3072 ≤ rm.locals) (hc : cells + 1 ≤ rm.cells) (hs : slots + 2 ≤ rm.slots) (kk : ∀ H1 : Heap, Ex H H1 → LO D H1 H.size 9 [.int v0, .ref v1] → V K nL A H1 (cells + 1) (slots + 2) Q 33 lv (.ref H.size :: st)) : V K nL A H cells slots Q 28 lv stk := by
  subst hstk
  intro L ls hS h0 T hT XX
  have hLS := X.ge.2.2.2.1 9 _ rfl
  obtain ⟨kc, tk, methk, ck, toy, iface, t, found, file, f0, f1, hkc, hkind, hty, hpl, -⟩ := lam_site9 hLS X.ge.2.2.1
  obtain ⟨m, k, cf, i0, p0, lk, hm, hk, hcf, hsh, hfind, hmade, hcall, hl⟩ := hLS
  have hn := X.named
  rw [hy] at hn
  cases hm.symm.trans hn
  obtain ⟨rfl, -⟩ : lk = .makes (D.2.1 109) ∧ True := by
    rcases hl with ⟨-, h⟩ | ⟨h, -⟩
    · exact absurd h (by decide +kernel)
    · exact ⟨h, trivial⟩
  obtain ⟨bsm, nt, name, desc, sig, hcp, hnt, hsig, hpar⟩ := shape_entry hsh
  have hsl : ((kc.instanceTypes.toList.zip ([.int v0, .ref v1] : List Value)).map fun (t, v) => narrow t v) = [.int v0, .ref v1] := by rw [hty]; rfl
  obtain ⟨X₁, st1⟩ := XX.lambdaMakes X.exec (g := F0 (kM K) 28 ls (.ref v1 :: .int v0 :: st)) rfl (by rw [X.maxL]; exact h0.1) (by rw [X.code]; exact d) (vals := [.int v0, .ref v1]) (rest := st) hk hfind hcf hcp hnt hsig (by rw [hpar]; rfl) rfl hkc (by rw [XX.admits.platform, X.room]; show 2 * 0 + ((.ref v1 :: .int v0 :: st).map fun v => v.category).sum + 3072 ≤ _; omega) (by rw [X.room]; exact hc) (by rw [hsl, X.room]; exact hs)
    (fun i v hv => by
      rw [hsl] at hv
      have hk9 : (kS K).vm.classes[D.2.1 109]? = some kc := hkc
      match i, hv with
      | 0, hv => simp at hv; subst hv; simp [State.fitsSlot, State.slotType?, hk9, hkind, hty, fits]
      | 1, hv => simp at hv; subst hv; simp [State.fitsSlot, State.slotType?, hk9, hkind, hty, fits]
      | i + 2, hv => simp at hv)
  rw [hsl] at X₁ st1
  have hex : Ex H (H.push ({ cls := D.2.1 109, slots := ([.int v0, .ref v1] : List Value).toArray, vm := .none } : Cell)) := ⟨Array.size_push _, fun q hq => by rw [Array.getElem?_push, if_neg (Nat.ne_of_lt hq)]⟩
  obtain ⟨t2, a1, b1⟩ := kk _ hex (by unfold LO; rw [Array.getElem?_push_size]) L ls (hex.va hS) h0 (T.pushCell { cls := D.2.1 109, slots := ([.int v0, .ref v1] : List Value).toArray, vm := .none }) (by rw [← hT]; rfl) X₁
  refine ⟨t2, st1 _ ?_, b1⟩
  rw [hT]
  exact a1
set_option maxHeartbeats 1000000 in
theorem vv_indy10 {K : C_} {y : MethodName} {cc : ByteArray} {nL : Nat} {ret : Option FieldType} {rm : Room} {D : DD} {A : Nat → Prop} {H : Heap} {cells slots : Nat} {Q : State → Prop} {lv : List (Nat × Value)} {st stk : List Value} {v0 : Nat} {v1 : Int32} {v2 : Int32} (X : Fx K y cc nL ret rm D) (hy : y = ({ cls := "AcousticCamera", name := "aliases", desc := "(II)I" } : MethodName)) (d : decode cc 20 = .ok (.invokedynamic 337, 5)) (hstk : stk = .int v2 :: .int v1 :: .ref v0 :: st) (hw : (stk.map fun v => v.category).sum + 3072 ≤ rm.locals) (hc : cells + 1 ≤ rm.cells) (hs : slots + 3 ≤ rm.slots) (kk : ∀ H1 : Heap, Ex H H1 → LO D H1 H.size 10 [.ref v0, .int v1, .int v2] → V K nL A H1 (cells + 1) (slots + 3) Q 25 lv (.ref H.size :: st)) : V K nL A H cells slots Q 20 lv stk := by
  subst hstk
  intro L ls hS h0 T hT XX
  have hLS := X.ge.2.2.2.1 10 _ rfl
  obtain ⟨kc, tk, methk, ck, toy, iface, t, found, file, f0, f1, f2, hkc, hkind, hty, hpl, -⟩ := lam_site10 hLS X.ge.2.2.1
  obtain ⟨m, k, cf, i0, p0, lk, hm, hk, hcf, hsh, hfind, hmade, hcall, hl⟩ := hLS
  have hn := X.named
  rw [hy] at hn
  cases hm.symm.trans hn
  obtain ⟨rfl, -⟩ : lk = .makes (D.2.1 110) ∧ True := by
    rcases hl with ⟨-, h⟩ | ⟨h, -⟩
    · exact absurd h (by decide +kernel)
    · exact ⟨h, trivial⟩
  obtain ⟨bsm, nt, name, desc, sig, hcp, hnt, hsig, hpar⟩ := shape_entry hsh
  have hsl : ((kc.instanceTypes.toList.zip ([.ref v0, .int v1, .int v2] : List Value)).map fun (t, v) => narrow t v) = [.ref v0, .int v1, .int v2] := by rw [hty]; rfl
  obtain ⟨X₁, st1⟩ := XX.lambdaMakes X.exec (g := F0 (kM K) 20 ls (.int v2 :: .int v1 :: .ref v0 :: st)) rfl (by rw [X.maxL]; exact h0.1) (by rw [X.code]; exact d) (vals := [.ref v0, .int v1, .int v2]) (rest := st) hk hfind hcf hcp hnt hsig (by rw [hpar]; rfl) rfl hkc (by rw [XX.admits.platform, X.room]; show 2 * 0 + ((.int v2 :: .int v1 :: .ref v0 :: st).map fun v => v.category).sum + 3072 ≤ _; omega) (by rw [X.room]; exact hc) (by rw [hsl, X.room]; exact hs)
    (fun i v hv => by
      rw [hsl] at hv
      have hk9 : (kS K).vm.classes[D.2.1 110]? = some kc := hkc
      match i, hv with
      | 0, hv => simp at hv; subst hv; simp [State.fitsSlot, State.slotType?, hk9, hkind, hty, fits]
      | 1, hv => simp at hv; subst hv; simp [State.fitsSlot, State.slotType?, hk9, hkind, hty, fits]
      | 2, hv => simp at hv; subst hv; simp [State.fitsSlot, State.slotType?, hk9, hkind, hty, fits]
      | i + 3, hv => simp at hv)
  rw [hsl] at X₁ st1
  have hex : Ex H (H.push ({ cls := D.2.1 110, slots := ([.ref v0, .int v1, .int v2] : List Value).toArray, vm := .none } : Cell)) := ⟨Array.size_push _, fun q hq => by rw [Array.getElem?_push, if_neg (Nat.ne_of_lt hq)]⟩
  obtain ⟨t2, a1, b1⟩ := kk _ hex (by unfold LO; rw [Array.getElem?_push_size]) L ls (hex.va hS) h0 (T.pushCell { cls := D.2.1 110, slots := ([.ref v0, .int v1, .int v2] : List Value).toArray, vm := .none }) (by rw [← hT]; rfl) X₁
  refine ⟨t2, st1 _ ?_, b1⟩
  rw [hT]
  exact a1
set_option maxHeartbeats 1000000 in
theorem vv_indy11 {K : C_} {y : MethodName} {cc : ByteArray} {nL : Nat} {ret : Option FieldType} {rm : Room} {D : DD} {A : Nat → Prop} {H : Heap} {cells slots : Nat} {Q : State → Prop} {lv : List (Nat × Value)} {st stk : List Value} {v0 : Nat} {v1 : Int32} {v2 : Int32} (X : Fx K y cc nL ret rm D) (hy : y = ({ cls := "AcousticCamera$State", name := "blockBest", desc := "(II)I" } : MethodName)) (d : decode cc 10 = .ok (.invokedynamic 227, 5)) (hstk : stk = .int v2 :: .int v1 :: .ref v0 :: st) (hw : (stk.map fun v => v.category).sum + 3072 ≤ rm.locals) (hc : cells + 1 ≤ rm.cells) (hs : slots + 3 ≤ rm.slots) (kk : ∀ H1 : Heap, Ex H H1 → LO D H1 H.size 11 [.ref v0, .int v1, .int v2] → V K nL A H1 (cells + 1) (slots + 3) Q 15 lv (.ref H.size :: st)) : V K nL A H cells slots Q 10 lv stk := by
  subst hstk
  intro L ls hS h0 T hT XX
  have hLS := X.ge.2.2.2.1 11 _ rfl
  obtain ⟨kc, tk, methk, ck, toy, iface, t, found, file, f0, f1, f2, hkc, hkind, hty, hpl, -⟩ := lam_site11 hLS X.ge.2.2.1
  obtain ⟨m, k, cf, i0, p0, lk, hm, hk, hcf, hsh, hfind, hmade, hcall, hl⟩ := hLS
  have hn := X.named
  rw [hy] at hn
  cases hm.symm.trans hn
  obtain ⟨rfl, -⟩ : lk = .makes (D.2.1 111) ∧ True := by
    rcases hl with ⟨-, h⟩ | ⟨h, -⟩
    · exact absurd h (by decide +kernel)
    · exact ⟨h, trivial⟩
  obtain ⟨bsm, nt, name, desc, sig, hcp, hnt, hsig, hpar⟩ := shape_entry hsh
  have hsl : ((kc.instanceTypes.toList.zip ([.ref v0, .int v1, .int v2] : List Value)).map fun (t, v) => narrow t v) = [.ref v0, .int v1, .int v2] := by rw [hty]; rfl
  obtain ⟨X₁, st1⟩ := XX.lambdaMakes X.exec (g := F0 (kM K) 10 ls (.int v2 :: .int v1 :: .ref v0 :: st)) rfl (by rw [X.maxL]; exact h0.1) (by rw [X.code]; exact d) (vals := [.ref v0, .int v1, .int v2]) (rest := st) hk hfind hcf hcp hnt hsig (by rw [hpar]; rfl) rfl hkc (by rw [XX.admits.platform, X.room]; show 2 * 0 + ((.int v2 :: .int v1 :: .ref v0 :: st).map fun v => v.category).sum + 3072 ≤ _; omega) (by rw [X.room]; exact hc) (by rw [hsl, X.room]; exact hs)
    (fun i v hv => by
      rw [hsl] at hv
      have hk9 : (kS K).vm.classes[D.2.1 111]? = some kc := hkc
      match i, hv with
      | 0, hv => simp at hv; subst hv; simp [State.fitsSlot, State.slotType?, hk9, hkind, hty, fits]
      | 1, hv => simp at hv; subst hv; simp [State.fitsSlot, State.slotType?, hk9, hkind, hty, fits]
      | 2, hv => simp at hv; subst hv; simp [State.fitsSlot, State.slotType?, hk9, hkind, hty, fits]
      | i + 3, hv => simp at hv)
  rw [hsl] at X₁ st1
  have hex : Ex H (H.push ({ cls := D.2.1 111, slots := ([.ref v0, .int v1, .int v2] : List Value).toArray, vm := .none } : Cell)) := ⟨Array.size_push _, fun q hq => by rw [Array.getElem?_push, if_neg (Nat.ne_of_lt hq)]⟩
  obtain ⟨t2, a1, b1⟩ := kk _ hex (by unfold LO; rw [Array.getElem?_push_size]) L ls (hex.va hS) h0 (T.pushCell { cls := D.2.1 111, slots := ([.ref v0, .int v1, .int v2] : List Value).toArray, vm := .none }) (by rw [← hT]; rfl) X₁
  refine ⟨t2, st1 _ ?_, b1⟩
  rw [hT]
  exact a1
set_option maxHeartbeats 1000000 in
theorem vv_indy12 {K : C_} {y : MethodName} {cc : ByteArray} {nL : Nat} {ret : Option FieldType} {rm : Room} {D : DD} {A : Nat → Prop} {H : Heap} {cells slots : Nat} {Q : State → Prop} {lv : List (Nat × Value)} {st stk : List Value} {v0 : Nat} (X : Fx K y cc nL ret rm D) (hy : y = ({ cls := "AcousticCamera", name := "trackScore", desc := "(I)J" } : MethodName)) (d : decode cc 20 = .ok (.invokedynamic 360, 5)) (hstk : stk = .ref v0 :: st) (hw : (stk.map fun v => v.category).sum + 3072 ≤ rm.locals) (hc : cells + 1 ≤ rm.cells) (hs : slots + 1 ≤ rm.slots) (kk : ∀ H1 : Heap, Ex H H1 → LO D H1 H.size 12 [.ref v0] → V K nL A H1 (cells + 1) (slots + 1) Q 25 lv (.ref H.size :: st)) : V K nL A H cells slots Q 20 lv stk := by
  subst hstk
  intro L ls hS h0 T hT XX
  have hLS := X.ge.2.2.2.1 12 _ rfl
  obtain ⟨kc, tk, methk, ck, toy, iface, t, found, file, f0, hkc, hkind, hty, hpl, -⟩ := lam_site12 hLS X.ge.2.2.1
  obtain ⟨m, k, cf, i0, p0, lk, hm, hk, hcf, hsh, hfind, hmade, hcall, hl⟩ := hLS
  have hn := X.named
  rw [hy] at hn
  cases hm.symm.trans hn
  obtain ⟨rfl, -⟩ : lk = .makes (D.2.1 112) ∧ True := by
    rcases hl with ⟨-, h⟩ | ⟨h, -⟩
    · exact absurd h (by decide +kernel)
    · exact ⟨h, trivial⟩
  obtain ⟨bsm, nt, name, desc, sig, hcp, hnt, hsig, hpar⟩ := shape_entry hsh
  have hsl : ((kc.instanceTypes.toList.zip ([.ref v0] : List Value)).map fun (t, v) => narrow t v) = [.ref v0] := by rw [hty]; rfl
  obtain ⟨X₁, st1⟩ := XX.lambdaMakes X.exec (g := F0 (kM K) 20 ls (.ref v0 :: st)) rfl (by rw [X.maxL]; exact h0.1) (by rw [X.code]; exact d) (vals := [.ref v0]) (rest := st) hk hfind hcf hcp hnt hsig (by rw [hpar]; rfl) rfl hkc (by rw [XX.admits.platform, X.room]; show 2 * 0 + ((.ref v0 :: st).map fun v => v.category).sum + 3072 ≤ _; omega) (by rw [X.room]; exact hc) (by rw [hsl, X.room]; exact hs)
    (fun i v hv => by
      rw [hsl] at hv
      have hk9 : (kS K).vm.classes[D.2.1 112]? = some kc := hkc
      match i, hv with
      | 0, hv => simp at hv; subst hv; simp [State.fitsSlot, State.slotType?, hk9, hkind, hty, fits]
      | i + 1, hv => simp at hv)
  rw [hsl] at X₁ st1
  have hex : Ex H (H.push ({ cls := D.2.1 112, slots := ([.ref v0] : List Value).toArray, vm := .none } : Cell)) := ⟨Array.size_push _, fun q hq => by rw [Array.getElem?_push, if_neg (Nat.ne_of_lt hq)]⟩
  obtain ⟨t2, a1, b1⟩ := kk _ hex (by unfold LO; rw [Array.getElem?_push_size]) L ls (hex.va hS) h0 (T.pushCell { cls := D.2.1 112, slots := ([.ref v0] : List Value).toArray, vm := .none }) (by rw [← hT]; rfl) X₁
  refine ⟨t2, st1 _ ?_, b1⟩
  rw [hT]
  exact a1
set_option maxHeartbeats 1000000 in
theorem vv_indy13 {K : C_} {y : MethodName} {cc : ByteArray} {nL : Nat} {ret : Option FieldType} {rm : Room} {D : DD} {A : Nat → Prop} {H : Heap} {cells slots : Nat} {Q : State → Prop} {lv : List (Nat × Value)} {st stk : List Value} {v0 : Nat} (X : Fx K y cc nL ret rm D) (hy : y = ({ cls := "AcousticCamera", name := "trackCell", desc := "(II)I" } : MethodName)) (d : decode cc 35 = .ok (.invokedynamic 363, 5)) (hstk : stk = .ref v0 :: st) (hw : (stk.map fun v => v.category).sum + 3072 ≤ rm.locals) (hc : cells + 1 ≤ rm.cells) (hs : slots + 1 ≤ rm.slots) (kk : ∀ H1 : Heap, Ex H H1 → LO D H1 H.size 13 [.ref v0] → V K nL A H1 (cells + 1) (slots + 1) Q 40 lv (.ref H.size :: st)) : V K nL A H cells slots Q 35 lv stk := by
  subst hstk
  intro L ls hS h0 T hT XX
  have hLS := X.ge.2.2.2.1 13 _ rfl
  obtain ⟨kc, tk, methk, ck, toy, iface, t, found, file, f0, hkc, hkind, hty, hpl, -⟩ := lam_site13 hLS X.ge.2.2.1
  obtain ⟨m, k, cf, i0, p0, lk, hm, hk, hcf, hsh, hfind, hmade, hcall, hl⟩ := hLS
  have hn := X.named
  rw [hy] at hn
  cases hm.symm.trans hn
  obtain ⟨rfl, -⟩ : lk = .makes (D.2.1 113) ∧ True := by
    rcases hl with ⟨-, h⟩ | ⟨h, -⟩
    · exact absurd h (by decide +kernel)
    · exact ⟨h, trivial⟩
  obtain ⟨bsm, nt, name, desc, sig, hcp, hnt, hsig, hpar⟩ := shape_entry hsh
  have hsl : ((kc.instanceTypes.toList.zip ([.ref v0] : List Value)).map fun (t, v) => narrow t v) = [.ref v0] := by rw [hty]; rfl
  obtain ⟨X₁, st1⟩ := XX.lambdaMakes X.exec (g := F0 (kM K) 35 ls (.ref v0 :: st)) rfl (by rw [X.maxL]; exact h0.1) (by rw [X.code]; exact d) (vals := [.ref v0]) (rest := st) hk hfind hcf hcp hnt hsig (by rw [hpar]; rfl) rfl hkc (by rw [XX.admits.platform, X.room]; show 2 * 0 + ((.ref v0 :: st).map fun v => v.category).sum + 3072 ≤ _; omega) (by rw [X.room]; exact hc) (by rw [hsl, X.room]; exact hs)
    (fun i v hv => by
      rw [hsl] at hv
      have hk9 : (kS K).vm.classes[D.2.1 113]? = some kc := hkc
      match i, hv with
      | 0, hv => simp at hv; subst hv; simp [State.fitsSlot, State.slotType?, hk9, hkind, hty, fits]
      | i + 1, hv => simp at hv)
  rw [hsl] at X₁ st1
  have hex : Ex H (H.push ({ cls := D.2.1 113, slots := ([.ref v0] : List Value).toArray, vm := .none } : Cell)) := ⟨Array.size_push _, fun q hq => by rw [Array.getElem?_push, if_neg (Nat.ne_of_lt hq)]⟩
  obtain ⟨t2, a1, b1⟩ := kk _ hex (by unfold LO; rw [Array.getElem?_push_size]) L ls (hex.va hS) h0 (T.pushCell { cls := D.2.1 113, slots := ([.ref v0] : List Value).toArray, vm := .none }) (by rw [← hT]; rfl) X₁
  refine ⟨t2, st1 _ ?_, b1⟩
  rw [hT]
  exact a1
set_option maxHeartbeats 1000000 in
theorem vv_indy14 {K : C_} {y : MethodName} {cc : ByteArray} {nL : Nat} {ret : Option FieldType} {rm : Room} {D : DD} {A : Nat → Prop} {H : Heap} {cells slots : Nat} {Q : State → Prop} {lv : List (Nat × Value)} {st stk : List Value} {v0 : Nat} {v1 : Int32} {v2 : Int32} {v3 : Int32} {v4 : Int32} (X : Fx K y cc nL ret rm D) (hy : y = ({ cls := "AcousticCamera", name := "bestVelocity", desc := "(III)I" } : MethodName)) (d : decode cc 58 = .ok (.invokedynamic 376, 5)) (hstk : stk = .int v4 :: .int v3 :: .int v2 :: .int v1 :: .ref v0 :: st) (hw : (stk.map fun v => v.category).sum + 3072 ≤ rm.locals) (hc : cells + 1 ≤ rm.cells) (hs : slots + 5 ≤ rm.slots) (kk : ∀ H1 : Heap, Ex H H1 → LO D H1 H.size 14 [.ref v0, .int v1, .int v2, .int v3, .int v4] → V K nL A H1 (cells + 1) (slots + 5) Q 63 lv (.ref H.size :: st)) : V K nL A H cells slots Q 58 lv stk := by
  subst hstk
  intro L ls hS h0 T hT XX
  have hLS := X.ge.2.2.2.1 14 _ rfl
  obtain ⟨kc, tk, methk, ck, toy, iface, t, found, file, f0, f1, f2, f3, f4, hkc, hkind, hty, hpl, -⟩ := lam_site14 hLS X.ge.2.2.1
  obtain ⟨m, k, cf, i0, p0, lk, hm, hk, hcf, hsh, hfind, hmade, hcall, hl⟩ := hLS
  have hn := X.named
  rw [hy] at hn
  cases hm.symm.trans hn
  obtain ⟨rfl, -⟩ : lk = .makes (D.2.1 114) ∧ True := by
    rcases hl with ⟨-, h⟩ | ⟨h, -⟩
    · exact absurd h (by decide +kernel)
    · exact ⟨h, trivial⟩
  obtain ⟨bsm, nt, name, desc, sig, hcp, hnt, hsig, hpar⟩ := shape_entry hsh
  have hsl : ((kc.instanceTypes.toList.zip ([.ref v0, .int v1, .int v2, .int v3, .int v4] : List Value)).map fun (t, v) => narrow t v) = [.ref v0, .int v1, .int v2, .int v3, .int v4] := by rw [hty]; rfl
  obtain ⟨X₁, st1⟩ := XX.lambdaMakes X.exec (g := F0 (kM K) 58 ls (.int v4 :: .int v3 :: .int v2 :: .int v1 :: .ref v0 :: st)) rfl (by rw [X.maxL]; exact h0.1) (by rw [X.code]; exact d) (vals := [.ref v0, .int v1, .int v2, .int v3, .int v4]) (rest := st) hk hfind hcf hcp hnt hsig (by rw [hpar]; rfl) rfl hkc (by rw [XX.admits.platform, X.room]; show 2 * 0 + ((.int v4 :: .int v3 :: .int v2 :: .int v1 :: .ref v0 :: st).map fun v => v.category).sum + 3072 ≤ _; omega) (by rw [X.room]; exact hc) (by rw [hsl, X.room]; exact hs)
    (fun i v hv => by
      rw [hsl] at hv
      have hk9 : (kS K).vm.classes[D.2.1 114]? = some kc := hkc
      match i, hv with
      | 0, hv => simp at hv; subst hv; simp [State.fitsSlot, State.slotType?, hk9, hkind, hty, fits]
      | 1, hv => simp at hv; subst hv; simp [State.fitsSlot, State.slotType?, hk9, hkind, hty, fits]
      | 2, hv => simp at hv; subst hv; simp [State.fitsSlot, State.slotType?, hk9, hkind, hty, fits]
      | 3, hv => simp at hv; subst hv; simp [State.fitsSlot, State.slotType?, hk9, hkind, hty, fits]
      | 4, hv => simp at hv; subst hv; simp [State.fitsSlot, State.slotType?, hk9, hkind, hty, fits]
      | i + 5, hv => simp at hv)
  rw [hsl] at X₁ st1
  have hex : Ex H (H.push ({ cls := D.2.1 114, slots := ([.ref v0, .int v1, .int v2, .int v3, .int v4] : List Value).toArray, vm := .none } : Cell)) := ⟨Array.size_push _, fun q hq => by rw [Array.getElem?_push, if_neg (Nat.ne_of_lt hq)]⟩
  obtain ⟨t2, a1, b1⟩ := kk _ hex (by unfold LO; rw [Array.getElem?_push_size]) L ls (hex.va hS) h0 (T.pushCell { cls := D.2.1 114, slots := ([.ref v0, .int v1, .int v2, .int v3, .int v4] : List Value).toArray, vm := .none }) (by rw [← hT]; rfl) X₁
  refine ⟨t2, st1 _ ?_, b1⟩
  rw [hT]
  exact a1
set_option maxHeartbeats 1000000 in
theorem vv_indy15 {K : C_} {y : MethodName} {cc : ByteArray} {nL : Nat} {ret : Option FieldType} {rm : Room} {D : DD} {A : Nat → Prop} {H : Heap} {cells slots : Nat} {Q : State → Prop} {lv : List (Nat × Value)} {st stk : List Value} {v0 : Nat} {v1 : Int32} {v2 : Int32} (X : Fx K y cc nL ret rm D) (hy : y = ({ cls := "AcousticCamera", name := "bestLag", desc := "(III)I" } : MethodName)) (d : decode cc 23 = .ok (.invokedynamic 385, 5)) (hstk : stk = .int v2 :: .int v1 :: .ref v0 :: st) (hw : (stk.map fun v => v.category).sum + 3072 ≤ rm.locals) (hc : cells + 1 ≤ rm.cells) (hs : slots + 3 ≤ rm.slots) (kk : ∀ H1 : Heap, Ex H H1 → LO D H1 H.size 15 [.ref v0, .int v1, .int v2] → V K nL A H1 (cells + 1) (slots + 3) Q 28 lv (.ref H.size :: st)) : V K nL A H cells slots Q 23 lv stk := by
  subst hstk
  intro L ls hS h0 T hT XX
  have hLS := X.ge.2.2.2.1 15 _ rfl
  obtain ⟨kc, tk, methk, ck, toy, iface, t, found, file, f0, f1, f2, hkc, hkind, hty, hpl, -⟩ := lam_site15 hLS X.ge.2.2.1
  obtain ⟨m, k, cf, i0, p0, lk, hm, hk, hcf, hsh, hfind, hmade, hcall, hl⟩ := hLS
  have hn := X.named
  rw [hy] at hn
  cases hm.symm.trans hn
  obtain ⟨rfl, -⟩ : lk = .makes (D.2.1 115) ∧ True := by
    rcases hl with ⟨-, h⟩ | ⟨h, -⟩
    · exact absurd h (by decide +kernel)
    · exact ⟨h, trivial⟩
  obtain ⟨bsm, nt, name, desc, sig, hcp, hnt, hsig, hpar⟩ := shape_entry hsh
  have hsl : ((kc.instanceTypes.toList.zip ([.ref v0, .int v1, .int v2] : List Value)).map fun (t, v) => narrow t v) = [.ref v0, .int v1, .int v2] := by rw [hty]; rfl
  obtain ⟨X₁, st1⟩ := XX.lambdaMakes X.exec (g := F0 (kM K) 23 ls (.int v2 :: .int v1 :: .ref v0 :: st)) rfl (by rw [X.maxL]; exact h0.1) (by rw [X.code]; exact d) (vals := [.ref v0, .int v1, .int v2]) (rest := st) hk hfind hcf hcp hnt hsig (by rw [hpar]; rfl) rfl hkc (by rw [XX.admits.platform, X.room]; show 2 * 0 + ((.int v2 :: .int v1 :: .ref v0 :: st).map fun v => v.category).sum + 3072 ≤ _; omega) (by rw [X.room]; exact hc) (by rw [hsl, X.room]; exact hs)
    (fun i v hv => by
      rw [hsl] at hv
      have hk9 : (kS K).vm.classes[D.2.1 115]? = some kc := hkc
      match i, hv with
      | 0, hv => simp at hv; subst hv; simp [State.fitsSlot, State.slotType?, hk9, hkind, hty, fits]
      | 1, hv => simp at hv; subst hv; simp [State.fitsSlot, State.slotType?, hk9, hkind, hty, fits]
      | 2, hv => simp at hv; subst hv; simp [State.fitsSlot, State.slotType?, hk9, hkind, hty, fits]
      | i + 3, hv => simp at hv)
  rw [hsl] at X₁ st1
  have hex : Ex H (H.push ({ cls := D.2.1 115, slots := ([.ref v0, .int v1, .int v2] : List Value).toArray, vm := .none } : Cell)) := ⟨Array.size_push _, fun q hq => by rw [Array.getElem?_push, if_neg (Nat.ne_of_lt hq)]⟩
  obtain ⟨t2, a1, b1⟩ := kk _ hex (by unfold LO; rw [Array.getElem?_push_size]) L ls (hex.va hS) h0 (T.pushCell { cls := D.2.1 115, slots := ([.ref v0, .int v1, .int v2] : List Value).toArray, vm := .none }) (by rw [← hT]; rfl) X₁
  refine ⟨t2, st1 _ ?_, b1⟩
  rw [hT]
  exact a1
set_option maxHeartbeats 1000000 in
theorem vv_indy16 {K : C_} {y : MethodName} {cc : ByteArray} {nL : Nat} {ret : Option FieldType} {rm : Room} {D : DD} {A : Nat → Prop} {H : Heap} {cells slots : Nat} {Q : State → Prop} {lv : List (Nat × Value)} {stk : List Value}  (X : Fx K y cc nL ret rm D) (hy : y = ({ cls := "AcousticCamera", name := "loudest", desc := "(I)I" } : MethodName)) (d : decode cc 11 = .ok (.invokedynamic 391, 5)) (hw : (stk.map fun v => v.category).sum + 3072 ≤ rm.locals) (kk : V K nL A H cells slots Q 16 lv (.ref (D.2.2 616) :: stk)) : V K nL A H cells slots Q 11 lv stk := by
  intro L ls hS h0 T hT XX
  obtain ⟨m, k, cf, i0, p0, lk, hm, hk, hcf, hsh, hfind, hmade, hcall, hl⟩ := X.ge.2.2.2.1 16 _ rfl
  have hn := X.named
  rw [hy] at hn
  cases hm.symm.trans hn
  obtain ⟨rfl, -⟩ : lk = .constant (D.2.2 616) ∧ True := by
    rcases hl with ⟨h, -⟩ | ⟨-, h⟩
    · exact ⟨h, trivial⟩
    · exact absurd rfl h
  obtain ⟨t, a1, b1⟩ := kk L ls hS h0 T hT XX
  exact ⟨t, XX.lambdaConstant X.exec (g := F0 (kM K) 11 ls stk) rfl (by rw [X.maxL]; exact h0.1) (by rw [X.code]; exact d) hk hfind (by rw [XX.admits.platform, X.room]; show 2 * 0 + (stk.map fun v => v.category).sum + 3072 ≤ _; omega) a1, b1⟩
set_option maxHeartbeats 1000000 in
theorem vv_indy17 {K : C_} {y : MethodName} {cc : ByteArray} {nL : Nat} {ret : Option FieldType} {rm : Room} {D : DD} {A : Nat → Prop} {H : Heap} {cells slots : Nat} {Q : State → Prop} {lv : List (Nat × Value)} {st stk : List Value} {v0 : Nat} (X : Fx K y cc nL ret rm D) (hy : y = ({ cls := "AcousticCamera", name := "loudest", desc := "(I)I" } : MethodName)) (d : decode cc 17 = .ok (.invokedynamic 394, 5)) (hstk : stk = .ref v0 :: st) (hw : (stk.map fun v => v.category).sum + 3072 ≤ rm.locals) (hc : cells + 1 ≤ rm.cells) (hs : slots + 1 ≤ rm.slots) (kk : ∀ H1 : Heap, Ex H H1 → LO D H1 H.size 17 [.ref v0] → V K nL A H1 (cells + 1) (slots + 1) Q 22 lv (.ref H.size :: st)) : V K nL A H cells slots Q 17 lv stk := by
  subst hstk
  intro L ls hS h0 T hT XX
  have hLS := X.ge.2.2.2.1 17 _ rfl
  obtain ⟨kc, tk, methk, ck, toy, iface, t, found, file, f0, hkc, hkind, hty, hpl, -⟩ := lam_site17 hLS X.ge.2.2.1
  obtain ⟨m, k, cf, i0, p0, lk, hm, hk, hcf, hsh, hfind, hmade, hcall, hl⟩ := hLS
  have hn := X.named
  rw [hy] at hn
  cases hm.symm.trans hn
  obtain ⟨rfl, -⟩ : lk = .makes (D.2.1 117) ∧ True := by
    rcases hl with ⟨-, h⟩ | ⟨h, -⟩
    · exact absurd h (by decide +kernel)
    · exact ⟨h, trivial⟩
  obtain ⟨bsm, nt, name, desc, sig, hcp, hnt, hsig, hpar⟩ := shape_entry hsh
  have hsl : ((kc.instanceTypes.toList.zip ([.ref v0] : List Value)).map fun (t, v) => narrow t v) = [.ref v0] := by rw [hty]; rfl
  obtain ⟨X₁, st1⟩ := XX.lambdaMakes X.exec (g := F0 (kM K) 17 ls (.ref v0 :: st)) rfl (by rw [X.maxL]; exact h0.1) (by rw [X.code]; exact d) (vals := [.ref v0]) (rest := st) hk hfind hcf hcp hnt hsig (by rw [hpar]; rfl) rfl hkc (by rw [XX.admits.platform, X.room]; show 2 * 0 + ((.ref v0 :: st).map fun v => v.category).sum + 3072 ≤ _; omega) (by rw [X.room]; exact hc) (by rw [hsl, X.room]; exact hs)
    (fun i v hv => by
      rw [hsl] at hv
      have hk9 : (kS K).vm.classes[D.2.1 117]? = some kc := hkc
      match i, hv with
      | 0, hv => simp at hv; subst hv; simp [State.fitsSlot, State.slotType?, hk9, hkind, hty, fits]
      | i + 1, hv => simp at hv)
  rw [hsl] at X₁ st1
  have hex : Ex H (H.push ({ cls := D.2.1 117, slots := ([.ref v0] : List Value).toArray, vm := .none } : Cell)) := ⟨Array.size_push _, fun q hq => by rw [Array.getElem?_push, if_neg (Nat.ne_of_lt hq)]⟩
  obtain ⟨t2, a1, b1⟩ := kk _ hex (by unfold LO; rw [Array.getElem?_push_size]) L ls (hex.va hS) h0 (T.pushCell { cls := D.2.1 117, slots := ([.ref v0] : List Value).toArray, vm := .none }) (by rw [← hT]; rfl) X₁
  refine ⟨t2, st1 _ ?_, b1⟩
  rw [hT]
  exact a1
