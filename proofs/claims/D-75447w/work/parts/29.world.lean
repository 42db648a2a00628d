/-! A WORLD by keys: E tells what lies at a key (an object, an array), g where -/
set_option maxRecDepth 100000
def WR (D : DD) (g : Nat → Nat) (E : Nat → Option va_E) (H : Heap) : Prop := (∀ k e, E k = some e → va_at D.1 CL (g k, e) H) ∧ ∀ k j, E k ≠ none → E j ≠ none → g k = g j → k = j
/-- its cells -/
def WA (g : Nat → Nat) (E : Nat → Option va_E) : Nat → Prop := fun q => ∃ k, E k ≠ none ∧ q = g k
theorem WR.at {D : DD} {g : Nat → Nat} {E : Nat → Option va_E} {H : Heap} (h : WR D g E H) {k : Nat} {e : va_E} (hk : E k = some e) : va_at D.1 CL (g k, e) H := h.1 k e hk
theorem WR.kept {D : DD} {g : Nat → Nat} {E : Nat → Option va_E} {H H1 : Heap} (h : WR D g E H) (hk : ∀ q : Nat, q < H.size → WA g E q → H1[q]? = H[q]?) : WR D g E H1 :=
  ⟨fun k e hE => (h.1 k e hE).kept (hk _ (h.1 k e hE).lt ⟨k, (fun z => by rw [hE] at z; cases z), rfl⟩), h.2⟩
theorem WR.set {D : DD} {g : Nat → Nat} {E : Nat → Option va_E} {H H1 : Heap} (h : WR D g E H) {k : Nat} {e' : va_E} (hk : E k ≠ none) (hc : Ch (g k) H H1) (ha : va_at D.1 CL (g k, e') H1) : WR D g (va_up E k (some e')) H1 := by
  have dom : ∀ j, va_up E k (some e') j ≠ none → E j ≠ none := fun j hj => by
    by_cases q : j = k
    · rw [q]; exact hk
    · rwa [va_up_ne _ _ q] at hj
  refine ⟨fun j e hj => ?_, fun i j hi hj => h.2 i j (dom i hi) (dom j hj)⟩
  by_cases q : j = k
  · subst q
    rw [va_up_self] at hj
    cases hj
    exact ha
  · rw [va_up_ne _ _ q] at hj
    exact hc.keep (h.1 j e hj) (fun z => q (h.2 j k (by rw [hj]; exact fun z => by cases z) hk z))
theorem WR.add {D : DD} {g : Nat → Nat} {E : Nat → Option va_E} {H H1 : Heap} (h : WR D g E H) {k : Nat} {e' : va_E} (hk : E k = none) (hx : Ex H H1) (ha : va_at D.1 CL (H.size, e') H1) : WR D (va_up g k H.size) (va_up E k (some e')) H1 := by
  have old : ∀ j e, j ≠ k → E j = some e → va_up g k H.size j = g j ∧ g j < H.size := fun j e q hj => ⟨va_up_ne _ _ q, (h.1 j e hj).lt⟩
  refine ⟨fun j e hj => ?_, fun i j hi hj z => ?_⟩
  · by_cases q : j = k
    · subst q
      rw [va_up_self] at hj ⊢
      cases hj
      exact ha
    · rw [va_up_ne _ _ q] at hj
      rw [(old j e q hj).1]
      exact hx.keep (h.1 j e hj)
  · by_cases q1 : i = k
    · by_cases q2 : j = k
      · rw [q1, q2]
      · rw [va_up_ne _ _ q2] at hj
        obtain ⟨e, he⟩ := Option.ne_none_iff_exists'.mp hj
        obtain ⟨o1, o2⟩ := old j e q2 he
        rw [q1, va_up_self, o1] at z
        omega
    · rw [va_up_ne _ _ q1] at hi
      obtain ⟨e, he⟩ := Option.ne_none_iff_exists'.mp hi
      obtain ⟨o1, o2⟩ := old i e q1 he
      by_cases q2 : j = k
      · rw [q2, va_up_self, o1] at z
        omega
      · rw [va_up_ne _ _ q2] at hj
        rw [o1, va_up_ne _ _ q2] at z
        exact h.2 i j hi hj z
theorem WA.in {g : Nat → Nat} {E : Nat → Option va_E} {k : Nat} {e : va_E} (h : E k = some e) : WA g E (g k) := ⟨k, (fun z => by rw [h] at z; cases z), rfl⟩
theorem WR.lt {D : DD} {g : Nat → Nat} {E : Nat → Option va_E} {H : Heap} (h : WR D g E H) {k : Nat} (hk : E k ≠ none) : g k < H.size := by
  obtain ⟨e, he⟩ := Option.ne_none_iff_exists'.mp hk
  exact (h.1 k e he).lt
