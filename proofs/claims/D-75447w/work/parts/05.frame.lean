/-! THE FRAME of this claim's proof: the judgement V (a walk with its locals as a list and its written cells kept inside), contracts Ct, calls, raw heap facts -/
set_option maxRecDepth 100000
section FRM
/-- the classes' numbers and slots; the array classes' numbers -/
abbrev DD : Type := va_G × (Nat → ClassId) × (Nat → Nat)
def tysOf (D : DD) : List (ClassId × FieldType) := [(D.2.1 0, .int), (D.2.1 1, .long), (D.2.1 2, .byte), (D.2.1 3, .boolean), (D.2.1 4, .double), (D.2.1 5, .array .int), (D.2.1 6, .array .long), (D.2.1 7, .object "AcousticCamera$State"), (D.2.1 8, .object "AcousticCamera$Source"), (D.2.1 9, .object "java/lang/Object"), (D.2.1 10, .object "java/lang/Integer")]
/-- words of a nest mate's links, casts and declared methods: they ride by themselves -/
def nwq : Cond → Bool
  | .fieldLinkNest .. => true
  | .methodLinkNest .. => true
  | .castable .. => true
  | .declares .. => true
  | .privateMethod .. => true
  | _ => false
set_option maxHeartbeats 4000000 in
theorem nwq_warm {w : Cond} (h : nwq w = true) {s U : State} (hW : s.WarmedH U.vm) (hs : va_Nw w s) : va_Nw w U := by
  cases w <;> first | exact va_Nw.warmF hW hs | exact va_Nw.warmM hW hs | exact va_Nw.warmC hW hs | exact va_Nw.warmD hW hs | exact Cond.privateMethod_warm hW hs | exact absurd h (by decide) | exact absurd h (by simp [nwq])
theorem nwq_on {w : Cond} (h : nwq w = true) : w.onTables = true := by
  cases w <;> first | rfl | exact absurd h (by simp [nwq])
/-- interface calls: receiver's class, the interface's method, the method that runs -/
def FWL : List (String × MethodName × MethodName) := [("java/util/ArrayList", ⟨"java/util/List", "size", "()I"⟩, ⟨"java/util/ArrayList", "size", "()I"⟩), ("java/util/ArrayList", ⟨"java/util/List", "get", "(I)Ljava/lang/Object;"⟩, ⟨"java/util/ArrayList", "get", "(I)Ljava/lang/Object;"⟩), ("java/util/ArrayList", ⟨"java/util/List", "add", "(Ljava/lang/Object;)Z"⟩, ⟨"java/util/ArrayList", "add", "(Ljava/lang/Object;)Z"⟩), ("java/util/ArrayList", ⟨"java/util/List", "isEmpty", "()Z"⟩, ⟨"java/util/ArrayList", "isEmpty", "()Z"⟩), ("java/util/ImmutableCollections$ListN", ⟨"java/util/List", "contains", "(Ljava/lang/Object;)Z"⟩, ⟨"java/util/ImmutableCollections$AbstractImmutableList", "contains", "(Ljava/lang/Object;)Z"⟩), ("java/util/LinkedList$ListItr", ⟨"java/util/Iterator", "hasNext", "()Z"⟩, ⟨"java/util/LinkedList$ListItr", "hasNext", "()Z"⟩), ("java/util/LinkedList$ListItr", ⟨"java/util/Iterator", "next", "()Ljava/lang/Object;"⟩, ⟨"java/util/LinkedList$ListItr", "next", "()Ljava/lang/Object;"⟩)]
def AOL : List String := ["AcousticCamera$State", "AcousticCamera$Source", "java/lang/Object"]
theorem FWL_ok : ∀ q ∈ FWL, q.2.1.cls ≠ "java/lang/invoke/MethodHandle" ∧ q.2.1.cls ≠ "java/lang/invoke/VarHandle" := by decide +kernel
/-- the string literals: class, entry, text; the i-th lies at D.2.2 i, its bytes at D.2.2 (100 + i) -/
def SRL : List (String × Nat × String) := [("AcousticCameraModel", 144, "camera"), ("AcousticCameraModel", 146, "distance"), ("AcousticCameraModel", 152, "step"), ("AcousticCameraModel", 154, "samples"), ("AcousticCameraModel", 156, "limit"), ("AcousticCameraModel", 171, "wall"), ("AcousticCameraModel", 176, "fade"), ("AcousticCameraModel", 181, "filter"), ("AcousticCameraModel", 186, "clock"), ("AcousticCameraModel", 191, "zone"), ("AcousticCameraModel", 196, "shade"), ("AcousticCameraModel", 201, "off"), ("AcousticCameraModel", 206, "mic"), ("AcousticCameraModel", 211, "map"), ("AcousticCameraModel", 216, "source"), ("AcousticCameraModel", 161, "square"), ("AcousticCameraModel", 163, "triangle"), ("AcousticCameraModel", 165, "pulse"), ("AcousticCameraModel", 167, "noise"), ("AcousticCameraModel", 169, "from"), ("AcousticCamera$Parser", 9, ""), ("AcousticCamera$Parser", 57, "?"), ("AcousticCamera$Parser", 77, "#"), ("AcousticCamera$Parser", 79, ";"), ("AcousticCamera$Parser", 81, "-"), ("AcousticCamera$Parser", 118, "camera"), ("AcousticCamera$Parser", 120, "distance"), ("AcousticCamera$Parser", 127, "step"), ("AcousticCamera$Parser", 131, "samples"), ("AcousticCamera$Parser", 135, "limit"), ("AcousticCamera$Parser", 163, "mic"), ("AcousticCamera$Parser", 165, "map"), ("AcousticCamera$Parser", 167, "source"), ("AcousticCamera$Parser", 169, "wall"), ("AcousticCamera$Parser", 171, "fade"), ("AcousticCamera$Parser", 173, "filter"), ("AcousticCamera$Parser", 175, "clock"), ("AcousticCamera$Parser", 177, "shade"), ("AcousticCamera$Parser", 179, "off"), ("AcousticCamera$Parser", 181, "zone"), ("AcousticCamera$Parser", 276, "square"), ("AcousticCamera$Parser", 278, "triangle"), ("AcousticCamera$Parser", 280, "pulse"), ("AcousticCamera$Parser", 282, "noise"), ("AcousticCamera$Parser", 291, "from")]
/-- the static fields that are read: the j-th lies in the cell D.2.2 (200 + j), at the place D.2.2 (300 + j) -/
def STL : List (String × String × String) := [("java/lang/String", "COMPACT_STRINGS", "Z"), ("java/util/BitSet", "$assertionsDisabled", "Z"), ("java/util/ImmutableCollections", "$assertionsDisabled", "Z"), ("java/lang/Integer$IntegerCache", "high", "I"), ("java/lang/Integer$IntegerCache", "cache", "[Ljava/lang/Integer;"), ("java/lang/Integer", "DigitOnes", "[B"), ("java/lang/Integer", "DigitTens", "[B"), ("java/util/ArrayList", "EMPTY_ELEMENTDATA", "[Ljava/lang/Object;"), ("java/util/ArrayList", "DEFAULTCAPACITY_EMPTY_ELEMENTDATA", "[Ljava/lang/Object;"), ("jdk/internal/util/Preconditions", "SIOOBE_FORMATTER", "Ljava/util/function/BiFunction;"), ("java/lang/Throwable", "UNASSIGNED_STACK", "[Ljava/lang/StackTraceElement;"), ("java/lang/Throwable", "SUPPRESSED_SENTINEL", "Ljava/util/List;")]
def GSt (q : String × String × String) (a sl : Nat) (U : State) : Prop := ∃ (cf : ClassId) (kf : Class) (fi : Nat) (f : Field), U.fieldFound? q.1 q.2.1 q.2.2 = some (cf, kf, fi, f) ∧ f.isStatic = true ∧ kf.init = .initialized ∧ kf.statics = some a ∧ f.slot = sl
theorem GSt.moved {q : String × String × String} {a sl : Nat} {u U : State} (hvm : u.vm.Alike U.vm) (h : GSt q a sl u) : GSt q a sl U := by
  obtain ⟨cf, kf, fi, f, h1, h2, h3, h4, h5⟩ := h
  obtain ⟨k', hi', he⟩ := State.fieldFound?_setVm hvm h1
  exact ⟨cf, k', fi, f, hi', h2, by rw [he]; exact h3, by rw [he]; exact h4, h5⟩
/-- the call sites of lambdas -/
def SH0 : Lambda.Shape := ({ iface := "AcousticCamera$Wave", name := "at", sam := ({ parameters := [Jvm.ClassFile.FieldType.int], returnType := (Option.some Jvm.ClassFile.FieldType.int) } : Jvm.ClassFile.MethodDescriptor), captured := [Jvm.ClassFile.FieldType.int, Jvm.ClassFile.FieldType.int, Jvm.ClassFile.FieldType.int], kind := 6, implClass := "AcousticCamera$Waves", implName := "lambda$square$0", implDesc := ({ parameters := [Jvm.ClassFile.FieldType.int, Jvm.ClassFile.FieldType.int, Jvm.ClassFile.FieldType.int, Jvm.ClassFile.FieldType.int], returnType := (Option.some Jvm.ClassFile.FieldType.int) } : Jvm.ClassFile.MethodDescriptor), implItf := false, inst := ({ parameters := [Jvm.ClassFile.FieldType.int], returnType := (Option.some Jvm.ClassFile.FieldType.int) } : Jvm.ClassFile.MethodDescriptor) } : Jvm.Lambda.Shape)
def SH1 : Lambda.Shape := ({ iface := "AcousticCamera$Wave", name := "at", sam := ({ parameters := [Jvm.ClassFile.FieldType.int], returnType := (Option.some Jvm.ClassFile.FieldType.int) } : Jvm.ClassFile.MethodDescriptor), captured := [Jvm.ClassFile.FieldType.int, Jvm.ClassFile.FieldType.int, Jvm.ClassFile.FieldType.int], kind := 6, implClass := "AcousticCamera$Waves", implName := "lambda$triangle$1", implDesc := ({ parameters := [Jvm.ClassFile.FieldType.int, Jvm.ClassFile.FieldType.int, Jvm.ClassFile.FieldType.int, Jvm.ClassFile.FieldType.int], returnType := (Option.some Jvm.ClassFile.FieldType.int) } : Jvm.ClassFile.MethodDescriptor), implItf := false, inst := ({ parameters := [Jvm.ClassFile.FieldType.int], returnType := (Option.some Jvm.ClassFile.FieldType.int) } : Jvm.ClassFile.MethodDescriptor) } : Jvm.Lambda.Shape)
def SH2 : Lambda.Shape := ({ iface := "AcousticCamera$Wave", name := "at", sam := ({ parameters := [Jvm.ClassFile.FieldType.int], returnType := (Option.some Jvm.ClassFile.FieldType.int) } : Jvm.ClassFile.MethodDescriptor), captured := [Jvm.ClassFile.FieldType.int, Jvm.ClassFile.FieldType.int, Jvm.ClassFile.FieldType.int], kind := 6, implClass := "AcousticCamera$Waves", implName := "lambda$pulse$2", implDesc := ({ parameters := [Jvm.ClassFile.FieldType.int, Jvm.ClassFile.FieldType.int, Jvm.ClassFile.FieldType.int, Jvm.ClassFile.FieldType.int], returnType := (Option.some Jvm.ClassFile.FieldType.int) } : Jvm.ClassFile.MethodDescriptor), implItf := false, inst := ({ parameters := [Jvm.ClassFile.FieldType.int], returnType := (Option.some Jvm.ClassFile.FieldType.int) } : Jvm.ClassFile.MethodDescriptor) } : Jvm.Lambda.Shape)
def SH3 : Lambda.Shape := ({ iface := "AcousticCamera$Wave", name := "at", sam := ({ parameters := [Jvm.ClassFile.FieldType.int], returnType := (Option.some Jvm.ClassFile.FieldType.int) } : Jvm.ClassFile.MethodDescriptor), captured := [Jvm.ClassFile.FieldType.int, Jvm.ClassFile.FieldType.int], kind := 6, implClass := "AcousticCamera$Waves", implName := "lambda$noise$3", implDesc := ({ parameters := [Jvm.ClassFile.FieldType.int, Jvm.ClassFile.FieldType.int, Jvm.ClassFile.FieldType.int], returnType := (Option.some Jvm.ClassFile.FieldType.int) } : Jvm.ClassFile.MethodDescriptor), implItf := false, inst := ({ parameters := [Jvm.ClassFile.FieldType.int], returnType := (Option.some Jvm.ClassFile.FieldType.int) } : Jvm.ClassFile.MethodDescriptor) } : Jvm.Lambda.Shape)
def SH4 : Lambda.Shape := ({ iface := "AcousticCamera$Score", name := "of", sam := ({ parameters := [Jvm.ClassFile.FieldType.int], returnType := (Option.some Jvm.ClassFile.FieldType.long) } : Jvm.ClassFile.MethodDescriptor), captured := [(Jvm.ClassFile.FieldType.array Jvm.ClassFile.FieldType.long)], kind := 6, implClass := "AcousticCamera$State", implName := "lambda$best$0", implDesc := ({ parameters := [(Jvm.ClassFile.FieldType.array Jvm.ClassFile.FieldType.long), Jvm.ClassFile.FieldType.int], returnType := (Option.some Jvm.ClassFile.FieldType.long) } : Jvm.ClassFile.MethodDescriptor), implItf := false, inst := ({ parameters := [Jvm.ClassFile.FieldType.int], returnType := (Option.some Jvm.ClassFile.FieldType.long) } : Jvm.ClassFile.MethodDescriptor) } : Jvm.Lambda.Shape)
def SH5 : Lambda.Shape := ({ iface := "AcousticCamera$Choice", name := "takes", sam := ({ parameters := [Jvm.ClassFile.FieldType.int], returnType := (Option.some Jvm.ClassFile.FieldType.boolean) } : Jvm.ClassFile.MethodDescriptor), captured := [(Jvm.ClassFile.FieldType.object "AcousticCamera$State")], kind := 6, implClass := "AcousticCamera", implName := "lambda$peaks$0", implDesc := ({ parameters := [(Jvm.ClassFile.FieldType.object "AcousticCamera$State"), Jvm.ClassFile.FieldType.int], returnType := (Option.some Jvm.ClassFile.FieldType.boolean) } : Jvm.ClassFile.MethodDescriptor), implItf := false, inst := ({ parameters := [Jvm.ClassFile.FieldType.int], returnType := (Option.some Jvm.ClassFile.FieldType.boolean) } : Jvm.ClassFile.MethodDescriptor) } : Jvm.Lambda.Shape)
def SH6 : Lambda.Shape := ({ iface := "AcousticCamera$Choice", name := "takes", sam := ({ parameters := [Jvm.ClassFile.FieldType.int], returnType := (Option.some Jvm.ClassFile.FieldType.boolean) } : Jvm.ClassFile.MethodDescriptor), captured := [(Jvm.ClassFile.FieldType.object "AcousticCamera$State")], kind := 5, implClass := "AcousticCamera$State", implName := "lambda$peaks$2", implDesc := ({ parameters := [Jvm.ClassFile.FieldType.int], returnType := (Option.some Jvm.ClassFile.FieldType.boolean) } : Jvm.ClassFile.MethodDescriptor), implItf := false, inst := ({ parameters := [Jvm.ClassFile.FieldType.int], returnType := (Option.some Jvm.ClassFile.FieldType.boolean) } : Jvm.ClassFile.MethodDescriptor) } : Jvm.Lambda.Shape)
def SH7 : Lambda.Shape := ({ iface := "AcousticCamera$Score", name := "of", sam := ({ parameters := [Jvm.ClassFile.FieldType.int], returnType := (Option.some Jvm.ClassFile.FieldType.long) } : Jvm.ClassFile.MethodDescriptor), captured := [(Jvm.ClassFile.FieldType.array Jvm.ClassFile.FieldType.long)], kind := 6, implClass := "AcousticCamera$State", implName := "lambda$peaks$3", implDesc := ({ parameters := [(Jvm.ClassFile.FieldType.array Jvm.ClassFile.FieldType.long), Jvm.ClassFile.FieldType.int], returnType := (Option.some Jvm.ClassFile.FieldType.long) } : Jvm.ClassFile.MethodDescriptor), implItf := false, inst := ({ parameters := [Jvm.ClassFile.FieldType.int], returnType := (Option.some Jvm.ClassFile.FieldType.long) } : Jvm.ClassFile.MethodDescriptor) } : Jvm.Lambda.Shape)
def SH8 : Lambda.Shape := ({ iface := "AcousticCamera$Score", name := "of", sam := ({ parameters := [Jvm.ClassFile.FieldType.int], returnType := (Option.some Jvm.ClassFile.FieldType.long) } : Jvm.ClassFile.MethodDescriptor), captured := [(Jvm.ClassFile.FieldType.object "AcousticCamera$State"), Jvm.ClassFile.FieldType.int, (Jvm.ClassFile.FieldType.array Jvm.ClassFile.FieldType.long)], kind := 6, implClass := "AcousticCamera", implName := "lambda$zoneBest$1", implDesc := ({ parameters := [(Jvm.ClassFile.FieldType.object "AcousticCamera$State"), Jvm.ClassFile.FieldType.int, (Jvm.ClassFile.FieldType.array Jvm.ClassFile.FieldType.long), Jvm.ClassFile.FieldType.int], returnType := (Option.some Jvm.ClassFile.FieldType.long) } : Jvm.ClassFile.MethodDescriptor), implItf := false, inst := ({ parameters := [Jvm.ClassFile.FieldType.int], returnType := (Option.some Jvm.ClassFile.FieldType.long) } : Jvm.ClassFile.MethodDescriptor) } : Jvm.Lambda.Shape)
def SH9 : Lambda.Shape := ({ iface := "AcousticCamera$Score", name := "of", sam := ({ parameters := [Jvm.ClassFile.FieldType.int], returnType := (Option.some Jvm.ClassFile.FieldType.long) } : Jvm.ClassFile.MethodDescriptor), captured := [Jvm.ClassFile.FieldType.int, (Jvm.ClassFile.FieldType.array Jvm.ClassFile.FieldType.long)], kind := 6, implClass := "AcousticCamera", implName := "lambda$contrast$2", implDesc := ({ parameters := [Jvm.ClassFile.FieldType.int, (Jvm.ClassFile.FieldType.array Jvm.ClassFile.FieldType.long), Jvm.ClassFile.FieldType.int], returnType := (Option.some Jvm.ClassFile.FieldType.long) } : Jvm.ClassFile.MethodDescriptor), implItf := false, inst := ({ parameters := [Jvm.ClassFile.FieldType.int], returnType := (Option.some Jvm.ClassFile.FieldType.long) } : Jvm.ClassFile.MethodDescriptor) } : Jvm.Lambda.Shape)
def SH10 : Lambda.Shape := ({ iface := "AcousticCamera$Choice", name := "takes", sam := ({ parameters := [Jvm.ClassFile.FieldType.int], returnType := (Option.some Jvm.ClassFile.FieldType.boolean) } : Jvm.ClassFile.MethodDescriptor), captured := [(Jvm.ClassFile.FieldType.object "AcousticCamera$State"), Jvm.ClassFile.FieldType.int, Jvm.ClassFile.FieldType.int], kind := 6, implClass := "AcousticCamera", implName := "lambda$aliases$3", implDesc := ({ parameters := [(Jvm.ClassFile.FieldType.object "AcousticCamera$State"), Jvm.ClassFile.FieldType.int, Jvm.ClassFile.FieldType.int, Jvm.ClassFile.FieldType.int], returnType := (Option.some Jvm.ClassFile.FieldType.boolean) } : Jvm.ClassFile.MethodDescriptor), implItf := false, inst := ({ parameters := [Jvm.ClassFile.FieldType.int], returnType := (Option.some Jvm.ClassFile.FieldType.boolean) } : Jvm.ClassFile.MethodDescriptor) } : Jvm.Lambda.Shape)
def SH11 : Lambda.Shape := ({ iface := "AcousticCamera$Score", name := "of", sam := ({ parameters := [Jvm.ClassFile.FieldType.int], returnType := (Option.some Jvm.ClassFile.FieldType.long) } : Jvm.ClassFile.MethodDescriptor), captured := [(Jvm.ClassFile.FieldType.object "AcousticCamera$State"), Jvm.ClassFile.FieldType.int, Jvm.ClassFile.FieldType.int], kind := 5, implClass := "AcousticCamera$State", implName := "lambda$blockBest$1", implDesc := ({ parameters := [Jvm.ClassFile.FieldType.int, Jvm.ClassFile.FieldType.int, Jvm.ClassFile.FieldType.int], returnType := (Option.some Jvm.ClassFile.FieldType.long) } : Jvm.ClassFile.MethodDescriptor), implItf := false, inst := ({ parameters := [Jvm.ClassFile.FieldType.int], returnType := (Option.some Jvm.ClassFile.FieldType.long) } : Jvm.ClassFile.MethodDescriptor) } : Jvm.Lambda.Shape)
def SH12 : Lambda.Shape := ({ iface := "AcousticCamera$Score", name := "of", sam := ({ parameters := [Jvm.ClassFile.FieldType.int], returnType := (Option.some Jvm.ClassFile.FieldType.long) } : Jvm.ClassFile.MethodDescriptor), captured := [(Jvm.ClassFile.FieldType.array Jvm.ClassFile.FieldType.long)], kind := 6, implClass := "AcousticCamera", implName := "lambda$trackScore$4", implDesc := ({ parameters := [(Jvm.ClassFile.FieldType.array Jvm.ClassFile.FieldType.long), Jvm.ClassFile.FieldType.int], returnType := (Option.some Jvm.ClassFile.FieldType.long) } : Jvm.ClassFile.MethodDescriptor), implItf := false, inst := ({ parameters := [Jvm.ClassFile.FieldType.int], returnType := (Option.some Jvm.ClassFile.FieldType.long) } : Jvm.ClassFile.MethodDescriptor) } : Jvm.Lambda.Shape)
def SH13 : Lambda.Shape := ({ iface := "AcousticCamera$Score", name := "of", sam := ({ parameters := [Jvm.ClassFile.FieldType.int], returnType := (Option.some Jvm.ClassFile.FieldType.long) } : Jvm.ClassFile.MethodDescriptor), captured := [(Jvm.ClassFile.FieldType.array (Jvm.ClassFile.FieldType.array Jvm.ClassFile.FieldType.long))], kind := 6, implClass := "AcousticCamera", implName := "lambda$trackCell$5", implDesc := ({ parameters := [(Jvm.ClassFile.FieldType.array (Jvm.ClassFile.FieldType.array Jvm.ClassFile.FieldType.long)), Jvm.ClassFile.FieldType.int], returnType := (Option.some Jvm.ClassFile.FieldType.long) } : Jvm.ClassFile.MethodDescriptor), implItf := false, inst := ({ parameters := [Jvm.ClassFile.FieldType.int], returnType := (Option.some Jvm.ClassFile.FieldType.long) } : Jvm.ClassFile.MethodDescriptor) } : Jvm.Lambda.Shape)
def SH14 : Lambda.Shape := ({ iface := "AcousticCamera$Score", name := "of", sam := ({ parameters := [Jvm.ClassFile.FieldType.int], returnType := (Option.some Jvm.ClassFile.FieldType.long) } : Jvm.ClassFile.MethodDescriptor), captured := [(Jvm.ClassFile.FieldType.object "AcousticCamera$State"), Jvm.ClassFile.FieldType.int, Jvm.ClassFile.FieldType.int, Jvm.ClassFile.FieldType.int, Jvm.ClassFile.FieldType.int], kind := 6, implClass := "AcousticCamera", implName := "lambda$bestVelocity$6", implDesc := ({ parameters := [(Jvm.ClassFile.FieldType.object "AcousticCamera$State"), Jvm.ClassFile.FieldType.int, Jvm.ClassFile.FieldType.int, Jvm.ClassFile.FieldType.int, Jvm.ClassFile.FieldType.int, Jvm.ClassFile.FieldType.int], returnType := (Option.some Jvm.ClassFile.FieldType.long) } : Jvm.ClassFile.MethodDescriptor), implItf := false, inst := ({ parameters := [Jvm.ClassFile.FieldType.int], returnType := (Option.some Jvm.ClassFile.FieldType.long) } : Jvm.ClassFile.MethodDescriptor) } : Jvm.Lambda.Shape)
def SH15 : Lambda.Shape := ({ iface := "AcousticCamera$Score", name := "of", sam := ({ parameters := [Jvm.ClassFile.FieldType.int], returnType := (Option.some Jvm.ClassFile.FieldType.long) } : Jvm.ClassFile.MethodDescriptor), captured := [(Jvm.ClassFile.FieldType.object "AcousticCamera$State"), Jvm.ClassFile.FieldType.int, Jvm.ClassFile.FieldType.int], kind := 6, implClass := "AcousticCamera", implName := "lambda$bestLag$7", implDesc := ({ parameters := [(Jvm.ClassFile.FieldType.object "AcousticCamera$State"), Jvm.ClassFile.FieldType.int, Jvm.ClassFile.FieldType.int, Jvm.ClassFile.FieldType.int], returnType := (Option.some Jvm.ClassFile.FieldType.long) } : Jvm.ClassFile.MethodDescriptor), implItf := false, inst := ({ parameters := [Jvm.ClassFile.FieldType.int], returnType := (Option.some Jvm.ClassFile.FieldType.long) } : Jvm.ClassFile.MethodDescriptor) } : Jvm.Lambda.Shape)
def SH16 : Lambda.Shape := ({ iface := "AcousticCamera$Choice", name := "takes", sam := ({ parameters := [Jvm.ClassFile.FieldType.int], returnType := (Option.some Jvm.ClassFile.FieldType.boolean) } : Jvm.ClassFile.MethodDescriptor), captured := [], kind := 6, implClass := "AcousticCamera", implName := "lambda$loudest$8", implDesc := ({ parameters := [Jvm.ClassFile.FieldType.int], returnType := (Option.some Jvm.ClassFile.FieldType.boolean) } : Jvm.ClassFile.MethodDescriptor), implItf := false, inst := ({ parameters := [Jvm.ClassFile.FieldType.int], returnType := (Option.some Jvm.ClassFile.FieldType.boolean) } : Jvm.ClassFile.MethodDescriptor) } : Jvm.Lambda.Shape)
def SH17 : Lambda.Shape := ({ iface := "AcousticCamera$Score", name := "of", sam := ({ parameters := [Jvm.ClassFile.FieldType.int], returnType := (Option.some Jvm.ClassFile.FieldType.long) } : Jvm.ClassFile.MethodDescriptor), captured := [(Jvm.ClassFile.FieldType.object "AcousticCamera$State")], kind := 6, implClass := "AcousticCamera", implName := "lambda$loudest$9", implDesc := ({ parameters := [(Jvm.ClassFile.FieldType.object "AcousticCamera$State"), Jvm.ClassFile.FieldType.int], returnType := (Option.some Jvm.ClassFile.FieldType.long) } : Jvm.ClassFile.MethodDescriptor), implItf := false, inst := ({ parameters := [Jvm.ClassFile.FieldType.int], returnType := (Option.some Jvm.ClassFile.FieldType.long) } : Jvm.ClassFile.MethodDescriptor) } : Jvm.Lambda.Shape)
abbrev SQ : Type := MethodName × Nat × Nat × Lambda.Shape
def SIL : List SQ := [(({ cls := "AcousticCamera$Waves", name := "square", desc := "(III)LAcousticCamera$Wave;" } : MethodName), 3, 7, SH0), (({ cls := "AcousticCamera$Waves", name := "triangle", desc := "(III)LAcousticCamera$Wave;" } : MethodName), 3, 11, SH1), (({ cls := "AcousticCamera$Waves", name := "pulse", desc := "(III)LAcousticCamera$Wave;" } : MethodName), 3, 12, SH2), (({ cls := "AcousticCamera$Waves", name := "noise", desc := "(II)LAcousticCamera$Wave;" } : MethodName), 2, 13, SH3), (({ cls := "AcousticCamera$State", name := "best", desc := "()I" } : MethodName), 8, 209, SH4), (({ cls := "AcousticCamera", name := "peaks", desc := "()I" } : MethodName), 13, 284, SH5), (({ cls := "AcousticCamera$State", name := "peaks", desc := "()Ljava/util/LinkedList;" } : MethodName), 8, 260, SH6), (({ cls := "AcousticCamera$State", name := "peaks", desc := "()Ljava/util/LinkedList;" } : MethodName), 14, 264, SH7), (({ cls := "AcousticCamera", name := "zoneBest", desc := "(I)I" } : MethodName), 16, 309, SH8), (({ cls := "AcousticCamera", name := "contrast", desc := "()F" } : MethodName), 28, 315, SH9), (({ cls := "AcousticCamera", name := "aliases", desc := "(II)I" } : MethodName), 20, 337, SH10), (({ cls := "AcousticCamera$State", name := "blockBest", desc := "(II)I" } : MethodName), 10, 227, SH11), (({ cls := "AcousticCamera", name := "trackScore", desc := "(I)J" } : MethodName), 20, 360, SH12), (({ cls := "AcousticCamera", name := "trackCell", desc := "(II)I" } : MethodName), 35, 363, SH13), (({ cls := "AcousticCamera", name := "bestVelocity", desc := "(III)I" } : MethodName), 58, 376, SH14), (({ cls := "AcousticCamera", name := "bestLag", desc := "(III)I" } : MethodName), 23, 385, SH15), (({ cls := "AcousticCamera", name := "loudest", desc := "(I)I" } : MethodName), 11, 391, SH16), (({ cls := "AcousticCamera", name := "loudest", desc := "(I)I" } : MethodName), 17, 394, SH17)]
def LSt (q : SQ) (c : ClassId) (one : Nat) (U : State) : Prop := ∃ (m : MethodId) (k : Class) (cf : ClassFile) (i0 p0 : Nat) (lk : Linked), U.methodNamed? q.1 = some m ∧ U.vm.classes[m.cls]? = some k ∧ k.cf = some cf ∧ Lambda.shapeOf? cf q.2.2.1 = some q.2.2.2 ∧ (k.callSites.find? fun y => y.1 == m.idx && y.2.1 == q.2.1) = some (i0, p0, lk) ∧ Lambda.isMade { classPath := fun _ => none } U.vm m.cls q.2.2.2 c = true ∧ U.lambdaCallable q.2.2.2 c = true ∧ (lk = .constant one ∧ q.2.2.2.captured = [] ∨ lk = .makes c ∧ q.2.2.2.captured ≠ [])
theorem LSt.warm {q : SQ} {c : ClassId} {one : Nat} {s U : State} (hW : s.WarmedH U.vm) (h : LSt q c one s) : LSt q c one U := by
  obtain ⟨m, k, cf, i0, p0, lk, hm, hk, hcf, hsh, hfind, hmade, hcall, hl⟩ := h
  have hA := hW.alike
  obtain ⟨k', hk', he⟩ := hA.2.2 _ _ hk
  have hm' : U.methodNamed? q.1 = some m := by
    have := State.methodNamed?_setVm (s := s) hA q.1
    rw [hm] at this
    exact this
  refine ⟨m, k', cf, i0, p0, lk, hm', hk', by rw [he]; exact hcf, hsh, by rw [he]; exact hfind, Lambda.isMade_warmer hW hmade, ?_, hl⟩
  simp only [State.lambdaCallable, hA.findClass, hA.assignable, hA.superclasses, hA.declaredIn] at hcall ⊢
  exact hcall
/-- arrays of arrays; Object has no fields; the statics of Throwable -/
def AOA (ty : FieldType) (U : State) : Prop := (Cond.arrayOver (.array ty)).before #[] U = true
theorem AOA.moved {ty : FieldType} {u U : State} (hvm : u.vm.Alike U.vm) (h : AOA ty u) : AOA ty U := by
  obtain ⟨comp, c, k, h1, h2, h3, h4, h5⟩ := arrayOverA_spec (args := #[]) (first := u) (s := u) (o := none) (idx := []) h
  obtain ⟨k', hk', he⟩ := hvm.2.2 _ _ h3
  have hi : (U.vm.classes.findIdx? fun (x : Class) => match x.kind with | .array component _ => component == comp | _ => false) = some c := by
    have e1 := va_idx_bare U.vm comp
    have e2 := va_idx_bare u.vm comp
    have e3 : U.vm.bare = u.vm.bare := by first | exact hvm.bare_eq | exact hvm.bare_eq.symm
    rw [e3] at e1
    exact e1.symm.trans (e2.trans h2)
  have hkind : k'.kind = .array comp (.array ty) := by rw [he]; exact h4
  have f1 : U.vm.findClass (FieldType.array ty).toString = some comp := by rw [hvm.findClass]; exact h1
  have f2 : U.vm.findClass ("[" ++ (FieldType.array ty).toString) = some c := by rw [hvm.findClass]; exact h5
  unfold AOA Cond.before Cond.holds
  simp only [Cond.value]
  rw [f1, Option.bind_some]
  refine (congrArg (fun o : Option Nat => (o.bind (fun c => (U.vm.classes[c]?).map fun (k : Class) => match k.kind with | .array _ ty' => decide (ty' = FieldType.array ty) && decide (U.vm.findClass ("[" ++ (FieldType.array ty).toString) = some c) | _ => false) == some true)) hi).trans ?_
  simp [hk', hkind, f2]
def ObN (U : State) : Prop := ∀ o ok, U.vm.findClass "java/lang/Object" = some o → U.vm.classes[o]? = some ok → ok.instanceTypes = #[]
theorem ObN.moved {u U : State} (hvm : u.vm.Alike U.vm) (h : ObN u) : ObN U := fun o ok h1 h2 => by
  rw [hvm.findClass] at h1
  cases hk : u.vm.classes[o]? with
  | none => rw [hvm.none hk] at h2; cases h2
  | some k =>
    obtain ⟨k', hk', he⟩ := hvm.2.2 _ _ hk
    cases Option.some.inj (hk'.symm.trans h2)
    rw [he]
    exact h o k h1 hk
def GSx (q : String × String × String) (c : ClassId) (U : State) : Prop := ∃ (kf : Class) (fi : Nat) (f : Field), U.fieldFound? q.1 q.2.1 q.2.2 = some (c, kf, fi, f) ∧ U.vm.findClass q.1 = some c ∧ kf.staticTypes[f.slot]? = some f.type
theorem GSx.moved {q : String × String × String} {c : ClassId} {u U : State} (hvm : u.vm.Alike U.vm) (h : GSx q c u) : GSx q c U := by
  obtain ⟨kf, fi, f, h1, h2, h3⟩ := h
  obtain ⟨k', hi', he⟩ := State.fieldFound?_setVm hvm h1
  exact ⟨k', fi, f, hi', by rw [hvm.findClass]; exact h2, by rw [he]; exact h3⟩
/-- the interfaces' methods that lambdas stand for -/
def IFL : List MethodName := [⟨"AcousticCamera$Choice", "takes", "(I)Z"⟩, ⟨"AcousticCamera$Score", "of", "(I)J"⟩, ⟨"AcousticCamera$Wave", "at", "(I)I"⟩]
def IFm (x : MethodName) (U : State) : Prop := (Cond.declares x).before #[] U = true ∧ (Cond.interfaceMethod x.cls x.cls x.name x.desc).before #[] U = true
theorem IFm.moved {x : MethodName} (hx : x.cls ≠ "java/lang/invoke/MethodHandle" ∧ x.cls ≠ "java/lang/invoke/VarHandle") {u U : State} (hvm : u.vm.Alike U.vm) (h : IFm x u) : IFm x U := by
  obtain ⟨h1, h2⟩ := h
  obtain ⟨r, meth, hn, -⟩ := Cond.declares_spec h1
  have tr : ∀ {c : Cond}, c.onTables = true → c.before #[] (u.setVm U.vm) = true → c.before #[] U = true := by
    intro c hc h
    have e := Cond.onTables_vm (A := #[]) (A' := #[]) (U := u) (U' := U) U.vm c hc
    have hU : U.setVm U.vm = U := rfl
    rw [hU] at e
    rw [← e]
    exact h
  exact ⟨tr rfl (by rw [Cond.declares_setVm hvm]; exact h1), tr rfl (by rw [Cond.interfaceMethod_setVm hvm (r := r) hn hx]; exact h2)⟩
theorem IFL_ok : ∀ x ∈ IFL, x.cls ≠ "java/lang/invoke/MethodHandle" ∧ x.cls ≠ "java/lang/invoke/VarHandle" := by decide +kernel
/-- more of the tables: D.2.1 (100 + j): the class that the j-th site makes; D.2.2 (600 + j): its one object; D.2.1 (200 + j): the class of the j-th static -/
def GE (D : DD) (U : State) : Prop := AOA .int U ∧ AOA .long U ∧ ObN U ∧ (∀ (j : Nat) (q : SQ), SIL[j]? = some q → LSt q (D.2.1 (100 + j)) (D.2.2 (600 + j)) U) ∧ (∀ (j : Nat) (q : String × String × String), 10 ≤ j → STL[j]? = some q → GSx q (D.2.1 (200 + j)) U) ∧ (∀ x ∈ IFL, IFm x U) ∧ va_Mi "[Ljava/lang/Object;" (D.2.2 620) U
theorem GE.warm {D : DD} {s U : State} (h : GE D s) (hW : s.WarmedH U.vm) : GE D U := ⟨h.1.moved hW.alike, h.2.1.moved hW.alike, h.2.2.1.moved hW.alike, fun j q hq => (h.2.2.2.1 j q hq).warm hW, fun j q h1 hq => (h.2.2.2.2.1 j q h1 hq).moved hW.alike, fun x hx => (h.2.2.2.2.2.1 x hx).moved (IFL_ok x hx) hW.alike, h.2.2.2.2.2.2.moved hW.alike⟩
theorem GE.calling {D : DD} {U : State} (h : GE D U) (g : JFrame) (mk : MethodId) (a : Array Value) : GE D (U.calling g mk a) := GE.warm (s := U) (U := U.calling g mk a) h (State.WarmedH.refl U)
/-- what is known of the tables in every method -/
def GK (D : DD) (U : State) : Prop := va_K D.1 CL (tysOf D) U ∧ (∀ w ∈ lw_tbl, nwq w = true → va_Nw w U) ∧ (∀ q ∈ FWL, va_Fw q.1 q.2.1 q.2.2 U) ∧ (∀ C ∈ AOL, va_AO C U) ∧ (∀ (i : Nat) (q : String × Nat × String), SRL[i]? = some q → vk_R q.1 q.2.1 q.2.2 (D.2.2 i) U) ∧ (∀ (j : Nat) (q : String × String × String), STL[j]? = some q → GSt q (D.2.2 (200 + j)) (D.2.2 (300 + j)) U) ∧ GE D U
theorem GK.warm {D : DD} {s U : State} (h : GK D s) (hW : s.WarmedH U.vm) : GK D U :=
  ⟨va_K.moved hW.alike h.1, fun w hw hn => nwq_warm hn hW (h.2.1 w hw hn), fun q hq => (h.2.2.1 q hq).moved (FWL_ok q hq) hW.alike, fun C hC => (h.2.2.2.1 C hC).moved hW.alike, fun i q hq => (h.2.2.2.2.1 i q hq).warm hW, fun j q hq => (h.2.2.2.2.2.1 j q hq).moved hW.alike, h.2.2.2.2.2.2.warm hW⟩
theorem GK.calling {D : DD} {U : State} (h : GK D U) (g : JFrame) (mk : MethodId) (a : Array Value) : GK D (U.calling g mk a) :=
  ⟨va_K.moved (u := U) (U := U.calling g mk a) (Vm.Alike.refl U.vm) h.1, fun w hw hn => va_Nw.same (nwq_on hn) (u := U) (U := U.calling g mk a) rfl (h.2.1 w hw hn), fun q hq => va_Fw.moved (FWL_ok q hq) (u := U) (U := U.calling g mk a) (Vm.Alike.refl U.vm) (h.2.2.1 q hq), fun C hC => va_AO.moved (u := U) (U := U.calling g mk a) (Vm.Alike.refl U.vm) (h.2.2.2.1 C hC), fun i q hq => vk_R.same (u := U) (U := U.calling g mk a) rfl (h.2.2.2.2.1 i q hq), fun j q hq => GSt.moved (u := U) (U := U.calling g mk a) (Vm.Alike.refl U.vm) (h.2.2.2.2.2.1 j q hq), h.2.2.2.2.2.2.calling g mk a⟩
/-- all that stays in a walk -/
abbrev C_ : Type := Program × Launch × Env × Room × State × MethodId × Array Value × List Frame × Method × Code
abbrev kP (K : C_) : Program := K.1
abbrev kL (K : C_) : Launch := K.2.1
abbrev kE (K : C_) : Env := K.2.2.1
abbrev kR (K : C_) : Room := K.2.2.2.1
abbrev kS (K : C_) : State := K.2.2.2.2.1
abbrev kM (K : C_) : MethodId := K.2.2.2.2.2.1
abbrev kA (K : C_) : Array Value := K.2.2.2.2.2.2.1
abbrev kB (K : C_) : List Frame := K.2.2.2.2.2.2.2.1
abbrev kT (K : C_) : Method := K.2.2.2.2.2.2.2.2.1
abbrev kC (K : C_) : Code := K.2.2.2.2.2.2.2.2.2
/-- what may be written: the cells of A, and the new ones -/
abbrev kF (K : C_) (A : Nat → Prop) : Nat → Prop := fun q => A q ∨ (kS K).heap.size ≤ q
/-- THE JUDGEMENT: at pc with the locals lv and the stack st, over the heap H, the machine comes to Q -/
def V (K : C_) (nL : Nat) (A : Nat → Prop) (H : Heap) (cells slots : Nat) (Q : State → Prop) (pc : Nat) (lv : List (Nat × Value)) (st : List Value) : Prop :=
  ∀ (L : List Loc) (ls : Array Slot), va_S (kF K A) (kS K).heap H L → lv_has ls nL lv → W (kP K) (kL K) (kE K) (kR K) (kS K) (kM K) (kA K) (kB K) (kT K) (kC K) H L cells slots Q (F0 (kM K) pc ls st)
/-- the walk's fixed facts -/
def Fx (K : C_) (y : MethodName) (cc : ByteArray) (nL : Nat) (ret : Option FieldType) (rm : Room) (D : DD) : Prop :=
  (kP K).tables.exec = Jvm.exec ∧ (kC K).code = cc ∧ (kC K).maxLocals = nL ∧ (kS K).vm.findClass y.cls = some (kM K).cls ∧ (∀ w ∈ lw_all, w.before (kA K) (kS K) = true) ∧ GK D (kS K) ∧ (kT K).sig.returnType = ret ∧ (kT K).locks = false ∧ kR K = rm ∧ (kT K).name = y.name ∧ (kS K).methodNamed? y = some (kM K)
section FXP
variable {K : C_} {y : MethodName} {cc : ByteArray} {nL : Nat} {ret : Option FieldType} {rm : Room} {D : DD}
theorem Fx.exec (X : Fx K y cc nL ret rm D) : (kP K).tables.exec = Jvm.exec := X.1
theorem Fx.code (X : Fx K y cc nL ret rm D) : (kC K).code = cc := X.2.1
theorem Fx.maxL (X : Fx K y cc nL ret rm D) : (kC K).maxLocals = nL := X.2.2.1
theorem Fx.own (X : Fx K y cc nL ret rm D) : (kS K).vm.findClass y.cls = some (kM K).cls := X.2.2.2.1
theorem Fx.words (X : Fx K y cc nL ret rm D) : ∀ w ∈ lw_all, w.before (kA K) (kS K) = true := X.2.2.2.2.1
theorem Fx.gk (X : Fx K y cc nL ret rm D) : GK D (kS K) := X.2.2.2.2.2.1
theorem Fx.kk (X : Fx K y cc nL ret rm D) : va_K D.1 CL (tysOf D) (kS K) := X.gk.1
theorem Fx.returns (X : Fx K y cc nL ret rm D) : (kT K).sig.returnType = ret := X.2.2.2.2.2.2.1
theorem Fx.locks (X : Fx K y cc nL ret rm D) : (kT K).locks = false := X.2.2.2.2.2.2.2.1
theorem Fx.room (X : Fx K y cc nL ret rm D) : kR K = rm := X.2.2.2.2.2.2.2.2.1
theorem Fx.name (X : Fx K y cc nL ret rm D) : (kT K).name = y.name := X.2.2.2.2.2.2.2.2.2.1
theorem Fx.named (X : Fx K y cc nL ret rm D) : (kS K).methodNamed? y = some (kM K) := X.2.2.2.2.2.2.2.2.2.2
theorem Fx.str (X : Fx K y cc nL ret rm D) {i : Nat} {q : String × Nat × String} (h : SRL[i]? = some q) : vk_R q.1 q.2.1 q.2.2 (D.2.2 i) (kS K) := X.gk.2.2.2.2.1 i q h
theorem Fx.stat (X : Fx K y cc nL ret rm D) {j : Nat} {q : String × String × String} (h : STL[j]? = some q) : GSt q (D.2.2 (200 + j)) (D.2.2 (300 + j)) (kS K) := X.gk.2.2.2.2.2.1 j q h
theorem Fx.ge (X : Fx K y cc nL ret rm D) : GE D (kS K) := X.gk.2.2.2.2.2.2
theorem Fx.nest (X : Fx K y cc nL ret rm D) {w : Cond} (h : w ∈ lw_tbl) (hn : nwq w = true) : va_Nw w (kS K) := X.gk.2.1 w h hn
end FXP
/-- a contract's start and end -/
def PcT (D : DD) (av : List Value) (sz : Nat) (P : Heap → Prop) : Array Value → State → Prop := fun v U => v = av.toArray ∧ U.heap.size = sz ∧ P U.heap ∧ GK D U
def QcT (A : Nat → Prop) (sz : Nat) (Q : Option Value → Heap → Heap → Prop) : Array Value → State → Outcome → State → Prop := fun _ st o t => ∃ v, o = .returned v ∧ Q v st.heap t.heap ∧ va_F (fun q => A q ∨ sz ≤ q) st t
theorem PcT_blind {D : DD} {av : List Value} {sz : Nat} {P : Heap → Prop} : FrameBlind (PcT D av sz P) := fun a U g mk h => ⟨h.1, h.2.1, h.2.2.1, h.2.2.2.calling g mk a⟩
/-- THE CONTRACT of a method that returns: from a heap with P, the answer and the two heaps are in Q; of the old cells only A's change -/
def Ct (l : Launch) (y : MethodName) (bytes : ByteArray) (nL : Nat) (ret : Option FieldType) (rm : Room) (D : DD) (av : List Value) (P : Heap → Prop) (A : Nat → Prop) (Q : Option Value → Heap → Heap → Prop) : Prop :=
  ∀ sz : Nat, Met l y (ws_ y bytes nL ret) rm (PcT D av sz P) (QcT A sz Q) rm.cells rm.slots (fun q => A q ∨ sz ≤ q)
/-- .. of one that only reads -/
abbrev Cp (l : Launch) (y : MethodName) (bytes : ByteArray) (nL : Nat) (ret : Option FieldType) (rm : Room) (D : DD) (av : List Value) (P : Heap → Prop) (r : Value) : Prop :=
  Ct l y bytes nL ret rm D av P (fun _ => False) (fun v H H1 => v = some r ∧ H1 = H)
def QM (K : C_) (rm : Room) (A : Nat → Prop) (Q : Option Value → Heap → Heap → Prop) : State → Prop := MQ (kB K) (QcT A (kS K).heap.size Q) (kA K) (kS K) rm.cells rm.slots (kF K A)
theorem Ct.of {l : Launch} {y : MethodName} {bytes : ByteArray} {nL : Nat} {ret : Option FieldType} {rm : Room} {D : DD} {av : List Value} {P : Heap → Prop} {A : Nat → Prop} {Q : Option Value → Heap → Heap → Prop} (hy : plainName y.cls = true) (hL : (lg_sl av).length ≤ nL)
    (body : ∀ (K : C_) (Qf : State → Prop), kL K = l → Fx K y bytes nL ret rm D → P (kS K).heap → QM K rm A Q = Qf → V K nL A (kS K).heap 0 0 Qf 0 (lv_args 0 av) []) : Ct l y bytes nL ret rm D av P A Q := by
  intro sz
  refine Met.ofW (cc := bytes) (maxL := nL) (ret := ret) hy rfl ?_
  intro p e s m args below meth c s₁ B hml hv
  obtain ⟨rfl, hsz, hP, hG⟩ := hv
  subst hsz
  have hts := atoms_spec (ws := ws_ y bytes nL ret) B.pre
  have X : Fx (p, l, e, rm, s, m, av.toArray, below, meth, c) y bytes nL ret rm D := ⟨B.exec, B.bytes, hml, findClass_of_methodNamed B.named, fun w h => hts w (List.mem_cons_of_mem _ h), hG, B.returns, B.notSynchronized, rfl, (name_of_methodNamed B.named B.method).1, B.named⟩
  rw [lg_entry_eq]
  exact body _ _ rfl X hP rfl [] _ va_S.rf (lv_entry av hL)
section ROWS
variable {K : C_} {y : MethodName} {cc : ByteArray} {nL : Nat} {ret : Option FieldType} {rm : Room} {D : DD} {A : Nat → Prop} {H : Heap} {cells slots : Nat} {Q : State → Prop} {pc : Nat} {lv : List (Nat × Value)} {rest : List Value}
theorem vv_widen {k n : Nat} (h1 : cells ≤ k) (h2 : slots ≤ n) (kk : V K nL A H k n Q pc lv rest) : V K nL A H cells slots Q pc lv rest := fun L ls hS h0 => W.widen h1 h2 (kk L ls hS h0)
theorem vv_sub {lv' : List (Nat × Value)} (ks : List Nat) (hl : lv_pick lv ks = lv') (kk : V K nL A H cells slots Q pc lv' rest) : V K nL A H cells slots Q pc lv rest := fun L ls hS h0 => kk L ls hS (lv_sub h0 ks hl)
theorem vv_eqi {x x' : Int32} (h : x = x') (kk : V K nL A H cells slots Q pc lv (.int x' :: rest)) : V K nL A H cells slots Q pc lv (.int x :: rest) := h ▸ kk
theorem vv_eql {x x' : Int64} (h : x = x') (kk : V K nL A H cells slots Q pc lv (.long x' :: rest)) : V K nL A H cells slots Q pc lv (.long x :: rest) := h ▸ kk
theorem vv_iret {QQ : Option Value → Heap → Heap → Prop} {Qf : State → Prop} {v : Int32} (X : Fx K y cc nL (some .int) rm D) (hQ : QM K rm A QQ = Qf) (d : decode cc pc = .ok (.ireturn, 1)) (hc : cells ≤ rm.cells) (hs : slots ≤ rm.slots) (hq : QQ (some (.int v)) (kS K).heap H) : V K nL A H cells slots Qf pc lv [.int v] := by
  subst hQ
  intro L ls hS h0
  refine W.widen hc hs ?_
  exact W.iret X.exec X.code X.returns (fun t ht hW => ⟨_, rfl, by rw [ht]; exact hq, hS.F ht⟩) hS.2.2 d X.locks
theorem vv_zret {QQ : Option Value → Heap → Heap → Prop} {Qf : State → Prop} {v : Int32} {ty : FieldType} (X : Fx K y cc nL (some ty) rm D) (hn : narrow ty (.int v) = .int v) (hQ : QM K rm A QQ = Qf) (d : decode cc pc = .ok (.ireturn, 1)) (hc : cells ≤ rm.cells) (hs : slots ≤ rm.slots) (hq : QQ (some (.int v)) (kS K).heap H) : V K nL A H cells slots Qf pc lv [.int v] := by
  subst hQ
  intro L ls hS h0
  refine W.widen hc hs ?_
  exact W.zret X.exec X.code X.returns hn (fun t ht hW => ⟨_, rfl, by rw [ht]; exact hq, hS.F ht⟩) hS.2.2 d X.locks
theorem vv_lret {QQ : Option Value → Heap → Heap → Prop} {Qf : State → Prop} {v : Int64} (X : Fx K y cc nL (some .long) rm D) (hQ : QM K rm A QQ = Qf) (d : decode cc pc = .ok (.lreturn, 1)) (hc : cells ≤ rm.cells) (hs : slots ≤ rm.slots) (hq : QQ (some (.long v)) (kS K).heap H) : V K nL A H cells slots Qf pc lv [.long v] := by
  subst hQ
  intro L ls hS h0
  refine W.widen hc hs ?_
  exact W.lret X.exec X.code X.returns (fun t ht hW => ⟨_, rfl, by rw [ht]; exact hq, hS.F ht⟩) hS.2.2 d X.locks
theorem vv_vret {QQ : Option Value → Heap → Heap → Prop} {Qf : State → Prop} (X : Fx K y cc nL none rm D) (hQ : QM K rm A QQ = Qf) (d : decode cc pc = .ok (.return_, 1)) (hc : cells ≤ rm.cells) (hs : slots ≤ rm.slots) (hq : QQ none (kS K).heap H) : V K nL A H cells slots Qf pc lv [] := by
  subst hQ
  intro L ls hS h0
  refine W.widen hc hs ?_
  exact W.vret X.exec X.code X.returns (fun t ht hW => ⟨_, rfl, by rw [ht]; exact hq, hS.F ht⟩) hS.2.2 d X.locks
theorem vv_aret {QQ : Option Value → Heap → Heap → Prop} {Qf : State → Prop} {v : Value} {rt : FieldType} (X : Fx K y cc nL (some rt) rm D) (hrt : (∃ n, rt = .object n) ∨ ∃ t, rt = .array t) (hv : v = .null ∨ ∃ a, v = .ref a) (hQ : QM K rm A QQ = Qf) (d : decode cc pc = .ok (.areturn, 1)) (hc : cells ≤ rm.cells) (hs : slots ≤ rm.slots) (hq : QQ (some v) (kS K).heap H) : V K nL A H cells slots Qf pc lv [v] := by
  subst hQ
  intro L ls hS h0
  refine W.widen hc hs ?_
  exact W.aret X.exec X.code X.returns hrt hv (fun t ht hW => ⟨_, rfl, by rw [ht]; exact hq, hS.F ht⟩) hS.2.2 d X.locks
/-- behind a call -/
theorem vv_after {mc ms : Nat} {A2 : Nat → Prop} {Q2 : Option Value → Heap → Heap → Prop} {as : Array Value} {stk st : List Value}
    (hr : ∀ (L : List Loc) (ls : Array Slot), lv_has ls nL lv → va_Run (kP K) (kL K) (kE K) (kR K) (kS K) (kM K) (kA K) (kB K) (kT K) (kC K) H L cells slots mc ms (F0 (kM K) pc ls stk) st (QcT A2 H.size Q2 as) (fun q => A2 q ∨ H.size ≤ q))
    (hA : ∀ q, A2 q → kF K A q)
    (kk : ∀ (v : Option Value) (H1 : Heap), Q2 v H H1 → H.size ≤ H1.size → (∀ q : Nat, q < H.size → ¬ A2 q → H1[q]? = H[q]?) → V K nL A H1 (cells + mc) (slots + ms) Q (pc + 3) lv (v.toList ++ st)) : V K nL A H cells slots Q pc lv stk := by
  intro L ls hS h0 T hT XX
  obtain ⟨v, st₀, t, T', L', hst, X', hL, e1, e2, ⟨v', hv, hq, hz, hk⟩, hgo⟩ := hr L ls h0 T hT XX
  cases hv
  rw [hst] at hq hz hk
  have hk' : ∀ q : Nat, q < H.size → ¬ A2 q → t.heap[q]? = H[q]? := fun q h1 h2 => hk q h1 (fun z => z.elim h2 (fun z => absurd h1 (Nat.not_lt.mpr z)))
  obtain ⟨t2, a1, b1⟩ := kk v t.heap hq hz hk' (L ++ L') ls ⟨Nat.le_trans hS.1 hz, fun q h1 h2 => (hk' q (Nat.lt_of_lt_of_le h1 hS.1) (fun z => h2 (hA q z))).trans (hS.2.1 q h1 h2), fun q hq => by
      rcases List.mem_append.mp hq with h | h
      · exact hS.2.2 q h
      · rcases hL q h with z | z
        · exact hA _ z
        · exact Or.inr (Nat.le_trans hS.1 z)⟩ h0 T' e1 X'
  exact ⟨t2, hgo t2 a1, b1⟩
abbrev notMH (y : MethodName) (n : Nat) : Prop := y.cls ≠ "java/lang/invoke/MethodHandle" ∧ y.cls ≠ "java/lang/invoke/VarHandle" ∧ (parseMethodDescriptor y.desc).map (fun d => d.parameters.length) = some n
variable {y2 : MethodName} {b2 : ByteArray} {nL2 idx b : Nat} {ret2 : Option FieldType} {rm2 : Room} {As st stk : List Value} {P : Heap → Prop} {A2 : Nat → Prop} {Q2 : Option Value → Heap → Heap → Prop}
theorem vv_callV (X : Fx K y cc nL ret rm D) (hM : Ct (kL K) y2 b2 nL2 ret2 rm2 D (.ref b :: As) P A2 Q2) (q1 : Cond.methodLink y.cls idx y2 ∈ lw_all) (q2 : Cond.instanceMethod y2 ∈ lw_all) (q3 : Cond.selects y2.cls y2 y2 ∈ lw_all) (q4 : Cond.initialized y2.cls ∈ lw_all) (q5 : Cond.code y2 b2 nL2 ret2 ∈ lw_all) (hd : notMH y2 As.length) (hR : rm2.frames + 1 ≤ rm.frames ∧ 8 + (nL2 + 11) + rm2.locals ≤ rm.locals)
    (d : decode cc pc = .ok (.invokevirtual idx, 3)) (hstk : stk = As.reverse ++ .ref b :: st) (hw : (st.map fun v => v.category).sum ≤ 8) (ho : ∃ cell : Cell, H[b]? = some cell ∧ cell.vm.isStatics = false ∧ (kS K).vm.findClass y2.cls = some cell.cls) (hP : P H) (hA : ∀ q, A2 q → kF K A q) (hc : cells + rm2.cells ≤ rm.cells ∧ slots + rm2.slots ≤ rm.slots)
    (kk : ∀ (v : Option Value) (H1 : Heap), Q2 v H H1 → H.size ≤ H1.size → (∀ q : Nat, q < H.size → ¬ A2 q → H1[q]? = H[q]?) → V K nL A H1 (cells + rm2.cells) (slots + rm2.slots) Q (pc + 3) lv (v.toList ++ st)) : V K nL A H cells slots Q pc lv stk := by
  subst hstk
  exact vv_after (fun L ls h0 => va_runV (As := As) (rest := st) ⟨X.exec, X.code, X.maxL, X.own, X.words⟩ (hM H.size) (cwV As.length X.words (lw_V q1 q2 q3 q4 q5) rfl rfl rfl ⟨rfl, hd⟩ (by rw [X.room]; exact hR)) ⟨PcT_blind, ho, fun U hU hW => ⟨rfl, by rw [hU], by rw [hU]; exact hP, X.gk.warm hW⟩⟩ rfl rfl h0.1 rfl (lv_room hw) d (by rw [X.room]; exact hc)) hA kk
theorem vv_callS (X : Fx K y cc nL ret rm D) (hM : Ct (kL K) y2 b2 nL2 ret2 rm2 D As P A2 Q2) (q1 : Cond.methodLink y.cls idx y2 ∈ lw_all) (q2 : Cond.static y2 ∈ lw_all) (q4 : Cond.initialized y2.cls ∈ lw_all) (q5 : Cond.code y2 b2 nL2 ret2 ∈ lw_all) (hd : notMH y2 As.length) (hR : rm2.frames + 1 ≤ rm.frames ∧ 8 + (nL2 + 11) + rm2.locals ≤ rm.locals)
    (d : decode cc pc = .ok (.invokestatic idx, 3)) (hstk : stk = As.reverse ++ st) (hw : (st.map fun v => v.category).sum ≤ 8) (hP : P H) (hA : ∀ q, A2 q → kF K A q) (hc : cells + rm2.cells ≤ rm.cells ∧ slots + rm2.slots ≤ rm.slots)
    (kk : ∀ (v : Option Value) (H1 : Heap), Q2 v H H1 → H.size ≤ H1.size → (∀ q : Nat, q < H.size → ¬ A2 q → H1[q]? = H[q]?) → V K nL A H1 (cells + rm2.cells) (slots + rm2.slots) Q (pc + 3) lv (v.toList ++ st)) : V K nL A H cells slots Q pc lv stk := by
  subst hstk
  exact vv_after (fun L ls h0 => va_runS (As := As) (rest := st) ⟨X.exec, X.code, X.maxL, X.own, X.words⟩ (hM H.size) (va_cwS As.length X.words (lw_S q1 q2 q4 q5) rfl rfl rfl hd (by rw [X.room]; exact hR)) ⟨PcT_blind, fun U hU hW => ⟨rfl, by rw [hU], by rw [hU]; exact hP, X.gk.warm hW⟩⟩ rfl rfl h0.1 rfl (lv_room hw) d (by rw [X.room]; exact hc)) hA kk
theorem vv_callI (X : Fx K y cc nL ret rm D) (hM : Ct (kL K) y2 b2 nL2 none rm2 D (.ref b :: As) P A2 Q2) (q1 : Cond.methodLink y.cls idx y2 ∈ lw_all) (q2 : Cond.instanceMethod y2 ∈ lw_all) (q4 : Cond.initialized y2.cls ∈ lw_all) (q5 : Cond.code y2 b2 nL2 none ∈ lw_all) (hn : y2.name = "<init>") (hd : notMH y2 As.length) (hR : rm2.frames + 1 ≤ rm.frames ∧ 8 + (nL2 + 11) + rm2.locals ≤ rm.locals)
    (d : decode cc pc = .ok (.invokespecial idx, 3)) (hstk : stk = As.reverse ++ .ref b :: st) (hw : (st.map fun v => v.category).sum ≤ 8) (hP : P H) (hA : ∀ q, A2 q → kF K A q) (hc : cells + rm2.cells ≤ rm.cells ∧ slots + rm2.slots ≤ rm.slots)
    (kk : ∀ (v : Option Value) (H1 : Heap), Q2 v H H1 → H.size ≤ H1.size → (∀ q : Nat, q < H.size → ¬ A2 q → H1[q]? = H[q]?) → V K nL A H1 (cells + rm2.cells) (slots + rm2.slots) Q (pc + 3) lv (v.toList ++ st)) : V K nL A H cells slots Q pc lv stk := by
  subst hstk
  exact vv_after (fun L ls h0 => va_runI (As := As) (rest := st) ⟨X.exec, X.code, X.maxL, X.own, X.words⟩ (hM H.size) (cwI As.length X.words (lw_meth q5) rfl rfl rfl (X.words _ q4) (X.words _ q1) (X.words _ q2) hn hd (by rw [X.room]; exact hR)) ⟨PcT_blind, fun U hU hW => ⟨rfl, by rw [hU], by rw [hU]; exact hP, X.gk.warm hW⟩⟩ rfl rfl h0.1 rfl (lv_room hw) d (by rw [X.room]; exact hc)) hA kk
/-- a call of a method that only reads -/
theorem vv_callVp {r : Value} (X : Fx K y cc nL ret rm D) (hM : Cp (kL K) y2 b2 nL2 ret2 rm2 D (.ref b :: As) P r) (q1 : Cond.methodLink y.cls idx y2 ∈ lw_all) (q2 : Cond.instanceMethod y2 ∈ lw_all) (q3 : Cond.selects y2.cls y2 y2 ∈ lw_all) (q4 : Cond.initialized y2.cls ∈ lw_all) (q5 : Cond.code y2 b2 nL2 ret2 ∈ lw_all) (hd : notMH y2 As.length) (hR : rm2.frames + 1 ≤ rm.frames ∧ 8 + (nL2 + 11) + rm2.locals ≤ rm.locals)
    (d : decode cc pc = .ok (.invokevirtual idx, 3)) (hstk : stk = As.reverse ++ .ref b :: st) (hw : (st.map fun v => v.category).sum ≤ 8) (ho : ∃ cell : Cell, H[b]? = some cell ∧ cell.vm.isStatics = false ∧ (kS K).vm.findClass y2.cls = some cell.cls) (hP : P H) (hc : cells + rm2.cells ≤ rm.cells ∧ slots + rm2.slots ≤ rm.slots)
    (kk : V K nL A H (cells + rm2.cells) (slots + rm2.slots) Q (pc + 3) lv (r :: st)) : V K nL A H cells slots Q pc lv stk :=
  vv_callV X hM q1 q2 q3 q4 q5 hd hR d hstk hw ho hP (fun _ z => z.elim) hc (fun v H1 hq _ _ => by obtain ⟨rfl, rfl⟩ := hq; exact kk)
theorem vv_callSp {r : Value} (X : Fx K y cc nL ret rm D) (hM : Cp (kL K) y2 b2 nL2 ret2 rm2 D As P r) (q1 : Cond.methodLink y.cls idx y2 ∈ lw_all) (q2 : Cond.static y2 ∈ lw_all) (q4 : Cond.initialized y2.cls ∈ lw_all) (q5 : Cond.code y2 b2 nL2 ret2 ∈ lw_all) (hd : notMH y2 As.length) (hR : rm2.frames + 1 ≤ rm.frames ∧ 8 + (nL2 + 11) + rm2.locals ≤ rm.locals)
    (d : decode cc pc = .ok (.invokestatic idx, 3)) (hstk : stk = As.reverse ++ st) (hw : (st.map fun v => v.category).sum ≤ 8) (hP : P H) (hc : cells + rm2.cells ≤ rm.cells ∧ slots + rm2.slots ≤ rm.slots)
    (kk : V K nL A H (cells + rm2.cells) (slots + rm2.slots) Q (pc + 3) lv (r :: st)) : V K nL A H cells slots Q pc lv stk :=
  vv_callS X hM q1 q2 q4 q5 hd hR d hstk hw hP (fun _ z => z.elim) hc (fun v H1 hq _ _ => by obtain ⟨rfl, rfl⟩ := hq; exact kk)
end ROWS
end FRM
