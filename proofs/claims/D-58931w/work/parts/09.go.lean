/-! ===== what holds all through: the tables, the statics, the constants; the memory that a heap holds; the judgement Go ===== -/
def RV (v : Value) : Prop := v = .null ∨ ∃ a, v = .ref a
theorem rv_n : RV .null := Or.inl rfl
theorem rv_r {a : Nat} : RV (.ref a) := Or.inr ⟨a, rfl⟩
theorem rv_f {o : Option Nat} : RV (va_rf o) := by cases o; exact rv_n; exact rv_r
theorem rv_ex {v : Value} (h : RV v) : ∃ o, v = va_rf o := by
  rcases h with rfl | ⟨a, rfl⟩
  · exact ⟨none, rfl⟩
  · exact ⟨some a, rfl⟩
theorem rv_cat {v : Value} (h : RV v) : v.category = 1 := by
  rcases h with rfl | ⟨a, rfl⟩ <;> rfl
/-- the launch; the heap's size at the law's start; classes' numbers and slots; arrays' classes; constants' addresses; one static's value; the memory at the start -/
abbrev KT : Type := Launch × Nat × va_G × (Nat → ClassId) × (Nat → Nat) × Value × Mem
abbrev kL (K : KT) : Launch := K.1
abbrev kB (K : KT) : Nat := K.2.1
abbrev kD (K : KT) : va_G := K.2.2.1
abbrev kA (K : KT) : Nat → ClassId := K.2.2.2.1
abbrev kC (K : KT) : Nat → Nat := K.2.2.2.2.1
abbrev kV (K : KT) : Value := K.2.2.2.2.2.1
abbrev kM (K : KT) : Mem := K.2.2.2.2.2.2
def tysS (K : KT) : List (ClassId × FieldType) := [(kA K 0, .int), (kA K 1, .byte), (kA K 2, .long), (kA K 3, .object "java/lang/Object"), (kA K 4, .object "PostChaiseYard$Status"), (kA K 5, .object "java/lang/String")]
def statS (K : KT) : List (String × String × String × Value) := [("PostChaiseYard$Status", "WAITS", "LPostChaiseYard$Status;", .ref (kC K 0)), ("PostChaiseYard$Status", "UNDER_WAY", "LPostChaiseYard$Status;", .ref (kC K 1)), ("PostChaiseYard$Status", "ARRIVED", "LPostChaiseYard$Status;", .ref (kC K 2)), ("PostChaiseYard$Status", "GAVE_UP", "LPostChaiseYard$Status;", .ref (kC K 3)),
  ("java/util/ArrayList", "DEFAULTCAPACITY_EMPTY_ELEMENTDATA", "[Ljava/lang/Object;", .ref (kC K 4)), ("java/lang/Integer$IntegerCache", "cache", "[Ljava/lang/Integer;", .ref (kC K 5)), ("java/util/TreeSet", "PRESENT", "Ljava/lang/Object;", .ref (kC K 6)), ("java/lang/Integer$IntegerCache", "high", "I", .int (ii 127)), ("java/lang/String", "COMPACT_STRINGS", "Z", .int (ii 1)), ("jdk/internal/util/Preconditions", "SIOOBE_FORMATTER", "Ljava/util/function/BiFunction;", kV K)]
/-- the texts' places: own, entry, text, which word -/
def strS : List (String × Nat × String × Nat) := [("PostChaiseYard", 9, "express", 0), ("PostChaiseYard", 11, "noble", 1), ("PostChaiseYard", 13, "plain", 2), ("PostChaiseYard", 15, "wait", 3), ("PostChaiseYard", 17, "bed", 4), ("PostChaiseYard", 19, "call", 5), ("PostChaiseYard", 21, "pole", 6), ("PostChaiseYard$Order", 23, "express", 0), ("PostChaiseYard$Order", 29, "noble", 1), ("PostChaiseYard$Order", 31, "plain", 2), ("PostChaiseYard$Order", 33, "wait", 3), ("PostChaiseYard$Order", 35, "bed", 4), ("PostChaiseYard$Order", 37, "call", 5), ("PostChaiseYard$TextReader", 80, "wait", 3), ("PostChaiseYard$TextReader", 82, "pole", 6)]
def wdS : List (List Nat) := [[101, 120, 112, 114, 101, 115, 115], [110, 111, 98, 108, 101], [112, 108, 97, 105, 110], [119, 97, 105, 116], [98, 101, 100], [99, 97, 108, 108], [112, 111, 108, 101]]
def wdH : List Int := [-1308979344, 104991738, 106748362, 3641717, 97409, 3045982, 3446712]
/-- pairs of classes, the first no kind of the second: (the thrown, the caught) -/
def ncS : List (String × String) := [("java/lang/IndexOutOfBoundsException", "java/lang/IllegalArgumentException"), ("java/lang/IllegalStateException", "java/lang/IllegalArgumentException"), ("java/lang/IllegalStateException", "java/lang/IndexOutOfBoundsException"), ("java/lang/IllegalArgumentException", "java/lang/IndexOutOfBoundsException"), ("java/util/NoSuchElementException", "java/lang/IndexOutOfBoundsException")]
/-- words that ride by themselves: casts, nest mates' links, what a class declares -/
def rideW (w : Cond) : Bool := match w with
  | .castable _ _ => true
  | .fieldLinkNest _ _ _ _ _ _ => true
  | .methodLinkNest _ _ _ _ => true
  | .declares _ => true
  | _ => false
theorem rideW_moved {w : Cond} (hw : rideW w = true) {s U : State} (hW : s.WarmedH U.vm) (h : va_Nw w s) : va_Nw w U := by
  cases w <;> simp only [rideW, Bool.false_eq_true] at hw
  all_goals first | exact va_Nw.warmF hW h | exact va_Nw.warmM hW h | exact va_Nw.warmC hW h | exact va_Nw.warmD hW h

def lw_rd : List Cond := lw_tbl.filter rideW
theorem lw_rdi {w : Cond} (h : w ∈ lw_tbl) (g : rideW w = true) : w ∈ lw_rd := List.mem_filter.mpr ⟨h, g⟩
/-- calls by an interface: the receiver's class, the name called, the method that runs -/
def fwS : List (String × MethodName × MethodName) := [
  ("java/util/ArrayList", ⟨"java/util/List", "add", "(Ljava/lang/Object;)Z"⟩, ⟨"java/util/ArrayList", "add", "(Ljava/lang/Object;)Z"⟩),
  ("java/util/ArrayList", ⟨"java/util/List", "get", "(I)Ljava/lang/Object;"⟩, ⟨"java/util/ArrayList", "get", "(I)Ljava/lang/Object;"⟩),
  ("java/util/ArrayList", ⟨"java/util/List", "indexOf", "(Ljava/lang/Object;)I"⟩, ⟨"java/util/ArrayList", "indexOf", "(Ljava/lang/Object;)I"⟩),
  ("java/util/ArrayList", ⟨"java/util/List", "isEmpty", "()Z"⟩, ⟨"java/util/ArrayList", "isEmpty", "()Z"⟩),
  ("java/util/ArrayList", ⟨"java/util/List", "remove", "(I)Ljava/lang/Object;"⟩, ⟨"java/util/ArrayList", "remove", "(I)Ljava/lang/Object;"⟩),
  ("java/util/ArrayList", ⟨"java/util/List", "size", "()I"⟩, ⟨"java/util/ArrayList", "size", "()I"⟩),
  ("PostChaiseYard$Guest", ⟨"java/lang/Comparable", "compareTo", "(Ljava/lang/Object;)I"⟩, ⟨"PostChaiseYard$Guest", "compareTo", "(Ljava/lang/Object;)I"⟩),
  ("PostChaiseYard$Chaise", ⟨"java/lang/Comparable", "compareTo", "(Ljava/lang/Object;)I"⟩, ⟨"PostChaiseYard$Chaise", "compareTo", "(Ljava/lang/Object;)I"⟩),
  ("java/lang/Integer", ⟨"java/lang/Comparable", "compareTo", "(Ljava/lang/Object;)I"⟩, ⟨"java/lang/Integer", "compareTo", "(Ljava/lang/Object;)I"⟩),
  ("PostChaiseYard$ByMiles", ⟨"java/util/Comparator", "compare", "(Ljava/lang/Object;Ljava/lang/Object;)I"⟩, ⟨"PostChaiseYard$ByMiles", "compare", "(Ljava/lang/Object;Ljava/lang/Object;)I"⟩)]
/-- calls by an interface whose method another interface declares: class, entry, the name called, who declares it, the method that runs, the receiver's class -/
def fuS : List (String × Nat × MethodName × String × MethodName × String) := [
  ("java/util/TreeSet", 69, ⟨"java/util/NavigableMap", "put", "(Ljava/lang/Object;Ljava/lang/Object;)Ljava/lang/Object;"⟩, "java/util/Map", ⟨"java/util/TreeMap", "put", "(Ljava/lang/Object;Ljava/lang/Object;)Ljava/lang/Object;"⟩, "java/util/TreeMap"),
  ("java/util/TreeSet", 57, ⟨"java/util/NavigableMap", "isEmpty", "()Z"⟩, "java/util/Map", ⟨"java/util/AbstractMap", "isEmpty", "()Z"⟩, "java/util/TreeMap"),
  ("java/util/TreeSet", 118, ⟨"java/util/NavigableMap", "firstKey", "()Ljava/lang/Object;"⟩, "java/util/SortedMap", ⟨"java/util/TreeMap", "firstKey", "()Ljava/lang/Object;"⟩, "java/util/TreeMap")]
/-- the constants, in the memory at the start -/
def CM0 (K : KT) : Prop :=
  (∀ i, i < 400 → kC K i < kB K) ∧ (∀ i, i < 4 → mT (kM K) (kC K i) = some (.inl 20)) ∧ (∀ i j, i < 4 → j < 4 → kC K i = kC K j → i = j) ∧
  mT (kM K) (kC K 4) = some (.inr (3, 0)) ∧ mT (kM K) (kC K 5) = some (.inr (6, 256)) ∧ (∀ j, j < 256 → mE (kM K) (kC K 5) j = .ref (kC K (100 + j)) ∧ mT (kM K) (kC K (100 + j)) = some (.inl 19) ∧ mF (kM K) 19 0 (kC K (100 + j)) = .int (ii ((j : Int) - 128))) ∧
  mT (kM K) (kC K 6) = some (.inl 21) ∧ (∀ w, w < 7 → mT (kM K) (kC K (10 + w)) = some (.inl 18) ∧ mF (kM K) 18 0 (kC K (10 + w)) = .ref (kC K (20 + w)) ∧ mF (kM K) 18 1 (kC K (10 + w)) = .int (ii 0) ∧ mF (kM K) 18 2 (kC K (10 + w)) = .int (ii (wdH.getD w 0)) ∧ mF (kM K) 18 3 (kC K (10 + w)) = .int (ii 0) ∧
    mT (kM K) (kC K (20 + w)) = some (.inr (1, (wdS.getD w []).length)) ∧ ∀ j, j < (wdS.getD w []).length → mE (kM K) (kC K (20 + w)) j = .int (ii ((wdS.getD w []).getD j 0))) ∧ (∀ i j, i < 7 → j < 7 → kC K (10 + i) = kC K (10 + j) → i = j) ∧ RV (kV K) ∧ (kL K).stackTraces = false
abbrev kO (K : KT) : Nat → Prop := fun q => kB K ≤ q
/-- the tables and statics, as a method finds them -/
def Kn (K : KT) (s : State) : Prop :=
  va_K (kD K) clS (tysS K) s ∧ (∀ w ∈ lw_rd, va_Nw w s) ∧ (va_AO "java/lang/Object" s ∧ va_AO "PostChaiseYard$Status" s ∧ va_AO "java/lang/String" s) ∧
  (∀ q ∈ statS K, va_Z q.1 q.2.1 q.2.2.1 q.2.2.2 (kO K) s s.heap) ∧ (vx_Zq Bundle.tN "UNASSIGNED_STACK" Bundle.steD (kO K) s s.heap ∧ vx_Zq Bundle.tN "SUPPRESSED_SENTINEL" Bundle.listD (kO K) s s.heap) ∧
  (∀ q ∈ ncS, va_Nc q.1 q.2 s) ∧ (∀ q ∈ fwS, va_Fw q.1 q.2.1 q.2.2 s) ∧ (∀ q ∈ strS, vk_R q.1 q.2.1 q.2.2.1 (kC K (10 + q.2.2.2)) s) ∧ (va_Dc s ∧ va_Mi "[Ljava/lang/Object;" (kC K 7) s) ∧ ∀ q ∈ fuS, va_Fu q.1 q.2.1 q.2.2.1 q.2.2.2.1 q.2.2.2.2.1 q.2.2.2.2.2 s
theorem fwS_ok : ∀ q ∈ fwS, q.2.1.cls ≠ "java/lang/invoke/MethodHandle" ∧ q.2.1.cls ≠ "java/lang/invoke/VarHandle" := by decide +kernel
theorem Kn.moved {K : KT} {s U : State} (hW : s.WarmedH U.vm) (hk : ∀ q : Nat, q < s.heap.size → ¬ kO K q → U.heap[q]? = s.heap[q]?) (h : Kn K s) : Kn K U := by
  obtain ⟨h1, h2, ⟨h3, h4, h5⟩, h6, ⟨h7, h8⟩, h9, h10, h11, ⟨h12, h13⟩, h14⟩ := h
  have ha := hW.alike
  exact ⟨va_K.moved ha h1, fun w hw => rideW_moved (List.mem_filter.mp hw).2 hW (h2 w hw), ⟨h3.moved ha, h4.moved ha, h5.moved ha⟩, fun q hq => va_Z.moved ha ((h6 q hq).kept hk), ⟨vx_Zq.moved ha (h7.kept hk), vx_Zq.moved ha (h8.kept hk)⟩,
    fun q hq => (h9 q hq).moved ha, fun q hq => (h10 q hq).moved (fwS_ok q hq) ha, fun q hq => (h11 q hq).warm hW, ⟨h12.moved ha, h13.moved ha⟩, fun q hq => (h14 q hq).moved hW⟩
def OkO (K : KT) (M : Mem) (H : Heap) (a ci : Nat) : Prop := ∃ (r : vw_C) (cell : Cell), clS[ci]? = some r ∧ H[a]? = some cell ∧ cell.cls = (kD K).1 ci ∧ cell.vm.isStatics = false ∧ cell.vm ≠ .unknown ∧ (kB K ≤ a → cell.vm = .none) ∧ ∀ k, k < r.2.2 → cell.slots[(kD K).2 ci k]? = some (mF M ci k a)
def OkA (K : KT) (M : Mem) (U : State) (H : Heap) (a ti n : Nat) : Prop := ∃ (ty : FieldType) (cell : Cell), atS[ti]? = some ty ∧ H[a]? = some cell ∧ U.isArrayOf cell ty ∧ cell.vm.isStatics = false ∧ cell.vm ≠ .unknown ∧ cell.slots.size = n ∧ (∀ i, i < n → cell.slots[i]? = some (mE M a i)) ∧ (kB K ≤ a → cell = arrV (kA K ti) n (mE M a) ∧ ti < 6)
def Agr (B : Nat) (M0 M : Mem) : Prop := ∀ a, a < B → mT M a = mT M0 a ∧ (∀ c k, mF M c k a = mF M0 c k a) ∧ ∀ i, mE M a i = mE M0 a i
/-- the heap H holds the memory M -/
def Hp (K : KT) (M : Mem) (U : State) (H : Heap) : Prop :=
  mN M = H.size ∧ kB K ≤ H.size ∧ (∀ a ci, mT M a = some (.inl ci) → OkO K M H a ci) ∧ (∀ a ti n, mT M a = some (.inr (ti, n)) → OkA K M U H a ti n) ∧ Agr (kB K) (kM K) M ∧ CM0 K
theorem Hp.moved {K : KT} {M : Mem} {s U : State} {H : Heap} (ha : s.vm.Alike U.vm) (h : Hp K M s H) : Hp K M U H := by
  obtain ⟨h1, h2, h3, h4, h5⟩ := h
  refine ⟨h1, h2, h3, fun a ti n q => ?_, h5⟩
  obtain ⟨ty, cell, g1, g2, g3, g4⟩ := h4 a ti n q
  exact ⟨ty, cell, g1, g2, State.isArrayOf_alike ha g3, g4⟩
theorem Hp.lt {K : KT} {M : Mem} {U : State} {H : Heap} (h : Hp K M U H) {a : Nat} {t : Tag} (q : mT M a = some t) : a < mN M := by
  obtain ⟨h1, h2, h3, h4, h5⟩ := h
  rw [h1]
  rcases t with ci | ⟨ti, n⟩
  · obtain ⟨r, cell, g1, g2, -⟩ := h3 a ci q
    exact (Array.getElem?_eq_some_iff.mp g2).1
  · obtain ⟨ty, cell, g1, g2, -⟩ := h4 a ti n q
    exact (Array.getElem?_eq_some_iff.mp g2).1
