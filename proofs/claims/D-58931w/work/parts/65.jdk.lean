/-! ===== the JDK: PriorityQueue, the plain law of its heap ===== -/
def upN (e : Nat → Nat) (k x : Nat) : Nat → Nat := fun i => if i = k then x else e i
theorem upN_at {e : Nat → Nat} {k x : Nat} : upN e k x k = x := if_pos rfl
theorem upN_ne {e : Nat → Nat} {k x i : Nat} (h : i ≠ k) : upN e k x i = e i := if_neg h
def injN (n : Nat) (v : Nat → Nat) : Prop := ∀ i j, i < n → j < n → v i = v j → i = j
def memN (n : Nat) (v : Nat → Nat) (y : Nat) : Prop := ∃ i, i < n ∧ v i = y
/-- the same elements in another order -/
def SM (n : Nat) (v v' : Nat → Nat) : Prop := (∀ y, memN n v' y ↔ memN n v y) ∧ (injN n v → injN n v')
theorem SM.rfl {n : Nat} {v : Nat → Nat} : SM n v v := ⟨fun _ => Iff.rfl, fun h => h⟩
theorem SM.trans {n : Nat} {v v' v'' : Nat → Nat} (h : SM n v v') (h2 : SM n v' v'') : SM n v v'' := ⟨fun y => (h2.1 y).trans (h.1 y), fun z => h2.2 (h.2 z)⟩
theorem SM.eq {n : Nat} {v v' : Nat → Nat} (h : ∀ i, i < n → v' i = v i) : SM n v v' := by
  refine ⟨fun y => ⟨fun ⟨i, a, b⟩ => ⟨i, a, (h i a).symm.trans b⟩, fun ⟨i, a, b⟩ => ⟨i, a, (h i a).trans b⟩⟩, fun z i j a b c => z i j a b (by rw [← h i a, ← h j b]; exact c)⟩
theorem SM.swap {n : Nat} {v v' : Nat → Nat} {p q : Nat} (hp : p < n) (hq : q < n) (h1 : v' p = v q) (h2 : v' q = v p) (h3 : ∀ i, i < n → i ≠ p → i ≠ q → v' i = v i) : SM n v v' := by
  have key : ∀ i, i < n → v' i = v (if i = p then q else if i = q then p else i) := fun i hi => by
    by_cases a : i = p
    · rw [if_pos a, a]; exact h1
    · by_cases b : i = q
      · rw [if_neg a, if_pos b, b]; exact h2
      · rw [if_neg a, if_neg b]; exact h3 i hi a b
  have bd : ∀ i, i < n → (if i = p then q else if i = q then p else i) < n := fun i hi => by (repeat' split) <;> omega
  refine ⟨fun y => ⟨fun ⟨i, a, b⟩ => ⟨_, bd i a, (key i a).symm.trans b⟩, fun ⟨i, a, b⟩ => ⟨_, bd i a, ?_⟩⟩, fun z i j a b c => ?_⟩
  · rw [key _ (bd i a)]
    rw [← b]
    congr 1
    (repeat' split) <;> omega
  · rw [key i a, key j b] at c
    have := z _ _ (bd i a) (bd j b) c
    (repeat' split at this) <;> omega
/-- heap order among the first n -/
def heapN (κ : Nat → Int) (n : Nat) (v : Nat → Nat) : Prop := ∀ i, 0 < i → i < n → κ (v ((i - 1) / 2)) ≤ κ (v i)
theorem heap_min {κ : Nat → Int} {n : Nat} {v : Nat → Nat} (h : heapN κ n v) : ∀ (i : Nat), i < n → κ (v 0) ≤ κ (v i) := by
  intro i
  induction i using Nat.strongRecOn with
  | ind i ih =>
    intro hi
    by_cases q : i = 0
    · rw [q]; exact Int.le_refl _
    · have := ih ((i - 1) / 2) (by omega) (by omega)
      have := h i (by omega) hi
      omega
/-- heap order but for the place k, where x is to stand; going up -/
def upI (κ : Nat → Int) (n k x : Nat) (e : Nat → Nat) : Prop := (∀ i, 0 < i → i < n → i ≠ k → κ (upN e k x ((i - 1) / 2)) ≤ κ (upN e k x i)) ∧ ∀ i, 0 < i → i < n → (i - 1) / 2 = k → 0 < k → κ (e ((k - 1) / 2)) ≤ κ (e i)
theorem upI.step {κ : Nat → Int} {n k x : Nat} {e : Nat → Nat} (h : upI κ n k x e) (hk : 0 < k ∧ k < n) (hx : κ x < κ (e ((k - 1) / 2))) : upI κ n ((k - 1) / 2) x (upN e k (e ((k - 1) / 2))) := by
  obtain ⟨h1, h2⟩ := h
  have hp : (k - 1) / 2 < k := by omega
  generalize hpp : (k - 1) / 2 = p at *
  refine ⟨fun i i0 i1 ip => ?_, fun i i0 i1 ip p0 => ?_⟩
  · by_cases ik : i = k
    · subst ik
      rw [hpp, upN_at, upN_ne ip, upN_at]; omega
    · have a := h1 i i0 i1 ik
      rw [upN_ne ip, upN_ne ik]
      rw [upN_ne ik] at a
      by_cases j1 : (i - 1) / 2 = p
      · rw [j1, upN_at]
        rw [j1, upN_ne (by omega)] at a
        omega
      · rw [upN_ne j1]
        by_cases j2 : (i - 1) / 2 = k
        · rw [j2, upN_at]
          exact h2 i i0 i1 j2 hk.1
        · rw [upN_ne j2]
          rw [upN_ne j2] at a
          exact a
  · have b := h1 p p0 (by omega) (by omega)
    rw [upN_ne (by omega : p ≠ k), upN_ne (by omega : (p - 1) / 2 ≠ k)] at b
    rw [upN_ne (by omega : (p - 1) / 2 ≠ k)]
    by_cases ik : i = k
    · subst ik
      rw [upN_at]; exact b
    · rw [upN_ne ik]
      have a := h1 i i0 i1 ik
      rw [upN_ne ik, ip, upN_ne (by omega : p ≠ k)] at a
      omega
theorem upI.done {κ : Nat → Int} {n k x : Nat} {e : Nat → Nat} (h : upI κ n k x e) (hx : k = 0 ∨ κ (e ((k - 1) / 2)) ≤ κ x) : heapN κ n (upN e k x) := fun i i0 i1 => by
  by_cases ik : i = k
  · subst ik
    rw [upN_at, upN_ne (by omega)]
    omega
  · exact h.1 i i0 i1 ik
theorem upI.start {κ : Nat → Int} {n x : Nat} {e : Nat → Nat} (h : heapN κ n e) : upI κ (n + 1) n x e := by
  refine ⟨fun i i0 i1 ik => ?_, fun i i0 i1 ip _ => by omega⟩
  rw [upN_ne ik, upN_ne (by omega)]
  exact h i i0 (by omega)
/-- .. going down: the place k, below it all is in order -/
def dnI (κ : Nat → Int) (n k x : Nat) (e : Nat → Nat) : Prop := (∀ i, 0 < i → i < n → (i - 1) / 2 ≠ k → κ (upN e k x ((i - 1) / 2)) ≤ κ (upN e k x i)) ∧ ∀ i, 0 < i → i < n → (i - 1) / 2 = k → 0 < k → κ (e ((k - 1) / 2)) ≤ κ (e i)
theorem dnI.done {κ : Nat → Int} {n k x : Nat} {e : Nat → Nat} (h : dnI κ n k x e) (hx : ∀ i, 0 < i → i < n → (i - 1) / 2 = k → κ x ≤ κ (e i)) : heapN κ n (upN e k x) := fun i i0 i1 => by
  by_cases ik : (i - 1) / 2 = k
  · rw [ik, upN_at, upN_ne (by omega)]
    exact hx i i0 i1 ik
  · exact h.1 i i0 i1 ik
theorem dnI.step {κ : Nat → Int} {n k x c : Nat} {e : Nat → Nat} (h : dnI κ n k x e) (hc : 0 < c ∧ c < n ∧ (c - 1) / 2 = k) (hx : κ (e c) < κ x) (hm : ∀ i, 0 < i → i < n → (i - 1) / 2 = k → κ (e c) ≤ κ (e i)) : dnI κ n c x (upN e k (e c)) := by
  obtain ⟨h1, h2⟩ := h
  obtain ⟨c0, c1, ck⟩ := hc
  refine ⟨fun i i0 i1 ip => ?_, fun i i0 i1 ip _ => ?_⟩
  · by_cases ik : (i - 1) / 2 = k
    · rw [upN_ne (by omega : (i - 1) / 2 ≠ c), ik, upN_at]
      by_cases ic : i = c
      · subst ic
        rw [upN_at]; omega
      · rw [upN_ne ic, upN_ne (by omega)]
        exact hm i i0 i1 ik
    · have a := h1 i i0 i1 ik
      rw [upN_ne ip, upN_ne ik]
      rw [upN_ne ik] at a
      have ic : i ≠ c := fun z => ik (by rw [z]; exact ck)
      rw [upN_ne ic]
      by_cases ii' : i = k
      · subst ii'
        rw [upN_at]
        rw [upN_at] at a
        exact h2 c c0 c1 ck i0
      · rw [upN_ne ii']
        rw [upN_ne ii'] at a
        exact a
  · have a := h1 i i0 i1 (by omega)
    rw [ip, upN_ne (by omega), upN_ne (by omega)] at a
    rw [ck, upN_at, upN_ne (by omega)]
    exact a
theorem dnI.start {κ : Nat → Int} {n x : Nat} {e : Nat → Nat} (h : heapN κ (n + 1) e) : dnI κ n 0 x e := by
  refine ⟨fun i i0 i1 ip => ?_, fun i _ _ _ z => absurd z (Nat.lt_irrefl 0)⟩
  rw [upN_ne ip, upN_ne (by omega)]
  exact h i i0 (by omega)
