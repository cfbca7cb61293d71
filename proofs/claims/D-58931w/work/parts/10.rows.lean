/-! ===== the judgement Go: from a frame on, what the machine comes to ===== -/
abbrev Res : Type := Option Value ⊕ String
/-- a method: its class, its name, its code, how many locals, its answer's type, its handlers -/
abbrev FI : Type := String × String × ByteArray × Nat × Option FieldType × List (Nat × Nat × Nat × Nat)
abbrev fO (f : FI) : String := f.1
abbrev fN (f : FI) : String := f.2.1
abbrev fC (f : FI) : ByteArray := f.2.2.1
abbrev fL (f : FI) : Nat := f.2.2.2.1
abbrev fR (f : FI) : Option FieldType := f.2.2.2.2.1
abbrev fH (f : FI) : List (Nat × Nat × Nat × Nat) := f.2.2.2.2.2
def Cx (K : KT) (f : FI) (p : Program) (s : State) (m : MethodId) (args : Array Value) (meth : Method) (c : Code) : Prop :=
  p.tables.exec = Jvm.exec ∧ c.code = fC f ∧ meth.sig.returnType = fR f ∧ meth.locks = false ∧ c.maxLocals = fL f ∧ s.vm.findClass (fO f) = some m.cls ∧ (∀ w ∈ lw_all, w.before args s = true) ∧ meth.name = fN f ∧ c.exceptionTable.toList = tableOf (fH f) ∧ Kn K s
def QC (K : KT) (Q : Res → Mem → Prop) : Array Value → State → Outcome → State → Prop := fun _ st o t => ∃ (r : Option Value) (M : Mem), o = .returned r ∧ Hp K M t t.heap ∧ va_F (kO K) st t ∧ Q (.inl r) M
def XC (K : KT) (Q : Res → Mem → Prop) : String → State → State → Prop := fun E st t => ∃ M : Mem, Hp K M t t.heap ∧ va_F (kO K) st t ∧ Q (.inr E) M
def LV (ls : Array Slot) (nL : Nat) (L : List (Option Value)) : Prop := ls.size = nL ∧ lv_wf ls ∧ ∀ (i : Nat) (v : Value), L[i]? = some (some v) → ls[i]? = some (.val v)
def GA (K : KT) (f : FI) (d k n : Nat) (L : List (Option Value)) (M : Mem) (p : Program) (R : Room) (s : State) (m : MethodId) (args : Array Value) (meth : Method) (c : Code) (H : Heap) (locs : List Loc) (cells slots mc ms : Nat) (ls : Array Slot) : Prop :=
  Cx K f p s m args meth c ∧ (d ≤ R.frames ∧ 100 * d ≤ R.locals ∧ mc ≤ R.cells ∧ ms ≤ R.slots ∧ cells + k ≤ mc ∧ slots + n ≤ ms) ∧ Hp K M s H ∧ va_S (kO K) s.heap H locs ∧ LV ls (fL f) L
def Go (K : KT) (f : FI) (d k n pc : Nat) (L : List (Option Value)) (st : List Value) (M : Mem) (Q : Res → Mem → Prop) : Prop :=
  ∀ ⦃p : Program⦄ ⦃e : Env⦄ ⦃R : Room⦄ ⦃s : State⦄ ⦃m : MethodId⦄ ⦃args : Array Value⦄ ⦃below : List Frame⦄ ⦃meth : Method⦄ ⦃c : Code⦄ ⦃H : Heap⦄ ⦃locs : List Loc⦄ ⦃cells slots mc ms : Nat⦄ ⦃ls : Array Slot⦄,
    GA K f d k n L M p R s m args meth c H locs cells slots mc ms ls → W p (kL K) e R s m args below meth c H locs cells slots (vx_MQ below (QC K Q) (XC K Q) args s mc ms (kO K)) (F0 m pc ls st)
/-- an exception of class E is on its way, thrown at pc of this frame -/
def GoX (K : KT) (f : FI) (d k n pc : Nat) (L : List (Option Value)) (M : Mem) (E : String) (Q : Res → Mem → Prop) : Prop :=
  ∀ ⦃p : Program⦄ ⦃e : Env⦄ ⦃R : Room⦄ ⦃s : State⦄ ⦃m : MethodId⦄ ⦃args : Array Value⦄ ⦃below : List Frame⦄ ⦃meth : Method⦄ ⦃c : Code⦄ ⦃H : Heap⦄ ⦃locs : List Loc⦄ ⦃cells slots mc ms : Nat⦄ ⦃ls : Array Slot⦄ ⦃rest : List Value⦄ ⦃ce : Cell⦄ ⦃q : Addr⦄,
    GA K f d k n L M p R s m args meth c H locs cells slots mc ms ls → H[q]? = some ce → ce.vm = .none → s.vm.findClass E = some ce.cls → vx_W p (kL K) e R s m args below meth c H locs cells slots (vx_MQ below (QC K Q) (XC K Q) args s mc ms (kO K)) (F0 m pc ls rest) q
/-- how a call goes on -/
def Kont (K : KT) (f : FI) (d k n pc pc' : Nat) (L : List (Option Value)) (rest : List Value) (Q : Res → Mem → Prop) : Res → Mem → Prop
  | .inl none, M => Go K f d k n pc' L rest M Q
  | .inl (some v), M => Go K f d k n pc' L (v :: rest) M Q
  | .inr E, M => GoX K f d k n pc L M E Q
section GB
variable {K : KT} {f : FI} {d k n pc : Nat} {L : List (Option Value)} {st : List Value} {M : Mem} {Q : Res → Mem → Prop}
theorem Kont.v {pc' : Nat} {v : Value} (h : Go K f d k n pc' L (v :: st) M Q) : Kont K f d k n pc pc' L st Q (.inl (some v)) M := h
theorem Kont.u {pc' : Nat} (h : Go K f d k n pc' L st M Q) : Kont K f d k n pc pc' L st Q (.inl none) M := h
theorem Kont.x {pc' : Nat} {E : String} (h : GoX K f d k n pc L M E Q) : Kont K f d k n pc pc' L st Q (.inr E) M := h
def asc (L : List (Option Value)) : List (Nat × Value) := (List.range L.length).filterMap fun i => (L.getD i none).map fun v => (i, v)
theorem asc_in {L : List (Option Value)} {i : Nat} {v : Value} : (i, v) ∈ asc L ↔ L[i]? = some (some v) := by
  simp only [asc, List.mem_filterMap, List.mem_range, Option.map_eq_some_iff, Prod.mk.injEq]
  constructor
  · rintro ⟨j, hj, w, hw, rfl, rfl⟩
    rw [List.getD_eq_getElem?_getD, List.getElem?_eq_getElem hj] at hw
    rw [List.getElem?_eq_getElem hj]
    simpa using hw
  · intro h
    have hi := (List.getElem?_eq_some_iff.mp h).1
    exact ⟨i, hi, v, by rw [List.getD_eq_getElem?_getD, h]; rfl, rfl, rfl⟩
theorem LV.has {ls : Array Slot} {nL : Nat} (h : LV ls nL L) : lv_has ls nL (asc L) := ⟨h.1, h.2.1, fun q hq => h.2.2 q.1 q.2 (asc_in.mp hq)⟩
theorem LV.at {ls : Array Slot} {nL : Nat} (h : LV ls nL L) {i : Nat} {v : Value} (hi : L[i]? = some (some v)) : ls[i]? = some (.val v) := h.2.2 i v hi
theorem LV.st1 {ls : Array Slot} {nL i : Nat} {v : Value} (h : lv_has ls nL ((i, v) :: (asc L).filter (fun q => !(q.1 == i) && !(q.1 + 1 == i && q.2.category == 2)))) (hc : ∀ w : Value, i ≠ 0 → L[i - 1]? = some (some w) → w.category = 1) : LV ls nL (L.set i (some v)) := by
  refine ⟨h.1, h.2.1, fun j w hj => ?_⟩
  by_cases hij : j = i
  · subst hij
    have hl : j < L.length := by
      have := (List.getElem?_eq_some_iff.mp hj).1
      simpa using this
    rw [List.getElem?_set_self hl] at hj
    cases hj
    exact h.2.2 (j, v) List.mem_cons_self
  · rw [List.getElem?_set_ne (Ne.symm hij)] at hj
    refine h.2.2 (j, w) (List.mem_cons_of_mem _ (List.mem_filter.mpr ⟨asc_in.mpr hj, ?_⟩))
    by_cases hji : j + 1 = i
    · subst hji
      have := hc w (by omega) hj
      simp [this]
    · simp [hij, hji]
theorem LV.st2 {ls : Array Slot} {nL i : Nat} {v : Value} (h : lv_has ls nL ((i, v) :: (asc L).filter (fun q => !(q.1 == i) && (!(q.1 == i + 1) && !(q.1 + 1 == i && q.2.category == 2))))) (hc : ∀ w : Value, i ≠ 0 → L[i - 1]? = some (some w) → w.category = 1) : LV ls nL ((L.set i (some v)).set (i + 1) none) := by
  refine ⟨h.1, h.2.1, fun j w hj => ?_⟩
  by_cases hi1 : j = i + 1
  · subst hi1
    have hl : i + 1 < L.length := by
      have := (List.getElem?_eq_some_iff.mp hj).1
      simpa using this
    rw [List.getElem?_set_self (by simpa using hl)] at hj
    cases hj
  · rw [List.getElem?_set_ne (Ne.symm hi1)] at hj
    by_cases hij : j = i
    · subst hij
      have hl : j < L.length := by
        have := (List.getElem?_eq_some_iff.mp hj).1
        simpa using this
      rw [List.getElem?_set_self hl] at hj
      cases hj
      exact h.2.2 (j, v) List.mem_cons_self
    · rw [List.getElem?_set_ne (Ne.symm hij)] at hj
      refine h.2.2 (j, w) (List.mem_cons_of_mem _ (List.mem_filter.mpr ⟨asc_in.mpr hj, ?_⟩))
      by_cases hji : j + 1 = i
      · subst hji
        have := hc w (by omega) hj
        simp [this]
        try omega
      · simp [hij, hi1, hji]
def C1 (o : Option Value) : Prop := ∀ w : Value, o = some w → w.category = 1
theorem c1_0 : C1 none := fun _ h => by cases h
theorem c1_i {x : Int32} : C1 (some (.int x)) := fun _ h => by cases h; rfl
theorem c1_r {x : Nat} : C1 (some (.ref x)) := fun _ h => by cases h; rfl
theorem c1_n : C1 (some .null) := fun _ h => by cases h; rfl
theorem c1_f {o : Option Nat} : C1 (some (va_rf o)) := fun _ h => by cases h; exact rv_cat rv_f
theorem c1_v {v : Value} (h : RV v) : C1 (some v) := fun _ e => by cases e; exact rv_cat h
theorem GA.up {R : Room} {p s m args meth c H locs cells slots mc ms ls} {d' k' n' : Nat} {L' : List (Option Value)} {M' : Mem} (A : GA K f d k n L M p R s m args meth c H locs cells slots mc ms ls) (h1 : d' ≤ d) (h2 : k' ≤ k) (h3 : n' ≤ n) : GA K f d' k' n' L M p R s m args meth c H locs cells slots mc ms ls := by
  obtain ⟨C, ⟨a1, a2, a3, a4, a5, a6⟩, B⟩ := A
  exact ⟨C, ⟨by omega, by omega, a3, a4, by omega, by omega⟩, B⟩
theorem GA.ls {R : Room} {p s m args meth c H locs cells slots mc ms ls ls'} {L' : List (Option Value)} (A : GA K f d k n L M p R s m args meth c H locs cells slots mc ms ls) (h : LV ls' (fL f) L') : GA K f d k n L' M p R s m args meth c H locs cells slots mc ms ls' := ⟨A.1, A.2.1, A.2.2.1, A.2.2.2.1, h⟩
theorem Go.up {d' k' n' : Nat} (h : Go K f d' k' n' pc L st M Q) (h1 : d' ≤ d) (h2 : k' ≤ k) (h3 : n' ≤ n) : Go K f d k n pc L st M Q := fun _ _ _ _ _ _ _ _ _ _ _ _ _ _ _ _ A => h (A.up (M' := M) (L' := L) h1 h2 h3)
/-- what the memory holds whatever the method: the constants; an address known lies below -/
theorem g_cm (h : CM0 K → Agr (kB K) (kM K) M → kB K ≤ mN M → Go K f d k n pc L st M Q) : Go K f d k n pc L st M Q := fun _ _ _ _ _ _ _ _ _ _ _ _ _ _ _ _ A => h A.2.2.1.2.2.2.2.2 A.2.2.1.2.2.2.2.1 (by rw [A.2.2.1.1]; exact A.2.2.1.2.1) A
theorem g_lt {a : Nat} {t : Tag} (ht : mT M a = some t) (h : a < mN M → Go K f d k n pc L st M Q) : Go K f d k n pc L st M Q := fun _ _ _ _ _ _ _ _ _ _ _ _ _ _ _ _ A => h (A.2.2.1.lt ht) A
theorem g_lts (h : (∀ (a : Nat) (t : Tag), mT M a = some t → a < mN M) → Go K f d k n pc L st M Q) : Go K f d k n pc L st M Q := fun _ _ _ _ _ _ _ _ _ _ _ _ _ _ _ _ A => h (fun _ _ ht => A.2.2.1.lt ht) A
theorem g_pc {pc' : Nat} (e : pc = pc') (h : Go K f d k n pc' L st M Q) : Go K f d k n pc L st M Q := e ▸ h
theorem g_M {M' : Mem} (e : M = M') (h : Go K f d k n pc L st M' Q) : Go K f d k n pc L st M Q := e ▸ h

theorem g_iconst (pc' : Nat) {z : Int} (hdg : decode (fC f) pc = .ok (.iconst z, 1)) (hp : pc + 1 = pc') (h : Go K f d k n pc' L (.int (ii z) :: st) M Q) : Go K f d k n pc L st M Q := by
  subst hp
  intro p e R s m args below meth c H locs cells slots mc ms ls A
  exact lv_iconst A.1.1 A.1.2.1 hdg rfl (h A)
theorem g_bipush (pc' : Nat) {z : Int} (hz : (Int8.ofInt z).toInt32 = ii z) (hdg : decode (fC f) pc = .ok (.bipush z, 2)) (hp : pc + 2 = pc') (h : Go K f d k n pc' L (.int (ii z) :: st) M Q) : Go K f d k n pc L st M Q := by
  subst hp
  intro p e R s m args below meth c H locs cells slots mc ms ls A
  exact lv_bipush A.1.1 A.1.2.1 hdg hz (h A)
theorem g_sipush (pc' : Nat) {z : Int} (hz : (Int16.ofInt z).toInt32 = ii z) (hdg : decode (fC f) pc = .ok (.sipush z, 3)) (hp : pc + 3 = pc') (h : Go K f d k n pc' L (.int (ii z) :: st) M Q) : Go K f d k n pc L st M Q := by
  subst hp
  intro p e R s m args below meth c H locs cells slots mc ms ls A
  exact lv_sipush A.1.1 A.1.2.1 hdg hz (h A)
theorem g_ldc (pc' : Nat) {ix : Nat} {v : Int32} (hq : Cond.constant (fO f) ix v ∈ lw_all) (hdg : decode (fC f) pc = .ok (.ldc ix, 2)) (hp : pc + 2 = pc') (h : Go K f d k n pc' L (.int v :: st) M Q) : Go K f d k n pc L st M Q := by
  subst hp
  intro p e R s m args below meth c H locs cells slots mc ms ls A
  exact W.ldc A.1.1 A.1.2.1 A.1.2.2.2.2.2.1 (A.1.2.2.2.2.2.2.1 _ hq) (g := F0 m pc ls st) rfl hdg (h A)
theorem g_lconst (pc' : Nat) {z : Fin 2} {v : Int64} (hv : Int64.ofNat (z : Nat) = v) (hdg : decode (fC f) pc = .ok (.lconst z, 1)) (hp : pc + 1 = pc') (h : Go K f d k n pc' L (.long v :: st) M Q) : Go K f d k n pc L st M Q := by
  subst hp
  intro p e R s m args below meth c H locs cells slots mc ms ls A
  exact lv_lconst A.1.1 A.1.2.1 hdg hv (h A)
theorem g_null (pc' : Nat) (hdg : decode (fC f) pc = .ok (.aconst_null, 1)) (hp : pc + 1 = pc') (h : Go K f d k n pc' L (.null :: st) M Q) : Go K f d k n pc L st M Q := by
  subst hp
  intro p e R s m args below meth c H locs cells slots mc ms ls A
  exact lv_null A.1.1 A.1.2.1 hdg (h A)
theorem g_dconst0 (pc' : Nat) (hdg : decode (fC f) pc = .ok (.dconst 0, 1)) (hp : pc + 1 = pc') (h : Go K f d k n pc' L (.double FP.dconst0 :: st) M Q) : Go K f d k n pc L st M Q := by
  subst hp
  intro p e R s m args below meth c H locs cells slots mc ms ls A
  exact lv_dconst0 A.1.1 A.1.2.1 hdg (h A)
theorem g_iload0 (pc' : Nat) {os : List (Option Value)} {x : Int32} (hdg : decode (fC f) pc = .ok (.iload_n 0, 1)) (hp : pc + 1 = pc') (h : Go K f d k n pc' (some (.int x) :: os) (.int x :: st) M Q) : Go K f d k n pc (some (.int x) :: os) st M Q := by
  subst hp
  intro p e R s m args below meth c H locs cells slots mc ms ls A
  exact lv_iload_n A.1.1 A.1.2.1 hdg rfl (A.2.2.2.2.at rfl) (h A)
theorem g_lload0 (pc' : Nat) {os : List (Option Value)} {x : Int64} (hdg : decode (fC f) pc = .ok (.lload_n 0, 1)) (hp : pc + 1 = pc') (h : Go K f d k n pc' (some (.long x) :: os) (.long x :: st) M Q) : Go K f d k n pc (some (.long x) :: os) st M Q := by
  subst hp
  intro p e R s m args below meth c H locs cells slots mc ms ls A
  exact lv_lload_n A.1.1 A.1.2.1 hdg rfl (A.2.2.2.2.at rfl) (h A)
theorem g_dload0 (pc' : Nat) {os : List (Option Value)} {x : UInt64} (hdg : decode (fC f) pc = .ok (.dload_n 0, 1)) (hp : pc + 1 = pc') (h : Go K f d k n pc' (some (.double x) :: os) (.double x :: st) M Q) : Go K f d k n pc (some (.double x) :: os) st M Q := by
  subst hp
  intro p e R s m args below meth c H locs cells slots mc ms ls A
  exact lv_dload_n A.1.1 A.1.2.1 hdg rfl (A.2.2.2.2.at rfl) (h A)
theorem g_aload0 (pc' : Nat) {os : List (Option Value)} {v : Value} (hv : RV v) (hdg : decode (fC f) pc = .ok (.aload_n 0, 1)) (hp : pc + 1 = pc') (h : Go K f d k n pc' (some v :: os) (v :: st) M Q) : Go K f d k n pc (some v :: os) st M Q := by
  subst hp
  intro p e R s m args below meth c H locs cells slots mc ms ls A
  rcases hv with rfl | ⟨a, rfl⟩
  · exact lv_aload_nN A.1.1 A.1.2.1 hdg rfl (A.2.2.2.2.at rfl) (h A)
  · exact lv_aload_n A.1.1 A.1.2.1 hdg rfl (A.2.2.2.2.at rfl) (h A)
theorem g_istore0 (pc' : Nat) (hL : 0 < fL f) {ox : Option Value} {os : List (Option Value)} {x : Int32} (hdg : decode (fC f) pc = .ok (.istore_n 0, 1)) (hp : pc + 1 = pc') (h : Go K f d k n pc' (some (.int x) :: os) st M Q) : Go K f d k n pc (ox :: os) (.int x :: st) M Q := by
  subst hp
  intro p e R s m args below meth c H locs cells slots mc ms ls A
  exact lv_istore_n A.1.1 A.1.2.1 hdg rfl A.2.2.2.2.has hL rfl (fun ls' hl => h (A.ls (LV.st1 hl (fun w h0 e => absurd rfl h0))))
theorem g_astore0 (pc' : Nat) (hL : 0 < fL f) {ox : Option Value} {os : List (Option Value)} {v : Value} (hv : RV v) (hdg : decode (fC f) pc = .ok (.astore_n 0, 1)) (hp : pc + 1 = pc') (h : Go K f d k n pc' (some v :: os) st M Q) : Go K f d k n pc (ox :: os) (v :: st) M Q := by
  subst hp
  intro p e R s m args below meth c H locs cells slots mc ms ls A
  rcases hv with rfl | ⟨a, rfl⟩
  · exact lv_astore_nN A.1.1 A.1.2.1 hdg rfl A.2.2.2.2.has hL rfl (fun ls' hl => h (A.ls (LV.st1 hl (fun w h0 e => absurd rfl h0))))
  · exact lv_astore_n A.1.1 A.1.2.1 hdg rfl A.2.2.2.2.has hL rfl (fun ls' hl => h (A.ls (LV.st1 hl (fun w h0 e => absurd rfl h0))))
theorem g_lstore0 (pc' : Nat) (hL : 0 + 1 < fL f) {ox oy : Option Value} {os : List (Option Value)} {x : Int64} (hdg : decode (fC f) pc = .ok (.lstore_n 0, 1)) (hp : pc + 1 = pc') (h : Go K f d k n pc' (some (.long x) :: none :: os) st M Q) : Go K f d k n pc (ox :: oy :: os) (.long x :: st) M Q := by
  subst hp
  intro p e R s m args below meth c H locs cells slots mc ms ls A
  exact lv_lstore_n A.1.1 A.1.2.1 hdg rfl A.2.2.2.2.has hL rfl (fun ls' hl => h (A.ls (LV.st2 hl (fun w h0 e => absurd rfl h0))))
theorem g_dstore0 (pc' : Nat) (hL : 0 + 1 < fL f) {ox oy : Option Value} {os : List (Option Value)} {x : UInt64} (hdg : decode (fC f) pc = .ok (.dstore_n 0, 1)) (hp : pc + 1 = pc') (h : Go K f d k n pc' (some (.double x) :: none :: os) st M Q) : Go K f d k n pc (ox :: oy :: os) (.double x :: st) M Q := by
  subst hp
  intro p e R s m args below meth c H locs cells slots mc ms ls A
  exact lv_dstore_n A.1.1 A.1.2.1 hdg rfl A.2.2.2.2.has hL rfl (fun ls' hl => h (A.ls (LV.st2 hl (fun w h0 e => absurd rfl h0))))
theorem g_iinc0 (pc' : Nat) (hL : 0 < fL f) {os : List (Option Value)} {a z : Int} (hdg : decode (fC f) pc = .ok (.iinc 0 z, 3)) (hp : pc + 3 = pc') (h : Go K f d k n pc' (some (.int (ii (a + z))) :: os) st M Q) : Go K f d k n pc (some (.int (ii a)) :: os) st M Q := by
  subst hp
  intro p e R s m args below meth c H locs cells slots mc ms ls A
  obtain ⟨q, hq⟩ := List.getElem?_of_mem (asc_in.mpr (show ((some (Value.int (ii a)) :: os) : List (Option Value))[0]? = some (some (Value.int (ii a))) from rfl))
  exact lv_iinc (v := ii (a + z)) A.1.1 A.1.2.1 hdg A.2.2.2.2.has (k := q) hq (ii_add a z) hL rfl (fun ls' hl => h (A.ls (LV.st1 hl (fun w h0 e => absurd rfl h0))))
theorem g_iload1 (pc' : Nat) {o0 : Option Value} {os : List (Option Value)} {x : Int32} (hdg : decode (fC f) pc = .ok (.iload_n 1, 1)) (hp : pc + 1 = pc') (h : Go K f d k n pc' (o0 :: some (.int x) :: os) (.int x :: st) M Q) : Go K f d k n pc (o0 :: some (.int x) :: os) st M Q := by
  subst hp
  intro p e R s m args below meth c H locs cells slots mc ms ls A
  exact lv_iload_n A.1.1 A.1.2.1 hdg rfl (A.2.2.2.2.at rfl) (h A)
theorem g_lload1 (pc' : Nat) {o0 : Option Value} {os : List (Option Value)} {x : Int64} (hdg : decode (fC f) pc = .ok (.lload_n 1, 1)) (hp : pc + 1 = pc') (h : Go K f d k n pc' (o0 :: some (.long x) :: os) (.long x :: st) M Q) : Go K f d k n pc (o0 :: some (.long x) :: os) st M Q := by
  subst hp
  intro p e R s m args below meth c H locs cells slots mc ms ls A
  exact lv_lload_n A.1.1 A.1.2.1 hdg rfl (A.2.2.2.2.at rfl) (h A)
theorem g_dload1 (pc' : Nat) {o0 : Option Value} {os : List (Option Value)} {x : UInt64} (hdg : decode (fC f) pc = .ok (.dload_n 1, 1)) (hp : pc + 1 = pc') (h : Go K f d k n pc' (o0 :: some (.double x) :: os) (.double x :: st) M Q) : Go K f d k n pc (o0 :: some (.double x) :: os) st M Q := by
  subst hp
  intro p e R s m args below meth c H locs cells slots mc ms ls A
  exact lv_dload_n A.1.1 A.1.2.1 hdg rfl (A.2.2.2.2.at rfl) (h A)
theorem g_aload1 (pc' : Nat) {o0 : Option Value} {os : List (Option Value)} {v : Value} (hv : RV v) (hdg : decode (fC f) pc = .ok (.aload_n 1, 1)) (hp : pc + 1 = pc') (h : Go K f d k n pc' (o0 :: some v :: os) (v :: st) M Q) : Go K f d k n pc (o0 :: some v :: os) st M Q := by
  subst hp
  intro p e R s m args below meth c H locs cells slots mc ms ls A
  rcases hv with rfl | ⟨a, rfl⟩
  · exact lv_aload_nN A.1.1 A.1.2.1 hdg rfl (A.2.2.2.2.at rfl) (h A)
  · exact lv_aload_n A.1.1 A.1.2.1 hdg rfl (A.2.2.2.2.at rfl) (h A)
theorem g_istore1 (pc' : Nat) (hL : 1 < fL f) {o0 ox : Option Value} {os : List (Option Value)} (h1 : C1 o0) {x : Int32} (hdg : decode (fC f) pc = .ok (.istore_n 1, 1)) (hp : pc + 1 = pc') (h : Go K f d k n pc' (o0 :: some (.int x) :: os) st M Q) : Go K f d k n pc (o0 :: ox :: os) (.int x :: st) M Q := by
  subst hp
  intro p e R s m args below meth c H locs cells slots mc ms ls A
  exact lv_istore_n A.1.1 A.1.2.1 hdg rfl A.2.2.2.2.has hL rfl (fun ls' hl => h (A.ls (LV.st1 hl (fun w _ e => h1 w (Option.some.inj e)))))
theorem g_astore1 (pc' : Nat) (hL : 1 < fL f) {o0 ox : Option Value} {os : List (Option Value)} (h1 : C1 o0) {v : Value} (hv : RV v) (hdg : decode (fC f) pc = .ok (.astore_n 1, 1)) (hp : pc + 1 = pc') (h : Go K f d k n pc' (o0 :: some v :: os) st M Q) : Go K f d k n pc (o0 :: ox :: os) (v :: st) M Q := by
  subst hp
  intro p e R s m args below meth c H locs cells slots mc ms ls A
  rcases hv with rfl | ⟨a, rfl⟩
  · exact lv_astore_nN A.1.1 A.1.2.1 hdg rfl A.2.2.2.2.has hL rfl (fun ls' hl => h (A.ls (LV.st1 hl (fun w _ e => h1 w (Option.some.inj e)))))
  · exact lv_astore_n A.1.1 A.1.2.1 hdg rfl A.2.2.2.2.has hL rfl (fun ls' hl => h (A.ls (LV.st1 hl (fun w _ e => h1 w (Option.some.inj e)))))
theorem g_lstore1 (pc' : Nat) (hL : 1 + 1 < fL f) {o0 ox oy : Option Value} {os : List (Option Value)} (h1 : C1 o0) {x : Int64} (hdg : decode (fC f) pc = .ok (.lstore_n 1, 1)) (hp : pc + 1 = pc') (h : Go K f d k n pc' (o0 :: some (.long x) :: none :: os) st M Q) : Go K f d k n pc (o0 :: ox :: oy :: os) (.long x :: st) M Q := by
  subst hp
  intro p e R s m args below meth c H locs cells slots mc ms ls A
  exact lv_lstore_n A.1.1 A.1.2.1 hdg rfl A.2.2.2.2.has hL rfl (fun ls' hl => h (A.ls (LV.st2 hl (fun w _ e => h1 w (Option.some.inj e)))))
theorem g_dstore1 (pc' : Nat) (hL : 1 + 1 < fL f) {o0 ox oy : Option Value} {os : List (Option Value)} (h1 : C1 o0) {x : UInt64} (hdg : decode (fC f) pc = .ok (.dstore_n 1, 1)) (hp : pc + 1 = pc') (h : Go K f d k n pc' (o0 :: some (.double x) :: none :: os) st M Q) : Go K f d k n pc (o0 :: ox :: oy :: os) (.double x :: st) M Q := by
  subst hp
  intro p e R s m args below meth c H locs cells slots mc ms ls A
  exact lv_dstore_n A.1.1 A.1.2.1 hdg rfl A.2.2.2.2.has hL rfl (fun ls' hl => h (A.ls (LV.st2 hl (fun w _ e => h1 w (Option.some.inj e)))))
theorem g_iinc1 (pc' : Nat) (hL : 1 < fL f) {o0 : Option Value} {os : List (Option Value)} (h1 : C1 o0) {a z : Int} (hdg : decode (fC f) pc = .ok (.iinc 1 z, 3)) (hp : pc + 3 = pc') (h : Go K f d k n pc' (o0 :: some (.int (ii (a + z))) :: os) st M Q) : Go K f d k n pc (o0 :: some (.int (ii a)) :: os) st M Q := by
  subst hp
  intro p e R s m args below meth c H locs cells slots mc ms ls A
  obtain ⟨q, hq⟩ := List.getElem?_of_mem (asc_in.mpr (show ((o0 :: some (Value.int (ii a)) :: os) : List (Option Value))[1]? = some (some (Value.int (ii a))) from rfl))
  exact lv_iinc (v := ii (a + z)) A.1.1 A.1.2.1 hdg A.2.2.2.2.has (k := q) hq (ii_add a z) hL rfl (fun ls' hl => h (A.ls (LV.st1 hl (fun w _ e => h1 w (Option.some.inj e)))))
theorem g_iload2 (pc' : Nat) {o0 o1 : Option Value} {os : List (Option Value)} {x : Int32} (hdg : decode (fC f) pc = .ok (.iload_n 2, 1)) (hp : pc + 1 = pc') (h : Go K f d k n pc' (o0 :: o1 :: some (.int x) :: os) (.int x :: st) M Q) : Go K f d k n pc (o0 :: o1 :: some (.int x) :: os) st M Q := by
  subst hp
  intro p e R s m args below meth c H locs cells slots mc ms ls A
  exact lv_iload_n A.1.1 A.1.2.1 hdg rfl (A.2.2.2.2.at rfl) (h A)
theorem g_lload2 (pc' : Nat) {o0 o1 : Option Value} {os : List (Option Value)} {x : Int64} (hdg : decode (fC f) pc = .ok (.lload_n 2, 1)) (hp : pc + 1 = pc') (h : Go K f d k n pc' (o0 :: o1 :: some (.long x) :: os) (.long x :: st) M Q) : Go K f d k n pc (o0 :: o1 :: some (.long x) :: os) st M Q := by
  subst hp
  intro p e R s m args below meth c H locs cells slots mc ms ls A
  exact lv_lload_n A.1.1 A.1.2.1 hdg rfl (A.2.2.2.2.at rfl) (h A)
theorem g_dload2 (pc' : Nat) {o0 o1 : Option Value} {os : List (Option Value)} {x : UInt64} (hdg : decode (fC f) pc = .ok (.dload_n 2, 1)) (hp : pc + 1 = pc') (h : Go K f d k n pc' (o0 :: o1 :: some (.double x) :: os) (.double x :: st) M Q) : Go K f d k n pc (o0 :: o1 :: some (.double x) :: os) st M Q := by
  subst hp
  intro p e R s m args below meth c H locs cells slots mc ms ls A
  exact lv_dload_n A.1.1 A.1.2.1 hdg rfl (A.2.2.2.2.at rfl) (h A)
theorem g_aload2 (pc' : Nat) {o0 o1 : Option Value} {os : List (Option Value)} {v : Value} (hv : RV v) (hdg : decode (fC f) pc = .ok (.aload_n 2, 1)) (hp : pc + 1 = pc') (h : Go K f d k n pc' (o0 :: o1 :: some v :: os) (v :: st) M Q) : Go K f d k n pc (o0 :: o1 :: some v :: os) st M Q := by
  subst hp
  intro p e R s m args below meth c H locs cells slots mc ms ls A
  rcases hv with rfl | ⟨a, rfl⟩
  · exact lv_aload_nN A.1.1 A.1.2.1 hdg rfl (A.2.2.2.2.at rfl) (h A)
  · exact lv_aload_n A.1.1 A.1.2.1 hdg rfl (A.2.2.2.2.at rfl) (h A)
theorem g_istore2 (pc' : Nat) (hL : 2 < fL f) {o0 o1 ox : Option Value} {os : List (Option Value)} (h1 : C1 o1) {x : Int32} (hdg : decode (fC f) pc = .ok (.istore_n 2, 1)) (hp : pc + 1 = pc') (h : Go K f d k n pc' (o0 :: o1 :: some (.int x) :: os) st M Q) : Go K f d k n pc (o0 :: o1 :: ox :: os) (.int x :: st) M Q := by
  subst hp
  intro p e R s m args below meth c H locs cells slots mc ms ls A
  exact lv_istore_n A.1.1 A.1.2.1 hdg rfl A.2.2.2.2.has hL rfl (fun ls' hl => h (A.ls (LV.st1 hl (fun w _ e => h1 w (Option.some.inj e)))))
theorem g_astore2 (pc' : Nat) (hL : 2 < fL f) {o0 o1 ox : Option Value} {os : List (Option Value)} (h1 : C1 o1) {v : Value} (hv : RV v) (hdg : decode (fC f) pc = .ok (.astore_n 2, 1)) (hp : pc + 1 = pc') (h : Go K f d k n pc' (o0 :: o1 :: some v :: os) st M Q) : Go K f d k n pc (o0 :: o1 :: ox :: os) (v :: st) M Q := by
  subst hp
  intro p e R s m args below meth c H locs cells slots mc ms ls A
  rcases hv with rfl | ⟨a, rfl⟩
  · exact lv_astore_nN A.1.1 A.1.2.1 hdg rfl A.2.2.2.2.has hL rfl (fun ls' hl => h (A.ls (LV.st1 hl (fun w _ e => h1 w (Option.some.inj e)))))
  · exact lv_astore_n A.1.1 A.1.2.1 hdg rfl A.2.2.2.2.has hL rfl (fun ls' hl => h (A.ls (LV.st1 hl (fun w _ e => h1 w (Option.some.inj e)))))
theorem g_lstore2 (pc' : Nat) (hL : 2 + 1 < fL f) {o0 o1 ox oy : Option Value} {os : List (Option Value)} (h1 : C1 o1) {x : Int64} (hdg : decode (fC f) pc = .ok (.lstore_n 2, 1)) (hp : pc + 1 = pc') (h : Go K f d k n pc' (o0 :: o1 :: some (.long x) :: none :: os) st M Q) : Go K f d k n pc (o0 :: o1 :: ox :: oy :: os) (.long x :: st) M Q := by
  subst hp
  intro p e R s m args below meth c H locs cells slots mc ms ls A
  exact lv_lstore_n A.1.1 A.1.2.1 hdg rfl A.2.2.2.2.has hL rfl (fun ls' hl => h (A.ls (LV.st2 hl (fun w _ e => h1 w (Option.some.inj e)))))
theorem g_dstore2 (pc' : Nat) (hL : 2 + 1 < fL f) {o0 o1 ox oy : Option Value} {os : List (Option Value)} (h1 : C1 o1) {x : UInt64} (hdg : decode (fC f) pc = .ok (.dstore_n 2, 1)) (hp : pc + 1 = pc') (h : Go K f d k n pc' (o0 :: o1 :: some (.double x) :: none :: os) st M Q) : Go K f d k n pc (o0 :: o1 :: ox :: oy :: os) (.double x :: st) M Q := by
  subst hp
  intro p e R s m args below meth c H locs cells slots mc ms ls A
  exact lv_dstore_n A.1.1 A.1.2.1 hdg rfl A.2.2.2.2.has hL rfl (fun ls' hl => h (A.ls (LV.st2 hl (fun w _ e => h1 w (Option.some.inj e)))))
theorem g_iinc2 (pc' : Nat) (hL : 2 < fL f) {o0 o1 : Option Value} {os : List (Option Value)} (h1 : C1 o1) {a z : Int} (hdg : decode (fC f) pc = .ok (.iinc 2 z, 3)) (hp : pc + 3 = pc') (h : Go K f d k n pc' (o0 :: o1 :: some (.int (ii (a + z))) :: os) st M Q) : Go K f d k n pc (o0 :: o1 :: some (.int (ii a)) :: os) st M Q := by
  subst hp
  intro p e R s m args below meth c H locs cells slots mc ms ls A
  obtain ⟨q, hq⟩ := List.getElem?_of_mem (asc_in.mpr (show ((o0 :: o1 :: some (Value.int (ii a)) :: os) : List (Option Value))[2]? = some (some (Value.int (ii a))) from rfl))
  exact lv_iinc (v := ii (a + z)) A.1.1 A.1.2.1 hdg A.2.2.2.2.has (k := q) hq (ii_add a z) hL rfl (fun ls' hl => h (A.ls (LV.st1 hl (fun w _ e => h1 w (Option.some.inj e)))))
theorem g_iload3 (pc' : Nat) {o0 o1 o2 : Option Value} {os : List (Option Value)} {x : Int32} (hdg : decode (fC f) pc = .ok (.iload_n 3, 1)) (hp : pc + 1 = pc') (h : Go K f d k n pc' (o0 :: o1 :: o2 :: some (.int x) :: os) (.int x :: st) M Q) : Go K f d k n pc (o0 :: o1 :: o2 :: some (.int x) :: os) st M Q := by
  subst hp
  intro p e R s m args below meth c H locs cells slots mc ms ls A
  exact lv_iload_n A.1.1 A.1.2.1 hdg rfl (A.2.2.2.2.at rfl) (h A)
theorem g_lload3 (pc' : Nat) {o0 o1 o2 : Option Value} {os : List (Option Value)} {x : Int64} (hdg : decode (fC f) pc = .ok (.lload_n 3, 1)) (hp : pc + 1 = pc') (h : Go K f d k n pc' (o0 :: o1 :: o2 :: some (.long x) :: os) (.long x :: st) M Q) : Go K f d k n pc (o0 :: o1 :: o2 :: some (.long x) :: os) st M Q := by
  subst hp
  intro p e R s m args below meth c H locs cells slots mc ms ls A
  exact lv_lload_n A.1.1 A.1.2.1 hdg rfl (A.2.2.2.2.at rfl) (h A)
theorem g_dload3 (pc' : Nat) {o0 o1 o2 : Option Value} {os : List (Option Value)} {x : UInt64} (hdg : decode (fC f) pc = .ok (.dload_n 3, 1)) (hp : pc + 1 = pc') (h : Go K f d k n pc' (o0 :: o1 :: o2 :: some (.double x) :: os) (.double x :: st) M Q) : Go K f d k n pc (o0 :: o1 :: o2 :: some (.double x) :: os) st M Q := by
  subst hp
  intro p e R s m args below meth c H locs cells slots mc ms ls A
  exact lv_dload_n A.1.1 A.1.2.1 hdg rfl (A.2.2.2.2.at rfl) (h A)
theorem g_aload3 (pc' : Nat) {o0 o1 o2 : Option Value} {os : List (Option Value)} {v : Value} (hv : RV v) (hdg : decode (fC f) pc = .ok (.aload_n 3, 1)) (hp : pc + 1 = pc') (h : Go K f d k n pc' (o0 :: o1 :: o2 :: some v :: os) (v :: st) M Q) : Go K f d k n pc (o0 :: o1 :: o2 :: some v :: os) st M Q := by
  subst hp
  intro p e R s m args below meth c H locs cells slots mc ms ls A
  rcases hv with rfl | ⟨a, rfl⟩
  · exact lv_aload_nN A.1.1 A.1.2.1 hdg rfl (A.2.2.2.2.at rfl) (h A)
  · exact lv_aload_n A.1.1 A.1.2.1 hdg rfl (A.2.2.2.2.at rfl) (h A)
theorem g_istore3 (pc' : Nat) (hL : 3 < fL f) {o0 o1 o2 ox : Option Value} {os : List (Option Value)} (h1 : C1 o2) {x : Int32} (hdg : decode (fC f) pc = .ok (.istore_n 3, 1)) (hp : pc + 1 = pc') (h : Go K f d k n pc' (o0 :: o1 :: o2 :: some (.int x) :: os) st M Q) : Go K f d k n pc (o0 :: o1 :: o2 :: ox :: os) (.int x :: st) M Q := by
  subst hp
  intro p e R s m args below meth c H locs cells slots mc ms ls A
  exact lv_istore_n A.1.1 A.1.2.1 hdg rfl A.2.2.2.2.has hL rfl (fun ls' hl => h (A.ls (LV.st1 hl (fun w _ e => h1 w (Option.some.inj e)))))
theorem g_astore3 (pc' : Nat) (hL : 3 < fL f) {o0 o1 o2 ox : Option Value} {os : List (Option Value)} (h1 : C1 o2) {v : Value} (hv : RV v) (hdg : decode (fC f) pc = .ok (.astore_n 3, 1)) (hp : pc + 1 = pc') (h : Go K f d k n pc' (o0 :: o1 :: o2 :: some v :: os) st M Q) : Go K f d k n pc (o0 :: o1 :: o2 :: ox :: os) (v :: st) M Q := by
  subst hp
  intro p e R s m args below meth c H locs cells slots mc ms ls A
  rcases hv with rfl | ⟨a, rfl⟩
  · exact lv_astore_nN A.1.1 A.1.2.1 hdg rfl A.2.2.2.2.has hL rfl (fun ls' hl => h (A.ls (LV.st1 hl (fun w _ e => h1 w (Option.some.inj e)))))
  · exact lv_astore_n A.1.1 A.1.2.1 hdg rfl A.2.2.2.2.has hL rfl (fun ls' hl => h (A.ls (LV.st1 hl (fun w _ e => h1 w (Option.some.inj e)))))
theorem g_lstore3 (pc' : Nat) (hL : 3 + 1 < fL f) {o0 o1 o2 ox oy : Option Value} {os : List (Option Value)} (h1 : C1 o2) {x : Int64} (hdg : decode (fC f) pc = .ok (.lstore_n 3, 1)) (hp : pc + 1 = pc') (h : Go K f d k n pc' (o0 :: o1 :: o2 :: some (.long x) :: none :: os) st M Q) : Go K f d k n pc (o0 :: o1 :: o2 :: ox :: oy :: os) (.long x :: st) M Q := by
  subst hp
  intro p e R s m args below meth c H locs cells slots mc ms ls A
  exact lv_lstore_n A.1.1 A.1.2.1 hdg rfl A.2.2.2.2.has hL rfl (fun ls' hl => h (A.ls (LV.st2 hl (fun w _ e => h1 w (Option.some.inj e)))))
theorem g_dstore3 (pc' : Nat) (hL : 3 + 1 < fL f) {o0 o1 o2 ox oy : Option Value} {os : List (Option Value)} (h1 : C1 o2) {x : UInt64} (hdg : decode (fC f) pc = .ok (.dstore_n 3, 1)) (hp : pc + 1 = pc') (h : Go K f d k n pc' (o0 :: o1 :: o2 :: some (.double x) :: none :: os) st M Q) : Go K f d k n pc (o0 :: o1 :: o2 :: ox :: oy :: os) (.double x :: st) M Q := by
  subst hp
  intro p e R s m args below meth c H locs cells slots mc ms ls A
  exact lv_dstore_n A.1.1 A.1.2.1 hdg rfl A.2.2.2.2.has hL rfl (fun ls' hl => h (A.ls (LV.st2 hl (fun w _ e => h1 w (Option.some.inj e)))))
theorem g_iinc3 (pc' : Nat) (hL : 3 < fL f) {o0 o1 o2 : Option Value} {os : List (Option Value)} (h1 : C1 o2) {a z : Int} (hdg : decode (fC f) pc = .ok (.iinc 3 z, 3)) (hp : pc + 3 = pc') (h : Go K f d k n pc' (o0 :: o1 :: o2 :: some (.int (ii (a + z))) :: os) st M Q) : Go K f d k n pc (o0 :: o1 :: o2 :: some (.int (ii a)) :: os) st M Q := by
  subst hp
  intro p e R s m args below meth c H locs cells slots mc ms ls A
  obtain ⟨q, hq⟩ := List.getElem?_of_mem (asc_in.mpr (show ((o0 :: o1 :: o2 :: some (Value.int (ii a)) :: os) : List (Option Value))[3]? = some (some (Value.int (ii a))) from rfl))
  exact lv_iinc (v := ii (a + z)) A.1.1 A.1.2.1 hdg A.2.2.2.2.has (k := q) hq (ii_add a z) hL rfl (fun ls' hl => h (A.ls (LV.st1 hl (fun w _ e => h1 w (Option.some.inj e)))))
theorem g_iload4 (pc' : Nat) {o0 o1 o2 o3 : Option Value} {os : List (Option Value)} {x : Int32} (hdg : decode (fC f) pc = .ok (.iload 4, 2)) (hp : pc + 2 = pc') (h : Go K f d k n pc' (o0 :: o1 :: o2 :: o3 :: some (.int x) :: os) (.int x :: st) M Q) : Go K f d k n pc (o0 :: o1 :: o2 :: o3 :: some (.int x) :: os) st M Q := by
  subst hp
  intro p e R s m args below meth c H locs cells slots mc ms ls A
  exact lv_iload A.1.1 A.1.2.1 hdg (A.2.2.2.2.at rfl) (h A)
theorem g_lload4 (pc' : Nat) {o0 o1 o2 o3 : Option Value} {os : List (Option Value)} {x : Int64} (hdg : decode (fC f) pc = .ok (.lload 4, 2)) (hp : pc + 2 = pc') (h : Go K f d k n pc' (o0 :: o1 :: o2 :: o3 :: some (.long x) :: os) (.long x :: st) M Q) : Go K f d k n pc (o0 :: o1 :: o2 :: o3 :: some (.long x) :: os) st M Q := by
  subst hp
  intro p e R s m args below meth c H locs cells slots mc ms ls A
  exact lv_lload A.1.1 A.1.2.1 hdg (A.2.2.2.2.at rfl) (h A)
theorem g_dload4 (pc' : Nat) {o0 o1 o2 o3 : Option Value} {os : List (Option Value)} {x : UInt64} (hdg : decode (fC f) pc = .ok (.dload 4, 2)) (hp : pc + 2 = pc') (h : Go K f d k n pc' (o0 :: o1 :: o2 :: o3 :: some (.double x) :: os) (.double x :: st) M Q) : Go K f d k n pc (o0 :: o1 :: o2 :: o3 :: some (.double x) :: os) st M Q := by
  subst hp
  intro p e R s m args below meth c H locs cells slots mc ms ls A
  exact lv_dload A.1.1 A.1.2.1 hdg (A.2.2.2.2.at rfl) (h A)
theorem g_aload4 (pc' : Nat) {o0 o1 o2 o3 : Option Value} {os : List (Option Value)} {v : Value} (hv : RV v) (hdg : decode (fC f) pc = .ok (.aload 4, 2)) (hp : pc + 2 = pc') (h : Go K f d k n pc' (o0 :: o1 :: o2 :: o3 :: some v :: os) (v :: st) M Q) : Go K f d k n pc (o0 :: o1 :: o2 :: o3 :: some v :: os) st M Q := by
  subst hp
  intro p e R s m args below meth c H locs cells slots mc ms ls A
  rcases hv with rfl | ⟨a, rfl⟩
  · exact lv_aloadN A.1.1 A.1.2.1 hdg (A.2.2.2.2.at rfl) (h A)
  · exact lv_aload A.1.1 A.1.2.1 hdg (A.2.2.2.2.at rfl) (h A)
theorem g_istore4 (pc' : Nat) (hL : 4 < fL f) {o0 o1 o2 o3 ox : Option Value} {os : List (Option Value)} (h1 : C1 o3) {x : Int32} (hdg : decode (fC f) pc = .ok (.istore 4, 2)) (hp : pc + 2 = pc') (h : Go K f d k n pc' (o0 :: o1 :: o2 :: o3 :: some (.int x) :: os) st M Q) : Go K f d k n pc (o0 :: o1 :: o2 :: o3 :: ox :: os) (.int x :: st) M Q := by
  subst hp
  intro p e R s m args below meth c H locs cells slots mc ms ls A
  exact lv_istore A.1.1 A.1.2.1 hdg A.2.2.2.2.has hL rfl (fun ls' hl => h (A.ls (LV.st1 hl (fun w _ e => h1 w (Option.some.inj e)))))
theorem g_astore4 (pc' : Nat) (hL : 4 < fL f) {o0 o1 o2 o3 ox : Option Value} {os : List (Option Value)} (h1 : C1 o3) {v : Value} (hv : RV v) (hdg : decode (fC f) pc = .ok (.astore 4, 2)) (hp : pc + 2 = pc') (h : Go K f d k n pc' (o0 :: o1 :: o2 :: o3 :: some v :: os) st M Q) : Go K f d k n pc (o0 :: o1 :: o2 :: o3 :: ox :: os) (v :: st) M Q := by
  subst hp
  intro p e R s m args below meth c H locs cells slots mc ms ls A
  rcases hv with rfl | ⟨a, rfl⟩
  · exact lv_astoreN A.1.1 A.1.2.1 hdg A.2.2.2.2.has hL rfl (fun ls' hl => h (A.ls (LV.st1 hl (fun w _ e => h1 w (Option.some.inj e)))))
  · exact lv_astore A.1.1 A.1.2.1 hdg A.2.2.2.2.has hL rfl (fun ls' hl => h (A.ls (LV.st1 hl (fun w _ e => h1 w (Option.some.inj e)))))
theorem g_lstore4 (pc' : Nat) (hL : 4 + 1 < fL f) {o0 o1 o2 o3 ox oy : Option Value} {os : List (Option Value)} (h1 : C1 o3) {x : Int64} (hdg : decode (fC f) pc = .ok (.lstore 4, 2)) (hp : pc + 2 = pc') (h : Go K f d k n pc' (o0 :: o1 :: o2 :: o3 :: some (.long x) :: none :: os) st M Q) : Go K f d k n pc (o0 :: o1 :: o2 :: o3 :: ox :: oy :: os) (.long x :: st) M Q := by
  subst hp
  intro p e R s m args below meth c H locs cells slots mc ms ls A
  exact lv_lstore A.1.1 A.1.2.1 hdg A.2.2.2.2.has hL rfl (fun ls' hl => h (A.ls (LV.st2 hl (fun w _ e => h1 w (Option.some.inj e)))))
theorem g_dstore4 (pc' : Nat) (hL : 4 + 1 < fL f) {o0 o1 o2 o3 ox oy : Option Value} {os : List (Option Value)} (h1 : C1 o3) {x : UInt64} (hdg : decode (fC f) pc = .ok (.dstore 4, 2)) (hp : pc + 2 = pc') (h : Go K f d k n pc' (o0 :: o1 :: o2 :: o3 :: some (.double x) :: none :: os) st M Q) : Go K f d k n pc (o0 :: o1 :: o2 :: o3 :: ox :: oy :: os) (.double x :: st) M Q := by
  subst hp
  intro p e R s m args below meth c H locs cells slots mc ms ls A
  exact lv_dstore A.1.1 A.1.2.1 hdg A.2.2.2.2.has hL rfl (fun ls' hl => h (A.ls (LV.st2 hl (fun w _ e => h1 w (Option.some.inj e)))))
theorem g_iinc4 (pc' : Nat) (hL : 4 < fL f) {o0 o1 o2 o3 : Option Value} {os : List (Option Value)} (h1 : C1 o3) {a z : Int} (hdg : decode (fC f) pc = .ok (.iinc 4 z, 3)) (hp : pc + 3 = pc') (h : Go K f d k n pc' (o0 :: o1 :: o2 :: o3 :: some (.int (ii (a + z))) :: os) st M Q) : Go K f d k n pc (o0 :: o1 :: o2 :: o3 :: some (.int (ii a)) :: os) st M Q := by
  subst hp
  intro p e R s m args below meth c H locs cells slots mc ms ls A
  obtain ⟨q, hq⟩ := List.getElem?_of_mem (asc_in.mpr (show ((o0 :: o1 :: o2 :: o3 :: some (Value.int (ii a)) :: os) : List (Option Value))[4]? = some (some (Value.int (ii a))) from rfl))
  exact lv_iinc (v := ii (a + z)) A.1.1 A.1.2.1 hdg A.2.2.2.2.has (k := q) hq (ii_add a z) hL rfl (fun ls' hl => h (A.ls (LV.st1 hl (fun w _ e => h1 w (Option.some.inj e)))))
theorem g_iload5 (pc' : Nat) {o0 o1 o2 o3 o4 : Option Value} {os : List (Option Value)} {x : Int32} (hdg : decode (fC f) pc = .ok (.iload 5, 2)) (hp : pc + 2 = pc') (h : Go K f d k n pc' (o0 :: o1 :: o2 :: o3 :: o4 :: some (.int x) :: os) (.int x :: st) M Q) : Go K f d k n pc (o0 :: o1 :: o2 :: o3 :: o4 :: some (.int x) :: os) st M Q := by
  subst hp
  intro p e R s m args below meth c H locs cells slots mc ms ls A
  exact lv_iload A.1.1 A.1.2.1 hdg (A.2.2.2.2.at rfl) (h A)
theorem g_lload5 (pc' : Nat) {o0 o1 o2 o3 o4 : Option Value} {os : List (Option Value)} {x : Int64} (hdg : decode (fC f) pc = .ok (.lload 5, 2)) (hp : pc + 2 = pc') (h : Go K f d k n pc' (o0 :: o1 :: o2 :: o3 :: o4 :: some (.long x) :: os) (.long x :: st) M Q) : Go K f d k n pc (o0 :: o1 :: o2 :: o3 :: o4 :: some (.long x) :: os) st M Q := by
  subst hp
  intro p e R s m args below meth c H locs cells slots mc ms ls A
  exact lv_lload A.1.1 A.1.2.1 hdg (A.2.2.2.2.at rfl) (h A)
theorem g_dload5 (pc' : Nat) {o0 o1 o2 o3 o4 : Option Value} {os : List (Option Value)} {x : UInt64} (hdg : decode (fC f) pc = .ok (.dload 5, 2)) (hp : pc + 2 = pc') (h : Go K f d k n pc' (o0 :: o1 :: o2 :: o3 :: o4 :: some (.double x) :: os) (.double x :: st) M Q) : Go K f d k n pc (o0 :: o1 :: o2 :: o3 :: o4 :: some (.double x) :: os) st M Q := by
  subst hp
  intro p e R s m args below meth c H locs cells slots mc ms ls A
  exact lv_dload A.1.1 A.1.2.1 hdg (A.2.2.2.2.at rfl) (h A)
theorem g_aload5 (pc' : Nat) {o0 o1 o2 o3 o4 : Option Value} {os : List (Option Value)} {v : Value} (hv : RV v) (hdg : decode (fC f) pc = .ok (.aload 5, 2)) (hp : pc + 2 = pc') (h : Go K f d k n pc' (o0 :: o1 :: o2 :: o3 :: o4 :: some v :: os) (v :: st) M Q) : Go K f d k n pc (o0 :: o1 :: o2 :: o3 :: o4 :: some v :: os) st M Q := by
  subst hp
  intro p e R s m args below meth c H locs cells slots mc ms ls A
  rcases hv with rfl | ⟨a, rfl⟩
  · exact lv_aloadN A.1.1 A.1.2.1 hdg (A.2.2.2.2.at rfl) (h A)
  · exact lv_aload A.1.1 A.1.2.1 hdg (A.2.2.2.2.at rfl) (h A)
theorem g_istore5 (pc' : Nat) (hL : 5 < fL f) {o0 o1 o2 o3 o4 ox : Option Value} {os : List (Option Value)} (h1 : C1 o4) {x : Int32} (hdg : decode (fC f) pc = .ok (.istore 5, 2)) (hp : pc + 2 = pc') (h : Go K f d k n pc' (o0 :: o1 :: o2 :: o3 :: o4 :: some (.int x) :: os) st M Q) : Go K f d k n pc (o0 :: o1 :: o2 :: o3 :: o4 :: ox :: os) (.int x :: st) M Q := by
  subst hp
  intro p e R s m args below meth c H locs cells slots mc ms ls A
  exact lv_istore A.1.1 A.1.2.1 hdg A.2.2.2.2.has hL rfl (fun ls' hl => h (A.ls (LV.st1 hl (fun w _ e => h1 w (Option.some.inj e)))))
theorem g_astore5 (pc' : Nat) (hL : 5 < fL f) {o0 o1 o2 o3 o4 ox : Option Value} {os : List (Option Value)} (h1 : C1 o4) {v : Value} (hv : RV v) (hdg : decode (fC f) pc = .ok (.astore 5, 2)) (hp : pc + 2 = pc') (h : Go K f d k n pc' (o0 :: o1 :: o2 :: o3 :: o4 :: some v :: os) st M Q) : Go K f d k n pc (o0 :: o1 :: o2 :: o3 :: o4 :: ox :: os) (v :: st) M Q := by
  subst hp
  intro p e R s m args below meth c H locs cells slots mc ms ls A
  rcases hv with rfl | ⟨a, rfl⟩
  · exact lv_astoreN A.1.1 A.1.2.1 hdg A.2.2.2.2.has hL rfl (fun ls' hl => h (A.ls (LV.st1 hl (fun w _ e => h1 w (Option.some.inj e)))))
  · exact lv_astore A.1.1 A.1.2.1 hdg A.2.2.2.2.has hL rfl (fun ls' hl => h (A.ls (LV.st1 hl (fun w _ e => h1 w (Option.some.inj e)))))
theorem g_lstore5 (pc' : Nat) (hL : 5 + 1 < fL f) {o0 o1 o2 o3 o4 ox oy : Option Value} {os : List (Option Value)} (h1 : C1 o4) {x : Int64} (hdg : decode (fC f) pc = .ok (.lstore 5, 2)) (hp : pc + 2 = pc') (h : Go K f d k n pc' (o0 :: o1 :: o2 :: o3 :: o4 :: some (.long x) :: none :: os) st M Q) : Go K f d k n pc (o0 :: o1 :: o2 :: o3 :: o4 :: ox :: oy :: os) (.long x :: st) M Q := by
  subst hp
  intro p e R s m args below meth c H locs cells slots mc ms ls A
  exact lv_lstore A.1.1 A.1.2.1 hdg A.2.2.2.2.has hL rfl (fun ls' hl => h (A.ls (LV.st2 hl (fun w _ e => h1 w (Option.some.inj e)))))
theorem g_dstore5 (pc' : Nat) (hL : 5 + 1 < fL f) {o0 o1 o2 o3 o4 ox oy : Option Value} {os : List (Option Value)} (h1 : C1 o4) {x : UInt64} (hdg : decode (fC f) pc = .ok (.dstore 5, 2)) (hp : pc + 2 = pc') (h : Go K f d k n pc' (o0 :: o1 :: o2 :: o3 :: o4 :: some (.double x) :: none :: os) st M Q) : Go K f d k n pc (o0 :: o1 :: o2 :: o3 :: o4 :: ox :: oy :: os) (.double x :: st) M Q := by
  subst hp
  intro p e R s m args below meth c H locs cells slots mc ms ls A
  exact lv_dstore A.1.1 A.1.2.1 hdg A.2.2.2.2.has hL rfl (fun ls' hl => h (A.ls (LV.st2 hl (fun w _ e => h1 w (Option.some.inj e)))))
theorem g_iinc5 (pc' : Nat) (hL : 5 < fL f) {o0 o1 o2 o3 o4 : Option Value} {os : List (Option Value)} (h1 : C1 o4) {a z : Int} (hdg : decode (fC f) pc = .ok (.iinc 5 z, 3)) (hp : pc + 3 = pc') (h : Go K f d k n pc' (o0 :: o1 :: o2 :: o3 :: o4 :: some (.int (ii (a + z))) :: os) st M Q) : Go K f d k n pc (o0 :: o1 :: o2 :: o3 :: o4 :: some (.int (ii a)) :: os) st M Q := by
  subst hp
  intro p e R s m args below meth c H locs cells slots mc ms ls A
  obtain ⟨q, hq⟩ := List.getElem?_of_mem (asc_in.mpr (show ((o0 :: o1 :: o2 :: o3 :: o4 :: some (Value.int (ii a)) :: os) : List (Option Value))[5]? = some (some (Value.int (ii a))) from rfl))
  exact lv_iinc (v := ii (a + z)) A.1.1 A.1.2.1 hdg A.2.2.2.2.has (k := q) hq (ii_add a z) hL rfl (fun ls' hl => h (A.ls (LV.st1 hl (fun w _ e => h1 w (Option.some.inj e)))))
theorem g_iload6 (pc' : Nat) {o0 o1 o2 o3 o4 o5 : Option Value} {os : List (Option Value)} {x : Int32} (hdg : decode (fC f) pc = .ok (.iload 6, 2)) (hp : pc + 2 = pc') (h : Go K f d k n pc' (o0 :: o1 :: o2 :: o3 :: o4 :: o5 :: some (.int x) :: os) (.int x :: st) M Q) : Go K f d k n pc (o0 :: o1 :: o2 :: o3 :: o4 :: o5 :: some (.int x) :: os) st M Q := by
  subst hp
  intro p e R s m args below meth c H locs cells slots mc ms ls A
  exact lv_iload A.1.1 A.1.2.1 hdg (A.2.2.2.2.at rfl) (h A)
theorem g_lload6 (pc' : Nat) {o0 o1 o2 o3 o4 o5 : Option Value} {os : List (Option Value)} {x : Int64} (hdg : decode (fC f) pc = .ok (.lload 6, 2)) (hp : pc + 2 = pc') (h : Go K f d k n pc' (o0 :: o1 :: o2 :: o3 :: o4 :: o5 :: some (.long x) :: os) (.long x :: st) M Q) : Go K f d k n pc (o0 :: o1 :: o2 :: o3 :: o4 :: o5 :: some (.long x) :: os) st M Q := by
  subst hp
  intro p e R s m args below meth c H locs cells slots mc ms ls A
  exact lv_lload A.1.1 A.1.2.1 hdg (A.2.2.2.2.at rfl) (h A)
theorem g_dload6 (pc' : Nat) {o0 o1 o2 o3 o4 o5 : Option Value} {os : List (Option Value)} {x : UInt64} (hdg : decode (fC f) pc = .ok (.dload 6, 2)) (hp : pc + 2 = pc') (h : Go K f d k n pc' (o0 :: o1 :: o2 :: o3 :: o4 :: o5 :: some (.double x) :: os) (.double x :: st) M Q) : Go K f d k n pc (o0 :: o1 :: o2 :: o3 :: o4 :: o5 :: some (.double x) :: os) st M Q := by
  subst hp
  intro p e R s m args below meth c H locs cells slots mc ms ls A
  exact lv_dload A.1.1 A.1.2.1 hdg (A.2.2.2.2.at rfl) (h A)
theorem g_aload6 (pc' : Nat) {o0 o1 o2 o3 o4 o5 : Option Value} {os : List (Option Value)} {v : Value} (hv : RV v) (hdg : decode (fC f) pc = .ok (.aload 6, 2)) (hp : pc + 2 = pc') (h : Go K f d k n pc' (o0 :: o1 :: o2 :: o3 :: o4 :: o5 :: some v :: os) (v :: st) M Q) : Go K f d k n pc (o0 :: o1 :: o2 :: o3 :: o4 :: o5 :: some v :: os) st M Q := by
  subst hp
  intro p e R s m args below meth c H locs cells slots mc ms ls A
  rcases hv with rfl | ⟨a, rfl⟩
  · exact lv_aloadN A.1.1 A.1.2.1 hdg (A.2.2.2.2.at rfl) (h A)
  · exact lv_aload A.1.1 A.1.2.1 hdg (A.2.2.2.2.at rfl) (h A)
theorem g_istore6 (pc' : Nat) (hL : 6 < fL f) {o0 o1 o2 o3 o4 o5 ox : Option Value} {os : List (Option Value)} (h1 : C1 o5) {x : Int32} (hdg : decode (fC f) pc = .ok (.istore 6, 2)) (hp : pc + 2 = pc') (h : Go K f d k n pc' (o0 :: o1 :: o2 :: o3 :: o4 :: o5 :: some (.int x) :: os) st M Q) : Go K f d k n pc (o0 :: o1 :: o2 :: o3 :: o4 :: o5 :: ox :: os) (.int x :: st) M Q := by
  subst hp
  intro p e R s m args below meth c H locs cells slots mc ms ls A
  exact lv_istore A.1.1 A.1.2.1 hdg A.2.2.2.2.has hL rfl (fun ls' hl => h (A.ls (LV.st1 hl (fun w _ e => h1 w (Option.some.inj e)))))
theorem g_astore6 (pc' : Nat) (hL : 6 < fL f) {o0 o1 o2 o3 o4 o5 ox : Option Value} {os : List (Option Value)} (h1 : C1 o5) {v : Value} (hv : RV v) (hdg : decode (fC f) pc = .ok (.astore 6, 2)) (hp : pc + 2 = pc') (h : Go K f d k n pc' (o0 :: o1 :: o2 :: o3 :: o4 :: o5 :: some v :: os) st M Q) : Go K f d k n pc (o0 :: o1 :: o2 :: o3 :: o4 :: o5 :: ox :: os) (v :: st) M Q := by
  subst hp
  intro p e R s m args below meth c H locs cells slots mc ms ls A
  rcases hv with rfl | ⟨a, rfl⟩
  · exact lv_astoreN A.1.1 A.1.2.1 hdg A.2.2.2.2.has hL rfl (fun ls' hl => h (A.ls (LV.st1 hl (fun w _ e => h1 w (Option.some.inj e)))))
  · exact lv_astore A.1.1 A.1.2.1 hdg A.2.2.2.2.has hL rfl (fun ls' hl => h (A.ls (LV.st1 hl (fun w _ e => h1 w (Option.some.inj e)))))
theorem g_lstore6 (pc' : Nat) (hL : 6 + 1 < fL f) {o0 o1 o2 o3 o4 o5 ox oy : Option Value} {os : List (Option Value)} (h1 : C1 o5) {x : Int64} (hdg : decode (fC f) pc = .ok (.lstore 6, 2)) (hp : pc + 2 = pc') (h : Go K f d k n pc' (o0 :: o1 :: o2 :: o3 :: o4 :: o5 :: some (.long x) :: none :: os) st M Q) : Go K f d k n pc (o0 :: o1 :: o2 :: o3 :: o4 :: o5 :: ox :: oy :: os) (.long x :: st) M Q := by
  subst hp
  intro p e R s m args below meth c H locs cells slots mc ms ls A
  exact lv_lstore A.1.1 A.1.2.1 hdg A.2.2.2.2.has hL rfl (fun ls' hl => h (A.ls (LV.st2 hl (fun w _ e => h1 w (Option.some.inj e)))))
theorem g_dstore6 (pc' : Nat) (hL : 6 + 1 < fL f) {o0 o1 o2 o3 o4 o5 ox oy : Option Value} {os : List (Option Value)} (h1 : C1 o5) {x : UInt64} (hdg : decode (fC f) pc = .ok (.dstore 6, 2)) (hp : pc + 2 = pc') (h : Go K f d k n pc' (o0 :: o1 :: o2 :: o3 :: o4 :: o5 :: some (.double x) :: none :: os) st M Q) : Go K f d k n pc (o0 :: o1 :: o2 :: o3 :: o4 :: o5 :: ox :: oy :: os) (.double x :: st) M Q := by
  subst hp
  intro p e R s m args below meth c H locs cells slots mc ms ls A
  exact lv_dstore A.1.1 A.1.2.1 hdg A.2.2.2.2.has hL rfl (fun ls' hl => h (A.ls (LV.st2 hl (fun w _ e => h1 w (Option.some.inj e)))))
theorem g_iinc6 (pc' : Nat) (hL : 6 < fL f) {o0 o1 o2 o3 o4 o5 : Option Value} {os : List (Option Value)} (h1 : C1 o5) {a z : Int} (hdg : decode (fC f) pc = .ok (.iinc 6 z, 3)) (hp : pc + 3 = pc') (h : Go K f d k n pc' (o0 :: o1 :: o2 :: o3 :: o4 :: o5 :: some (.int (ii (a + z))) :: os) st M Q) : Go K f d k n pc (o0 :: o1 :: o2 :: o3 :: o4 :: o5 :: some (.int (ii a)) :: os) st M Q := by
  subst hp
  intro p e R s m args below meth c H locs cells slots mc ms ls A
  obtain ⟨q, hq⟩ := List.getElem?_of_mem (asc_in.mpr (show ((o0 :: o1 :: o2 :: o3 :: o4 :: o5 :: some (Value.int (ii a)) :: os) : List (Option Value))[6]? = some (some (Value.int (ii a))) from rfl))
  exact lv_iinc (v := ii (a + z)) A.1.1 A.1.2.1 hdg A.2.2.2.2.has (k := q) hq (ii_add a z) hL rfl (fun ls' hl => h (A.ls (LV.st1 hl (fun w _ e => h1 w (Option.some.inj e)))))
theorem g_iload7 (pc' : Nat) {o0 o1 o2 o3 o4 o5 o6 : Option Value} {os : List (Option Value)} {x : Int32} (hdg : decode (fC f) pc = .ok (.iload 7, 2)) (hp : pc + 2 = pc') (h : Go K f d k n pc' (o0 :: o1 :: o2 :: o3 :: o4 :: o5 :: o6 :: some (.int x) :: os) (.int x :: st) M Q) : Go K f d k n pc (o0 :: o1 :: o2 :: o3 :: o4 :: o5 :: o6 :: some (.int x) :: os) st M Q := by
  subst hp
  intro p e R s m args below meth c H locs cells slots mc ms ls A
  exact lv_iload A.1.1 A.1.2.1 hdg (A.2.2.2.2.at rfl) (h A)
theorem g_lload7 (pc' : Nat) {o0 o1 o2 o3 o4 o5 o6 : Option Value} {os : List (Option Value)} {x : Int64} (hdg : decode (fC f) pc = .ok (.lload 7, 2)) (hp : pc + 2 = pc') (h : Go K f d k n pc' (o0 :: o1 :: o2 :: o3 :: o4 :: o5 :: o6 :: some (.long x) :: os) (.long x :: st) M Q) : Go K f d k n pc (o0 :: o1 :: o2 :: o3 :: o4 :: o5 :: o6 :: some (.long x) :: os) st M Q := by
  subst hp
  intro p e R s m args below meth c H locs cells slots mc ms ls A
  exact lv_lload A.1.1 A.1.2.1 hdg (A.2.2.2.2.at rfl) (h A)
theorem g_dload7 (pc' : Nat) {o0 o1 o2 o3 o4 o5 o6 : Option Value} {os : List (Option Value)} {x : UInt64} (hdg : decode (fC f) pc = .ok (.dload 7, 2)) (hp : pc + 2 = pc') (h : Go K f d k n pc' (o0 :: o1 :: o2 :: o3 :: o4 :: o5 :: o6 :: some (.double x) :: os) (.double x :: st) M Q) : Go K f d k n pc (o0 :: o1 :: o2 :: o3 :: o4 :: o5 :: o6 :: some (.double x) :: os) st M Q := by
  subst hp
  intro p e R s m args below meth c H locs cells slots mc ms ls A
  exact lv_dload A.1.1 A.1.2.1 hdg (A.2.2.2.2.at rfl) (h A)
theorem g_aload7 (pc' : Nat) {o0 o1 o2 o3 o4 o5 o6 : Option Value} {os : List (Option Value)} {v : Value} (hv : RV v) (hdg : decode (fC f) pc = .ok (.aload 7, 2)) (hp : pc + 2 = pc') (h : Go K f d k n pc' (o0 :: o1 :: o2 :: o3 :: o4 :: o5 :: o6 :: some v :: os) (v :: st) M Q) : Go K f d k n pc (o0 :: o1 :: o2 :: o3 :: o4 :: o5 :: o6 :: some v :: os) st M Q := by
  subst hp
  intro p e R s m args below meth c H locs cells slots mc ms ls A
  rcases hv with rfl | ⟨a, rfl⟩
  · exact lv_aloadN A.1.1 A.1.2.1 hdg (A.2.2.2.2.at rfl) (h A)
  · exact lv_aload A.1.1 A.1.2.1 hdg (A.2.2.2.2.at rfl) (h A)
theorem g_istore7 (pc' : Nat) (hL : 7 < fL f) {o0 o1 o2 o3 o4 o5 o6 ox : Option Value} {os : List (Option Value)} (h1 : C1 o6) {x : Int32} (hdg : decode (fC f) pc = .ok (.istore 7, 2)) (hp : pc + 2 = pc') (h : Go K f d k n pc' (o0 :: o1 :: o2 :: o3 :: o4 :: o5 :: o6 :: some (.int x) :: os) st M Q) : Go K f d k n pc (o0 :: o1 :: o2 :: o3 :: o4 :: o5 :: o6 :: ox :: os) (.int x :: st) M Q := by
  subst hp
  intro p e R s m args below meth c H locs cells slots mc ms ls A
  exact lv_istore A.1.1 A.1.2.1 hdg A.2.2.2.2.has hL rfl (fun ls' hl => h (A.ls (LV.st1 hl (fun w _ e => h1 w (Option.some.inj e)))))
theorem g_astore7 (pc' : Nat) (hL : 7 < fL f) {o0 o1 o2 o3 o4 o5 o6 ox : Option Value} {os : List (Option Value)} (h1 : C1 o6) {v : Value} (hv : RV v) (hdg : decode (fC f) pc = .ok (.astore 7, 2)) (hp : pc + 2 = pc') (h : Go K f d k n pc' (o0 :: o1 :: o2 :: o3 :: o4 :: o5 :: o6 :: some v :: os) st M Q) : Go K f d k n pc (o0 :: o1 :: o2 :: o3 :: o4 :: o5 :: o6 :: ox :: os) (v :: st) M Q := by
  subst hp
  intro p e R s m args below meth c H locs cells slots mc ms ls A
  rcases hv with rfl | ⟨a, rfl⟩
  · exact lv_astoreN A.1.1 A.1.2.1 hdg A.2.2.2.2.has hL rfl (fun ls' hl => h (A.ls (LV.st1 hl (fun w _ e => h1 w (Option.some.inj e)))))
  · exact lv_astore A.1.1 A.1.2.1 hdg A.2.2.2.2.has hL rfl (fun ls' hl => h (A.ls (LV.st1 hl (fun w _ e => h1 w (Option.some.inj e)))))
theorem g_lstore7 (pc' : Nat) (hL : 7 + 1 < fL f) {o0 o1 o2 o3 o4 o5 o6 ox oy : Option Value} {os : List (Option Value)} (h1 : C1 o6) {x : Int64} (hdg : decode (fC f) pc = .ok (.lstore 7, 2)) (hp : pc + 2 = pc') (h : Go K f d k n pc' (o0 :: o1 :: o2 :: o3 :: o4 :: o5 :: o6 :: some (.long x) :: none :: os) st M Q) : Go K f d k n pc (o0 :: o1 :: o2 :: o3 :: o4 :: o5 :: o6 :: ox :: oy :: os) (.long x :: st) M Q := by
  subst hp
  intro p e R s m args below meth c H locs cells slots mc ms ls A
  exact lv_lstore A.1.1 A.1.2.1 hdg A.2.2.2.2.has hL rfl (fun ls' hl => h (A.ls (LV.st2 hl (fun w _ e => h1 w (Option.some.inj e)))))
theorem g_dstore7 (pc' : Nat) (hL : 7 + 1 < fL f) {o0 o1 o2 o3 o4 o5 o6 ox oy : Option Value} {os : List (Option Value)} (h1 : C1 o6) {x : UInt64} (hdg : decode (fC f) pc = .ok (.dstore 7, 2)) (hp : pc + 2 = pc') (h : Go K f d k n pc' (o0 :: o1 :: o2 :: o3 :: o4 :: o5 :: o6 :: some (.double x) :: none :: os) st M Q) : Go K f d k n pc (o0 :: o1 :: o2 :: o3 :: o4 :: o5 :: o6 :: ox :: oy :: os) (.double x :: st) M Q := by
  subst hp
  intro p e R s m args below meth c H locs cells slots mc ms ls A
  exact lv_dstore A.1.1 A.1.2.1 hdg A.2.2.2.2.has hL rfl (fun ls' hl => h (A.ls (LV.st2 hl (fun w _ e => h1 w (Option.some.inj e)))))
theorem g_iinc7 (pc' : Nat) (hL : 7 < fL f) {o0 o1 o2 o3 o4 o5 o6 : Option Value} {os : List (Option Value)} (h1 : C1 o6) {a z : Int} (hdg : decode (fC f) pc = .ok (.iinc 7 z, 3)) (hp : pc + 3 = pc') (h : Go K f d k n pc' (o0 :: o1 :: o2 :: o3 :: o4 :: o5 :: o6 :: some (.int (ii (a + z))) :: os) st M Q) : Go K f d k n pc (o0 :: o1 :: o2 :: o3 :: o4 :: o5 :: o6 :: some (.int (ii a)) :: os) st M Q := by
  subst hp
  intro p e R s m args below meth c H locs cells slots mc ms ls A
  obtain ⟨q, hq⟩ := List.getElem?_of_mem (asc_in.mpr (show ((o0 :: o1 :: o2 :: o3 :: o4 :: o5 :: o6 :: some (Value.int (ii a)) :: os) : List (Option Value))[7]? = some (some (Value.int (ii a))) from rfl))
  exact lv_iinc (v := ii (a + z)) A.1.1 A.1.2.1 hdg A.2.2.2.2.has (k := q) hq (ii_add a z) hL rfl (fun ls' hl => h (A.ls (LV.st1 hl (fun w _ e => h1 w (Option.some.inj e)))))
theorem g_iload8 (pc' : Nat) {o0 o1 o2 o3 o4 o5 o6 o7 : Option Value} {os : List (Option Value)} {x : Int32} (hdg : decode (fC f) pc = .ok (.iload 8, 2)) (hp : pc + 2 = pc') (h : Go K f d k n pc' (o0 :: o1 :: o2 :: o3 :: o4 :: o5 :: o6 :: o7 :: some (.int x) :: os) (.int x :: st) M Q) : Go K f d k n pc (o0 :: o1 :: o2 :: o3 :: o4 :: o5 :: o6 :: o7 :: some (.int x) :: os) st M Q := by
  subst hp
  intro p e R s m args below meth c H locs cells slots mc ms ls A
  exact lv_iload A.1.1 A.1.2.1 hdg (A.2.2.2.2.at rfl) (h A)
theorem g_lload8 (pc' : Nat) {o0 o1 o2 o3 o4 o5 o6 o7 : Option Value} {os : List (Option Value)} {x : Int64} (hdg : decode (fC f) pc = .ok (.lload 8, 2)) (hp : pc + 2 = pc') (h : Go K f d k n pc' (o0 :: o1 :: o2 :: o3 :: o4 :: o5 :: o6 :: o7 :: some (.long x) :: os) (.long x :: st) M Q) : Go K f d k n pc (o0 :: o1 :: o2 :: o3 :: o4 :: o5 :: o6 :: o7 :: some (.long x) :: os) st M Q := by
  subst hp
  intro p e R s m args below meth c H locs cells slots mc ms ls A
  exact lv_lload A.1.1 A.1.2.1 hdg (A.2.2.2.2.at rfl) (h A)
theorem g_dload8 (pc' : Nat) {o0 o1 o2 o3 o4 o5 o6 o7 : Option Value} {os : List (Option Value)} {x : UInt64} (hdg : decode (fC f) pc = .ok (.dload 8, 2)) (hp : pc + 2 = pc') (h : Go K f d k n pc' (o0 :: o1 :: o2 :: o3 :: o4 :: o5 :: o6 :: o7 :: some (.double x) :: os) (.double x :: st) M Q) : Go K f d k n pc (o0 :: o1 :: o2 :: o3 :: o4 :: o5 :: o6 :: o7 :: some (.double x) :: os) st M Q := by
  subst hp
  intro p e R s m args below meth c H locs cells slots mc ms ls A
  exact lv_dload A.1.1 A.1.2.1 hdg (A.2.2.2.2.at rfl) (h A)
theorem g_aload8 (pc' : Nat) {o0 o1 o2 o3 o4 o5 o6 o7 : Option Value} {os : List (Option Value)} {v : Value} (hv : RV v) (hdg : decode (fC f) pc = .ok (.aload 8, 2)) (hp : pc + 2 = pc') (h : Go K f d k n pc' (o0 :: o1 :: o2 :: o3 :: o4 :: o5 :: o6 :: o7 :: some v :: os) (v :: st) M Q) : Go K f d k n pc (o0 :: o1 :: o2 :: o3 :: o4 :: o5 :: o6 :: o7 :: some v :: os) st M Q := by
  subst hp
  intro p e R s m args below meth c H locs cells slots mc ms ls A
  rcases hv with rfl | ⟨a, rfl⟩
  · exact lv_aloadN A.1.1 A.1.2.1 hdg (A.2.2.2.2.at rfl) (h A)
  · exact lv_aload A.1.1 A.1.2.1 hdg (A.2.2.2.2.at rfl) (h A)
theorem g_istore8 (pc' : Nat) (hL : 8 < fL f) {o0 o1 o2 o3 o4 o5 o6 o7 ox : Option Value} {os : List (Option Value)} (h1 : C1 o7) {x : Int32} (hdg : decode (fC f) pc = .ok (.istore 8, 2)) (hp : pc + 2 = pc') (h : Go K f d k n pc' (o0 :: o1 :: o2 :: o3 :: o4 :: o5 :: o6 :: o7 :: some (.int x) :: os) st M Q) : Go K f d k n pc (o0 :: o1 :: o2 :: o3 :: o4 :: o5 :: o6 :: o7 :: ox :: os) (.int x :: st) M Q := by
  subst hp
  intro p e R s m args below meth c H locs cells slots mc ms ls A
  exact lv_istore A.1.1 A.1.2.1 hdg A.2.2.2.2.has hL rfl (fun ls' hl => h (A.ls (LV.st1 hl (fun w _ e => h1 w (Option.some.inj e)))))
theorem g_astore8 (pc' : Nat) (hL : 8 < fL f) {o0 o1 o2 o3 o4 o5 o6 o7 ox : Option Value} {os : List (Option Value)} (h1 : C1 o7) {v : Value} (hv : RV v) (hdg : decode (fC f) pc = .ok (.astore 8, 2)) (hp : pc + 2 = pc') (h : Go K f d k n pc' (o0 :: o1 :: o2 :: o3 :: o4 :: o5 :: o6 :: o7 :: some v :: os) st M Q) : Go K f d k n pc (o0 :: o1 :: o2 :: o3 :: o4 :: o5 :: o6 :: o7 :: ox :: os) (v :: st) M Q := by
  subst hp
  intro p e R s m args below meth c H locs cells slots mc ms ls A
  rcases hv with rfl | ⟨a, rfl⟩
  · exact lv_astoreN A.1.1 A.1.2.1 hdg A.2.2.2.2.has hL rfl (fun ls' hl => h (A.ls (LV.st1 hl (fun w _ e => h1 w (Option.some.inj e)))))
  · exact lv_astore A.1.1 A.1.2.1 hdg A.2.2.2.2.has hL rfl (fun ls' hl => h (A.ls (LV.st1 hl (fun w _ e => h1 w (Option.some.inj e)))))
theorem g_lstore8 (pc' : Nat) (hL : 8 + 1 < fL f) {o0 o1 o2 o3 o4 o5 o6 o7 ox oy : Option Value} {os : List (Option Value)} (h1 : C1 o7) {x : Int64} (hdg : decode (fC f) pc = .ok (.lstore 8, 2)) (hp : pc + 2 = pc') (h : Go K f d k n pc' (o0 :: o1 :: o2 :: o3 :: o4 :: o5 :: o6 :: o7 :: some (.long x) :: none :: os) st M Q) : Go K f d k n pc (o0 :: o1 :: o2 :: o3 :: o4 :: o5 :: o6 :: o7 :: ox :: oy :: os) (.long x :: st) M Q := by
  subst hp
  intro p e R s m args below meth c H locs cells slots mc ms ls A
  exact lv_lstore A.1.1 A.1.2.1 hdg A.2.2.2.2.has hL rfl (fun ls' hl => h (A.ls (LV.st2 hl (fun w _ e => h1 w (Option.some.inj e)))))
theorem g_dstore8 (pc' : Nat) (hL : 8 + 1 < fL f) {o0 o1 o2 o3 o4 o5 o6 o7 ox oy : Option Value} {os : List (Option Value)} (h1 : C1 o7) {x : UInt64} (hdg : decode (fC f) pc = .ok (.dstore 8, 2)) (hp : pc + 2 = pc') (h : Go K f d k n pc' (o0 :: o1 :: o2 :: o3 :: o4 :: o5 :: o6 :: o7 :: some (.double x) :: none :: os) st M Q) : Go K f d k n pc (o0 :: o1 :: o2 :: o3 :: o4 :: o5 :: o6 :: o7 :: ox :: oy :: os) (.double x :: st) M Q := by
  subst hp
  intro p e R s m args below meth c H locs cells slots mc ms ls A
  exact lv_dstore A.1.1 A.1.2.1 hdg A.2.2.2.2.has hL rfl (fun ls' hl => h (A.ls (LV.st2 hl (fun w _ e => h1 w (Option.some.inj e)))))
theorem g_iinc8 (pc' : Nat) (hL : 8 < fL f) {o0 o1 o2 o3 o4 o5 o6 o7 : Option Value} {os : List (Option Value)} (h1 : C1 o7) {a z : Int} (hdg : decode (fC f) pc = .ok (.iinc 8 z, 3)) (hp : pc + 3 = pc') (h : Go K f d k n pc' (o0 :: o1 :: o2 :: o3 :: o4 :: o5 :: o6 :: o7 :: some (.int (ii (a + z))) :: os) st M Q) : Go K f d k n pc (o0 :: o1 :: o2 :: o3 :: o4 :: o5 :: o6 :: o7 :: some (.int (ii a)) :: os) st M Q := by
  subst hp
  intro p e R s m args below meth c H locs cells slots mc ms ls A
  obtain ⟨q, hq⟩ := List.getElem?_of_mem (asc_in.mpr (show ((o0 :: o1 :: o2 :: o3 :: o4 :: o5 :: o6 :: o7 :: some (Value.int (ii a)) :: os) : List (Option Value))[8]? = some (some (Value.int (ii a))) from rfl))
  exact lv_iinc (v := ii (a + z)) A.1.1 A.1.2.1 hdg A.2.2.2.2.has (k := q) hq (ii_add a z) hL rfl (fun ls' hl => h (A.ls (LV.st1 hl (fun w _ e => h1 w (Option.some.inj e)))))
theorem g_iload9 (pc' : Nat) {o0 o1 o2 o3 o4 o5 o6 o7 o8 : Option Value} {os : List (Option Value)} {x : Int32} (hdg : decode (fC f) pc = .ok (.iload 9, 2)) (hp : pc + 2 = pc') (h : Go K f d k n pc' (o0 :: o1 :: o2 :: o3 :: o4 :: o5 :: o6 :: o7 :: o8 :: some (.int x) :: os) (.int x :: st) M Q) : Go K f d k n pc (o0 :: o1 :: o2 :: o3 :: o4 :: o5 :: o6 :: o7 :: o8 :: some (.int x) :: os) st M Q := by
  subst hp
  intro p e R s m args below meth c H locs cells slots mc ms ls A
  exact lv_iload A.1.1 A.1.2.1 hdg (A.2.2.2.2.at rfl) (h A)
theorem g_lload9 (pc' : Nat) {o0 o1 o2 o3 o4 o5 o6 o7 o8 : Option Value} {os : List (Option Value)} {x : Int64} (hdg : decode (fC f) pc = .ok (.lload 9, 2)) (hp : pc + 2 = pc') (h : Go K f d k n pc' (o0 :: o1 :: o2 :: o3 :: o4 :: o5 :: o6 :: o7 :: o8 :: some (.long x) :: os) (.long x :: st) M Q) : Go K f d k n pc (o0 :: o1 :: o2 :: o3 :: o4 :: o5 :: o6 :: o7 :: o8 :: some (.long x) :: os) st M Q := by
  subst hp
  intro p e R s m args below meth c H locs cells slots mc ms ls A
  exact lv_lload A.1.1 A.1.2.1 hdg (A.2.2.2.2.at rfl) (h A)
theorem g_dload9 (pc' : Nat) {o0 o1 o2 o3 o4 o5 o6 o7 o8 : Option Value} {os : List (Option Value)} {x : UInt64} (hdg : decode (fC f) pc = .ok (.dload 9, 2)) (hp : pc + 2 = pc') (h : Go K f d k n pc' (o0 :: o1 :: o2 :: o3 :: o4 :: o5 :: o6 :: o7 :: o8 :: some (.double x) :: os) (.double x :: st) M Q) : Go K f d k n pc (o0 :: o1 :: o2 :: o3 :: o4 :: o5 :: o6 :: o7 :: o8 :: some (.double x) :: os) st M Q := by
  subst hp
  intro p e R s m args below meth c H locs cells slots mc ms ls A
  exact lv_dload A.1.1 A.1.2.1 hdg (A.2.2.2.2.at rfl) (h A)
theorem g_aload9 (pc' : Nat) {o0 o1 o2 o3 o4 o5 o6 o7 o8 : Option Value} {os : List (Option Value)} {v : Value} (hv : RV v) (hdg : decode (fC f) pc = .ok (.aload 9, 2)) (hp : pc + 2 = pc') (h : Go K f d k n pc' (o0 :: o1 :: o2 :: o3 :: o4 :: o5 :: o6 :: o7 :: o8 :: some v :: os) (v :: st) M Q) : Go K f d k n pc (o0 :: o1 :: o2 :: o3 :: o4 :: o5 :: o6 :: o7 :: o8 :: some v :: os) st M Q := by
  subst hp
  intro p e R s m args below meth c H locs cells slots mc ms ls A
  rcases hv with rfl | ⟨a, rfl⟩
  · exact lv_aloadN A.1.1 A.1.2.1 hdg (A.2.2.2.2.at rfl) (h A)
  · exact lv_aload A.1.1 A.1.2.1 hdg (A.2.2.2.2.at rfl) (h A)
theorem g_istore9 (pc' : Nat) (hL : 9 < fL f) {o0 o1 o2 o3 o4 o5 o6 o7 o8 ox : Option Value} {os : List (Option Value)} (h1 : C1 o8) {x : Int32} (hdg : decode (fC f) pc = .ok (.istore 9, 2)) (hp : pc + 2 = pc') (h : Go K f d k n pc' (o0 :: o1 :: o2 :: o3 :: o4 :: o5 :: o6 :: o7 :: o8 :: some (.int x) :: os) st M Q) : Go K f d k n pc (o0 :: o1 :: o2 :: o3 :: o4 :: o5 :: o6 :: o7 :: o8 :: ox :: os) (.int x :: st) M Q := by
  subst hp
  intro p e R s m args below meth c H locs cells slots mc ms ls A
  exact lv_istore A.1.1 A.1.2.1 hdg A.2.2.2.2.has hL rfl (fun ls' hl => h (A.ls (LV.st1 hl (fun w _ e => h1 w (Option.some.inj e)))))
theorem g_astore9 (pc' : Nat) (hL : 9 < fL f) {o0 o1 o2 o3 o4 o5 o6 o7 o8 ox : Option Value} {os : List (Option Value)} (h1 : C1 o8) {v : Value} (hv : RV v) (hdg : decode (fC f) pc = .ok (.astore 9, 2)) (hp : pc + 2 = pc') (h : Go K f d k n pc' (o0 :: o1 :: o2 :: o3 :: o4 :: o5 :: o6 :: o7 :: o8 :: some v :: os) st M Q) : Go K f d k n pc (o0 :: o1 :: o2 :: o3 :: o4 :: o5 :: o6 :: o7 :: o8 :: ox :: os) (v :: st) M Q := by
  subst hp
  intro p e R s m args below meth c H locs cells slots mc ms ls A
  rcases hv with rfl | ⟨a, rfl⟩
  · exact lv_astoreN A.1.1 A.1.2.1 hdg A.2.2.2.2.has hL rfl (fun ls' hl => h (A.ls (LV.st1 hl (fun w _ e => h1 w (Option.some.inj e)))))
  · exact lv_astore A.1.1 A.1.2.1 hdg A.2.2.2.2.has hL rfl (fun ls' hl => h (A.ls (LV.st1 hl (fun w _ e => h1 w (Option.some.inj e)))))
theorem g_lstore9 (pc' : Nat) (hL : 9 + 1 < fL f) {o0 o1 o2 o3 o4 o5 o6 o7 o8 ox oy : Option Value} {os : List (Option Value)} (h1 : C1 o8) {x : Int64} (hdg : decode (fC f) pc = .ok (.lstore 9, 2)) (hp : pc + 2 = pc') (h : Go K f d k n pc' (o0 :: o1 :: o2 :: o3 :: o4 :: o5 :: o6 :: o7 :: o8 :: some (.long x) :: none :: os) st M Q) : Go K f d k n pc (o0 :: o1 :: o2 :: o3 :: o4 :: o5 :: o6 :: o7 :: o8 :: ox :: oy :: os) (.long x :: st) M Q := by
  subst hp
  intro p e R s m args below meth c H locs cells slots mc ms ls A
  exact lv_lstore A.1.1 A.1.2.1 hdg A.2.2.2.2.has hL rfl (fun ls' hl => h (A.ls (LV.st2 hl (fun w _ e => h1 w (Option.some.inj e)))))
theorem g_dstore9 (pc' : Nat) (hL : 9 + 1 < fL f) {o0 o1 o2 o3 o4 o5 o6 o7 o8 ox oy : Option Value} {os : List (Option Value)} (h1 : C1 o8) {x : UInt64} (hdg : decode (fC f) pc = .ok (.dstore 9, 2)) (hp : pc + 2 = pc') (h : Go K f d k n pc' (o0 :: o1 :: o2 :: o3 :: o4 :: o5 :: o6 :: o7 :: o8 :: some (.double x) :: none :: os) st M Q) : Go K f d k n pc (o0 :: o1 :: o2 :: o3 :: o4 :: o5 :: o6 :: o7 :: o8 :: ox :: oy :: os) (.double x :: st) M Q := by
  subst hp
  intro p e R s m args below meth c H locs cells slots mc ms ls A
  exact lv_dstore A.1.1 A.1.2.1 hdg A.2.2.2.2.has hL rfl (fun ls' hl => h (A.ls (LV.st2 hl (fun w _ e => h1 w (Option.some.inj e)))))
theorem g_iinc9 (pc' : Nat) (hL : 9 < fL f) {o0 o1 o2 o3 o4 o5 o6 o7 o8 : Option Value} {os : List (Option Value)} (h1 : C1 o8) {a z : Int} (hdg : decode (fC f) pc = .ok (.iinc 9 z, 3)) (hp : pc + 3 = pc') (h : Go K f d k n pc' (o0 :: o1 :: o2 :: o3 :: o4 :: o5 :: o6 :: o7 :: o8 :: some (.int (ii (a + z))) :: os) st M Q) : Go K f d k n pc (o0 :: o1 :: o2 :: o3 :: o4 :: o5 :: o6 :: o7 :: o8 :: some (.int (ii a)) :: os) st M Q := by
  subst hp
  intro p e R s m args below meth c H locs cells slots mc ms ls A
  obtain ⟨q, hq⟩ := List.getElem?_of_mem (asc_in.mpr (show ((o0 :: o1 :: o2 :: o3 :: o4 :: o5 :: o6 :: o7 :: o8 :: some (Value.int (ii a)) :: os) : List (Option Value))[9]? = some (some (Value.int (ii a))) from rfl))
  exact lv_iinc (v := ii (a + z)) A.1.1 A.1.2.1 hdg A.2.2.2.2.has (k := q) hq (ii_add a z) hL rfl (fun ls' hl => h (A.ls (LV.st1 hl (fun w _ e => h1 w (Option.some.inj e)))))
theorem g_iadd (pc' : Nat) {a b : Int} (hdg : decode (fC f) pc = .ok (.iadd, 1)) (hp : pc + 1 = pc') (h : Go K f d k n pc' L (.int (ii (a + b)) :: st) M Q) : Go K f d k n pc L (.int (ii b) :: .int (ii a) :: st) M Q := by
  subst hp
  intro p e R s m args below meth c H locs cells slots mc ms ls A
  exact lv_iadd A.1.1 A.1.2.1 hdg (by rw [ii_add]; exact h A)
theorem g_isub (pc' : Nat) {a b : Int} (hdg : decode (fC f) pc = .ok (.isub, 1)) (hp : pc + 1 = pc') (h : Go K f d k n pc' L (.int (ii (a - b)) :: st) M Q) : Go K f d k n pc L (.int (ii b) :: .int (ii a) :: st) M Q := by
  subst hp
  intro p e R s m args below meth c H locs cells slots mc ms ls A
  exact lv_isub A.1.1 A.1.2.1 hdg (by rw [ii_sub]; exact h A)
theorem g_imul (pc' : Nat) {a b : Int} (hdg : decode (fC f) pc = .ok (.imul, 1)) (hp : pc + 1 = pc') (h : Go K f d k n pc' L (.int (ii (a * b)) :: st) M Q) : Go K f d k n pc L (.int (ii b) :: .int (ii a) :: st) M Q := by
  subst hp
  intro p e R s m args below meth c H locs cells slots mc ms ls A
  exact lv_imul A.1.1 A.1.2.1 hdg (by rw [ii_mul]; exact h A)
theorem g_ineg (pc' : Nat) {a : Int} (hdg : decode (fC f) pc = .ok (.ineg, 1)) (hp : pc + 1 = pc') (h : Go K f d k n pc' L (.int (ii (-a)) :: st) M Q) : Go K f d k n pc L (.int (ii a) :: st) M Q := by
  subst hp
  intro p e R s m args below meth c H locs cells slots mc ms ls A
  exact lv_ineg A.1.1 A.1.2.1 hdg (by rw [ii_neg]; exact h A)
theorem g_iand (pc' : Nat) {x y v : Int32} (hv : x &&& y = v) (hdg : decode (fC f) pc = .ok (.iand, 1)) (hp : pc + 1 = pc') (h : Go K f d k n pc' L (.int v :: st) M Q) : Go K f d k n pc L (.int y :: .int x :: st) M Q := by
  subst hp
  intro p e R s m args below meth c H locs cells slots mc ms ls A
  subst hv; exact lv_iand A.1.1 A.1.2.1 hdg (h A)
theorem g_ior (pc' : Nat) {x y v : Int32} (hv : x ||| y = v) (hdg : decode (fC f) pc = .ok (.ior, 1)) (hp : pc + 1 = pc') (h : Go K f d k n pc' L (.int v :: st) M Q) : Go K f d k n pc L (.int y :: .int x :: st) M Q := by
  subst hp
  intro p e R s m args below meth c H locs cells slots mc ms ls A
  subst hv; exact lv_ior A.1.1 A.1.2.1 hdg (h A)
theorem g_ixor (pc' : Nat) {x y v : Int32} (hv : x ^^^ y = v) (hdg : decode (fC f) pc = .ok (.ixor, 1)) (hp : pc + 1 = pc') (h : Go K f d k n pc' L (.int v :: st) M Q) : Go K f d k n pc L (.int y :: .int x :: st) M Q := by
  subst hp
  intro p e R s m args below meth c H locs cells slots mc ms ls A
  subst hv; exact lv_ixor A.1.1 A.1.2.1 hdg (h A)
theorem g_ishl (pc' : Nat) {x y v : Int32} (hv : x <<< (y &&& 31) = v) (hdg : decode (fC f) pc = .ok (.ishl, 1)) (hp : pc + 1 = pc') (h : Go K f d k n pc' L (.int v :: st) M Q) : Go K f d k n pc L (.int y :: .int x :: st) M Q := by
  subst hp
  intro p e R s m args below meth c H locs cells slots mc ms ls A
  subst hv; exact lv_ishl A.1.1 A.1.2.1 hdg (h A)
theorem g_ishr (pc' : Nat) {x y v : Int32} (hv : x >>> (y &&& 31) = v) (hdg : decode (fC f) pc = .ok (.ishr, 1)) (hp : pc + 1 = pc') (h : Go K f d k n pc' L (.int v :: st) M Q) : Go K f d k n pc L (.int y :: .int x :: st) M Q := by
  subst hp
  intro p e R s m args below meth c H locs cells slots mc ms ls A
  subst hv; exact lv_ishr A.1.1 A.1.2.1 hdg (h A)
theorem g_iushr (pc' : Nat) {x y v : Int32} (hv : (x.toUInt32 >>> (y.toUInt32 &&& Int32.toUInt32 31)).toInt32 = v) (hdg : decode (fC f) pc = .ok (.iushr, 1)) (hp : pc + 1 = pc') (h : Go K f d k n pc' L (.int v :: st) M Q) : Go K f d k n pc L (.int y :: .int x :: st) M Q := by
  subst hp
  intro p e R s m args below meth c H locs cells slots mc ms ls A
  exact lv_iushr A.1.1 A.1.2.1 hdg hv (h A)
theorem g_idivG (pc' : Nat) {x y v : Int32} (hy : ¬ y = 0) (hv : x / y = v) (hdg : decode (fC f) pc = .ok (.idiv, 1)) (hp : pc + 1 = pc') (h : Go K f d k n pc' L (.int v :: st) M Q) : Go K f d k n pc L (.int y :: .int x :: st) M Q := by
  subst hp
  intro p e R s m args below meth c H locs cells slots mc ms ls A
  subst hv; exact lv_idiv A.1.1 A.1.2.1 hdg hy (h A)
theorem g_i2l (pc' : Nat) {x : Int32} {v : Int64} (hv : x.toInt64 = v) (hdg : decode (fC f) pc = .ok (.i2l, 1)) (hp : pc + 1 = pc') (h : Go K f d k n pc' L (.long v :: st) M Q) : Go K f d k n pc L (.int x :: st) M Q := by
  subst hp
  intro p e R s m args below meth c H locs cells slots mc ms ls A
  exact lv_i2l A.1.1 A.1.2.1 hdg hv (h A)
theorem g_l2i (pc' : Nat) {x : Int64} {v : Int32} (hv : x.toInt32 = v) (hdg : decode (fC f) pc = .ok (.l2i, 1)) (hp : pc + 1 = pc') (h : Go K f d k n pc' L (.int v :: st) M Q) : Go K f d k n pc L (.long x :: st) M Q := by
  subst hp
  intro p e R s m args below meth c H locs cells slots mc ms ls A
  exact lv_l2i A.1.1 A.1.2.1 hdg hv (h A)
theorem g_i2b (pc' : Nat) {x : Int32} {v : Int32} (hv : x.toInt8.toInt32 = v) (hdg : decode (fC f) pc = .ok (.i2b, 1)) (hp : pc + 1 = pc') (h : Go K f d k n pc' L (.int v :: st) M Q) : Go K f d k n pc L (.int x :: st) M Q := by
  subst hp
  intro p e R s m args below meth c H locs cells slots mc ms ls A
  exact lv_i2b A.1.1 A.1.2.1 hdg hv (h A)
theorem g_i2c (pc' : Nat) {x : Int32} {v : Int32} (hv : (x.toUInt32 % 65536).toInt32 = v) (hdg : decode (fC f) pc = .ok (.i2c, 1)) (hp : pc + 1 = pc') (h : Go K f d k n pc' L (.int v :: st) M Q) : Go K f d k n pc L (.int x :: st) M Q := by
  subst hp
  intro p e R s m args below meth c H locs cells slots mc ms ls A
  exact lv_i2c A.1.1 A.1.2.1 hdg hv (h A)
theorem g_lcmp (pc' : Nat) {x y : Int64} {v : Int32} (hv : lg_cmp x y = v) (hdg : decode (fC f) pc = .ok (.lcmp, 1)) (hp : pc + 1 = pc') (h : Go K f d k n pc' L (.int v :: st) M Q) : Go K f d k n pc L (.long y :: .long x :: st) M Q := by
  subst hp
  intro p e R s m args below meth c H locs cells slots mc ms ls A
  subst hv; exact W.lcmp A.1.1 A.1.2.1 hdg (h A)
theorem g_i2d (pc' : Nat) {x : Int32} (hdg : decode (fC f) pc = .ok (.i2d, 1)) (hp : pc + 1 = pc') (h : Go K f d k n pc' L (.double (FP.i2d x) :: st) M Q) : Go K f d k n pc L (.int x :: st) M Q := by
  subst hp
  intro p e R s m args below meth c H locs cells slots mc ms ls A
  exact lv_i2d A.1.1 A.1.2.1 hdg (h A)
theorem g_ddiv (pc' : Nat) {x y : UInt64} (hn : vf_n64 (FP.ddiv x y)) (hdg : decode (fC f) pc = .ok (.ddiv, 1)) (hp : pc + 1 = pc') (h : Go K f d k n pc' L (.double (FP.ddiv x y) :: st) M Q) : Go K f d k n pc L (.double y :: .double x :: st) M Q := by
  subst hp
  intro p e R s m args below meth c H locs cells slots mc ms ls A
  exact lv_ddiv A.1.1 A.1.2.1 hdg hn (h A)
theorem g_dcmp (pc' : Nat) {x y : UInt64} {op : CmpOp} (hdg : decode (fC f) pc = .ok (.dcmp op, 1)) (hp : pc + 1 = pc') (h : Go K f d k n pc' L (.int (Op.cmpValue (FP.dcmp x y) op) :: st) M Q) : Go K f d k n pc L (.double y :: .double x :: st) M Q := by
  subst hp
  intro p e R s m args below meth c H locs cells slots mc ms ls A
  exact lv_dcmp A.1.1 A.1.2.1 hdg (h A)
theorem g_dup (pc' : Nat) {v : Value} (hv : v.category = 1) (hdg : decode (fC f) pc = .ok (.dup, 1)) (hp : pc + 1 = pc') (h : Go K f d k n pc' L (v :: v :: st) M Q) : Go K f d k n pc L (v :: st) M Q := by
  subst hp
  intro p e R s m args below meth c H locs cells slots mc ms ls A
  exact lv_dup A.1.1 A.1.2.1 hdg hv (h A)
theorem g_pop (pc' : Nat) {v : Value} (hv : v.category = 1) (hdg : decode (fC f) pc = .ok (.pop, 1)) (hp : pc + 1 = pc') (h : Go K f d k n pc' L st M Q) : Go K f d k n pc L (v :: st) M Q := by
  subst hp
  intro p e R s m args below meth c H locs cells slots mc ms ls A
  exact lv_pop A.1.1 A.1.2.1 hdg hv (h A)
theorem g_dup_x1 (pc' : Nat) {v x : Value} (hv : v.category = 1) (hx : x.category = 1) (hdg : decode (fC f) pc = .ok (.dup_x1, 1)) (hp : pc + 1 = pc') (h : Go K f d k n pc' L (v :: x :: v :: st) M Q) : Go K f d k n pc L (v :: x :: st) M Q := by
  subst hp
  intro p e R s m args below meth c H locs cells slots mc ms ls A
  exact lv_dup_x1 A.1.1 A.1.2.1 hdg hv hx (h A)
theorem g_dup_x2 (pc' : Nat) {v x y : Value} (hv : v.category = 1) (hx : x.category = 1) (hy : y.category = 1) (hdg : decode (fC f) pc = .ok (.dup_x2, 1)) (hp : pc + 1 = pc') (h : Go K f d k n pc' L (v :: x :: y :: v :: st) M Q) : Go K f d k n pc L (v :: x :: y :: st) M Q := by
  subst hp
  intro p e R s m args below meth c H locs cells slots mc ms ls A
  exact lv_dup_x2 A.1.1 A.1.2.1 hdg hv hx hy (h A)
theorem g_dup2 (pc' : Nat) {v x : Value} (hv : v.category = 1) (hx : x.category = 1) (hdg : decode (fC f) pc = .ok (.dup2, 1)) (hp : pc + 1 = pc') (h : Go K f d k n pc' L (v :: x :: v :: x :: st) M Q) : Go K f d k n pc L (v :: x :: st) M Q := by
  subst hp
  intro p e R s m args below meth c H locs cells slots mc ms ls A
  exact lv_dup2_11 A.1.1 A.1.2.1 hdg hv hx (h A)
theorem g_icmp_eq (tgt pc' : Nat) {a b : Int} {off : Int} (hdg : decode (fC f) pc = .ok (.if_icmp .eq off, 3)) (hp : pc + 3 = pc') (ht : (pc : Int) + off = (tgt : Int)) (ha : R32 a) (hb : R32 b) (kt : a = b → Go K f d k n tgt L st M Q) (kf : a ≠ b → Go K f d k n pc' L st M Q) : Go K f d k n pc L (.int (ii b) :: .int (ii a) :: st) M Q := by
  subst hp
  intro p e R s m args below meth c H locs cells slots mc ms ls A
  exact lv_icmp_eq A.1.1 A.1.2.1 hdg ht (fun q => kt ((ii_inj ha hb).mp q) A) (fun q => kf (fun z => q ((ii_inj ha hb).mpr z)) A)
theorem g_if_eq (tgt pc' : Nat) {a : Int} {off : Int} (hdg : decode (fC f) pc = .ok (.ifCond .eq off, 3)) (hp : pc + 3 = pc') (ht : (pc : Int) + off = (tgt : Int)) (ha : R32 a) (kt : a = 0 → Go K f d k n tgt L st M Q) (kf : a ≠ 0 → Go K f d k n pc' L st M Q) : Go K f d k n pc L (.int (ii a) :: st) M Q := by
  subst hp
  intro p e R s m args below meth c H locs cells slots mc ms ls A
  have r0 : R32 0 := by decide
  exact lv_if_eq A.1.1 A.1.2.1 hdg ht (fun q => kt ((ii_inj ha r0).mp q) A) (fun q => kf (fun z => q ((ii_inj ha r0).mpr z)) A)
theorem g_icmp_ne (tgt pc' : Nat) {a b : Int} {off : Int} (hdg : decode (fC f) pc = .ok (.if_icmp .ne off, 3)) (hp : pc + 3 = pc') (ht : (pc : Int) + off = (tgt : Int)) (ha : R32 a) (hb : R32 b) (kt : a ≠ b → Go K f d k n tgt L st M Q) (kf : a = b → Go K f d k n pc' L st M Q) : Go K f d k n pc L (.int (ii b) :: .int (ii a) :: st) M Q := by
  subst hp
  intro p e R s m args below meth c H locs cells slots mc ms ls A
  exact lv_icmp_ne A.1.1 A.1.2.1 hdg ht (fun q => kt (fun z => q ((ii_inj ha hb).mpr z)) A) (fun q => kf ((ii_inj ha hb).mp q) A)
theorem g_if_ne (tgt pc' : Nat) {a : Int} {off : Int} (hdg : decode (fC f) pc = .ok (.ifCond .ne off, 3)) (hp : pc + 3 = pc') (ht : (pc : Int) + off = (tgt : Int)) (ha : R32 a) (kt : a ≠ 0 → Go K f d k n tgt L st M Q) (kf : a = 0 → Go K f d k n pc' L st M Q) : Go K f d k n pc L (.int (ii a) :: st) M Q := by
  subst hp
  intro p e R s m args below meth c H locs cells slots mc ms ls A
  have r0 : R32 0 := by decide
  exact lv_if_ne A.1.1 A.1.2.1 hdg ht (fun q => kt (fun z => q ((ii_inj ha r0).mpr z)) A) (fun q => kf ((ii_inj ha r0).mp q) A)
theorem g_icmp_lt (tgt pc' : Nat) {a b : Int} {off : Int} (hdg : decode (fC f) pc = .ok (.if_icmp .lt off, 3)) (hp : pc + 3 = pc') (ht : (pc : Int) + off = (tgt : Int)) (ha : R32 a) (hb : R32 b) (kt : a < b → Go K f d k n tgt L st M Q) (kf : b ≤ a → Go K f d k n pc' L st M Q) : Go K f d k n pc L (.int (ii b) :: .int (ii a) :: st) M Q := by
  subst hp
  intro p e R s m args below meth c H locs cells slots mc ms ls A
  exact lv_icmp_lt A.1.1 A.1.2.1 hdg ht (fun q => kt ((ii_lt ha hb).mp q) A) (fun q => kf (Int.not_lt.mp fun z => q ((ii_lt ha hb).mpr z)) A)
theorem g_if_lt (tgt pc' : Nat) {a : Int} {off : Int} (hdg : decode (fC f) pc = .ok (.ifCond .lt off, 3)) (hp : pc + 3 = pc') (ht : (pc : Int) + off = (tgt : Int)) (ha : R32 a) (kt : a < 0 → Go K f d k n tgt L st M Q) (kf : 0 ≤ a → Go K f d k n pc' L st M Q) : Go K f d k n pc L (.int (ii a) :: st) M Q := by
  subst hp
  intro p e R s m args below meth c H locs cells slots mc ms ls A
  have r0 : R32 0 := by decide
  exact lv_if_lt A.1.1 A.1.2.1 hdg ht (fun q => kt ((ii_lt ha r0).mp q) A) (fun q => kf (Int.not_lt.mp fun z => q ((ii_lt ha r0).mpr z)) A)
theorem g_icmp_ge (tgt pc' : Nat) {a b : Int} {off : Int} (hdg : decode (fC f) pc = .ok (.if_icmp .ge off, 3)) (hp : pc + 3 = pc') (ht : (pc : Int) + off = (tgt : Int)) (ha : R32 a) (hb : R32 b) (kt : b ≤ a → Go K f d k n tgt L st M Q) (kf : a < b → Go K f d k n pc' L st M Q) : Go K f d k n pc L (.int (ii b) :: .int (ii a) :: st) M Q := by
  subst hp
  intro p e R s m args below meth c H locs cells slots mc ms ls A
  exact lv_icmp_ge A.1.1 A.1.2.1 hdg ht (fun q => kt ((ii_le hb ha).mp q) A) (fun q => kf (Int.not_le.mp fun z => q ((ii_le hb ha).mpr z)) A)
theorem g_if_ge (tgt pc' : Nat) {a : Int} {off : Int} (hdg : decode (fC f) pc = .ok (.ifCond .ge off, 3)) (hp : pc + 3 = pc') (ht : (pc : Int) + off = (tgt : Int)) (ha : R32 a) (kt : 0 ≤ a → Go K f d k n tgt L st M Q) (kf : a < 0 → Go K f d k n pc' L st M Q) : Go K f d k n pc L (.int (ii a) :: st) M Q := by
  subst hp
  intro p e R s m args below meth c H locs cells slots mc ms ls A
  have r0 : R32 0 := by decide
  exact lv_if_ge A.1.1 A.1.2.1 hdg ht (fun q => kt ((ii_le r0 ha).mp q) A) (fun q => kf (Int.not_le.mp fun z => q ((ii_le r0 ha).mpr z)) A)
theorem g_icmp_gt (tgt pc' : Nat) {a b : Int} {off : Int} (hdg : decode (fC f) pc = .ok (.if_icmp .gt off, 3)) (hp : pc + 3 = pc') (ht : (pc : Int) + off = (tgt : Int)) (ha : R32 a) (hb : R32 b) (kt : b < a → Go K f d k n tgt L st M Q) (kf : a ≤ b → Go K f d k n pc' L st M Q) : Go K f d k n pc L (.int (ii b) :: .int (ii a) :: st) M Q := by
  subst hp
  intro p e R s m args below meth c H locs cells slots mc ms ls A
  exact lv_icmp_gt A.1.1 A.1.2.1 hdg ht (fun q => kt ((ii_lt hb ha).mp q) A) (fun q => kf (Int.not_lt.mp fun z => q ((ii_lt hb ha).mpr z)) A)
theorem g_if_gt (tgt pc' : Nat) {a : Int} {off : Int} (hdg : decode (fC f) pc = .ok (.ifCond .gt off, 3)) (hp : pc + 3 = pc') (ht : (pc : Int) + off = (tgt : Int)) (ha : R32 a) (kt : 0 < a → Go K f d k n tgt L st M Q) (kf : a ≤ 0 → Go K f d k n pc' L st M Q) : Go K f d k n pc L (.int (ii a) :: st) M Q := by
  subst hp
  intro p e R s m args below meth c H locs cells slots mc ms ls A
  have r0 : R32 0 := by decide
  exact lv_if_gt A.1.1 A.1.2.1 hdg ht (fun q => kt ((ii_lt r0 ha).mp q) A) (fun q => kf (Int.not_lt.mp fun z => q ((ii_lt r0 ha).mpr z)) A)
theorem g_icmp_le (tgt pc' : Nat) {a b : Int} {off : Int} (hdg : decode (fC f) pc = .ok (.if_icmp .le off, 3)) (hp : pc + 3 = pc') (ht : (pc : Int) + off = (tgt : Int)) (ha : R32 a) (hb : R32 b) (kt : a ≤ b → Go K f d k n tgt L st M Q) (kf : b < a → Go K f d k n pc' L st M Q) : Go K f d k n pc L (.int (ii b) :: .int (ii a) :: st) M Q := by
  subst hp
  intro p e R s m args below meth c H locs cells slots mc ms ls A
  exact lv_icmp_le A.1.1 A.1.2.1 hdg ht (fun q => kt ((ii_le ha hb).mp q) A) (fun q => kf (Int.not_le.mp fun z => q ((ii_le ha hb).mpr z)) A)
theorem g_if_le (tgt pc' : Nat) {a : Int} {off : Int} (hdg : decode (fC f) pc = .ok (.ifCond .le off, 3)) (hp : pc + 3 = pc') (ht : (pc : Int) + off = (tgt : Int)) (ha : R32 a) (kt : a ≤ 0 → Go K f d k n tgt L st M Q) (kf : 0 < a → Go K f d k n pc' L st M Q) : Go K f d k n pc L (.int (ii a) :: st) M Q := by
  subst hp
  intro p e R s m args below meth c H locs cells slots mc ms ls A
  have r0 : R32 0 := by decide
  exact lv_if_le A.1.1 A.1.2.1 hdg ht (fun q => kt ((ii_le ha r0).mp q) A) (fun q => kf (Int.not_le.mp fun z => q ((ii_le ha r0).mpr z)) A)
theorem g_goto (tgt : Nat) {off : Int} (hdg : decode (fC f) pc = .ok (.goto off, 3)) (ht : (pc : Int) + off = (tgt : Int)) (h : Go K f d k n tgt L st M Q) : Go K f d k n pc L st M Q := by
  intro p e R s m args below meth c H locs cells slots mc ms ls A
  exact lv_goto A.1.1 A.1.2.1 hdg ht (h A)
theorem g_ifnull (tgt pc' : Nat) {v : Value} {off : Int} (hdg : decode (fC f) pc = .ok (.ifnull off, 3)) (hp : pc + 3 = pc') (ht : (pc : Int) + off = (tgt : Int)) (hv : RV v) (kt : v = .null → Go K f d k n tgt L st M Q) (kf : ∀ a, v = .ref a → Go K f d k n pc' L st M Q) : Go K f d k n pc L (v :: st) M Q := by
  subst hp
  intro p e R s m args below meth c H locs cells slots mc ms ls A
  rcases hv with rfl | ⟨a, rfl⟩
  · exact lv_ifnullN A.1.1 A.1.2.1 hdg ht (kt rfl A)
  · exact lv_ifnull A.1.1 A.1.2.1 hdg (kf a rfl A)
theorem g_ifnonnull (tgt pc' : Nat) {v : Value} {off : Int} (hdg : decode (fC f) pc = .ok (.ifnonnull off, 3)) (hp : pc + 3 = pc') (ht : (pc : Int) + off = (tgt : Int)) (hv : RV v) (kt : ∀ a, v = .ref a → Go K f d k n tgt L st M Q) (kf : v = .null → Go K f d k n pc' L st M Q) : Go K f d k n pc L (v :: st) M Q := by
  subst hp
  intro p e R s m args below meth c H locs cells slots mc ms ls A
  rcases hv with rfl | ⟨a, rfl⟩
  · exact lv_ifnonnullN A.1.1 A.1.2.1 hdg (kf rfl A)
  · exact lv_ifnonnull A.1.1 A.1.2.1 hdg ht (kt a rfl A)
theorem g_acmp_eq (tgt pc' : Nat) {v x : Value} {off : Int} (hdg : decode (fC f) pc = .ok (.if_acmp .eq off, 3)) (hp : pc + 3 = pc') (ht : (pc : Int) + off = (tgt : Int)) (hv : RV v) (hx : RV x) (kt : v = x → Go K f d k n tgt L st M Q) (kf : v ≠ x → Go K f d k n pc' L st M Q) : Go K f d k n pc L (x :: v :: st) M Q := by
  subst hp
  obtain ⟨o, rfl⟩ := rv_ex hv
  obtain ⟨o', rfl⟩ := rv_ex hx
  intro p e R s m args below meth c H locs cells slots mc ms ls A
  refine lv_acmp_eq A.1.1 A.1.2.1 hdg ht (fun q => kt (by rw [q]) A) (fun q => kf (fun z => q ?_) A)
  cases o <;> cases o' <;> simp_all [va_rf]
theorem g_acmp_ne (tgt pc' : Nat) {v x : Value} {off : Int} (hdg : decode (fC f) pc = .ok (.if_acmp .ne off, 3)) (hp : pc + 3 = pc') (ht : (pc : Int) + off = (tgt : Int)) (hv : RV v) (hx : RV x) (kt : v ≠ x → Go K f d k n tgt L st M Q) (kf : v = x → Go K f d k n pc' L st M Q) : Go K f d k n pc L (x :: v :: st) M Q := by
  subst hp
  obtain ⟨o, rfl⟩ := rv_ex hv
  obtain ⟨o', rfl⟩ := rv_ex hx
  intro p e R s m args below meth c H locs cells slots mc ms ls A
  by_cases hoo : o = o'
  · exact lv_acmp_ne A.1.1 A.1.2.1 hdg ht (fun q => absurd hoo q) (fun q => kf (by rw [hoo]) A)
  · exact lv_acmp_ne A.1.1 A.1.2.1 hdg ht (fun q => kt (fun z => hoo (by cases o <;> cases o' <;> simp_all [va_rf])) A) (fun q => absurd (by first | exact q | exact Classical.not_not.mp q) hoo)
theorem g_tableIn (tgt : Nat) {a : Int} {dflt lo hi : Int} {offs : Array Int} {len : Nat} {off : Int} (hdg : decode (fC f) pc = .ok (.tableswitch dflt lo hi offs, len)) (ha : R32 a) (h1 : lo ≤ a) (h2 : a ≤ hi) (ho : offs[(a - lo).toNat]? = some off) (ht : (pc : Int) + off = (tgt : Int)) (h : Go K f d k n tgt L st M Q) : Go K f d k n pc L (.int (ii a) :: st) M Q := by
  intro p e R s m args below meth c H locs cells slots mc ms ls A
  exact lv_tableIn A.1.1 A.1.2.1 hdg (by rw [ii_toInt ha]; omega) (by rw [ii_toInt ha]; omega) (by rw [ii_toInt ha]; exact ho) ht (h A)
theorem g_tableOut (tgt : Nat) {a : Int} {dflt lo hi : Int} {offs : Array Int} {len : Nat} (hdg : decode (fC f) pc = .ok (.tableswitch dflt lo hi offs, len)) (ha : R32 a) (h1 : a < lo ∨ hi < a) (ht : (pc : Int) + dflt = (tgt : Int)) (h : Go K f d k n tgt L st M Q) : Go K f d k n pc L (.int (ii a) :: st) M Q := by
  intro p e R s m args below meth c H locs cells slots mc ms ls A
  exact lv_tableOut A.1.1 A.1.2.1 hdg (by rw [ii_toInt ha]; exact h1) ht (h A)
theorem g_lookup (tgt : Nat) {a : Int} {dflt : Int} {ps : Array (Int × Int)} {len : Nat} {off : Int} (hdg : decode (fC f) pc = .ok (.lookupswitch dflt ps, len)) (hps : (ps.toList.zip (ps.toList.drop 1)).all (fun (a, next) => a.1 < next.1) = true) (ha : R32 a) (ho : Op.lookupswitch.offset ps.toList dflt a = off) (ht : (pc : Int) + off = (tgt : Int)) (h : Go K f d k n tgt L st M Q) : Go K f d k n pc L (.int (ii a) :: st) M Q := by
  intro p e R s m args below meth c H locs cells slots mc ms ls A
  exact lv_lookup A.1.1 A.1.2.1 hdg hps (by rw [ii_toInt ha]; exact ho) ht (h A)
/-! the ends -/
theorem qc_of {s t : State} {args : Array Value} {H : Heap} {locs : List Loc} {r : Option Value} (hH : Hp K M s H) (hS : va_S (kO K) s.heap H locs) (ht : t.heap = H) (hW : s.WarmedH t.vm) (hQ : Q (.inl r) M) : QC K Q args s (.returned r) t := ⟨r, M, rfl, by rw [ht]; exact hH.moved hW.alike, va_S.F hS ht, hQ⟩
theorem g_iret {x : Int32} (hdg : decode (fC f) pc = .ok (.ireturn, 1)) (hr : fR f = some .int) (hQ : Q (.inl (some (.int x))) M) : Go K f d k n pc L [.int x] M Q := by
  intro p e R s m args below meth c H locs cells slots mc ms ls A
  obtain ⟨⟨c1, c2, c3, c4, -⟩, ⟨-, -, -, -, h5, h6⟩, hH, hS, -⟩ := A
  refine W.widen (k := mc) (n := ms) (by omega) (by omega) (vx_ret ?_)
  exact W.iret c1 c2 (c3.trans hr) (fun t ht hW => qc_of hH hS ht hW hQ) hS.2.2 hdg c4
theorem g_zret {x : Int32} {ty : FieldType} (hdg : decode (fC f) pc = .ok (.ireturn, 1)) (hr : fR f = some ty) (hn : narrow ty (.int x) = .int x) (hQ : Q (.inl (some (.int x))) M) : Go K f d k n pc L [.int x] M Q := by
  intro p e R s m args below meth c H locs cells slots mc ms ls A
  obtain ⟨⟨c1, c2, c3, c4, -⟩, ⟨-, -, -, -, h5, h6⟩, hH, hS, -⟩ := A
  refine W.widen (k := mc) (n := ms) (by omega) (by omega) (vx_ret ?_)
  exact W.zret c1 c2 (c3.trans hr) hn (fun t ht hW => qc_of hH hS ht hW hQ) hS.2.2 hdg c4
theorem g_vret (hdg : decode (fC f) pc = .ok (.return_, 1)) (hr : fR f = none) (hQ : Q (.inl none) M) : Go K f d k n pc L [] M Q := by
  intro p e R s m args below meth c H locs cells slots mc ms ls A
  obtain ⟨⟨c1, c2, c3, c4, -⟩, ⟨-, -, -, -, h5, h6⟩, hH, hS, -⟩ := A
  refine W.widen (k := mc) (n := ms) (by omega) (by omega) (vx_ret ?_)
  exact W.vret c1 c2 (c3.trans hr) (fun t ht hW => qc_of hH hS ht hW hQ) hS.2.2 hdg c4
theorem g_aret {v : Value} {rt : FieldType} (hdg : decode (fC f) pc = .ok (.areturn, 1)) (hr : fR f = some rt) (hrt : (∃ n, rt = .object n) ∨ ∃ t, rt = .array t) (hv : RV v) (hQ : Q (.inl (some v)) M) : Go K f d k n pc L [v] M Q := by
  intro p e R s m args below meth c H locs cells slots mc ms ls A
  obtain ⟨⟨c1, c2, c3, c4, -⟩, ⟨-, -, -, -, h5, h6⟩, hH, hS, -⟩ := A
  refine W.widen (k := mc) (n := ms) (by omega) (by omega) (vx_ret ?_)
  exact W.aret c1 c2 (c3.trans hr) hrt hv (fun t ht hW => qc_of hH hS ht hW hQ) hS.2.2 hdg c4
theorem g_dret {v : UInt64} (hdg : decode (fC f) pc = .ok (.dreturn, 1)) (hr : fR f = some .double) (hQ : Q (.inl (some (.double v))) M) : Go K f d k n pc L [.double v] M Q := by
  intro p e R s m args below meth c H locs cells slots mc ms ls A
  obtain ⟨⟨c1, c2, c3, c4, -⟩, ⟨-, -, -, -, h5, h6⟩, hH, hS, -⟩ := A
  refine W.widen (k := mc) (n := ms) (by omega) (by omega) (vx_ret ?_)
  exact W.dret c1 c2 (c3.trans hr) (fun t ht hW => qc_of hH hS ht hW hQ) hS.2.2 hdg c4
/-- the exception leaves this method, which has no handlers -/
theorem g_xout {E : String} (hh : fH f = []) (hQ : Q (.inr E) M) : GoX K f d k n pc L M E Q := by
  intro p e R s m args below meth c H locs cells slots mc ms ls rest ce q A hce hcv hcl
  obtain ⟨⟨c1, c2, c3, c4, c5, c6, c7, c8, c9, c10⟩, ⟨-, -, -, -, h5, h6⟩, hH, hS, -⟩ := A
  refine vx_out (fun x hx => ?_) c4 hce hcv hcl (fun t ht hW => ⟨M, by rw [ht]; exact hH.moved hW, va_S.F hS ht, hQ⟩) hS.2.2 (by omega) (by omega)
  rw [c9, hh] at hx
  cases hx
end GB
