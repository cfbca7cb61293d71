/-! ===== a superinterface's method by its arguments; what a piece of work leaves alone ===== -/
section GFU
variable {K : KT} {f : FI} {d k n pc : Nat} {L : List (Option Value)} {st : List Value} {M : Mem} {Q : Res → Mem → Prop}
def LFU (own : String) (ix : Nat) (y : MethodName) (f' : FI) (np ci : Nat) : Prop := ∃ (x : MethodName) (J : String) (r : vw_C), MS y f' np ∧ Cond.instanceMethod y ∈ lw_all ∧ Cond.selects r.1 ⟨J, x.name, x.desc⟩ y ∈ lw_all ∧ (own, ix, x, J, y, r.1) ∈ fuS ∧ (parseMethodDescriptor x.desc).map (fun d => d.parameters.length) = some np ∧ clS[ci]? = some r
theorem k_FU0z (pc' : Nat) {f' : FI} {y : MethodName} {ix : Nat} {d' q : Nat} {b ci cnt : Nat} {rest : List Value} (hdg : decode (fC f) pc = .ok (.invokeinterface ix cnt, 5)) (hp : pc + 5 = pc') (hl : LFU (fO f) ix y f' 0 ci) (ht : mT M b = some (.inl ci)) (hq : fL f' = q + 1) (hrest : rest.length ≤ 4) (hd : d' + 1 ≤ d) (h : Go K f' d' 0 0 0 (some (.ref b) :: List.replicate q none) [] M (Kont K f d k n pc pc' L rest Q)) : Go K f d k n pc L (.ref b :: rest) M Q := by
  subst hp
  obtain ⟨x, J, r, a1, a2, a3, a4, a5, a6⟩ := hl
  exact g_callFU [] k n hdg a1 a2 a3 a4 a5 a6 rfl ht rfl rfl (cat8 hrest) (argL_of (by omega) (argL_1 (rfl : (Value.ref b).category = 1) argL0)) hd (Nat.le_refl _) (Nat.le_refl _) h
theorem k_FU2 (pc' : Nat) {f' : FI} {y : MethodName} {ix : Nat} {d' k' n' q : Nat} {b ci cnt : Nat} {v1 v2 : Value} {rest : List Value} (hdg : decode (fC f) pc = .ok (.invokeinterface ix cnt, 5)) (hp : pc + 5 = pc') (hl : LFU (fO f) ix y f' 2 ci) (ht : mT M b = some (.inl ci)) (hq : fL f' = q + 3) (e1 : v1.category = 1) (e2 : v2.category = 1) (hrest : rest.length ≤ 4) (hd : d' + 1 ≤ d ∧ k' ≤ k ∧ n' ≤ n) (h : Go K f' d' k' n' 0 (some (.ref b) :: some v1 :: some v2 :: List.replicate q none) [] M (Kont K f d (k - k') (n - n') pc pc' L rest Q)) : Go K f d k n pc L (v2 :: v1 :: .ref b :: rest) M Q := by
  subst hp
  obtain ⟨x, J, r, a1, a2, a3, a4, a5, a6⟩ := hl
  exact g_callFU [v1, v2] (k - k') (n - n') hdg a1 a2 a3 a4 a5 a6 rfl ht rfl rfl (cat8 hrest) (argL_of (by omega) (argL_1 (rfl : (Value.ref b).category = 1) (argL_1 e1 (argL_1 e2 argL0)))) hd.1 (by omega) (by omega) h
end GFU
theorem lfu_put : LFU "java/util/TreeSet" 69 yJ10_put fJ10_put 2 13 := ⟨⟨"java/util/NavigableMap", "put", "(Ljava/lang/Object;Ljava/lang/Object;)Ljava/lang/Object;"⟩, "java/util/Map", _, ms_J10_put, by decide +kernel, by decide +kernel, by decide +kernel, by decide +kernel, rfl⟩
theorem lfu_isEmpty : LFU "java/util/TreeSet" 57 yJ9_isEmpty fJ9_isEmpty 0 13 := ⟨⟨"java/util/NavigableMap", "isEmpty", "()Z"⟩, "java/util/Map", _, ms_J9_isEmpty, by decide +kernel, by decide +kernel, by decide +kernel, by decide +kernel, rfl⟩
theorem lfu_firstKey : LFU "java/util/TreeSet" 118 yJ10_firstKey fJ10_firstKey 0 13 := ⟨⟨"java/util/NavigableMap", "firstKey", "()Ljava/lang/Object;"⟩, "java/util/SortedMap", _, ms_J10_firstKey, by decide +kernel, by decide +kernel, by decide +kernel, by decide +kernel, rfl⟩
/-- from M to M': what was there keeps its kind, and outside S its content -/
def Fr (S : Nat → Prop) (M M' : Mem) : Prop := mN M ≤ mN M' ∧ ∀ a, a < mN M → mT M' a = mT M a ∧ (¬ S a → (∀ c k, mF M' c k a = mF M c k a) ∧ ∀ i, mE M' a i = mE M a i)
theorem Fr.rfl {S : Nat → Prop} {M : Mem} : Fr S M M := ⟨Nat.le_refl _, fun _ _ => ⟨Eq.refl _, fun _ => ⟨fun _ _ => Eq.refl _, fun _ => Eq.refl _⟩⟩⟩
theorem Fr.trans {S S' S'' : Nat → Prop} {M M' M'' : Mem} (h1 : Fr S M M') (h2 : Fr S' M' M'') (hs : ∀ a, a < mN M → S a → S'' a) (hs' : ∀ a, a < mN M → S' a → S'' a) : Fr S'' M M'' := by
  obtain ⟨a1, a2⟩ := h1
  obtain ⟨b1, b2⟩ := h2
  refine ⟨Nat.le_trans a1 b1, fun a ha => ?_⟩
  have p := a2 a ha
  have q := b2 a (Nat.lt_of_lt_of_le ha a1)
  refine ⟨q.1.trans p.1, fun hn => ?_⟩
  have p2 := p.2 (fun z => hn (hs a ha z))
  have q2 := q.2 (fun z => hn (hs' a ha z))
  exact ⟨fun c k => (q2.1 c k).trans (p2.1 c k), fun i => (q2.2 i).trans (p2.2 i)⟩
theorem Fr.mono {S S' : Nat → Prop} {M M' : Mem} (h : Fr S M M') (hs : ∀ a, a < mN M → S a → S' a) : Fr S' M M' := ⟨h.1, fun a ha => ⟨(h.2 a ha).1, fun hn => (h.2 a ha).2 (fun z => hn (hs a ha z))⟩⟩
theorem Fr.t {S : Nat → Prop} {M M' : Mem} (h : Fr S M M') {a : Nat} (ha : a < mN M) : mT M' a = mT M a := (h.2 a ha).1
theorem Fr.f {S : Nat → Prop} {M M' : Mem} (h : Fr S M M') {a : Nat} (ha : a < mN M) (hn : ¬ S a) (c k : Nat) : mF M' c k a = mF M c k a := ((h.2 a ha).2 hn).1 c k
theorem Fr.e {S : Nat → Prop} {M M' : Mem} (h : Fr S M M') {a : Nat} (ha : a < mN M) (hn : ¬ S a) (i : Nat) : mE M' a i = mE M a i := ((h.2 a ha).2 hn).2 i
theorem Fr.setF {S : Nat → Prop} {M : Mem} {ci k a : Nat} {v : Value} (h : S a) : Fr S M (setF M ci k a v) := ⟨Nat.le_refl _, fun b _ => ⟨Eq.refl _, fun hn => ⟨fun c j => mF_setF_a (fun e => hn (e ▸ h)), fun _ => Eq.refl _⟩⟩⟩
theorem Fr.setE {S : Nat → Prop} {M : Mem} {a i : Nat} {v : Value} (h : S a) : Fr S M (setE M a i v) := ⟨Nat.le_refl _, fun b _ => ⟨Eq.refl _, fun hn => ⟨fun _ _ => Eq.refl _, fun j => mE_setE_a (fun e => hn (e ▸ h))⟩⟩⟩
theorem Fr.setA {S : Nat → Prop} {M : Mem} {a : Nat} {g : Nat → Value} (h : a < mN M → S a) : Fr S M (setA M a g) := ⟨Nat.le_refl _, fun b hb => ⟨Eq.refl _, fun hn => ⟨fun _ _ => Eq.refl _, fun j => by
  rw [mE_setA]
  exact if_neg (fun e => by subst e; exact hn (h hb))⟩⟩⟩
theorem Fr.newO {S : Nat → Prop} {M : Mem} {ci : Nat} {g : Nat → Value} : Fr S M (newO M ci g) := ⟨Nat.le_succ _, fun b hb => ⟨mT_newO_old (Nat.ne_of_lt hb), fun _ => ⟨fun c j => mF_newO_old (Nat.ne_of_lt hb), fun _ => Eq.refl _⟩⟩⟩
theorem Fr.newA {S : Nat → Prop} {M : Mem} {ti n : Nat} {v : Value} : Fr S M (newA M ti n v) := ⟨Nat.le_succ _, fun b hb => ⟨mT_newA_old (Nat.ne_of_lt hb), fun _ => ⟨fun c j => Eq.refl _, fun _ => mE_newA_old (Nat.ne_of_lt hb)⟩⟩⟩
theorem Fr.more {S : Nat → Prop} {M : Mem} {j : Nat} (h : mN M ≤ j) : Fr S M (more M j) := ⟨h, fun _ _ => ⟨Eq.refl _, fun _ => ⟨fun _ _ => Eq.refl _, fun _ => Eq.refl _⟩⟩⟩
/-- what an Object array may hold -/
def OBJ (M : Mem) (v : Value) : Prop := v = .null ∨ ∃ y cj, v = .ref y ∧ y < mN M ∧ mT M y = some (.inl cj) ∧ ASG cj 3
theorem OBJ.fr {S : Nat → Prop} {M M' : Mem} {v : Value} (h : OBJ M v) (hf : Fr S M M') : OBJ M' v := by
  rcases h with h | ⟨y, cj, h1, h2, h3, h4⟩
  · exact Or.inl h
  · exact Or.inr ⟨y, cj, h1, Nat.lt_of_lt_of_le h2 hf.1, (hf.t h2).trans h3, h4⟩
theorem OBJ.rv {M : Mem} {v : Value} (h : OBJ M v) : RV v := by
  rcases h with h | ⟨y, cj, h1, -⟩
  · exact Or.inl h
  · exact Or.inr ⟨y, h1⟩
/-- an ArrayList l on the array ar of cap places holds xs -/
def ALp (K : KT) (M : Mem) (l ar cap : Nat) (xs : List Value) : Prop :=
  (mT M l = some (.inl 11) ∧ kB K ≤ l ∧ l < mN M) ∧ (∃ mc, mF M 11 0 l = .int (ii mc)) ∧ mF M 11 1 l = .ref ar ∧ mF M 11 2 l = .int (ii xs.length) ∧ (mT M ar = some (.inr (3, cap)) ∧ ar < mN M) ∧ (xs.length ≤ cap ∧ cap ≤ 1000000) ∧ (∀ i, i < xs.length → mE M ar i = xs.getD i .null) ∧ ((0 < cap → kB K ≤ ar) ∧ (cap = 0 → ar = kC K 4)) ∧ ∀ x ∈ xs, OBJ M x
theorem ALp.fr {K : KT} {S : Nat → Prop} {M M' : Mem} {l ar cap : Nat} {xs : List Value} (h : ALp K M l ar cap xs) (hf : Fr S M M') (h1 : ¬ S l) (h2 : 0 < cap → ¬ S ar) : ALp K M' l ar cap xs := by
  obtain ⟨⟨a1, a2, a3⟩, ⟨mc, b⟩, c, e, ⟨g1, g2⟩, h3, h4, h5, h6⟩ := h
  refine ⟨⟨(hf.t a3).trans a1, a2, Nat.lt_of_lt_of_le a3 hf.1⟩, ⟨mc, (hf.f a3 h1 _ _).trans b⟩, (hf.f a3 h1 _ _).trans c, (hf.f a3 h1 _ _).trans e, ⟨(hf.t g2).trans g1, Nat.lt_of_lt_of_le g2 hf.1⟩, h3, fun i hi => ?_, h5, fun x hx => (h6 x hx).fr hf⟩
  rw [hf.e g2 (h2 (by omega))]
  exact h4 i hi
