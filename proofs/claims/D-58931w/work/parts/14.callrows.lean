/-! ===== call sites; calls by the number of arguments ===== -/
section GCR
variable {K : KT} {f : FI} {d k n pc : Nat} {L : List (Option Value)} {st : List Value} {M : Mem} {Q : Res → Mem → Prop}
def LkS (own : String) (ix : Nat) (y : MethodName) (f' : FI) (np : Nat) : Prop := MS y f' np ∧ Cond.methodLink own ix y ∈ lw_all ∧ Cond.static y ∈ lw_all
def LVi (own : String) (ix : Nat) (y : MethodName) (f' : FI) (np ci : Nat) : Prop := MS y f' np ∧ Cond.methodLink own ix y ∈ lw_all ∧ Cond.instanceMethod y ∈ lw_all ∧ Cond.selects y.cls y y ∈ lw_all ∧ ∃ r, clS[ci]? = some r ∧ r.1 = y.cls
def LI (own : String) (ix : Nat) (y : MethodName) (f' : FI) (np : Nat) : Prop := MS y f' np ∧ Cond.methodLink own ix y ∈ lw_all ∧ Cond.instanceMethod y ∈ lw_all ∧ y.name = "<init>" ∧ fR f' = none
def LF (own : String) (ix : Nat) (y : MethodName) (f' : FI) (np ci : Nat) : Prop := ∃ (x : MethodName) (r : vw_C), MS y f' np ∧ Cond.methodLink own ix x ∈ lw_all ∧ Cond.instanceMethod y ∈ lw_all ∧ Cond.selects r.1 x y ∈ lw_all ∧ (r.1, x, y) ∈ fwS ∧ (parseMethodDescriptor x.desc).map (fun d => d.parameters.length) = some np ∧ clS[ci]? = some r
def LSN (own : String) (ix : Nat) (y : MethodName) (f' : FI) (np : Nat) : Prop := ∃ host, MS y f' np ∧ Cond.methodLinkNest own ix y host ∈ lw_rd ∧ Cond.static y ∈ lw_all
def LVN (own : String) (ix : Nat) (y : MethodName) (f' : FI) (np ci : Nat) : Prop := ∃ host, MS y f' np ∧ Cond.methodLinkNest own ix y host ∈ lw_rd ∧ Cond.instanceMethod y ∈ lw_all ∧ Cond.selects y.cls y y ∈ lw_all ∧ ∃ r, clS[ci]? = some r ∧ r.1 = y.cls
def LIN (own : String) (ix : Nat) (y : MethodName) (f' : FI) (np : Nat) : Prop := ∃ host, MS y f' np ∧ Cond.methodLinkNest own ix y host ∈ lw_rd ∧ Cond.instanceMethod y ∈ lw_all ∧ y.name = "<init>" ∧ fR f' = none
def LU (own : String) (ix : Nat) (y : MethodName) (f' : FI) (np ci : Nat) : Prop := ∃ (x : MethodName) (owner : String) (r : vw_C), MS y f' np ∧ Cond.methodLink own ix x ∈ lw_all ∧ Cond.sameMethod x.cls owner x.name x.desc ∈ lw_all ∧ Cond.instanceMethod y ∈ lw_all ∧ Cond.selects r.1 x y ∈ lw_all ∧ (y = ⟨owner, x.name, x.desc⟩ ∨ Cond.declares ⟨owner, x.name, x.desc⟩ ∈ lw_rd) ∧ (owner ≠ "java/lang/invoke/MethodHandle" ∧ owner ≠ "java/lang/invoke/VarHandle" ∧ (parseMethodDescriptor x.desc).map (fun d => d.parameters.length) = some np) ∧ clS[ci]? = some r
theorem sum_cat (l : List Value) : (l.map fun v => v.category).sum ≤ 2 * l.length := by
  induction l with
  | nil => simp
  | cons v t ih =>
    rcases lv_cat v with h | h <;> (simp [h]; omega)
theorem cat8 {l : List Value} (h : l.length ≤ 4) : (l.map fun v => v.category).sum ≤ 8 := Nat.le_trans (sum_cat l) (by omega)

theorem k_S0z (pc' : Nat) {f' : FI} {y : MethodName} {ix : Nat} {d' q : Nat} {rest : List Value} (hdg : decode (fC f) pc = .ok (.invokestatic ix, 3)) (hp : pc + 3 = pc') (hl : LkS (fO f) ix y f' 0) (hq : fL f' = q + 0) (hrest : rest.length ≤ 4) (hd : d' + 1 ≤ d) (h : Go K f' d' 0 0 0 (List.replicate q none) [] M (Kont K f d k n pc pc' L rest Q)) : Go K f d k n pc L (rest) M Q := by
  subst hp
  obtain ⟨a1, a2, a3⟩ := hl
  exact g_callS [] k n hdg a1 a2 a3 rfl rfl (cat8 hrest) (argL_of (by omega) argL0) hd (Nat.le_refl _) (Nat.le_refl _) h
theorem k_S0 (pc' : Nat) {f' : FI} {y : MethodName} {ix : Nat} {d' k' n' q : Nat} {rest : List Value} (hdg : decode (fC f) pc = .ok (.invokestatic ix, 3)) (hp : pc + 3 = pc') (hl : LkS (fO f) ix y f' 0) (hq : fL f' = q + 0) (hrest : rest.length ≤ 4) (hd : d' + 1 ≤ d ∧ k' ≤ k ∧ n' ≤ n) (h : Go K f' d' k' n' 0 (List.replicate q none) [] M (Kont K f d (k - k') (n - n') pc pc' L rest Q)) : Go K f d k n pc L (rest) M Q := by
  subst hp
  obtain ⟨a1, a2, a3⟩ := hl
  exact g_callS [] (k - k') (n - n') hdg a1 a2 a3 rfl rfl (cat8 hrest) (argL_of (by omega) argL0) hd.1 (by omega) (by omega) h
theorem k_S1z (pc' : Nat) {f' : FI} {y : MethodName} {ix : Nat} {d' q : Nat} {v1 : Value} {rest : List Value} (hdg : decode (fC f) pc = .ok (.invokestatic ix, 3)) (hp : pc + 3 = pc') (hl : LkS (fO f) ix y f' 1) (hq : fL f' = q + 1) (e1 : v1.category = 1) (hrest : rest.length ≤ 4) (hd : d' + 1 ≤ d) (h : Go K f' d' 0 0 0 (some v1 :: List.replicate q none) [] M (Kont K f d k n pc pc' L rest Q)) : Go K f d k n pc L (v1 :: rest) M Q := by
  subst hp
  obtain ⟨a1, a2, a3⟩ := hl
  exact g_callS [v1] k n hdg a1 a2 a3 rfl rfl (cat8 hrest) (argL_of (by omega) (argL_1 e1 argL0)) hd (Nat.le_refl _) (Nat.le_refl _) h
theorem k_S1 (pc' : Nat) {f' : FI} {y : MethodName} {ix : Nat} {d' k' n' q : Nat} {v1 : Value} {rest : List Value} (hdg : decode (fC f) pc = .ok (.invokestatic ix, 3)) (hp : pc + 3 = pc') (hl : LkS (fO f) ix y f' 1) (hq : fL f' = q + 1) (e1 : v1.category = 1) (hrest : rest.length ≤ 4) (hd : d' + 1 ≤ d ∧ k' ≤ k ∧ n' ≤ n) (h : Go K f' d' k' n' 0 (some v1 :: List.replicate q none) [] M (Kont K f d (k - k') (n - n') pc pc' L rest Q)) : Go K f d k n pc L (v1 :: rest) M Q := by
  subst hp
  obtain ⟨a1, a2, a3⟩ := hl
  exact g_callS [v1] (k - k') (n - n') hdg a1 a2 a3 rfl rfl (cat8 hrest) (argL_of (by omega) (argL_1 e1 argL0)) hd.1 (by omega) (by omega) h
theorem k_S2z (pc' : Nat) {f' : FI} {y : MethodName} {ix : Nat} {d' q : Nat} {v1 v2 : Value} {rest : List Value} (hdg : decode (fC f) pc = .ok (.invokestatic ix, 3)) (hp : pc + 3 = pc') (hl : LkS (fO f) ix y f' 2) (hq : fL f' = q + 2) (e1 : v1.category = 1) (e2 : v2.category = 1) (hrest : rest.length ≤ 4) (hd : d' + 1 ≤ d) (h : Go K f' d' 0 0 0 (some v1 :: some v2 :: List.replicate q none) [] M (Kont K f d k n pc pc' L rest Q)) : Go K f d k n pc L (v2 :: v1 :: rest) M Q := by
  subst hp
  obtain ⟨a1, a2, a3⟩ := hl
  exact g_callS [v1, v2] k n hdg a1 a2 a3 rfl rfl (cat8 hrest) (argL_of (by omega) (argL_1 e1 (argL_1 e2 argL0))) hd (Nat.le_refl _) (Nat.le_refl _) h
theorem k_S2 (pc' : Nat) {f' : FI} {y : MethodName} {ix : Nat} {d' k' n' q : Nat} {v1 v2 : Value} {rest : List Value} (hdg : decode (fC f) pc = .ok (.invokestatic ix, 3)) (hp : pc + 3 = pc') (hl : LkS (fO f) ix y f' 2) (hq : fL f' = q + 2) (e1 : v1.category = 1) (e2 : v2.category = 1) (hrest : rest.length ≤ 4) (hd : d' + 1 ≤ d ∧ k' ≤ k ∧ n' ≤ n) (h : Go K f' d' k' n' 0 (some v1 :: some v2 :: List.replicate q none) [] M (Kont K f d (k - k') (n - n') pc pc' L rest Q)) : Go K f d k n pc L (v2 :: v1 :: rest) M Q := by
  subst hp
  obtain ⟨a1, a2, a3⟩ := hl
  exact g_callS [v1, v2] (k - k') (n - n') hdg a1 a2 a3 rfl rfl (cat8 hrest) (argL_of (by omega) (argL_1 e1 (argL_1 e2 argL0))) hd.1 (by omega) (by omega) h
theorem k_S3z (pc' : Nat) {f' : FI} {y : MethodName} {ix : Nat} {d' q : Nat} {v1 v2 v3 : Value} {rest : List Value} (hdg : decode (fC f) pc = .ok (.invokestatic ix, 3)) (hp : pc + 3 = pc') (hl : LkS (fO f) ix y f' 3) (hq : fL f' = q + 3) (e1 : v1.category = 1) (e2 : v2.category = 1) (e3 : v3.category = 1) (hrest : rest.length ≤ 4) (hd : d' + 1 ≤ d) (h : Go K f' d' 0 0 0 (some v1 :: some v2 :: some v3 :: List.replicate q none) [] M (Kont K f d k n pc pc' L rest Q)) : Go K f d k n pc L (v3 :: v2 :: v1 :: rest) M Q := by
  subst hp
  obtain ⟨a1, a2, a3⟩ := hl
  exact g_callS [v1, v2, v3] k n hdg a1 a2 a3 rfl rfl (cat8 hrest) (argL_of (by omega) (argL_1 e1 (argL_1 e2 (argL_1 e3 argL0)))) hd (Nat.le_refl _) (Nat.le_refl _) h
theorem k_S3 (pc' : Nat) {f' : FI} {y : MethodName} {ix : Nat} {d' k' n' q : Nat} {v1 v2 v3 : Value} {rest : List Value} (hdg : decode (fC f) pc = .ok (.invokestatic ix, 3)) (hp : pc + 3 = pc') (hl : LkS (fO f) ix y f' 3) (hq : fL f' = q + 3) (e1 : v1.category = 1) (e2 : v2.category = 1) (e3 : v3.category = 1) (hrest : rest.length ≤ 4) (hd : d' + 1 ≤ d ∧ k' ≤ k ∧ n' ≤ n) (h : Go K f' d' k' n' 0 (some v1 :: some v2 :: some v3 :: List.replicate q none) [] M (Kont K f d (k - k') (n - n') pc pc' L rest Q)) : Go K f d k n pc L (v3 :: v2 :: v1 :: rest) M Q := by
  subst hp
  obtain ⟨a1, a2, a3⟩ := hl
  exact g_callS [v1, v2, v3] (k - k') (n - n') hdg a1 a2 a3 rfl rfl (cat8 hrest) (argL_of (by omega) (argL_1 e1 (argL_1 e2 (argL_1 e3 argL0)))) hd.1 (by omega) (by omega) h
theorem k_S4z (pc' : Nat) {f' : FI} {y : MethodName} {ix : Nat} {d' q : Nat} {v1 v2 v3 v4 : Value} {rest : List Value} (hdg : decode (fC f) pc = .ok (.invokestatic ix, 3)) (hp : pc + 3 = pc') (hl : LkS (fO f) ix y f' 4) (hq : fL f' = q + 4) (e1 : v1.category = 1) (e2 : v2.category = 1) (e3 : v3.category = 1) (e4 : v4.category = 1) (hrest : rest.length ≤ 4) (hd : d' + 1 ≤ d) (h : Go K f' d' 0 0 0 (some v1 :: some v2 :: some v3 :: some v4 :: List.replicate q none) [] M (Kont K f d k n pc pc' L rest Q)) : Go K f d k n pc L (v4 :: v3 :: v2 :: v1 :: rest) M Q := by
  subst hp
  obtain ⟨a1, a2, a3⟩ := hl
  exact g_callS [v1, v2, v3, v4] k n hdg a1 a2 a3 rfl rfl (cat8 hrest) (argL_of (by omega) (argL_1 e1 (argL_1 e2 (argL_1 e3 (argL_1 e4 argL0))))) hd (Nat.le_refl _) (Nat.le_refl _) h
theorem k_S4 (pc' : Nat) {f' : FI} {y : MethodName} {ix : Nat} {d' k' n' q : Nat} {v1 v2 v3 v4 : Value} {rest : List Value} (hdg : decode (fC f) pc = .ok (.invokestatic ix, 3)) (hp : pc + 3 = pc') (hl : LkS (fO f) ix y f' 4) (hq : fL f' = q + 4) (e1 : v1.category = 1) (e2 : v2.category = 1) (e3 : v3.category = 1) (e4 : v4.category = 1) (hrest : rest.length ≤ 4) (hd : d' + 1 ≤ d ∧ k' ≤ k ∧ n' ≤ n) (h : Go K f' d' k' n' 0 (some v1 :: some v2 :: some v3 :: some v4 :: List.replicate q none) [] M (Kont K f d (k - k') (n - n') pc pc' L rest Q)) : Go K f d k n pc L (v4 :: v3 :: v2 :: v1 :: rest) M Q := by
  subst hp
  obtain ⟨a1, a2, a3⟩ := hl
  exact g_callS [v1, v2, v3, v4] (k - k') (n - n') hdg a1 a2 a3 rfl rfl (cat8 hrest) (argL_of (by omega) (argL_1 e1 (argL_1 e2 (argL_1 e3 (argL_1 e4 argL0))))) hd.1 (by omega) (by omega) h
theorem k_S5z (pc' : Nat) {f' : FI} {y : MethodName} {ix : Nat} {d' q : Nat} {v1 v2 v3 v4 v5 : Value} {rest : List Value} (hdg : decode (fC f) pc = .ok (.invokestatic ix, 3)) (hp : pc + 3 = pc') (hl : LkS (fO f) ix y f' 5) (hq : fL f' = q + 5) (e1 : v1.category = 1) (e2 : v2.category = 1) (e3 : v3.category = 1) (e4 : v4.category = 1) (e5 : v5.category = 1) (hrest : rest.length ≤ 4) (hd : d' + 1 ≤ d) (h : Go K f' d' 0 0 0 (some v1 :: some v2 :: some v3 :: some v4 :: some v5 :: List.replicate q none) [] M (Kont K f d k n pc pc' L rest Q)) : Go K f d k n pc L (v5 :: v4 :: v3 :: v2 :: v1 :: rest) M Q := by
  subst hp
  obtain ⟨a1, a2, a3⟩ := hl
  exact g_callS [v1, v2, v3, v4, v5] k n hdg a1 a2 a3 rfl rfl (cat8 hrest) (argL_of (by omega) (argL_1 e1 (argL_1 e2 (argL_1 e3 (argL_1 e4 (argL_1 e5 argL0)))))) hd (Nat.le_refl _) (Nat.le_refl _) h
theorem k_S5 (pc' : Nat) {f' : FI} {y : MethodName} {ix : Nat} {d' k' n' q : Nat} {v1 v2 v3 v4 v5 : Value} {rest : List Value} (hdg : decode (fC f) pc = .ok (.invokestatic ix, 3)) (hp : pc + 3 = pc') (hl : LkS (fO f) ix y f' 5) (hq : fL f' = q + 5) (e1 : v1.category = 1) (e2 : v2.category = 1) (e3 : v3.category = 1) (e4 : v4.category = 1) (e5 : v5.category = 1) (hrest : rest.length ≤ 4) (hd : d' + 1 ≤ d ∧ k' ≤ k ∧ n' ≤ n) (h : Go K f' d' k' n' 0 (some v1 :: some v2 :: some v3 :: some v4 :: some v5 :: List.replicate q none) [] M (Kont K f d (k - k') (n - n') pc pc' L rest Q)) : Go K f d k n pc L (v5 :: v4 :: v3 :: v2 :: v1 :: rest) M Q := by
  subst hp
  obtain ⟨a1, a2, a3⟩ := hl
  exact g_callS [v1, v2, v3, v4, v5] (k - k') (n - n') hdg a1 a2 a3 rfl rfl (cat8 hrest) (argL_of (by omega) (argL_1 e1 (argL_1 e2 (argL_1 e3 (argL_1 e4 (argL_1 e5 argL0)))))) hd.1 (by omega) (by omega) h
theorem k_V0z (pc' : Nat) {f' : FI} {y : MethodName} {ix : Nat} {d' q : Nat} {b ci : Nat} {rest : List Value} (hdg : decode (fC f) pc = .ok (.invokevirtual ix, 3)) (hp : pc + 3 = pc') (hl : LVi (fO f) ix y f' 0 ci) (ht : mT M b = some (.inl ci)) (hq : fL f' = q + 1) (hrest : rest.length ≤ 4) (hd : d' + 1 ≤ d) (h : Go K f' d' 0 0 0 (some (.ref b) :: List.replicate q none) [] M (Kont K f d k n pc pc' L rest Q)) : Go K f d k n pc L (.ref b :: rest) M Q := by
  subst hp
  obtain ⟨a1, a2, a3, a4, r, a5, a6⟩ := hl
  exact g_callV [] k n hdg a1 a2 a3 a4 a5 a6 ht rfl rfl (cat8 hrest) (argL_of (by omega) (argL_1 (rfl : (Value.ref b).category = 1) argL0)) hd (Nat.le_refl _) (Nat.le_refl _) h
theorem k_V0 (pc' : Nat) {f' : FI} {y : MethodName} {ix : Nat} {d' k' n' q : Nat} {b ci : Nat} {rest : List Value} (hdg : decode (fC f) pc = .ok (.invokevirtual ix, 3)) (hp : pc + 3 = pc') (hl : LVi (fO f) ix y f' 0 ci) (ht : mT M b = some (.inl ci)) (hq : fL f' = q + 1) (hrest : rest.length ≤ 4) (hd : d' + 1 ≤ d ∧ k' ≤ k ∧ n' ≤ n) (h : Go K f' d' k' n' 0 (some (.ref b) :: List.replicate q none) [] M (Kont K f d (k - k') (n - n') pc pc' L rest Q)) : Go K f d k n pc L (.ref b :: rest) M Q := by
  subst hp
  obtain ⟨a1, a2, a3, a4, r, a5, a6⟩ := hl
  exact g_callV [] (k - k') (n - n') hdg a1 a2 a3 a4 a5 a6 ht rfl rfl (cat8 hrest) (argL_of (by omega) (argL_1 (rfl : (Value.ref b).category = 1) argL0)) hd.1 (by omega) (by omega) h
theorem k_V1z (pc' : Nat) {f' : FI} {y : MethodName} {ix : Nat} {d' q : Nat} {b ci : Nat} {v1 : Value} {rest : List Value} (hdg : decode (fC f) pc = .ok (.invokevirtual ix, 3)) (hp : pc + 3 = pc') (hl : LVi (fO f) ix y f' 1 ci) (ht : mT M b = some (.inl ci)) (hq : fL f' = q + 2) (e1 : v1.category = 1) (hrest : rest.length ≤ 4) (hd : d' + 1 ≤ d) (h : Go K f' d' 0 0 0 (some (.ref b) :: some v1 :: List.replicate q none) [] M (Kont K f d k n pc pc' L rest Q)) : Go K f d k n pc L (v1 :: .ref b :: rest) M Q := by
  subst hp
  obtain ⟨a1, a2, a3, a4, r, a5, a6⟩ := hl
  exact g_callV [v1] k n hdg a1 a2 a3 a4 a5 a6 ht rfl rfl (cat8 hrest) (argL_of (by omega) (argL_1 (rfl : (Value.ref b).category = 1) (argL_1 e1 argL0))) hd (Nat.le_refl _) (Nat.le_refl _) h
theorem k_V1 (pc' : Nat) {f' : FI} {y : MethodName} {ix : Nat} {d' k' n' q : Nat} {b ci : Nat} {v1 : Value} {rest : List Value} (hdg : decode (fC f) pc = .ok (.invokevirtual ix, 3)) (hp : pc + 3 = pc') (hl : LVi (fO f) ix y f' 1 ci) (ht : mT M b = some (.inl ci)) (hq : fL f' = q + 2) (e1 : v1.category = 1) (hrest : rest.length ≤ 4) (hd : d' + 1 ≤ d ∧ k' ≤ k ∧ n' ≤ n) (h : Go K f' d' k' n' 0 (some (.ref b) :: some v1 :: List.replicate q none) [] M (Kont K f d (k - k') (n - n') pc pc' L rest Q)) : Go K f d k n pc L (v1 :: .ref b :: rest) M Q := by
  subst hp
  obtain ⟨a1, a2, a3, a4, r, a5, a6⟩ := hl
  exact g_callV [v1] (k - k') (n - n') hdg a1 a2 a3 a4 a5 a6 ht rfl rfl (cat8 hrest) (argL_of (by omega) (argL_1 (rfl : (Value.ref b).category = 1) (argL_1 e1 argL0))) hd.1 (by omega) (by omega) h
theorem k_V2z (pc' : Nat) {f' : FI} {y : MethodName} {ix : Nat} {d' q : Nat} {b ci : Nat} {v1 v2 : Value} {rest : List Value} (hdg : decode (fC f) pc = .ok (.invokevirtual ix, 3)) (hp : pc + 3 = pc') (hl : LVi (fO f) ix y f' 2 ci) (ht : mT M b = some (.inl ci)) (hq : fL f' = q + 3) (e1 : v1.category = 1) (e2 : v2.category = 1) (hrest : rest.length ≤ 4) (hd : d' + 1 ≤ d) (h : Go K f' d' 0 0 0 (some (.ref b) :: some v1 :: some v2 :: List.replicate q none) [] M (Kont K f d k n pc pc' L rest Q)) : Go K f d k n pc L (v2 :: v1 :: .ref b :: rest) M Q := by
  subst hp
  obtain ⟨a1, a2, a3, a4, r, a5, a6⟩ := hl
  exact g_callV [v1, v2] k n hdg a1 a2 a3 a4 a5 a6 ht rfl rfl (cat8 hrest) (argL_of (by omega) (argL_1 (rfl : (Value.ref b).category = 1) (argL_1 e1 (argL_1 e2 argL0)))) hd (Nat.le_refl _) (Nat.le_refl _) h
theorem k_V2 (pc' : Nat) {f' : FI} {y : MethodName} {ix : Nat} {d' k' n' q : Nat} {b ci : Nat} {v1 v2 : Value} {rest : List Value} (hdg : decode (fC f) pc = .ok (.invokevirtual ix, 3)) (hp : pc + 3 = pc') (hl : LVi (fO f) ix y f' 2 ci) (ht : mT M b = some (.inl ci)) (hq : fL f' = q + 3) (e1 : v1.category = 1) (e2 : v2.category = 1) (hrest : rest.length ≤ 4) (hd : d' + 1 ≤ d ∧ k' ≤ k ∧ n' ≤ n) (h : Go K f' d' k' n' 0 (some (.ref b) :: some v1 :: some v2 :: List.replicate q none) [] M (Kont K f d (k - k') (n - n') pc pc' L rest Q)) : Go K f d k n pc L (v2 :: v1 :: .ref b :: rest) M Q := by
  subst hp
  obtain ⟨a1, a2, a3, a4, r, a5, a6⟩ := hl
  exact g_callV [v1, v2] (k - k') (n - n') hdg a1 a2 a3 a4 a5 a6 ht rfl rfl (cat8 hrest) (argL_of (by omega) (argL_1 (rfl : (Value.ref b).category = 1) (argL_1 e1 (argL_1 e2 argL0)))) hd.1 (by omega) (by omega) h
theorem k_V3z (pc' : Nat) {f' : FI} {y : MethodName} {ix : Nat} {d' q : Nat} {b ci : Nat} {v1 v2 v3 : Value} {rest : List Value} (hdg : decode (fC f) pc = .ok (.invokevirtual ix, 3)) (hp : pc + 3 = pc') (hl : LVi (fO f) ix y f' 3 ci) (ht : mT M b = some (.inl ci)) (hq : fL f' = q + 4) (e1 : v1.category = 1) (e2 : v2.category = 1) (e3 : v3.category = 1) (hrest : rest.length ≤ 4) (hd : d' + 1 ≤ d) (h : Go K f' d' 0 0 0 (some (.ref b) :: some v1 :: some v2 :: some v3 :: List.replicate q none) [] M (Kont K f d k n pc pc' L rest Q)) : Go K f d k n pc L (v3 :: v2 :: v1 :: .ref b :: rest) M Q := by
  subst hp
  obtain ⟨a1, a2, a3, a4, r, a5, a6⟩ := hl
  exact g_callV [v1, v2, v3] k n hdg a1 a2 a3 a4 a5 a6 ht rfl rfl (cat8 hrest) (argL_of (by omega) (argL_1 (rfl : (Value.ref b).category = 1) (argL_1 e1 (argL_1 e2 (argL_1 e3 argL0))))) hd (Nat.le_refl _) (Nat.le_refl _) h
theorem k_V3 (pc' : Nat) {f' : FI} {y : MethodName} {ix : Nat} {d' k' n' q : Nat} {b ci : Nat} {v1 v2 v3 : Value} {rest : List Value} (hdg : decode (fC f) pc = .ok (.invokevirtual ix, 3)) (hp : pc + 3 = pc') (hl : LVi (fO f) ix y f' 3 ci) (ht : mT M b = some (.inl ci)) (hq : fL f' = q + 4) (e1 : v1.category = 1) (e2 : v2.category = 1) (e3 : v3.category = 1) (hrest : rest.length ≤ 4) (hd : d' + 1 ≤ d ∧ k' ≤ k ∧ n' ≤ n) (h : Go K f' d' k' n' 0 (some (.ref b) :: some v1 :: some v2 :: some v3 :: List.replicate q none) [] M (Kont K f d (k - k') (n - n') pc pc' L rest Q)) : Go K f d k n pc L (v3 :: v2 :: v1 :: .ref b :: rest) M Q := by
  subst hp
  obtain ⟨a1, a2, a3, a4, r, a5, a6⟩ := hl
  exact g_callV [v1, v2, v3] (k - k') (n - n') hdg a1 a2 a3 a4 a5 a6 ht rfl rfl (cat8 hrest) (argL_of (by omega) (argL_1 (rfl : (Value.ref b).category = 1) (argL_1 e1 (argL_1 e2 (argL_1 e3 argL0))))) hd.1 (by omega) (by omega) h
theorem k_V4z (pc' : Nat) {f' : FI} {y : MethodName} {ix : Nat} {d' q : Nat} {b ci : Nat} {v1 v2 v3 v4 : Value} {rest : List Value} (hdg : decode (fC f) pc = .ok (.invokevirtual ix, 3)) (hp : pc + 3 = pc') (hl : LVi (fO f) ix y f' 4 ci) (ht : mT M b = some (.inl ci)) (hq : fL f' = q + 5) (e1 : v1.category = 1) (e2 : v2.category = 1) (e3 : v3.category = 1) (e4 : v4.category = 1) (hrest : rest.length ≤ 4) (hd : d' + 1 ≤ d) (h : Go K f' d' 0 0 0 (some (.ref b) :: some v1 :: some v2 :: some v3 :: some v4 :: List.replicate q none) [] M (Kont K f d k n pc pc' L rest Q)) : Go K f d k n pc L (v4 :: v3 :: v2 :: v1 :: .ref b :: rest) M Q := by
  subst hp
  obtain ⟨a1, a2, a3, a4, r, a5, a6⟩ := hl
  exact g_callV [v1, v2, v3, v4] k n hdg a1 a2 a3 a4 a5 a6 ht rfl rfl (cat8 hrest) (argL_of (by omega) (argL_1 (rfl : (Value.ref b).category = 1) (argL_1 e1 (argL_1 e2 (argL_1 e3 (argL_1 e4 argL0)))))) hd (Nat.le_refl _) (Nat.le_refl _) h
theorem k_V4 (pc' : Nat) {f' : FI} {y : MethodName} {ix : Nat} {d' k' n' q : Nat} {b ci : Nat} {v1 v2 v3 v4 : Value} {rest : List Value} (hdg : decode (fC f) pc = .ok (.invokevirtual ix, 3)) (hp : pc + 3 = pc') (hl : LVi (fO f) ix y f' 4 ci) (ht : mT M b = some (.inl ci)) (hq : fL f' = q + 5) (e1 : v1.category = 1) (e2 : v2.category = 1) (e3 : v3.category = 1) (e4 : v4.category = 1) (hrest : rest.length ≤ 4) (hd : d' + 1 ≤ d ∧ k' ≤ k ∧ n' ≤ n) (h : Go K f' d' k' n' 0 (some (.ref b) :: some v1 :: some v2 :: some v3 :: some v4 :: List.replicate q none) [] M (Kont K f d (k - k') (n - n') pc pc' L rest Q)) : Go K f d k n pc L (v4 :: v3 :: v2 :: v1 :: .ref b :: rest) M Q := by
  subst hp
  obtain ⟨a1, a2, a3, a4, r, a5, a6⟩ := hl
  exact g_callV [v1, v2, v3, v4] (k - k') (n - n') hdg a1 a2 a3 a4 a5 a6 ht rfl rfl (cat8 hrest) (argL_of (by omega) (argL_1 (rfl : (Value.ref b).category = 1) (argL_1 e1 (argL_1 e2 (argL_1 e3 (argL_1 e4 argL0)))))) hd.1 (by omega) (by omega) h
theorem k_V5z (pc' : Nat) {f' : FI} {y : MethodName} {ix : Nat} {d' q : Nat} {b ci : Nat} {v1 v2 v3 v4 v5 : Value} {rest : List Value} (hdg : decode (fC f) pc = .ok (.invokevirtual ix, 3)) (hp : pc + 3 = pc') (hl : LVi (fO f) ix y f' 5 ci) (ht : mT M b = some (.inl ci)) (hq : fL f' = q + 6) (e1 : v1.category = 1) (e2 : v2.category = 1) (e3 : v3.category = 1) (e4 : v4.category = 1) (e5 : v5.category = 1) (hrest : rest.length ≤ 4) (hd : d' + 1 ≤ d) (h : Go K f' d' 0 0 0 (some (.ref b) :: some v1 :: some v2 :: some v3 :: some v4 :: some v5 :: List.replicate q none) [] M (Kont K f d k n pc pc' L rest Q)) : Go K f d k n pc L (v5 :: v4 :: v3 :: v2 :: v1 :: .ref b :: rest) M Q := by
  subst hp
  obtain ⟨a1, a2, a3, a4, r, a5, a6⟩ := hl
  exact g_callV [v1, v2, v3, v4, v5] k n hdg a1 a2 a3 a4 a5 a6 ht rfl rfl (cat8 hrest) (argL_of (by omega) (argL_1 (rfl : (Value.ref b).category = 1) (argL_1 e1 (argL_1 e2 (argL_1 e3 (argL_1 e4 (argL_1 e5 argL0))))))) hd (Nat.le_refl _) (Nat.le_refl _) h
theorem k_V5 (pc' : Nat) {f' : FI} {y : MethodName} {ix : Nat} {d' k' n' q : Nat} {b ci : Nat} {v1 v2 v3 v4 v5 : Value} {rest : List Value} (hdg : decode (fC f) pc = .ok (.invokevirtual ix, 3)) (hp : pc + 3 = pc') (hl : LVi (fO f) ix y f' 5 ci) (ht : mT M b = some (.inl ci)) (hq : fL f' = q + 6) (e1 : v1.category = 1) (e2 : v2.category = 1) (e3 : v3.category = 1) (e4 : v4.category = 1) (e5 : v5.category = 1) (hrest : rest.length ≤ 4) (hd : d' + 1 ≤ d ∧ k' ≤ k ∧ n' ≤ n) (h : Go K f' d' k' n' 0 (some (.ref b) :: some v1 :: some v2 :: some v3 :: some v4 :: some v5 :: List.replicate q none) [] M (Kont K f d (k - k') (n - n') pc pc' L rest Q)) : Go K f d k n pc L (v5 :: v4 :: v3 :: v2 :: v1 :: .ref b :: rest) M Q := by
  subst hp
  obtain ⟨a1, a2, a3, a4, r, a5, a6⟩ := hl
  exact g_callV [v1, v2, v3, v4, v5] (k - k') (n - n') hdg a1 a2 a3 a4 a5 a6 ht rfl rfl (cat8 hrest) (argL_of (by omega) (argL_1 (rfl : (Value.ref b).category = 1) (argL_1 e1 (argL_1 e2 (argL_1 e3 (argL_1 e4 (argL_1 e5 argL0))))))) hd.1 (by omega) (by omega) h
theorem k_V6z (pc' : Nat) {f' : FI} {y : MethodName} {ix : Nat} {d' q : Nat} {b ci : Nat} {v1 v2 v3 v4 v5 v6 : Value} {rest : List Value} (hdg : decode (fC f) pc = .ok (.invokevirtual ix, 3)) (hp : pc + 3 = pc') (hl : LVi (fO f) ix y f' 6 ci) (ht : mT M b = some (.inl ci)) (hq : fL f' = q + 7) (e1 : v1.category = 1) (e2 : v2.category = 1) (e3 : v3.category = 1) (e4 : v4.category = 1) (e5 : v5.category = 1) (e6 : v6.category = 1) (hrest : rest.length ≤ 4) (hd : d' + 1 ≤ d) (h : Go K f' d' 0 0 0 (some (.ref b) :: some v1 :: some v2 :: some v3 :: some v4 :: some v5 :: some v6 :: List.replicate q none) [] M (Kont K f d k n pc pc' L rest Q)) : Go K f d k n pc L (v6 :: v5 :: v4 :: v3 :: v2 :: v1 :: .ref b :: rest) M Q := by
  subst hp
  obtain ⟨a1, a2, a3, a4, r, a5, a6⟩ := hl
  exact g_callV [v1, v2, v3, v4, v5, v6] k n hdg a1 a2 a3 a4 a5 a6 ht rfl rfl (cat8 hrest) (argL_of (by omega) (argL_1 (rfl : (Value.ref b).category = 1) (argL_1 e1 (argL_1 e2 (argL_1 e3 (argL_1 e4 (argL_1 e5 (argL_1 e6 argL0)))))))) hd (Nat.le_refl _) (Nat.le_refl _) h
theorem k_V6 (pc' : Nat) {f' : FI} {y : MethodName} {ix : Nat} {d' k' n' q : Nat} {b ci : Nat} {v1 v2 v3 v4 v5 v6 : Value} {rest : List Value} (hdg : decode (fC f) pc = .ok (.invokevirtual ix, 3)) (hp : pc + 3 = pc') (hl : LVi (fO f) ix y f' 6 ci) (ht : mT M b = some (.inl ci)) (hq : fL f' = q + 7) (e1 : v1.category = 1) (e2 : v2.category = 1) (e3 : v3.category = 1) (e4 : v4.category = 1) (e5 : v5.category = 1) (e6 : v6.category = 1) (hrest : rest.length ≤ 4) (hd : d' + 1 ≤ d ∧ k' ≤ k ∧ n' ≤ n) (h : Go K f' d' k' n' 0 (some (.ref b) :: some v1 :: some v2 :: some v3 :: some v4 :: some v5 :: some v6 :: List.replicate q none) [] M (Kont K f d (k - k') (n - n') pc pc' L rest Q)) : Go K f d k n pc L (v6 :: v5 :: v4 :: v3 :: v2 :: v1 :: .ref b :: rest) M Q := by
  subst hp
  obtain ⟨a1, a2, a3, a4, r, a5, a6⟩ := hl
  exact g_callV [v1, v2, v3, v4, v5, v6] (k - k') (n - n') hdg a1 a2 a3 a4 a5 a6 ht rfl rfl (cat8 hrest) (argL_of (by omega) (argL_1 (rfl : (Value.ref b).category = 1) (argL_1 e1 (argL_1 e2 (argL_1 e3 (argL_1 e4 (argL_1 e5 (argL_1 e6 argL0)))))))) hd.1 (by omega) (by omega) h
theorem k_I0z (pc' : Nat) {f' : FI} {y : MethodName} {ix : Nat} {d' q : Nat} {b : Nat} {rest : List Value} (hdg : decode (fC f) pc = .ok (.invokespecial ix, 3)) (hp : pc + 3 = pc') (hl : LI (fO f) ix y f' 0) (hq : fL f' = q + 1) (hrest : rest.length ≤ 4) (hd : d' + 1 ≤ d) (h : Go K f' d' 0 0 0 (some (.ref b) :: List.replicate q none) [] M (Kont K f d k n pc pc' L rest Q)) : Go K f d k n pc L (.ref b :: rest) M Q := by
  subst hp
  obtain ⟨a1, a2, a3, a4, a5⟩ := hl
  exact g_callI [] k n hdg a1 a2 a3 a4 a5 rfl rfl (cat8 hrest) (argL_of (by omega) (argL_1 (rfl : (Value.ref b).category = 1) argL0)) hd (Nat.le_refl _) (Nat.le_refl _) h
theorem k_I0 (pc' : Nat) {f' : FI} {y : MethodName} {ix : Nat} {d' k' n' q : Nat} {b : Nat} {rest : List Value} (hdg : decode (fC f) pc = .ok (.invokespecial ix, 3)) (hp : pc + 3 = pc') (hl : LI (fO f) ix y f' 0) (hq : fL f' = q + 1) (hrest : rest.length ≤ 4) (hd : d' + 1 ≤ d ∧ k' ≤ k ∧ n' ≤ n) (h : Go K f' d' k' n' 0 (some (.ref b) :: List.replicate q none) [] M (Kont K f d (k - k') (n - n') pc pc' L rest Q)) : Go K f d k n pc L (.ref b :: rest) M Q := by
  subst hp
  obtain ⟨a1, a2, a3, a4, a5⟩ := hl
  exact g_callI [] (k - k') (n - n') hdg a1 a2 a3 a4 a5 rfl rfl (cat8 hrest) (argL_of (by omega) (argL_1 (rfl : (Value.ref b).category = 1) argL0)) hd.1 (by omega) (by omega) h
theorem k_I1z (pc' : Nat) {f' : FI} {y : MethodName} {ix : Nat} {d' q : Nat} {b : Nat} {v1 : Value} {rest : List Value} (hdg : decode (fC f) pc = .ok (.invokespecial ix, 3)) (hp : pc + 3 = pc') (hl : LI (fO f) ix y f' 1) (hq : fL f' = q + 2) (e1 : v1.category = 1) (hrest : rest.length ≤ 4) (hd : d' + 1 ≤ d) (h : Go K f' d' 0 0 0 (some (.ref b) :: some v1 :: List.replicate q none) [] M (Kont K f d k n pc pc' L rest Q)) : Go K f d k n pc L (v1 :: .ref b :: rest) M Q := by
  subst hp
  obtain ⟨a1, a2, a3, a4, a5⟩ := hl
  exact g_callI [v1] k n hdg a1 a2 a3 a4 a5 rfl rfl (cat8 hrest) (argL_of (by omega) (argL_1 (rfl : (Value.ref b).category = 1) (argL_1 e1 argL0))) hd (Nat.le_refl _) (Nat.le_refl _) h
theorem k_I1 (pc' : Nat) {f' : FI} {y : MethodName} {ix : Nat} {d' k' n' q : Nat} {b : Nat} {v1 : Value} {rest : List Value} (hdg : decode (fC f) pc = .ok (.invokespecial ix, 3)) (hp : pc + 3 = pc') (hl : LI (fO f) ix y f' 1) (hq : fL f' = q + 2) (e1 : v1.category = 1) (hrest : rest.length ≤ 4) (hd : d' + 1 ≤ d ∧ k' ≤ k ∧ n' ≤ n) (h : Go K f' d' k' n' 0 (some (.ref b) :: some v1 :: List.replicate q none) [] M (Kont K f d (k - k') (n - n') pc pc' L rest Q)) : Go K f d k n pc L (v1 :: .ref b :: rest) M Q := by
  subst hp
  obtain ⟨a1, a2, a3, a4, a5⟩ := hl
  exact g_callI [v1] (k - k') (n - n') hdg a1 a2 a3 a4 a5 rfl rfl (cat8 hrest) (argL_of (by omega) (argL_1 (rfl : (Value.ref b).category = 1) (argL_1 e1 argL0))) hd.1 (by omega) (by omega) h
theorem k_I2z (pc' : Nat) {f' : FI} {y : MethodName} {ix : Nat} {d' q : Nat} {b : Nat} {v1 v2 : Value} {rest : List Value} (hdg : decode (fC f) pc = .ok (.invokespecial ix, 3)) (hp : pc + 3 = pc') (hl : LI (fO f) ix y f' 2) (hq : fL f' = q + 3) (e1 : v1.category = 1) (e2 : v2.category = 1) (hrest : rest.length ≤ 4) (hd : d' + 1 ≤ d) (h : Go K f' d' 0 0 0 (some (.ref b) :: some v1 :: some v2 :: List.replicate q none) [] M (Kont K f d k n pc pc' L rest Q)) : Go K f d k n pc L (v2 :: v1 :: .ref b :: rest) M Q := by
  subst hp
  obtain ⟨a1, a2, a3, a4, a5⟩ := hl
  exact g_callI [v1, v2] k n hdg a1 a2 a3 a4 a5 rfl rfl (cat8 hrest) (argL_of (by omega) (argL_1 (rfl : (Value.ref b).category = 1) (argL_1 e1 (argL_1 e2 argL0)))) hd (Nat.le_refl _) (Nat.le_refl _) h
theorem k_I2 (pc' : Nat) {f' : FI} {y : MethodName} {ix : Nat} {d' k' n' q : Nat} {b : Nat} {v1 v2 : Value} {rest : List Value} (hdg : decode (fC f) pc = .ok (.invokespecial ix, 3)) (hp : pc + 3 = pc') (hl : LI (fO f) ix y f' 2) (hq : fL f' = q + 3) (e1 : v1.category = 1) (e2 : v2.category = 1) (hrest : rest.length ≤ 4) (hd : d' + 1 ≤ d ∧ k' ≤ k ∧ n' ≤ n) (h : Go K f' d' k' n' 0 (some (.ref b) :: some v1 :: some v2 :: List.replicate q none) [] M (Kont K f d (k - k') (n - n') pc pc' L rest Q)) : Go K f d k n pc L (v2 :: v1 :: .ref b :: rest) M Q := by
  subst hp
  obtain ⟨a1, a2, a3, a4, a5⟩ := hl
  exact g_callI [v1, v2] (k - k') (n - n') hdg a1 a2 a3 a4 a5 rfl rfl (cat8 hrest) (argL_of (by omega) (argL_1 (rfl : (Value.ref b).category = 1) (argL_1 e1 (argL_1 e2 argL0)))) hd.1 (by omega) (by omega) h
theorem k_I3z (pc' : Nat) {f' : FI} {y : MethodName} {ix : Nat} {d' q : Nat} {b : Nat} {v1 v2 v3 : Value} {rest : List Value} (hdg : decode (fC f) pc = .ok (.invokespecial ix, 3)) (hp : pc + 3 = pc') (hl : LI (fO f) ix y f' 3) (hq : fL f' = q + 4) (e1 : v1.category = 1) (e2 : v2.category = 1) (e3 : v3.category = 1) (hrest : rest.length ≤ 4) (hd : d' + 1 ≤ d) (h : Go K f' d' 0 0 0 (some (.ref b) :: some v1 :: some v2 :: some v3 :: List.replicate q none) [] M (Kont K f d k n pc pc' L rest Q)) : Go K f d k n pc L (v3 :: v2 :: v1 :: .ref b :: rest) M Q := by
  subst hp
  obtain ⟨a1, a2, a3, a4, a5⟩ := hl
  exact g_callI [v1, v2, v3] k n hdg a1 a2 a3 a4 a5 rfl rfl (cat8 hrest) (argL_of (by omega) (argL_1 (rfl : (Value.ref b).category = 1) (argL_1 e1 (argL_1 e2 (argL_1 e3 argL0))))) hd (Nat.le_refl _) (Nat.le_refl _) h
theorem k_I3 (pc' : Nat) {f' : FI} {y : MethodName} {ix : Nat} {d' k' n' q : Nat} {b : Nat} {v1 v2 v3 : Value} {rest : List Value} (hdg : decode (fC f) pc = .ok (.invokespecial ix, 3)) (hp : pc + 3 = pc') (hl : LI (fO f) ix y f' 3) (hq : fL f' = q + 4) (e1 : v1.category = 1) (e2 : v2.category = 1) (e3 : v3.category = 1) (hrest : rest.length ≤ 4) (hd : d' + 1 ≤ d ∧ k' ≤ k ∧ n' ≤ n) (h : Go K f' d' k' n' 0 (some (.ref b) :: some v1 :: some v2 :: some v3 :: List.replicate q none) [] M (Kont K f d (k - k') (n - n') pc pc' L rest Q)) : Go K f d k n pc L (v3 :: v2 :: v1 :: .ref b :: rest) M Q := by
  subst hp
  obtain ⟨a1, a2, a3, a4, a5⟩ := hl
  exact g_callI [v1, v2, v3] (k - k') (n - n') hdg a1 a2 a3 a4 a5 rfl rfl (cat8 hrest) (argL_of (by omega) (argL_1 (rfl : (Value.ref b).category = 1) (argL_1 e1 (argL_1 e2 (argL_1 e3 argL0))))) hd.1 (by omega) (by omega) h
theorem k_I4z (pc' : Nat) {f' : FI} {y : MethodName} {ix : Nat} {d' q : Nat} {b : Nat} {v1 v2 v3 v4 : Value} {rest : List Value} (hdg : decode (fC f) pc = .ok (.invokespecial ix, 3)) (hp : pc + 3 = pc') (hl : LI (fO f) ix y f' 4) (hq : fL f' = q + 5) (e1 : v1.category = 1) (e2 : v2.category = 1) (e3 : v3.category = 1) (e4 : v4.category = 1) (hrest : rest.length ≤ 4) (hd : d' + 1 ≤ d) (h : Go K f' d' 0 0 0 (some (.ref b) :: some v1 :: some v2 :: some v3 :: some v4 :: List.replicate q none) [] M (Kont K f d k n pc pc' L rest Q)) : Go K f d k n pc L (v4 :: v3 :: v2 :: v1 :: .ref b :: rest) M Q := by
  subst hp
  obtain ⟨a1, a2, a3, a4, a5⟩ := hl
  exact g_callI [v1, v2, v3, v4] k n hdg a1 a2 a3 a4 a5 rfl rfl (cat8 hrest) (argL_of (by omega) (argL_1 (rfl : (Value.ref b).category = 1) (argL_1 e1 (argL_1 e2 (argL_1 e3 (argL_1 e4 argL0)))))) hd (Nat.le_refl _) (Nat.le_refl _) h
theorem k_I4 (pc' : Nat) {f' : FI} {y : MethodName} {ix : Nat} {d' k' n' q : Nat} {b : Nat} {v1 v2 v3 v4 : Value} {rest : List Value} (hdg : decode (fC f) pc = .ok (.invokespecial ix, 3)) (hp : pc + 3 = pc') (hl : LI (fO f) ix y f' 4) (hq : fL f' = q + 5) (e1 : v1.category = 1) (e2 : v2.category = 1) (e3 : v3.category = 1) (e4 : v4.category = 1) (hrest : rest.length ≤ 4) (hd : d' + 1 ≤ d ∧ k' ≤ k ∧ n' ≤ n) (h : Go K f' d' k' n' 0 (some (.ref b) :: some v1 :: some v2 :: some v3 :: some v4 :: List.replicate q none) [] M (Kont K f d (k - k') (n - n') pc pc' L rest Q)) : Go K f d k n pc L (v4 :: v3 :: v2 :: v1 :: .ref b :: rest) M Q := by
  subst hp
  obtain ⟨a1, a2, a3, a4, a5⟩ := hl
  exact g_callI [v1, v2, v3, v4] (k - k') (n - n') hdg a1 a2 a3 a4 a5 rfl rfl (cat8 hrest) (argL_of (by omega) (argL_1 (rfl : (Value.ref b).category = 1) (argL_1 e1 (argL_1 e2 (argL_1 e3 (argL_1 e4 argL0)))))) hd.1 (by omega) (by omega) h
theorem k_I5z (pc' : Nat) {f' : FI} {y : MethodName} {ix : Nat} {d' q : Nat} {b : Nat} {v1 v2 v3 v4 v5 : Value} {rest : List Value} (hdg : decode (fC f) pc = .ok (.invokespecial ix, 3)) (hp : pc + 3 = pc') (hl : LI (fO f) ix y f' 5) (hq : fL f' = q + 6) (e1 : v1.category = 1) (e2 : v2.category = 1) (e3 : v3.category = 1) (e4 : v4.category = 1) (e5 : v5.category = 1) (hrest : rest.length ≤ 4) (hd : d' + 1 ≤ d) (h : Go K f' d' 0 0 0 (some (.ref b) :: some v1 :: some v2 :: some v3 :: some v4 :: some v5 :: List.replicate q none) [] M (Kont K f d k n pc pc' L rest Q)) : Go K f d k n pc L (v5 :: v4 :: v3 :: v2 :: v1 :: .ref b :: rest) M Q := by
  subst hp
  obtain ⟨a1, a2, a3, a4, a5⟩ := hl
  exact g_callI [v1, v2, v3, v4, v5] k n hdg a1 a2 a3 a4 a5 rfl rfl (cat8 hrest) (argL_of (by omega) (argL_1 (rfl : (Value.ref b).category = 1) (argL_1 e1 (argL_1 e2 (argL_1 e3 (argL_1 e4 (argL_1 e5 argL0))))))) hd (Nat.le_refl _) (Nat.le_refl _) h
theorem k_I5 (pc' : Nat) {f' : FI} {y : MethodName} {ix : Nat} {d' k' n' q : Nat} {b : Nat} {v1 v2 v3 v4 v5 : Value} {rest : List Value} (hdg : decode (fC f) pc = .ok (.invokespecial ix, 3)) (hp : pc + 3 = pc') (hl : LI (fO f) ix y f' 5) (hq : fL f' = q + 6) (e1 : v1.category = 1) (e2 : v2.category = 1) (e3 : v3.category = 1) (e4 : v4.category = 1) (e5 : v5.category = 1) (hrest : rest.length ≤ 4) (hd : d' + 1 ≤ d ∧ k' ≤ k ∧ n' ≤ n) (h : Go K f' d' k' n' 0 (some (.ref b) :: some v1 :: some v2 :: some v3 :: some v4 :: some v5 :: List.replicate q none) [] M (Kont K f d (k - k') (n - n') pc pc' L rest Q)) : Go K f d k n pc L (v5 :: v4 :: v3 :: v2 :: v1 :: .ref b :: rest) M Q := by
  subst hp
  obtain ⟨a1, a2, a3, a4, a5⟩ := hl
  exact g_callI [v1, v2, v3, v4, v5] (k - k') (n - n') hdg a1 a2 a3 a4 a5 rfl rfl (cat8 hrest) (argL_of (by omega) (argL_1 (rfl : (Value.ref b).category = 1) (argL_1 e1 (argL_1 e2 (argL_1 e3 (argL_1 e4 (argL_1 e5 argL0))))))) hd.1 (by omega) (by omega) h
theorem k_F0z (pc' : Nat) {f' : FI} {y : MethodName} {ix : Nat} {d' q : Nat} {b ci : Nat} {cnt : Nat} {rest : List Value} (hdg : decode (fC f) pc = .ok (.invokeinterface ix cnt, 5)) (hp : pc + 5 = pc') (hl : LF (fO f) ix y f' 0 ci) (ht : mT M b = some (.inl ci)) (hq : fL f' = q + 1) (hrest : rest.length ≤ 4) (hd : d' + 1 ≤ d) (h : Go K f' d' 0 0 0 (some (.ref b) :: List.replicate q none) [] M (Kont K f d k n pc pc' L rest Q)) : Go K f d k n pc L (.ref b :: rest) M Q := by
  subst hp
  obtain ⟨x, r, a1, a2, a3, a4, a5, a6, a7⟩ := hl
  exact g_callF [] k n hdg a1 a2 a3 a4 a5 a6 a7 rfl ht rfl rfl (cat8 hrest) (argL_of (by omega) (argL_1 (rfl : (Value.ref b).category = 1) argL0)) hd (Nat.le_refl _) (Nat.le_refl _) h
theorem k_F0 (pc' : Nat) {f' : FI} {y : MethodName} {ix : Nat} {d' k' n' q : Nat} {b ci : Nat} {cnt : Nat} {rest : List Value} (hdg : decode (fC f) pc = .ok (.invokeinterface ix cnt, 5)) (hp : pc + 5 = pc') (hl : LF (fO f) ix y f' 0 ci) (ht : mT M b = some (.inl ci)) (hq : fL f' = q + 1) (hrest : rest.length ≤ 4) (hd : d' + 1 ≤ d ∧ k' ≤ k ∧ n' ≤ n) (h : Go K f' d' k' n' 0 (some (.ref b) :: List.replicate q none) [] M (Kont K f d (k - k') (n - n') pc pc' L rest Q)) : Go K f d k n pc L (.ref b :: rest) M Q := by
  subst hp
  obtain ⟨x, r, a1, a2, a3, a4, a5, a6, a7⟩ := hl
  exact g_callF [] (k - k') (n - n') hdg a1 a2 a3 a4 a5 a6 a7 rfl ht rfl rfl (cat8 hrest) (argL_of (by omega) (argL_1 (rfl : (Value.ref b).category = 1) argL0)) hd.1 (by omega) (by omega) h
theorem k_F1z (pc' : Nat) {f' : FI} {y : MethodName} {ix : Nat} {d' q : Nat} {b ci : Nat} {cnt : Nat} {v1 : Value} {rest : List Value} (hdg : decode (fC f) pc = .ok (.invokeinterface ix cnt, 5)) (hp : pc + 5 = pc') (hl : LF (fO f) ix y f' 1 ci) (ht : mT M b = some (.inl ci)) (hq : fL f' = q + 2) (e1 : v1.category = 1) (hrest : rest.length ≤ 4) (hd : d' + 1 ≤ d) (h : Go K f' d' 0 0 0 (some (.ref b) :: some v1 :: List.replicate q none) [] M (Kont K f d k n pc pc' L rest Q)) : Go K f d k n pc L (v1 :: .ref b :: rest) M Q := by
  subst hp
  obtain ⟨x, r, a1, a2, a3, a4, a5, a6, a7⟩ := hl
  exact g_callF [v1] k n hdg a1 a2 a3 a4 a5 a6 a7 rfl ht rfl rfl (cat8 hrest) (argL_of (by omega) (argL_1 (rfl : (Value.ref b).category = 1) (argL_1 e1 argL0))) hd (Nat.le_refl _) (Nat.le_refl _) h
theorem k_F1 (pc' : Nat) {f' : FI} {y : MethodName} {ix : Nat} {d' k' n' q : Nat} {b ci : Nat} {cnt : Nat} {v1 : Value} {rest : List Value} (hdg : decode (fC f) pc = .ok (.invokeinterface ix cnt, 5)) (hp : pc + 5 = pc') (hl : LF (fO f) ix y f' 1 ci) (ht : mT M b = some (.inl ci)) (hq : fL f' = q + 2) (e1 : v1.category = 1) (hrest : rest.length ≤ 4) (hd : d' + 1 ≤ d ∧ k' ≤ k ∧ n' ≤ n) (h : Go K f' d' k' n' 0 (some (.ref b) :: some v1 :: List.replicate q none) [] M (Kont K f d (k - k') (n - n') pc pc' L rest Q)) : Go K f d k n pc L (v1 :: .ref b :: rest) M Q := by
  subst hp
  obtain ⟨x, r, a1, a2, a3, a4, a5, a6, a7⟩ := hl
  exact g_callF [v1] (k - k') (n - n') hdg a1 a2 a3 a4 a5 a6 a7 rfl ht rfl rfl (cat8 hrest) (argL_of (by omega) (argL_1 (rfl : (Value.ref b).category = 1) (argL_1 e1 argL0))) hd.1 (by omega) (by omega) h
theorem k_F2z (pc' : Nat) {f' : FI} {y : MethodName} {ix : Nat} {d' q : Nat} {b ci : Nat} {cnt : Nat} {v1 v2 : Value} {rest : List Value} (hdg : decode (fC f) pc = .ok (.invokeinterface ix cnt, 5)) (hp : pc + 5 = pc') (hl : LF (fO f) ix y f' 2 ci) (ht : mT M b = some (.inl ci)) (hq : fL f' = q + 3) (e1 : v1.category = 1) (e2 : v2.category = 1) (hrest : rest.length ≤ 4) (hd : d' + 1 ≤ d) (h : Go K f' d' 0 0 0 (some (.ref b) :: some v1 :: some v2 :: List.replicate q none) [] M (Kont K f d k n pc pc' L rest Q)) : Go K f d k n pc L (v2 :: v1 :: .ref b :: rest) M Q := by
  subst hp
  obtain ⟨x, r, a1, a2, a3, a4, a5, a6, a7⟩ := hl
  exact g_callF [v1, v2] k n hdg a1 a2 a3 a4 a5 a6 a7 rfl ht rfl rfl (cat8 hrest) (argL_of (by omega) (argL_1 (rfl : (Value.ref b).category = 1) (argL_1 e1 (argL_1 e2 argL0)))) hd (Nat.le_refl _) (Nat.le_refl _) h
theorem k_F2 (pc' : Nat) {f' : FI} {y : MethodName} {ix : Nat} {d' k' n' q : Nat} {b ci : Nat} {cnt : Nat} {v1 v2 : Value} {rest : List Value} (hdg : decode (fC f) pc = .ok (.invokeinterface ix cnt, 5)) (hp : pc + 5 = pc') (hl : LF (fO f) ix y f' 2 ci) (ht : mT M b = some (.inl ci)) (hq : fL f' = q + 3) (e1 : v1.category = 1) (e2 : v2.category = 1) (hrest : rest.length ≤ 4) (hd : d' + 1 ≤ d ∧ k' ≤ k ∧ n' ≤ n) (h : Go K f' d' k' n' 0 (some (.ref b) :: some v1 :: some v2 :: List.replicate q none) [] M (Kont K f d (k - k') (n - n') pc pc' L rest Q)) : Go K f d k n pc L (v2 :: v1 :: .ref b :: rest) M Q := by
  subst hp
  obtain ⟨x, r, a1, a2, a3, a4, a5, a6, a7⟩ := hl
  exact g_callF [v1, v2] (k - k') (n - n') hdg a1 a2 a3 a4 a5 a6 a7 rfl ht rfl rfl (cat8 hrest) (argL_of (by omega) (argL_1 (rfl : (Value.ref b).category = 1) (argL_1 e1 (argL_1 e2 argL0)))) hd.1 (by omega) (by omega) h
theorem k_SN0z (pc' : Nat) {f' : FI} {y : MethodName} {ix : Nat} {d' q : Nat} {rest : List Value} (hdg : decode (fC f) pc = .ok (.invokestatic ix, 3)) (hp : pc + 3 = pc') (hl : LSN (fO f) ix y f' 0) (hq : fL f' = q + 0) (hrest : rest.length ≤ 4) (hd : d' + 1 ≤ d) (h : Go K f' d' 0 0 0 (List.replicate q none) [] M (Kont K f d k n pc pc' L rest Q)) : Go K f d k n pc L (rest) M Q := by
  subst hp
  obtain ⟨host, a1, a2, a3⟩ := hl
  exact g_callSN [] k n hdg a1 a2 a3 rfl rfl (cat8 hrest) (argL_of (by omega) argL0) hd (Nat.le_refl _) (Nat.le_refl _) h
theorem k_SN0 (pc' : Nat) {f' : FI} {y : MethodName} {ix : Nat} {d' k' n' q : Nat} {rest : List Value} (hdg : decode (fC f) pc = .ok (.invokestatic ix, 3)) (hp : pc + 3 = pc') (hl : LSN (fO f) ix y f' 0) (hq : fL f' = q + 0) (hrest : rest.length ≤ 4) (hd : d' + 1 ≤ d ∧ k' ≤ k ∧ n' ≤ n) (h : Go K f' d' k' n' 0 (List.replicate q none) [] M (Kont K f d (k - k') (n - n') pc pc' L rest Q)) : Go K f d k n pc L (rest) M Q := by
  subst hp
  obtain ⟨host, a1, a2, a3⟩ := hl
  exact g_callSN [] (k - k') (n - n') hdg a1 a2 a3 rfl rfl (cat8 hrest) (argL_of (by omega) argL0) hd.1 (by omega) (by omega) h
theorem k_SN1z (pc' : Nat) {f' : FI} {y : MethodName} {ix : Nat} {d' q : Nat} {v1 : Value} {rest : List Value} (hdg : decode (fC f) pc = .ok (.invokestatic ix, 3)) (hp : pc + 3 = pc') (hl : LSN (fO f) ix y f' 1) (hq : fL f' = q + 1) (e1 : v1.category = 1) (hrest : rest.length ≤ 4) (hd : d' + 1 ≤ d) (h : Go K f' d' 0 0 0 (some v1 :: List.replicate q none) [] M (Kont K f d k n pc pc' L rest Q)) : Go K f d k n pc L (v1 :: rest) M Q := by
  subst hp
  obtain ⟨host, a1, a2, a3⟩ := hl
  exact g_callSN [v1] k n hdg a1 a2 a3 rfl rfl (cat8 hrest) (argL_of (by omega) (argL_1 e1 argL0)) hd (Nat.le_refl _) (Nat.le_refl _) h
theorem k_SN1 (pc' : Nat) {f' : FI} {y : MethodName} {ix : Nat} {d' k' n' q : Nat} {v1 : Value} {rest : List Value} (hdg : decode (fC f) pc = .ok (.invokestatic ix, 3)) (hp : pc + 3 = pc') (hl : LSN (fO f) ix y f' 1) (hq : fL f' = q + 1) (e1 : v1.category = 1) (hrest : rest.length ≤ 4) (hd : d' + 1 ≤ d ∧ k' ≤ k ∧ n' ≤ n) (h : Go K f' d' k' n' 0 (some v1 :: List.replicate q none) [] M (Kont K f d (k - k') (n - n') pc pc' L rest Q)) : Go K f d k n pc L (v1 :: rest) M Q := by
  subst hp
  obtain ⟨host, a1, a2, a3⟩ := hl
  exact g_callSN [v1] (k - k') (n - n') hdg a1 a2 a3 rfl rfl (cat8 hrest) (argL_of (by omega) (argL_1 e1 argL0)) hd.1 (by omega) (by omega) h
theorem k_SN2z (pc' : Nat) {f' : FI} {y : MethodName} {ix : Nat} {d' q : Nat} {v1 v2 : Value} {rest : List Value} (hdg : decode (fC f) pc = .ok (.invokestatic ix, 3)) (hp : pc + 3 = pc') (hl : LSN (fO f) ix y f' 2) (hq : fL f' = q + 2) (e1 : v1.category = 1) (e2 : v2.category = 1) (hrest : rest.length ≤ 4) (hd : d' + 1 ≤ d) (h : Go K f' d' 0 0 0 (some v1 :: some v2 :: List.replicate q none) [] M (Kont K f d k n pc pc' L rest Q)) : Go K f d k n pc L (v2 :: v1 :: rest) M Q := by
  subst hp
  obtain ⟨host, a1, a2, a3⟩ := hl
  exact g_callSN [v1, v2] k n hdg a1 a2 a3 rfl rfl (cat8 hrest) (argL_of (by omega) (argL_1 e1 (argL_1 e2 argL0))) hd (Nat.le_refl _) (Nat.le_refl _) h
theorem k_SN2 (pc' : Nat) {f' : FI} {y : MethodName} {ix : Nat} {d' k' n' q : Nat} {v1 v2 : Value} {rest : List Value} (hdg : decode (fC f) pc = .ok (.invokestatic ix, 3)) (hp : pc + 3 = pc') (hl : LSN (fO f) ix y f' 2) (hq : fL f' = q + 2) (e1 : v1.category = 1) (e2 : v2.category = 1) (hrest : rest.length ≤ 4) (hd : d' + 1 ≤ d ∧ k' ≤ k ∧ n' ≤ n) (h : Go K f' d' k' n' 0 (some v1 :: some v2 :: List.replicate q none) [] M (Kont K f d (k - k') (n - n') pc pc' L rest Q)) : Go K f d k n pc L (v2 :: v1 :: rest) M Q := by
  subst hp
  obtain ⟨host, a1, a2, a3⟩ := hl
  exact g_callSN [v1, v2] (k - k') (n - n') hdg a1 a2 a3 rfl rfl (cat8 hrest) (argL_of (by omega) (argL_1 e1 (argL_1 e2 argL0))) hd.1 (by omega) (by omega) h
theorem k_VN0z (pc' : Nat) {f' : FI} {y : MethodName} {ix : Nat} {d' q : Nat} {b ci : Nat} {rest : List Value} (hdg : decode (fC f) pc = .ok (.invokevirtual ix, 3)) (hp : pc + 3 = pc') (hl : LVN (fO f) ix y f' 0 ci) (ht : mT M b = some (.inl ci)) (hq : fL f' = q + 1) (hrest : rest.length ≤ 4) (hd : d' + 1 ≤ d) (h : Go K f' d' 0 0 0 (some (.ref b) :: List.replicate q none) [] M (Kont K f d k n pc pc' L rest Q)) : Go K f d k n pc L (.ref b :: rest) M Q := by
  subst hp
  obtain ⟨host, a1, a2, a3, a4, r, a5, a6⟩ := hl
  exact g_callVN [] k n hdg a1 a2 a3 a4 a5 a6 ht rfl rfl (cat8 hrest) (argL_of (by omega) (argL_1 (rfl : (Value.ref b).category = 1) argL0)) hd (Nat.le_refl _) (Nat.le_refl _) h
theorem k_VN0 (pc' : Nat) {f' : FI} {y : MethodName} {ix : Nat} {d' k' n' q : Nat} {b ci : Nat} {rest : List Value} (hdg : decode (fC f) pc = .ok (.invokevirtual ix, 3)) (hp : pc + 3 = pc') (hl : LVN (fO f) ix y f' 0 ci) (ht : mT M b = some (.inl ci)) (hq : fL f' = q + 1) (hrest : rest.length ≤ 4) (hd : d' + 1 ≤ d ∧ k' ≤ k ∧ n' ≤ n) (h : Go K f' d' k' n' 0 (some (.ref b) :: List.replicate q none) [] M (Kont K f d (k - k') (n - n') pc pc' L rest Q)) : Go K f d k n pc L (.ref b :: rest) M Q := by
  subst hp
  obtain ⟨host, a1, a2, a3, a4, r, a5, a6⟩ := hl
  exact g_callVN [] (k - k') (n - n') hdg a1 a2 a3 a4 a5 a6 ht rfl rfl (cat8 hrest) (argL_of (by omega) (argL_1 (rfl : (Value.ref b).category = 1) argL0)) hd.1 (by omega) (by omega) h
theorem k_VN1z (pc' : Nat) {f' : FI} {y : MethodName} {ix : Nat} {d' q : Nat} {b ci : Nat} {v1 : Value} {rest : List Value} (hdg : decode (fC f) pc = .ok (.invokevirtual ix, 3)) (hp : pc + 3 = pc') (hl : LVN (fO f) ix y f' 1 ci) (ht : mT M b = some (.inl ci)) (hq : fL f' = q + 2) (e1 : v1.category = 1) (hrest : rest.length ≤ 4) (hd : d' + 1 ≤ d) (h : Go K f' d' 0 0 0 (some (.ref b) :: some v1 :: List.replicate q none) [] M (Kont K f d k n pc pc' L rest Q)) : Go K f d k n pc L (v1 :: .ref b :: rest) M Q := by
  subst hp
  obtain ⟨host, a1, a2, a3, a4, r, a5, a6⟩ := hl
  exact g_callVN [v1] k n hdg a1 a2 a3 a4 a5 a6 ht rfl rfl (cat8 hrest) (argL_of (by omega) (argL_1 (rfl : (Value.ref b).category = 1) (argL_1 e1 argL0))) hd (Nat.le_refl _) (Nat.le_refl _) h
theorem k_VN1 (pc' : Nat) {f' : FI} {y : MethodName} {ix : Nat} {d' k' n' q : Nat} {b ci : Nat} {v1 : Value} {rest : List Value} (hdg : decode (fC f) pc = .ok (.invokevirtual ix, 3)) (hp : pc + 3 = pc') (hl : LVN (fO f) ix y f' 1 ci) (ht : mT M b = some (.inl ci)) (hq : fL f' = q + 2) (e1 : v1.category = 1) (hrest : rest.length ≤ 4) (hd : d' + 1 ≤ d ∧ k' ≤ k ∧ n' ≤ n) (h : Go K f' d' k' n' 0 (some (.ref b) :: some v1 :: List.replicate q none) [] M (Kont K f d (k - k') (n - n') pc pc' L rest Q)) : Go K f d k n pc L (v1 :: .ref b :: rest) M Q := by
  subst hp
  obtain ⟨host, a1, a2, a3, a4, r, a5, a6⟩ := hl
  exact g_callVN [v1] (k - k') (n - n') hdg a1 a2 a3 a4 a5 a6 ht rfl rfl (cat8 hrest) (argL_of (by omega) (argL_1 (rfl : (Value.ref b).category = 1) (argL_1 e1 argL0))) hd.1 (by omega) (by omega) h
theorem k_IN0z (pc' : Nat) {f' : FI} {y : MethodName} {ix : Nat} {d' q : Nat} {b : Nat} {rest : List Value} (hdg : decode (fC f) pc = .ok (.invokespecial ix, 3)) (hp : pc + 3 = pc') (hl : LIN (fO f) ix y f' 0) (hq : fL f' = q + 1) (hrest : rest.length ≤ 4) (hd : d' + 1 ≤ d) (h : Go K f' d' 0 0 0 (some (.ref b) :: List.replicate q none) [] M (Kont K f d k n pc pc' L rest Q)) : Go K f d k n pc L (.ref b :: rest) M Q := by
  subst hp
  obtain ⟨host, a1, a2, a3, a4, a5⟩ := hl
  exact g_callIN [] k n hdg a1 a2 a3 a4 a5 rfl rfl (cat8 hrest) (argL_of (by omega) (argL_1 (rfl : (Value.ref b).category = 1) argL0)) hd (Nat.le_refl _) (Nat.le_refl _) h
theorem k_IN0 (pc' : Nat) {f' : FI} {y : MethodName} {ix : Nat} {d' k' n' q : Nat} {b : Nat} {rest : List Value} (hdg : decode (fC f) pc = .ok (.invokespecial ix, 3)) (hp : pc + 3 = pc') (hl : LIN (fO f) ix y f' 0) (hq : fL f' = q + 1) (hrest : rest.length ≤ 4) (hd : d' + 1 ≤ d ∧ k' ≤ k ∧ n' ≤ n) (h : Go K f' d' k' n' 0 (some (.ref b) :: List.replicate q none) [] M (Kont K f d (k - k') (n - n') pc pc' L rest Q)) : Go K f d k n pc L (.ref b :: rest) M Q := by
  subst hp
  obtain ⟨host, a1, a2, a3, a4, a5⟩ := hl
  exact g_callIN [] (k - k') (n - n') hdg a1 a2 a3 a4 a5 rfl rfl (cat8 hrest) (argL_of (by omega) (argL_1 (rfl : (Value.ref b).category = 1) argL0)) hd.1 (by omega) (by omega) h
theorem k_IN1z (pc' : Nat) {f' : FI} {y : MethodName} {ix : Nat} {d' q : Nat} {b : Nat} {v1 : Value} {rest : List Value} (hdg : decode (fC f) pc = .ok (.invokespecial ix, 3)) (hp : pc + 3 = pc') (hl : LIN (fO f) ix y f' 1) (hq : fL f' = q + 2) (e1 : v1.category = 1) (hrest : rest.length ≤ 4) (hd : d' + 1 ≤ d) (h : Go K f' d' 0 0 0 (some (.ref b) :: some v1 :: List.replicate q none) [] M (Kont K f d k n pc pc' L rest Q)) : Go K f d k n pc L (v1 :: .ref b :: rest) M Q := by
  subst hp
  obtain ⟨host, a1, a2, a3, a4, a5⟩ := hl
  exact g_callIN [v1] k n hdg a1 a2 a3 a4 a5 rfl rfl (cat8 hrest) (argL_of (by omega) (argL_1 (rfl : (Value.ref b).category = 1) (argL_1 e1 argL0))) hd (Nat.le_refl _) (Nat.le_refl _) h
theorem k_IN1 (pc' : Nat) {f' : FI} {y : MethodName} {ix : Nat} {d' k' n' q : Nat} {b : Nat} {v1 : Value} {rest : List Value} (hdg : decode (fC f) pc = .ok (.invokespecial ix, 3)) (hp : pc + 3 = pc') (hl : LIN (fO f) ix y f' 1) (hq : fL f' = q + 2) (e1 : v1.category = 1) (hrest : rest.length ≤ 4) (hd : d' + 1 ≤ d ∧ k' ≤ k ∧ n' ≤ n) (h : Go K f' d' k' n' 0 (some (.ref b) :: some v1 :: List.replicate q none) [] M (Kont K f d (k - k') (n - n') pc pc' L rest Q)) : Go K f d k n pc L (v1 :: .ref b :: rest) M Q := by
  subst hp
  obtain ⟨host, a1, a2, a3, a4, a5⟩ := hl
  exact g_callIN [v1] (k - k') (n - n') hdg a1 a2 a3 a4 a5 rfl rfl (cat8 hrest) (argL_of (by omega) (argL_1 (rfl : (Value.ref b).category = 1) (argL_1 e1 argL0))) hd.1 (by omega) (by omega) h
theorem k_U0z (pc' : Nat) {f' : FI} {y : MethodName} {ix : Nat} {d' q : Nat} {b ci : Nat} {rest : List Value} (hdg : decode (fC f) pc = .ok (.invokevirtual ix, 3)) (hp : pc + 3 = pc') (hl : LU (fO f) ix y f' 0 ci) (ht : mT M b = some (.inl ci)) (hq : fL f' = q + 1) (hrest : rest.length ≤ 4) (hd : d' + 1 ≤ d) (h : Go K f' d' 0 0 0 (some (.ref b) :: List.replicate q none) [] M (Kont K f d k n pc pc' L rest Q)) : Go K f d k n pc L (.ref b :: rest) M Q := by
  subst hp
  obtain ⟨x, owner, r, a1, a2, a3, a4, a5, a6, a7, a8⟩ := hl
  exact g_callU [] k n hdg a1 a2 a3 a4 a5 a6 a7 a8 rfl ht rfl rfl (cat8 hrest) (argL_of (by omega) (argL_1 (rfl : (Value.ref b).category = 1) argL0)) hd (Nat.le_refl _) (Nat.le_refl _) h
theorem k_U0 (pc' : Nat) {f' : FI} {y : MethodName} {ix : Nat} {d' k' n' q : Nat} {b ci : Nat} {rest : List Value} (hdg : decode (fC f) pc = .ok (.invokevirtual ix, 3)) (hp : pc + 3 = pc') (hl : LU (fO f) ix y f' 0 ci) (ht : mT M b = some (.inl ci)) (hq : fL f' = q + 1) (hrest : rest.length ≤ 4) (hd : d' + 1 ≤ d ∧ k' ≤ k ∧ n' ≤ n) (h : Go K f' d' k' n' 0 (some (.ref b) :: List.replicate q none) [] M (Kont K f d (k - k') (n - n') pc pc' L rest Q)) : Go K f d k n pc L (.ref b :: rest) M Q := by
  subst hp
  obtain ⟨x, owner, r, a1, a2, a3, a4, a5, a6, a7, a8⟩ := hl
  exact g_callU [] (k - k') (n - n') hdg a1 a2 a3 a4 a5 a6 a7 a8 rfl ht rfl rfl (cat8 hrest) (argL_of (by omega) (argL_1 (rfl : (Value.ref b).category = 1) argL0)) hd.1 (by omega) (by omega) h
end GCR
