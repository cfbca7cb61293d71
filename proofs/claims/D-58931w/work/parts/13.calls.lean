/-! ===== calls: a method's contract is Go at its entry ===== -/
section GC
variable {K : KT} {f : FI} {d k n pc : Nat} {L : List (Option Value)} {st : List Value} {M : Mem} {Q : Res → Mem → Prop}
/-- method y has the code that f says; p parameters -/
def MS (y : MethodName) (f : FI) (np : Nat) : Prop := (y.cls = fO f ∧ y.name = fN f ∧ plainFor y = true ∧ fL f ≤ 60) ∧ (y.cls ≠ "java/lang/invoke/MethodHandle" ∧ y.cls ≠ "java/lang/invoke/VarHandle" ∧ (parseMethodDescriptor y.desc).map (fun d => d.parameters.length) = some np) ∧ Cond.code y (fC f) (fL f) (fR f) ∈ lw_all ∧ Cond.initialized y.cls ∈ lw_all ∧ fH f = []
def PCt (K : KT) (As : List Value) (M : Mem) : Array Value → State → Prop := fun v U => v = As.toArray ∧ Hp K M U U.heap ∧ Kn K U
theorem pct_blind {As : List Value} : FrameBlind (PCt K As M) := fun a U g mk h => ⟨h.1, h.2.1.moved (s := U) (U := U.calling g mk a) (Vm.Alike.refl U.vm), h.2.2.moved (s := U) (U := U.calling g mk a) (State.WarmedH.refl U) (fun _ _ _ => rfl)⟩
def slO (s : Slot) : Option Value := match s with
  | .val v => some v
  | _ => none
/-- a frame's locals at its entry -/
def ArgL (As : List Value) (nL : Nat) (L : List (Option Value)) : Prop := (lg_sl As).length ≤ nL ∧ L = (lg_sl As).map slO ++ List.replicate (nL - (lg_sl As).length) none
theorem argL0 {nL : Nat} : ArgL [] nL (List.replicate nL none) := ⟨Nat.zero_le _, rfl⟩
theorem ArgL.lv {As : List Value} {nL : Nat} (h : ArgL As nL L) : LV ((lg_sl As ++ List.replicate (nL - (lg_sl As).length) Slot.unset).toArray) nL L := by
  obtain ⟨h1, rfl⟩ := h
  have hl := lv_entry As h1
  refine ⟨hl.1, hl.2.1, fun i v hi => ?_⟩
  rw [List.getElem?_toArray]
  by_cases hlt : i < (lg_sl As).length
  · rw [List.getElem?_append_left (by simpa using hlt), List.getElem?_map] at hi
    rw [List.getElem?_append_left hlt]
    cases hs : (lg_sl As)[i]? with
    | none => rw [hs] at hi; cases hi
    | some s0 =>
      rw [hs] at hi
      cases s0 <;> simp_all [slO]
  · rw [List.getElem?_append_right (by simpa using Nat.not_lt.mp hlt)] at hi
    have := List.mem_of_getElem? hi
    simp at this
theorem g_ofW {l : Launch} {y : MethodName} {ws ws' : List Cond} {rm : Room} {Pc : Array Value → State → Prop} {Qc : Array Value → State → Outcome → State → Prop} {XC : String → State → State → Prop} {mc ms : Nat} {free : Addr → Prop} {cc : ByteArray} {maxL : Nat} {ret : Option FieldType}
    (hy : plainFor y = true) (hw : ws = Cond.code y cc maxL ret :: ws')
    (body : ∀ p e s m args below meth c s₁, BodyLoose p l y (headSpec ws rm) cc maxL ret e s m args below meth c s₁ → c.maxLocals = maxL → (∀ x ∈ c.exceptionTable.toList, False) → Pc args s →
      W p l e (headSpec ws rm).room s m args below meth c s.heap [] 0 0 (vx_MQ below Qc XC args s mc ms free) (entryFrame m args maxL)) : vx_Met l y ws rm Pc Qc XC mc ms free := by
  refine MetFree.of_bodySF (code := cc) (maxLocals := maxL) (ret := ret) hy ?_ ?_
  · intro args s m h hn
    obtain ⟨meth, c, h1, h2, h3, h4, h5, h6, -, -⟩ := Cond.code_spec hn (atoms_spec (ws := ws) h _ (by rw [hw]; exact List.mem_cons_self))
    exact ⟨meth, c, h1, h2, h3, h4, h5, h6⟩
  · intro p e s m args below meth c s₁ B hml hP _
    have hh0 : s₁.heap = s.heap := by rw [B.state]; rfl
    have ht : ∀ x ∈ c.exceptionTable.toList, False := by
      obtain ⟨meth9, c9, h1, h2, -, -, -, -, h7, -⟩ := Cond.code_spec B.named (atoms_spec (ws := ws) B.pre _ (by rw [hw]; exact List.mem_cons_self))
      cases Option.some.inj (h1.symm.trans B.method)
      cases Option.some.inj (h2.symm.trans (Stand.of_body B).code)
      intro x hx
      rw [Array.isEmpty_iff.mp h7] at hx
      cases hx
    obtain ⟨t, a1, o, b1, b2, b3⟩ := body p e s m args below meth c s₁ B hml ht hP s₁ hh0 (Stand.of_body B)
    exact ⟨t, o, a1, b1, b2, b3⟩
theorem Go.met {y : MethodName} {np : Nat} {As : List Value} (hm : MS y f np) (hA : ArgL As (fL f) L) (h : Go K f d k n 0 L [] M Q) : vx_Met (kL K) y (ws_ y (fC f) (fL f) (fR f)) { frames := d, cells := k, slots := n, locals := 100 * d } (PCt K As M) (QC K Q) (XC K Q) k n (kO K) := by
  obtain ⟨⟨m1, m2, m3, m4⟩, -, -, -, m5⟩ := hm
  refine g_ofW (cc := fC f) (maxL := fL f) (ret := fR f) m3 rfl ?_
  intro p e s m args below meth c s₁ B hml ht hv
  obtain ⟨rfl, hH, hKn⟩ := hv
  have hts := atoms_spec (ws := ws_ y (fC f) (fL f) (fR f)) B.pre
  rw [lg_entry_eq]
  refine h ⟨⟨B.exec, B.bytes, B.returns, B.notSynchronized, hml, ?_, fun w h => hts w (List.mem_cons_of_mem _ h), ?_, ?_, hKn⟩, ⟨Nat.le_refl _, Nat.le_refl _, Nat.le_refl _, Nat.le_refl _, by omega, by omega⟩, hH, va_S.rf, hA.lv⟩
  · rw [← m1]; exact findClass_of_methodNamed B.named
  · rw [← m2]; exact (name_of_methodNamed B.named B.method).1
  · rw [m5]
    cases hl : c.exceptionTable.toList with
    | nil => rfl
    | cons x xs => exact (ht x (by rw [hl]; exact List.mem_cons_self)).elim
theorem g_after {l : Launch} {p : Program} {e : Env} {R : Room} {s : State} {m : MethodId} {args : Array Value} {below : List Frame} {meth : Method} {c : Code} {H : Heap} {locs : List Loc} {cells slots mc ms : Nat} {ls : Array Slot} {st0 rest : List Value} {k' n' k2 n2 : Nat} {a : Array Value}
    (A : GA K f d k n L M p R s m args meth c H locs cells slots mc ms ls) (hk : k2 + k' ≤ k) (hn : n2 + n' ≤ n)
    (hr : vx_Run p (kL K) e R s m args below meth c H locs cells slots k' n' (F0 m pc ls st0) rest (QC K (Kont K f d k2 n2 pc (pc + 3) L rest Q) a) (XC K (Kont K f d k2 n2 pc (pc + 3) L rest Q)) (kO K)) : W p (kL K) e R s m args below meth c H locs cells slots (vx_MQ below (QC K Q) (XC K Q) args s mc ms (kO K)) (F0 m pc ls st0) := by
  obtain ⟨hC, ⟨r1, r2, r3, r4, r5, r6⟩, hH, hS0, hL⟩ := id A
  intro T hT X
  rcases hr T hT X with ⟨v, st₀, t, T', Lx, h0, X', hLx, e1, e2, ⟨r, M', hrv, hH', hF, hQ⟩, stp⟩ | ⟨q, st₀, t, T', Lx, E, ce, h0, X', hLx, e1, e2, ⟨M', hH', hF, hQ⟩, hce, hcv, hcl, stp⟩
  · cases hrv
    obtain ⟨k1, k2', k3⟩ := vx_keep h0 e1 hS0 (fun _ _ h => h) (fun _ h => h) hLx hF
    have hal : s.vm.Alike t.vm := by rw [← e2]; exact X'.warmed.alike
    have A' : GA K f d k2 n2 L M' p R s m args meth c T'.heap (locs ++ Lx) (cells + k') (slots + n') mc ms ls := ⟨hC, ⟨r1, r2, r3, r4, by omega, by omega⟩, by rw [e1]; exact hH'.moved hal.symm, k3, hL⟩
    cases v with
    | none =>
      obtain ⟨t2, a1, b1⟩ := (show Go K f d k2 n2 (pc + 3) L rest M' Q from hQ) (e := e) (below := below) A' T' rfl X'
      exact ⟨t2, stp t2 a1, b1⟩
    | some v =>
      obtain ⟨t2, a1, b1⟩ := (show Go K f d k2 n2 (pc + 3) L (v :: rest) M' Q from hQ) (e := e) (below := below) A' T' rfl X'
      exact ⟨t2, stp t2 a1, b1⟩
  · obtain ⟨k1, k2', k3⟩ := vx_keep h0 e1 hS0 (fun _ _ h => h) (fun _ h => h) hLx hF
    have hal : s.vm.Alike t.vm := by rw [← e2]; exact X'.warmed.alike
    have A' : GA K f d k2 n2 L M' p R s m args meth c T'.heap (locs ++ Lx) (cells + k') (slots + n') mc ms ls := ⟨hC, ⟨r1, r2, r3, r4, by omega, by omega⟩, by rw [e1]; exact hH'.moved hal.symm, k3, hL⟩
    obtain ⟨t2, a1, b1⟩ := (show GoX K f d k2 n2 pc L M' E Q from hQ) (e := e) (below := below) (rest := rest) A' (by rw [e1]; exact hce) hcv hcl T' rfl X'
    exact ⟨t2, stp.trans a1, b1⟩
theorem g_after5 {l : Launch} {p : Program} {e : Env} {R : Room} {s : State} {m : MethodId} {args : Array Value} {below : List Frame} {meth : Method} {c : Code} {H : Heap} {locs : List Loc} {cells slots mc ms : Nat} {ls : Array Slot} {st0 rest : List Value} {k' n' k2 n2 : Nat} {a : Array Value}
    (A : GA K f d k n L M p R s m args meth c H locs cells slots mc ms ls) (hk : k2 + k' ≤ k) (hn : n2 + n' ≤ n)
    (hr : vx_Run5 p (kL K) e R s m args below meth c H locs cells slots k' n' (F0 m pc ls st0) rest (QC K (Kont K f d k2 n2 pc (pc + 5) L rest Q) a) (XC K (Kont K f d k2 n2 pc (pc + 5) L rest Q)) (kO K)) : W p (kL K) e R s m args below meth c H locs cells slots (vx_MQ below (QC K Q) (XC K Q) args s mc ms (kO K)) (F0 m pc ls st0) := by
  obtain ⟨hC, ⟨r1, r2, r3, r4, r5, r6⟩, hH, hS0, hL⟩ := id A
  intro T hT X
  rcases hr T hT X with ⟨v, st₀, t, T', Lx, h0, X', hLx, e1, e2, ⟨r, M', hrv, hH', hF, hQ⟩, stp⟩ | ⟨q, st₀, t, T', Lx, E, ce, h0, X', hLx, e1, e2, ⟨M', hH', hF, hQ⟩, hce, hcv, hcl, stp⟩
  · cases hrv
    obtain ⟨k1, k2', k3⟩ := vx_keep h0 e1 hS0 (fun _ _ h => h) (fun _ h => h) hLx hF
    have hal : s.vm.Alike t.vm := by rw [← e2]; exact X'.warmed.alike
    have A' : GA K f d k2 n2 L M' p R s m args meth c T'.heap (locs ++ Lx) (cells + k') (slots + n') mc ms ls := ⟨hC, ⟨r1, r2, r3, r4, by omega, by omega⟩, by rw [e1]; exact hH'.moved hal.symm, k3, hL⟩
    cases v with
    | none =>
      obtain ⟨t2, a1, b1⟩ := (show Go K f d k2 n2 (pc + 5) L rest M' Q from hQ) (e := e) (below := below) A' T' rfl X'
      exact ⟨t2, stp t2 a1, b1⟩
    | some v =>
      obtain ⟨t2, a1, b1⟩ := (show Go K f d k2 n2 (pc + 5) L (v :: rest) M' Q from hQ) (e := e) (below := below) A' T' rfl X'
      exact ⟨t2, stp t2 a1, b1⟩
  · obtain ⟨k1, k2', k3⟩ := vx_keep h0 e1 hS0 (fun _ _ h => h) (fun _ h => h) hLx hF
    have hal : s.vm.Alike t.vm := by rw [← e2]; exact X'.warmed.alike
    have A' : GA K f d k2 n2 L M' p R s m args meth c T'.heap (locs ++ Lx) (cells + k') (slots + n') mc ms ls := ⟨hC, ⟨r1, r2, r3, r4, by omega, by omega⟩, by rw [e1]; exact hH'.moved hal.symm, k3, hL⟩
    obtain ⟨t2, a1, b1⟩ := (show GoX K f d k2 n2 pc L M' E Q from hQ) (e := e) (below := below) (rest := rest) A' (by rw [e1]; exact hce) hcv hcl T' rfl X'
    exact ⟨t2, stp.trans a1, b1⟩
/-- what every call shows of its start -/
theorem g_pre {p : Program} {R : Room} {s : State} {m : MethodId} {args : Array Value} {meth : Method} {c : Code} {H : Heap} {locs : List Loc} {cells slots mc ms : Nat} {ls : Array Slot} {As : List Value} (A : GA K f d k n L M p R s m args meth c H locs cells slots mc ms ls) : ∀ U : State, U.heap = H → s.WarmedH U.vm → PCt K As M As.toArray U :=
  fun U hU hW => ⟨rfl, by rw [hU]; exact A.2.2.1.moved hW.alike, A.1.2.2.2.2.2.2.2.2.2.moved hW (fun q h1 h2 => by rw [hU]; exact A.2.2.2.1.2.1 q h1 h2)⟩
theorem g_callS (As : List Value) (k2 n2 : Nat) {f' : FI} {y : MethodName} {np ix d' k' n' : Nat} {L' : List (Option Value)} {rest st0 : List Value} (hdg : decode (fC f) pc = .ok (.invokestatic ix, 3)) (hm : MS y f' np) (hl : Cond.methodLink (fO f) ix y ∈ lw_all) (hs : Cond.static y ∈ lw_all) (hnp : As.length = np) (hst : st0 = As.reverse ++ rest) (hrest : (rest.map fun v => v.category).sum ≤ 8) (hA : ArgL As (fL f') L') (hd : d' + 1 ≤ d) (hk : k2 + k' ≤ k) (hn : n2 + n' ≤ n)
    (h : Go K f' d' k' n' 0 L' [] M (Kont K f d k2 n2 pc (pc + 3) L rest Q)) : Go K f d k n pc L st0 M Q := by
  intro p e R s m args below meth c H locs cells slots mc ms ls A
  obtain ⟨⟨c1, c2, c3, c4, c5, c6, c7, c8, c9, c10⟩, ⟨r1, r2, r3, r4, r5, r6⟩, hH, hS0, hL⟩ := id A
  obtain ⟨⟨m1, m2, m3, m4⟩, m5, m6, m7, -⟩ := id hm
  exact g_after A hk hn (l := kL K) (vx_runS (own := fO f) (As := As) ⟨c1, c2, c5, c6, c7⟩ (h.met hm hA) (va_cwS np c7 (lw_S hl hs m7 m6) rfl rfl rfl m5 ⟨by show d' + 1 ≤ R.frames; omega, by show 8 + (fL f' + 11) + 100 * d' ≤ R.locals; omega⟩) ⟨pct_blind, g_pre A⟩ rfl hnp hL.1 hst (by show 2 * 0 + _ ≤ 8; omega) hdg ⟨by show cells + k' ≤ R.cells; omega, by show slots + n' ≤ R.slots; omega⟩)
theorem g_callV (As : List Value) (k2 n2 : Nat) {f' : FI} {y : MethodName} {np ix d' k' n' ci b : Nat} {r : vw_C} {L' : List (Option Value)} {rest st0 : List Value} (hdg : decode (fC f) pc = .ok (.invokevirtual ix, 3)) (hm : MS y f' np) (hl : Cond.methodLink (fO f) ix y ∈ lw_all) (hi : Cond.instanceMethod y ∈ lw_all) (hse : Cond.selects y.cls y y ∈ lw_all) (hci : clS[ci]? = some r) (hr : r.1 = y.cls) (ht : mT M b = some (.inl ci)) (hnp : As.length = np) (hst : st0 = As.reverse ++ .ref b :: rest) (hrest : (rest.map fun v => v.category).sum ≤ 8) (hA : ArgL (.ref b :: As) (fL f') L') (hd : d' + 1 ≤ d) (hk : k2 + k' ≤ k) (hn : n2 + n' ≤ n)
    (h : Go K f' d' k' n' 0 L' [] M (Kont K f d k2 n2 pc (pc + 3) L rest Q)) : Go K f d k n pc L st0 M Q := by
  intro p e R s m args below meth c H locs cells slots mc ms ls A
  obtain ⟨⟨c1, c2, c3, c4, c5, c6, c7, c8, c9, c10⟩, ⟨r1, r2, r3, r4, r5, r6⟩, hH, hS0, hL⟩ := id A
  obtain ⟨⟨m1, m2, m3, m4⟩, m5, m6, m7, -⟩ := id hm
  have hrv := g_recv c10 hH ht hci
  rw [hr] at hrv
  exact g_after A hk hn (l := kL K) (vx_runV (own := fO f) (C := y.cls) (As := As) ⟨c1, c2, c5, c6, c7⟩ (h.met hm hA) (cwV np c7 (lw_V hl hi hse m7 m6) rfl rfl rfl ⟨rfl, m5⟩ ⟨by show d' + 1 ≤ R.frames; omega, by show 8 + (fL f' + 11) + 100 * d' ≤ R.locals; omega⟩) ⟨pct_blind, hrv, g_pre A⟩ rfl hnp hL.1 hst (by show 2 * 0 + _ ≤ 8; omega) hdg ⟨by show cells + k' ≤ R.cells; omega, by show slots + n' ≤ R.slots; omega⟩)
theorem g_callI (As : List Value) (k2 n2 : Nat) {f' : FI} {y : MethodName} {np ix d' k' n' b : Nat} {L' : List (Option Value)} {rest st0 : List Value} (hdg : decode (fC f) pc = .ok (.invokespecial ix, 3)) (hm : MS y f' np) (hl : Cond.methodLink (fO f) ix y ∈ lw_all) (hi : Cond.instanceMethod y ∈ lw_all) (hy : y.name = "<init>") (hret : fR f' = none) (hnp : As.length = np) (hst : st0 = As.reverse ++ .ref b :: rest) (hrest : (rest.map fun v => v.category).sum ≤ 8) (hA : ArgL (.ref b :: As) (fL f') L') (hd : d' + 1 ≤ d) (hk : k2 + k' ≤ k) (hn : n2 + n' ≤ n)
    (h : Go K f' d' k' n' 0 L' [] M (Kont K f d k2 n2 pc (pc + 3) L rest Q)) : Go K f d k n pc L st0 M Q := by
  intro p e R s m args below meth c H locs cells slots mc ms ls A
  obtain ⟨⟨c1, c2, c3, c4, c5, c6, c7, c8, c9, c10⟩, ⟨r1, r2, r3, r4, r5, r6⟩, hH, hS0, hL⟩ := id A
  obtain ⟨⟨m1, m2, m3, m4⟩, m5, m6, m7, -⟩ := id hm
  have hM := h.met hm hA
  rw [hret] at hM m6
  exact g_after A hk hn (l := kL K) (vx_runI (own := fO f) (As := As) ⟨c1, c2, c5, c6, c7⟩ hM (cwI np c7 (lw_meth m6) rfl rfl rfl (c7 _ m7) (c7 _ hl) (c7 _ hi) hy m5 ⟨by show d' + 1 ≤ R.frames; omega, by show 8 + (fL f' + 11) + 100 * d' ≤ R.locals; omega⟩) ⟨pct_blind, g_pre A⟩ rfl hnp hL.1 hst (by show 2 * 0 + _ ≤ 8; omega) hdg ⟨by show cells + k' ≤ R.cells; omega, by show slots + n' ≤ R.slots; omega⟩)
theorem g_callF (As : List Value) (k2 n2 : Nat) {f' : FI} {x y : MethodName} {C : String} {np ix cnt d' k' n' ci b : Nat} {r : vw_C} {L' : List (Option Value)} {rest st0 : List Value} (hdg : decode (fC f) pc = .ok (.invokeinterface ix cnt, 5)) (hm : MS y f' np) (hl : Cond.methodLink (fO f) ix x ∈ lw_all) (hi : Cond.instanceMethod y ∈ lw_all) (hse : Cond.selects C x y ∈ lw_all) (hF : (C, x, y) ∈ fwS) (hx : (parseMethodDescriptor x.desc).map (fun d => d.parameters.length) = some np) (hci : clS[ci]? = some r) (hr : r.1 = C) (ht : mT M b = some (.inl ci)) (hnp : As.length = np) (hst : st0 = As.reverse ++ .ref b :: rest) (hrest : (rest.map fun v => v.category).sum ≤ 8) (hA : ArgL (.ref b :: As) (fL f') L') (hd : d' + 1 ≤ d) (hk : k2 + k' ≤ k) (hn : n2 + n' ≤ n)
    (h : Go K f' d' k' n' 0 L' [] M (Kont K f d k2 n2 pc (pc + 5) L rest Q)) : Go K f d k n pc L st0 M Q := by
  intro p e R s m args below meth c H locs cells slots mc ms ls A
  obtain ⟨⟨c1, c2, c3, c4, c5, c6, c7, c8, c9, c10⟩, ⟨r1, r2, r3, r4, r5, r6⟩, hH, hS0, hL⟩ := id A
  obtain ⟨⟨m1, m2, m3, m4⟩, m5, m6, m7, -⟩ := id hm
  have hrv := g_recv c10 hH ht hci
  have hat : ClassAt s r.1 ((kD K).1 ci) := (c10.1.1 ci _ hci).2
  subst hr
  have hfw := c10.2.2.2.2.2.2.1 _ hF
  have hok := fwS_ok _ hF
  exact g_after5 A hk hn (l := kL K) (vx_runF (own := fO f) (C := r.1) (As := As) hat ⟨c1, c2, c5, c6, c7⟩ (h.met hm hA) (va_cwF np c7 (lw_app (fun w hw => by
      simp only [List.mem_cons, List.not_mem_nil, or_false] at hw
      rcases hw with e | e | e | e
      · rw [e]; exact hl
      · rw [e]; exact hse
      · rw [e]; exact hi
      · rw [e]; exact m7) (lw_meth m6)) rfl rfl rfl hfw ⟨hok.1, hok.2, hx⟩ ⟨by show d' + 1 ≤ R.frames; omega, by show 8 + (fL f' + 11) + 100 * d' ≤ R.locals; omega⟩) ⟨pct_blind, hrv, g_pre A⟩ rfl hnp hL.1 hst (by show 2 * 0 + _ ≤ 8; omega) hdg ⟨by show cells + k' ≤ R.cells; omega, by show slots + n' ≤ R.slots; omega⟩)
/-- nest mates -/
theorem g_callSN (As : List Value) (k2 n2 : Nat) {f' : FI} {y : MethodName} {host : String} {np ix d' k' n' : Nat} {L' : List (Option Value)} {rest st0 : List Value} (hdg : decode (fC f) pc = .ok (.invokestatic ix, 3)) (hm : MS y f' np) (hl : Cond.methodLinkNest (fO f) ix y host ∈ lw_rd) (hs : Cond.static y ∈ lw_all) (hnp : As.length = np) (hst : st0 = As.reverse ++ rest) (hrest : (rest.map fun v => v.category).sum ≤ 8) (hA : ArgL As (fL f') L') (hd : d' + 1 ≤ d) (hk : k2 + k' ≤ k) (hn : n2 + n' ≤ n)
    (h : Go K f' d' k' n' 0 L' [] M (Kont K f d k2 n2 pc (pc + 3) L rest Q)) : Go K f d k n pc L st0 M Q := by
  intro p e R s m args below meth c H locs cells slots mc ms ls A
  obtain ⟨⟨c1, c2, c3, c4, c5, c6, c7, c8, c9, c10⟩, ⟨r1, r2, r3, r4, r5, r6⟩, hH, hS0, hL⟩ := id A
  obtain ⟨⟨m1, m2, m3, m4⟩, m5, m6, m7, -⟩ := id hm
  exact g_after A hk hn (l := kL K) (vx_runSN (own := fO f) (As := As) (Ts := lw_all) ⟨c1, c2, c5, c6, c7⟩ (h.met hm hA) ⟨va_cnB np c7 (lw_meth m6) rfl rfl rfl (c10.2.1 _ hl) (c7 _ m7) m5 ⟨by show d' + 1 ≤ R.frames; omega, by show 8 + (fL f' + 11) + 100 * d' ≤ R.locals; omega⟩, c7 _ hs, trivial⟩ ⟨pct_blind, g_pre A⟩ rfl hnp hL.1 hst (by show 2 * 0 + _ ≤ 8; omega) hdg ⟨by show cells + k' ≤ R.cells; omega, by show slots + n' ≤ R.slots; omega⟩)
theorem g_callVN (As : List Value) (k2 n2 : Nat) {f' : FI} {y : MethodName} {host : String} {np ix d' k' n' ci b : Nat} {r : vw_C} {L' : List (Option Value)} {rest st0 : List Value} (hdg : decode (fC f) pc = .ok (.invokevirtual ix, 3)) (hm : MS y f' np) (hl : Cond.methodLinkNest (fO f) ix y host ∈ lw_rd) (hi : Cond.instanceMethod y ∈ lw_all) (hse : Cond.selects y.cls y y ∈ lw_all) (hci : clS[ci]? = some r) (hr : r.1 = y.cls) (ht : mT M b = some (.inl ci)) (hnp : As.length = np) (hst : st0 = As.reverse ++ .ref b :: rest) (hrest : (rest.map fun v => v.category).sum ≤ 8) (hA : ArgL (.ref b :: As) (fL f') L') (hd : d' + 1 ≤ d) (hk : k2 + k' ≤ k) (hn : n2 + n' ≤ n)
    (h : Go K f' d' k' n' 0 L' [] M (Kont K f d k2 n2 pc (pc + 3) L rest Q)) : Go K f d k n pc L st0 M Q := by
  intro p e R s m args below meth c H locs cells slots mc ms ls A
  obtain ⟨⟨c1, c2, c3, c4, c5, c6, c7, c8, c9, c10⟩, ⟨r1, r2, r3, r4, r5, r6⟩, hH, hS0, hL⟩ := id A
  obtain ⟨⟨m1, m2, m3, m4⟩, m5, m6, m7, -⟩ := id hm
  have hrv := g_recv c10 hH ht hci
  rw [hr] at hrv
  exact g_after A hk hn (l := kL K) (vx_runVN (own := fO f) (C := y.cls) (As := As) (Ts := lw_all) ⟨c1, c2, c5, c6, c7⟩ (h.met hm hA) ⟨va_cnB np c7 (lw_meth m6) rfl rfl rfl (c10.2.1 _ hl) (c7 _ m7) m5 ⟨by show d' + 1 ≤ R.frames; omega, by show 8 + (fL f' + 11) + 100 * d' ≤ R.locals; omega⟩, c7 _ hi, c7 _ hse⟩ ⟨pct_blind, hrv, g_pre A⟩ rfl hnp hL.1 hst (by show 2 * 0 + _ ≤ 8; omega) hdg ⟨by show cells + k' ≤ R.cells; omega, by show slots + n' ≤ R.slots; omega⟩)
theorem g_callIN (As : List Value) (k2 n2 : Nat) {f' : FI} {y : MethodName} {host : String} {np ix d' k' n' b : Nat} {L' : List (Option Value)} {rest st0 : List Value} (hdg : decode (fC f) pc = .ok (.invokespecial ix, 3)) (hm : MS y f' np) (hl : Cond.methodLinkNest (fO f) ix y host ∈ lw_rd) (hi : Cond.instanceMethod y ∈ lw_all) (hy : y.name = "<init>") (hret : fR f' = none) (hnp : As.length = np) (hst : st0 = As.reverse ++ .ref b :: rest) (hrest : (rest.map fun v => v.category).sum ≤ 8) (hA : ArgL (.ref b :: As) (fL f') L') (hd : d' + 1 ≤ d) (hk : k2 + k' ≤ k) (hn : n2 + n' ≤ n)
    (h : Go K f' d' k' n' 0 L' [] M (Kont K f d k2 n2 pc (pc + 3) L rest Q)) : Go K f d k n pc L st0 M Q := by
  intro p e R s m args below meth c H locs cells slots mc ms ls A
  obtain ⟨⟨c1, c2, c3, c4, c5, c6, c7, c8, c9, c10⟩, ⟨r1, r2, r3, r4, r5, r6⟩, hH, hS0, hL⟩ := id A
  obtain ⟨⟨m1, m2, m3, m4⟩, m5, m6, m7, -⟩ := id hm
  have hM := h.met hm hA
  rw [hret] at hM m6
  exact g_after A hk hn (l := kL K) (vx_runIN (own := fO f) (As := As) (Ts := lw_all) ⟨c1, c2, c5, c6, c7⟩ hM ⟨va_cnB np c7 (lw_meth m6) rfl rfl rfl (c10.2.1 _ hl) (c7 _ m7) m5 ⟨by show d' + 1 ≤ R.frames; omega, by show 8 + (fL f' + 11) + 100 * d' ≤ R.locals; omega⟩, hy, c7 _ hi⟩ ⟨pct_blind, g_pre A⟩ rfl hnp hL.1 hst (by show 2 * 0 + _ ≤ 8; omega) hdg ⟨by show cells + k' ≤ R.cells; omega, by show slots + n' ≤ R.slots; omega⟩)
/-- an inherited method (ab = false), or one that stands for an abstract one of the receiver's superclass (ab = true) -/
theorem g_callU (As : List Value) (k2 n2 : Nat) {f' : FI} {x y : MethodName} {C owner : String} {np ix d' k' n' ci b : Nat} {r : vw_C} {L' : List (Option Value)} {rest st0 : List Value} (hdg : decode (fC f) pc = .ok (.invokevirtual ix, 3)) (hm : MS y f' np) (hl : Cond.methodLink (fO f) ix x ∈ lw_all) (hsm : Cond.sameMethod x.cls owner x.name x.desc ∈ lw_all) (hi : Cond.instanceMethod y ∈ lw_all) (hse : Cond.selects C x y ∈ lw_all) (hab : y = ⟨owner, x.name, x.desc⟩ ∨ Cond.declares ⟨owner, x.name, x.desc⟩ ∈ lw_rd) (hx : owner ≠ "java/lang/invoke/MethodHandle" ∧ owner ≠ "java/lang/invoke/VarHandle" ∧ (parseMethodDescriptor x.desc).map (fun d => d.parameters.length) = some np) (hci : clS[ci]? = some r) (hr : r.1 = C) (ht : mT M b = some (.inl ci)) (hnp : As.length = np) (hst : st0 = As.reverse ++ .ref b :: rest) (hrest : (rest.map fun v => v.category).sum ≤ 8) (hA : ArgL (.ref b :: As) (fL f') L') (hd : d' + 1 ≤ d) (hk : k2 + k' ≤ k) (hn : n2 + n' ≤ n)
    (h : Go K f' d' k' n' 0 L' [] M (Kont K f d k2 n2 pc (pc + 3) L rest Q)) : Go K f d k n pc L st0 M Q := by
  intro p e R s m args below meth c H locs cells slots mc ms ls A
  obtain ⟨⟨c1, c2, c3, c4, c5, c6, c7, c8, c9, c10⟩, ⟨r1, r2, r3, r4, r5, r6⟩, hH, hS0, hL⟩ := id A
  obtain ⟨⟨m1, m2, m3, m4⟩, m5, m6, m7, -⟩ := id hm
  have hrv := g_recv c10 hH ht hci
  rw [hr] at hrv
  have hG : GoodIn lw_all (va_wsU (fO f) ix C owner x y (ws_ y (fC f') (fL f') (fR f'))) := lw_app (fun w hw => by
      simp only [List.mem_cons, List.not_mem_nil, or_false] at hw
      rcases hw with e | e | e | e | e
      · rw [e]; exact hl
      · rw [e]; exact hsm
      · rw [e]; exact hse
      · rw [e]; exact hi
      · rw [e]; exact m7) (lw_meth m6)
  have hRm : d' + 1 ≤ R.frames ∧ 8 + (fL f' + 11) + 100 * d' ≤ R.locals := ⟨by omega, by omega⟩
  have cw : va_CU R s args (fO f) C owner ix x y (fC f') (fL f') (fR f') (ws_ y (fC f') (fL f') (fR f')) { frames := d', cells := k', slots := n', locals := 100 * d' } k' n' np := by
    rcases hab with hab | hab
    · exact va_cwU np c7 hG rfl rfl rfl hab hx hRm
    · exact va_cwA np c7 hG rfl rfl rfl (c10.2.1 _ hab) hx hRm
  exact g_after A hk hn (l := kL K) (vx_runU (own := fO f) (C := C) (As := As) ⟨c1, c2, c5, c6, c7⟩ (h.met hm hA) cw ⟨pct_blind, hrv, g_pre A⟩ rfl hnp hL.1 hst (by show 2 * 0 + _ ≤ 8; omega) hdg ⟨by show cells + k' ≤ R.cells; omega, by show slots + n' ≤ R.slots; omega⟩)
/-! arguments, all of one place each -/
theorem argL_1 {v : Value} {As : List Value} {nL : Nat} (h1 : v.category = 1) (h : ArgL As nL L) : ArgL (v :: As) (nL + 1) (some v :: L) := by
  obtain ⟨a1, rfl⟩ := h
  have e : lg_sl (v :: As) = .val v :: lg_sl As := by simp [lg_sl, h1]
  refine ⟨by rw [e]; simp; exact a1, ?_⟩
  rw [e]
  simp [slO]
theorem argL_2 {v : Value} {As : List Value} {nL : Nat} (h1 : v.category = 2) (h : ArgL As nL L) : ArgL (v :: As) (nL + 2) (some v :: none :: L) := by
  obtain ⟨a1, rfl⟩ := h
  have e : lg_sl (v :: As) = .val v :: .second :: lg_sl As := by simp [lg_sl, h1]
  refine ⟨by rw [e]; simp; omega, ?_⟩
  rw [e]
  simp [slO]
theorem argL_of {As : List Value} {nL nL' : Nat} (e : nL = nL') (h : ArgL As nL L) : ArgL As nL' L := e ▸ h
end GC
