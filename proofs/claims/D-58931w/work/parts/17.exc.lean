/-! ===== exceptions thrown and caught; methods with handlers; clones; a superinterface's method ===== -/
section GX
variable {K : KT} {f : FI} {d k n pc : Nat} {L : List (Option Value)} {st : List Value} {M : Mem} {Q : Res → Mem → Prop}
theorem Hp.more {s U : State} {H H' : Heap} (h : Hp K M s H) (ha : s.vm.Alike U.vm) (z : H.size ≤ H'.size) (o : ∀ q : Nat, q < H.size → H'[q]? = H[q]?) : Hp K (more M H'.size) U H' := by
  have h0 := h.moved ha
  obtain ⟨h1, h2, h3, h4, h5, h6⟩ := id h0
  have hlt : ∀ {b : Nat} {t : Tag}, mT M b = some t → b < H.size := fun q => by rw [← h1]; exact h0.lt q
  refine ⟨rfl, by omega, fun a ci q => ?_, fun a ti nn q => ?_, h5, h6⟩
  · obtain ⟨r, cell, q1, q2, q3⟩ := h3 a ci q
    exact ⟨r, cell, q1, by rw [o a (hlt q)]; exact q2, q3⟩
  · obtain ⟨ty, cell, q1, q2, q3⟩ := h4 a ti nn q
    exact ⟨ty, cell, q1, by rw [o a (hlt q)]; exact q2, q3⟩
def exN : List String := ["java/lang/RuntimeException", "java/lang/Exception"]
/-- 'throw new E()' in a method's class: its entries -/
def THR (own E : String) (ik ic : Nat) : Prop := (Bundle.fit E = true ∧ Cond.classLink own ik E ∈ lw_all ∧ Cond.initialized E ∈ lw_all ∧ (∀ w ∈ (vx_at0 own ic E exN).filter goodWord, w ∈ lw_all) ∧ (∀ w ∈ (vx_at0 own ic E exN).filter (fun w => !goodWord w), w ∈ lw_rd)) ∧ ∀ w ∈ Cond.classLink own ik E :: Cond.initialized E :: vx_at0 own ic E exN, vx_ot w = true
theorem g_throw {ik ic : Nat} {E : String} (d0 : decode (fC f) pc = .ok (.new ik, 3)) (d3 : decode (fC f) (pc + 3) = .ok (.dup, 1)) (d4 : decode (fC f) (pc + 4) = .ok (.invokespecial ic, 3)) (d7 : decode (fC f) (pc + 7) = .ok (.athrow, 1)) (hT : THR (fO f) E ik ic) (hh : fH f = []) (hst : st.length ≤ 4) (hd : 6 ≤ d) (hk : 1 ≤ k) (hn : 6 ≤ n) (hQ : ∀ j, mN M ≤ j → Q (.inr E) (more M j)) : Go K f d k n pc L st M Q := by
  intro p e R s m args below meth c H locs cells slots mc ms ls A
  obtain ⟨⟨c1, c2, c3, c4, c5, c6, c7, c8, c9, c10⟩, ⟨r1, r2, r3, r4, r5, r6⟩, hH, hS0, hL⟩ := id A
  obtain ⟨⟨t1, t2, t3, t4, t5⟩, t6⟩ := hT
  have hc0 := cat8 hst
  have hat : ∀ w ∈ vx_at0 (fO f) ic E exN, w.before args s = true := fun w hw => by
    by_cases g : goodWord w = true
    · exact c7 _ (t4 w (List.mem_filter.mpr ⟨hw, g⟩))
    · have h1 := t5 w (List.mem_filter.mpr ⟨hw, by simpa using g⟩)
      have h2 := (List.mem_filter.mp h1).2
      have h3 := c10.2.1 _ h1
      cases w <;> simp only [rideW, Bool.false_eq_true] at h2
      all_goals exact va_Nw.use rfl h3
  refine vx_throw0 (A := kO K) c1 c2 (show (kL K).stackTraces = false from hH.2.2.2.2.2.2.2.2.2.2.2.2.2.2.2) c6 t1 (by decide) (c7 _ t2) (c7 _ t3) hat t6 c10.2.2.2.2.1.1 c10.2.2.2.2.1.2 hS0 (hL.1.trans c5.symm) d0 d3 d4 d7 (fun x hx => by rw [c9, hh] at hx; cases hx) (by show 2 + 3 < _; omega) (by show _ + (13 * 3 + 42) ≤ _; omega) (by omega) (by omega) c4 (fun t hal hz ho => ?_) hS0.2.2 (by omega) (by omega)
  refine ⟨more M t.heap.size, hH.more hal hz ho, ⟨Nat.le_trans hS0.1 hz, fun q q1 q2 => by rw [ho q (Nat.lt_of_lt_of_le q1 hS0.1)]; exact hS0.2.1 q q1 q2⟩, hQ _ (by rw [hH.1]; exact hz)⟩
/-- a handler of this frame's takes it -/
theorem g_catch {E name : String} (pre : List (Nat × Nat × Nat × Nat)) (x : Nat × Nat × Nat × Nat) (suf : List (Nat × Nat × Nat × Nat)) (hsplit : fH f = pre ++ x :: suf) (hpass : ∀ z ∈ pre, z.2.2.2 ≠ 0 ∧ ∃ nm : String, Cond.classLink (fO f) z.2.2.2 nm ∈ lw_all ∧ (E, nm) ∈ ncS) (hx : covers ⟨x.1, x.2.1, x.2.2.1, x.2.2.2⟩ pc = true) (h0 : x.2.2.2 ≠ 0) (hlink : Cond.classLink (fO f) x.2.2.2 name ∈ lw_all) (hcast : Cond.castable E name ∈ lw_rd) (h : ∀ q, Go K f d k n x.2.2.1 L [.ref q] M Q) : GoX K f d k n pc L M E Q := by
  intro p e R s m args below meth c H locs cells slots mc ms ls rest ce q A hce hcv hcl
  obtain ⟨⟨c1, c2, c3, c4, c5, c6, c7, c8, c9, c10⟩, hR, hH, hS0, hL⟩ := id A
  refine vx_catch (name := name) c6 (tableOf pre) ⟨x.1, x.2.1, x.2.2.1, x.2.2.2⟩ (tableOf suf) (by rw [c9, hsplit]; simp [tableOf]) (fun z hz => ?_) hx h0 (c7 _ hlink) (va_Nw.use rfl (c10.2.1 _ hcast)) hce hcv hcl (h q A)
  obtain ⟨y, hy, rfl⟩ := List.mem_map.mp hz
  obtain ⟨g1, nm, g2, g3⟩ := hpass y hy
  exact Or.inr ⟨g1, nm, c7 _ g2, c10.2.2.2.2.2.1 _ g3⟩
/-- a method with handlers -/
def MSW (y : MethodName) (f : FI) (np : Nat) : Prop := (y.cls = fO f ∧ y.name = fN f ∧ plainName y.cls = true ∧ fL f ≤ 60) ∧ (y.cls ≠ "java/lang/invoke/MethodHandle" ∧ y.cls ≠ "java/lang/invoke/VarHandle" ∧ (parseMethodDescriptor y.desc).map (fun d => d.parameters.length) = some np) ∧ Cond.codeWith y (fC f) (fL f) (fR f) (fH f) ∈ lw_all ∧ Cond.initialized y.cls ∈ lw_all
theorem Go.metW {y : MethodName} {np : Nat} {As : List Value} (hm : MSW y f np) (hA : ArgL As (fL f) L) (h : Go K f d k n 0 L [] M Q) : vx_Met (kL K) y (wsW_ y (fC f) (fL f) (fR f) (fH f)) { frames := d, cells := k, slots := n, locals := 100 * d } (PCt K As M) (QC K Q) (XC K Q) k n (kO K) := by
  obtain ⟨⟨m1, m2, m3, m4⟩, -, m5, -⟩ := hm
  refine vx_ofWH (cc := fC f) (maxL := fL f) (ret := fR f) (hh := fH f) m3 rfl ?_
  intro p e s m args below meth c s₁ B hml hv
  obtain ⟨rfl, hH, hKn⟩ := hv
  have hts := atoms_spec (ws := wsW_ y (fC f) (fL f) (fR f) (fH f)) B.pre
  rw [lg_entry_eq]
  refine h ⟨⟨B.exec, B.bytes, B.returns, B.notSynchronized, hml, ?_, fun w h => hts w (List.mem_cons_of_mem _ h), ?_, ?_, hKn⟩, ⟨Nat.le_refl _, Nat.le_refl _, Nat.le_refl _, Nat.le_refl _, by omega, by omega⟩, hH, va_S.rf, hA.lv⟩
  · rw [← m1]; exact findClass_of_methodNamed B.named
  · rw [← m2]; exact (name_of_methodNamed B.named B.method).1
  · exact vx_table (x := y) B (hts _ List.mem_cons_self)
theorem g_callSW (As : List Value) (k2 n2 : Nat) {f' : FI} {y : MethodName} {np ix d' k' n' : Nat} {L' : List (Option Value)} {rest st0 : List Value} (hdg : decode (fC f) pc = .ok (.invokestatic ix, 3)) (hm : MSW y f' np) (hl : Cond.methodLink (fO f) ix y ∈ lw_all) (hs : Cond.static y ∈ lw_all) (hnp : As.length = np) (hst : st0 = As.reverse ++ rest) (hrest : (rest.map fun v => v.category).sum ≤ 8) (hA : ArgL As (fL f') L') (hd : d' + 1 ≤ d) (hk : k2 + k' ≤ k) (hn : n2 + n' ≤ n)
    (h : Go K f' d' k' n' 0 L' [] M (Kont K f d k2 n2 pc (pc + 3) L rest Q)) : Go K f d k n pc L st0 M Q := by
  intro p e R s m args below meth c H locs cells slots mc ms ls A
  obtain ⟨⟨c1, c2, c3, c4, c5, c6, c7, c8, c9, c10⟩, ⟨r1, r2, r3, r4, r5, r6⟩, hH, hS0, hL⟩ := id A
  obtain ⟨⟨m1, m2, m3, m4⟩, m5, m6, m7⟩ := id hm
  exact g_after A hk hn (l := kL K) (vx_runSX (own := fO f) (As := As) ⟨c1, c2, c5, c6, c7⟩ (h.metW hm hA) (vx_cwSW np c7 (lw_SW hl hs m7 m6) rfl rfl rfl m5 ⟨by show d' + 1 ≤ R.frames; omega, by show 8 + (fL f' + 11) + 100 * d' ≤ R.locals; omega⟩) ⟨pct_blind, g_pre A⟩ rfl hnp hL.1 hst (by show 2 * 0 + _ ≤ 8; omega) hdg ⟨by show cells + k' ≤ R.cells; omega, by show slots + n' ≤ R.slots; omega⟩)
/-- an interface's superinterface's method -/
theorem g_callFU (As : List Value) (k2 n2 : Nat) {f' : FI} {x y : MethodName} {C J : String} {np ix cnt d' k' n' ci b : Nat} {r : vw_C} {L' : List (Option Value)} {rest st0 : List Value} (hdg : decode (fC f) pc = .ok (.invokeinterface ix cnt, 5)) (hm : MS y f' np) (hi : Cond.instanceMethod y ∈ lw_all) (hse : Cond.selects C ⟨J, x.name, x.desc⟩ y ∈ lw_all) (hF : (fO f, ix, x, J, y, C) ∈ fuS) (hx : (parseMethodDescriptor x.desc).map (fun d => d.parameters.length) = some np) (hci : clS[ci]? = some r) (hr : r.1 = C) (ht : mT M b = some (.inl ci)) (hnp : As.length = np) (hst : st0 = As.reverse ++ .ref b :: rest) (hrest : (rest.map fun v => v.category).sum ≤ 8) (hA : ArgL (.ref b :: As) (fL f') L') (hd : d' + 1 ≤ d) (hk : k2 + k' ≤ k) (hn : n2 + n' ≤ n)
    (h : Go K f' d' k' n' 0 L' [] M (Kont K f d k2 n2 pc (pc + 5) L rest Q)) : Go K f d k n pc L st0 M Q := by
  intro p e R s m args below meth c H locs cells slots mc ms ls A
  obtain ⟨⟨c1, c2, c3, c4, c5, c6, c7, c8, c9, c10⟩, ⟨r1, r2, r3, r4, r5, r6⟩, hH, hS0, hL⟩ := id A
  obtain ⟨⟨m1, m2, m3, m4⟩, m5, m6, m7, -⟩ := id hm
  obtain ⟨u1, u2, u3, u4, u5, u6, u7⟩ := c10.2.2.2.2.2.2.2.2.2 _ hF
  obtain ⟨cellB, hcB, hoB, hclB⟩ := g_recv c10 hH ht hci
  obtain ⟨-, hfc, kB, hkB, -⟩ := c10.1.1 ci _ hci
  rw [hr] at hclB hfc
  have ecls : cellB.cls = (kD K).1 ci := Option.some.inj (hclB.symm.trans hfc)
  have hne : x.cls ≠ J ∧ (x.cls ≠ "java/lang/invoke/MethodHandle" ∧ x.cls ≠ "java/lang/invoke/VarHandle") ∧ (J ≠ "java/lang/invoke/MethodHandle" ∧ J ≠ "java/lang/invoke/VarHandle") := by
    have : ∀ q ∈ fuS, q.2.2.1.cls ≠ q.2.2.2.1 ∧ (q.2.2.1.cls ≠ "java/lang/invoke/MethodHandle" ∧ q.2.2.1.cls ≠ "java/lang/invoke/VarHandle") ∧ (q.2.2.2.1 ≠ "java/lang/invoke/MethodHandle" ∧ q.2.2.2.1 ≠ "java/lang/invoke/VarHandle") := by decide +kernel
    exact this _ hF
  have hM := h.met hm hA
  have hws : GoodIn lw_all (ws_ y (fC f') (fL f') (fR f')) := lw_meth m6
  have hK : vx_Back (kL K) R p e below s args y 5 8 (PreOf R k' n' (PCt K (.ref b :: As) M)) (PostOf (QC K (Kont K f d k2 n2 pc (pc + 5) L rest Q)) k' n' (kO K)) (vx_Post (XC K (Kont K f d k2 n2 pc (pc + 5) L rest Q)) k' n' (kO K)) :=
    vx_back (bytes := fC f') (maxL := fL f') (ret := fR f') hM pct_blind rfl rfl (by show d' + 1 ≤ R.frames; omega) (by show 8 + (fL f' + 11) + 100 * d' ≤ R.locals; omega) (pay_in c7 hws) List.mem_cons_self (fun a' U hW => word_at hW (Or.inl (by first | rfl | simp [Cond.onTables, Cond.keeps, Cond.steady])) (c7 _ m7))
  refine g_after5 A hk hn (l := kL K) (rest := rest) (a := (Value.ref b :: As).toArray) ?_
  intro T hT X
  rcases vx_callIU X c1 (C := C) (J := J) (bytes := fC f') (maxL := fL f') (ret := fR f') c6 (va_Nw.use rfl u1) (va_Nw.use rfl u3) (va_Nw.use rfl u2) (va_Nw.use rfl u4) (c7 _ hse) (c7 _ hi) (va_Nw.use rfl u5) (va_Nw.use rfl u6) (va_Nw.use rfl u7) (c7 _ m6) hne.1 hne.2.1 hne.2.2 hK (by rw [hT]; exact hcB) hoB hclB (by rw [ecls]; exact hkB) (g := F0 m pc ls st0) rfl (hL.1.trans c5.symm) (argsL := As) (rest := rest) (fun sig hs => by
      rw [hs] at hx
      rw [hnp]
      exact (Option.some.inj hx).symm) hst (by show 2 * 0 + _ ≤ 8; omega) (by rw [c2]; exact hdg)
    (fun vm₁ hW₁ => ⟨by show cells + k' ≤ R.cells; omega, by show slots + n' ≤ R.slots; omega, g_pre A (T.setVm vm₁) hT hW₁⟩) with ⟨v, vm₁, ⟨U', l2, c2', s2⟩, hW₁, X', ⟨g', mk, t, Lx, e1, e2, hq, h1, hLx, h2, h3⟩, stp⟩ | ⟨q, vm₁, ⟨U', l2, c2', s2⟩, hW₁, X', ⟨g', mk, t, Lx, E, ce, e1, e2, hq, hce, hcv, hcl, h1, hLx, h2, h3⟩, stp⟩
  · dsimp only [Pt.U, Pt.locs, Pt.cells, Pt.slots] at X' e1 e2 h1 h2 h3 stp
    subst h1; subst h2; subst h3
    exact Or.inl ⟨v, (T.setVm vm₁).calling g' mk (Value.ref b :: As).toArray, t, U', Lx, hT, X', hLx, e1, e2, hq, stp⟩
  · dsimp only [Pt.U, Pt.locs, Pt.cells, Pt.slots] at X' e1 e2 h1 h2 h3 stp hcl
    subst h1; subst h2; subst h3
    exact Or.inr ⟨q, (T.setVm vm₁).calling g' mk (Value.ref b :: As).toArray, t, U', Lx, E, ce, hT, X', hLx, e1, e2, hq, hce, hcv, vx_cls hW₁ hcl, stp⟩
/-- the clone of an int array of ours; its cast -/
theorem g_cloneI (pc' k' n' : Nat) {ix a N : Nat} (hdg : decode (fC f) pc = .ok (.invokevirtual ix, 3)) (hp : pc + 3 = pc') (hl : Cond.methodLink (fO f) ix ⟨"[I", "clone", "()Ljava/lang/Object;"⟩ ∈ lw_all) (ht : mT M a = some (.inr (0, N))) (hb : kB K ≤ a) (hv : ∀ i, i < N → ∃ x, mE M a i = .int x) (hd : 1 ≤ d) (hst : st.length ≤ 4) (hk : k' + 1 ≤ k) (hn : n' + N ≤ n)
    (h : Go K f d k' n' pc' L (.ref (mN M) :: st) (setA (newA M 0 N (.int (ii 0))) (mN M) (mE M a)) Q) : Go K f d k n pc L (.ref a :: st) M Q := by
  subst hp
  intro p e R s m args below meth c H locs cells slots mc ms ls A
  obtain ⟨⟨c1, c2, c3, c4, c5, c6, c7, c8, c9, c10⟩, ⟨r1, r2, r3, r4, r5, r6⟩, hH, hS0, hL⟩ := id A
  obtain ⟨ty0, cell0, g1, g2, g3, g4, g5, g6, g7, g8⟩ := hH.2.2.2.1 a 0 N ht
  cases g1
  obtain ⟨e0, -⟩ := g8 hb
  subst e0
  have hnm : s.vm.findClass "[I" = some (kA K 0) := (c10.1.2 0 _ rfl).2
  obtain ⟨c0, t0', f1, f2, f3⟩ := Cond.castable_spec (va_Nw.use (A := args) rfl (c10.2.1 _ (lw_rdi q1634 rfl)))
  cases hnm.symm.trans f1
  have hc0 := cat8 hst
  intro T hT X
  obtain ⟨-, kA', hkA, comp, hkind⟩ := State.isArrayOf_alike X.warmed.alike g3
  obtain ⟨-, kS, hkS, compS, hkindS⟩ := id g3
  obtain ⟨vm', X', stp⟩ := X.cloneArray c1 c6 (c7 _ hl) (c7 _ q1632) (c7 _ q1229) (c7 _ q1230) (c7 _ q1633) (a := a) (cell := arrV (kA K 0) N (mE M a)) (by rw [hT]; exact g2) (fun k h => by cases h) (fun h => by cases h) hnm f2 f3
    (fun i v hv' => by
      have hk' : T.vm.classes[kA K 0]? = some kA' := hkA
      have : fits .int v = true := by
        by_cases hi : i < N
        · rw [arrV_read _ _ hi] at hv'
          obtain ⟨x, hx⟩ := hv i hi
          cases hv'
          rw [hx]; rfl
        · rw [Array.getElem?_eq_none (by rw [arrV_size]; omega)] at hv'
          cases hv'
      simpa [State.fitsSlot, State.slotType?, arrV, hk', hkind] using this)
    (g := F0 m pc ls (.ref a :: st)) rfl (by rw [c5]; exact hL.1) rfl (by rw [c2]; exact hdg) (by omega) (by show 2 * 0 + _ + 14 ≤ _; omega) (by omega) (by rw [arrV_size]; omega) (hloader := Vm.clonesLoader_of_array hkS hkindS)
  rw [arrV_size] at X'
  have hcellE : ({ cls := (arrV (kA K 0) N (mE M a)).cls, slots := (arrV (kA K 0) N (mE M a)).slots } : Cell) = arrV (kA K 0) N (mE M a) := rfl
  rw [hcellE] at X' stp
  generalize hH1 : H.push (arrV (kA K 0) N (mE M a)) = H1
  have z1 : H1.size = H.size + 1 := by rw [← hH1, Array.size_push]
  have e1 : H1[mN M]? = some (arrV (kA K 0) N (mE M a)) := by rw [hH.1, ← hH1, Array.getElem?_push_size]
  have o1 : ∀ q : Nat, q < H.size → H1[q]? = H[q]? := fun q hq => by rw [← hH1, Array.getElem?_push, if_neg (Nat.ne_of_lt hq)]
  have eM : mE (setA (newA M 0 N (.int (ii 0))) (mN M) (mE M a)) (mN M) = mE M a := funext fun i => if_pos rfl
  have hHp : Hp K (setA (newA M 0 N (.int (ii 0))) (mN M) (mE M a)) s H1 := by
    refine hH.newN z1 o1 rfl (fun b hb' => ⟨(mT_setA).trans (mT_newA_old (v := .int (ii 0)) hb'), fun c j => rfl, funext fun i => by rw [mE_setA, if_neg hb', mE_newA_old hb']⟩) (fun cj q => ?_) (fun tj nn q => ?_)
    · rw [mT_setA, mT_newA_new] at q
      cases q
    · rw [mT_setA, mT_newA_new] at q
      cases q
      exact ⟨.int, _, rfl, e1, (c10.1.2 0 _ rfl).1 N _, rfl, (fun h => by cases h), arrV_size _ _ _, fun i hi => by rw [arrV_read _ _ hi, eM], fun _ => ⟨by rw [eM], by decide⟩⟩
  have hheap : (T.setVm vm').heap = H := hT
  obtain ⟨t, b1, b2⟩ := h ⟨A.1, ⟨r1, r2, r3, r4, by omega, by omega⟩, hHp, g_S1 hS0 z1 o1, hL⟩ _ (by rw [← hH1, ← hT]; rfl) X'
  refine ⟨t, stp t ?_, b2⟩
  rw [hH.1, ← hT] at b1
  exact b1
theorem g_castI (pc' : Nat) {ix a N : Nat} (hdg : decode (fC f) pc = .ok (.checkcast ix, 3)) (hp : pc + 3 = pc') (hl : Cond.classLink (fO f) ix "[I" ∈ lw_all) (ht : mT M a = some (.inr (0, N))) (hb : kB K ≤ a) (h : Go K f d k n pc' L (.ref a :: st) M Q) : Go K f d k n pc L (.ref a :: st) M Q := by
  subst hp
  intro p e R s m args below meth c H locs cells slots mc ms ls A
  obtain ⟨c1, c2, c3, c4, c5, c6, c7, c8, c9, c10⟩ := A.1
  obtain ⟨ty0, cell0, g1, g2, g3, g4, g5, g6, g7, g8⟩ := A.2.2.1.2.2.2.1 a 0 N ht
  obtain ⟨e0, -⟩ := g8 hb
  exact va_castE c1 c2 c6 (c7 _ hl) ⟨cell0, g2, g4, by rw [e0]; exact (c10.1.2 0 _ rfl).2⟩ hdg (h A)
end GX
theorem thr_X1_69 : THR "PostChaiseYard" "java/lang/IllegalArgumentException" 69 71 := by
  refine ⟨⟨by decide +kernel, by decide +kernel, by decide +kernel, by decide +kernel, by decide +kernel⟩, by decide +kernel⟩
theorem thr_X1_66 : THR "PostChaiseYard" "java/lang/IndexOutOfBoundsException" 66 68 := by
  refine ⟨⟨by decide +kernel, by decide +kernel, by decide +kernel, by decide +kernel, by decide +kernel⟩, by decide +kernel⟩
theorem thr_X1_72 : THR "PostChaiseYard" "java/lang/IllegalStateException" 72 74 := by
  refine ⟨⟨by decide +kernel, by decide +kernel, by decide +kernel, by decide +kernel, by decide +kernel⟩, by decide +kernel⟩
theorem thr_X1_75 : THR "PostChaiseYard" "java/util/NoSuchElementException" 75 77 := by
  refine ⟨⟨by decide +kernel, by decide +kernel, by decide +kernel, by decide +kernel, by decide +kernel⟩, by decide +kernel⟩
