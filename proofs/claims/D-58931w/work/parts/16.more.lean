/-! ===== natives: copies, class objects, clones; calls by an interface's superinterface ===== -/
section GM
variable {K : KT} {f : FI} {d k n pc : Nat} {L : List (Option Value)} {st : List Value} {M : Mem} {Q : Res → Mem → Prop}
theorem ii_nn {z : Int} (h0 : 0 ≤ z) (h1 : z < 2147483648) : (ii z).toInt = ((ii z).toNatClampNeg : Int) ∧ (ii z).toNatClampNeg = z.toNat ∧ ¬ ii z < 0 := by
  have e := ii_nat h0 h1
  refine ⟨?_, e, fun q => ?_⟩
  · rw [e, ii_toInt ⟨by omega, h1⟩]; omega
  · have := (ii_lt (a := z) (b := 0) ⟨by omega, h1⟩ (by decide)).mp q
    omega
/-- a copy between two arrays of ours of one kind -/
theorem g_copy0 (pc' : Nat) {ix a0 a ti n0 n1 : Nat} {ty : FieldType} {sp dp nn : Int} (hdg : decode (fC f) pc = .ok (.invokestatic ix, 3)) (hp : pc + 3 = pc') (hl : Cond.methodLink (fO f) ix arraycopyName ∈ lw_all) (ht0 : mT M a0 = some (.inr (ti, n0))) (ht1 : mT M a = some (.inr (ti, n1))) (hb0 : kB K ≤ a0) (hb1 : kB K ≤ a) (hat : atS[ti]? = some ty)
    (h1 : 0 ≤ sp) (h2 : 0 ≤ dp) (h3 : 0 ≤ nn) (h4 : sp + nn ≤ n0) (h5 : dp + nn ≤ n1) (h6 : n0 ≤ 1000000000) (h7 : n1 ≤ 1000000000)
    (hv : ∀ (s : State) (H : Heap), Kn K s → Hp K M s H → ∀ (cA : Class) (comp : ClassId), s.vm.classes[kA K ti]? = some cA → cA.kind = .array comp ty → ∀ (T : State) (vm' : Vm), T.heap = H → s.vm.Alike vm' → ∀ i : Nat, i < nn.toNat → fits ty (mE M a0 (sp.toNat + i)) = true ∧ (T.setVm vm').takes comp (mE M a0 (sp.toNat + i)))
    (hd : 1 ≤ d) (hst : st.length ≤ 4) (h : Go K f d k n pc' L st (setA M a (va_cpy (mE M a0) (mE M a) sp.toNat dp.toNat nn.toNat)) Q) : Go K f d k n pc L (.int (ii nn) :: .int (ii dp) :: .ref a :: .int (ii sp) :: .ref a0 :: st) M Q := by
  subst hp
  intro p e R s m args below meth c H locs cells slots mc ms ls A
  obtain ⟨⟨c1, c2, c3, c4, c5, c6, c7, c8, c9, c10⟩, ⟨r1, r2, r3, r4, r5, r6⟩, hH, hS0, hL⟩ := id A
  obtain ⟨ty0, cell0, g1, g2, g3, g4, g5, g6, g7, g8⟩ := hH.2.2.2.1 a0 ti n0 ht0
  obtain ⟨ty1, cell1, f1, f2, f3, f4, f5, f6, f7, f8⟩ := hH.2.2.2.1 a ti n1 ht1
  cases g1.symm.trans hat
  cases f1.symm.trans hat
  obtain ⟨e0, hti⟩ := g8 hb0
  obtain ⟨e1, -⟩ := f8 hb1
  have S1 := ii_nn h1 (by omega)
  have S2 := ii_nn h2 (by omega)
  have S3 := ii_nn h3 (by omega)
  intro T hT X
  obtain ⟨-, k0, hk0, cm0, hkk0⟩ := id g3
  obtain ⟨-, k1, hk1, cm1, hkk1⟩ := id f3
  subst e0
  subst e1
  obtain ⟨vm', X', step⟩ := X.arraycopy c1 c6 (c7 _ hl) (c7 _ q485) (c7 _ q484) (c7 _ q94) (src := a0) (dst := a) (srcPos := ii sp) (destPos := ii dp) (n := ii nn) (by rw [hT]; exact g2) (by rw [hT]; exact f2)
    (fun _ h => by cases h) (fun _ h => by cases h) (fun h => by cases h) (fun h => by cases h) hk0 hk1 hkk0 hkk1 (by cases refKind ty <;> simp) S1.2.2 S2.2.2 S3.2.2
    (by rw [S1.1, S3.1, S1.2.1, S3.2.1, g6]; omega) (by rw [S2.1, S3.1, S2.2.1, S3.2.1, f6]; omega)
    (fun vm₁ hal i hi => by
      rw [S3.2.1] at hi
      rw [S1.2.1, Array.getD_eq_getD_getElem?, g7 _ (by omega)]
      exact hv s H c10 hH _ _ hk1 hkk1 T vm₁ hT hal i hi)
    (g := F0 m pc ls (.int (ii nn) :: .int (ii dp) :: .ref a :: .int (ii sp) :: .ref a0 :: st)) rfl (by rw [c5]; exact hL.1) (rest := st) rfl (by rw [c2]; exact hdg) (by omega) (by
      have := cat8 hst
      show 2 * 0 + _ + _ ≤ _
      have hw : nativeFrameWords "java/lang/System" "arraycopy" 5 ≤ 20 := by decide
      omega)
  have ec : copied (arrV (kA K ti) n0 (mE M a0)) (arrV (kA K ti) n1 (mE M a)) (ii sp) (ii dp) (ii nn) = arrV (kA K ti) n1 (va_cpy (mE M a0) (mE M a) sp.toNat dp.toNat nn.toNat) := by
    have := va_copied (fun z => z) (kA K ti) (kA K ti) (n0 := n0) (n1 := n1) (sp := sp.toNat) (dp := dp.toNat) (n := nn.toNat) (mE M a0) (mE M a) (by omega)
    show Cell.storeRun _ (ii dp).toNatClampNeg (Cell.stretch _ (ii sp).toNatClampNeg (ii nn).toNatClampNeg) = _
    rw [S1.2.1, S2.2.1, S3.2.1]
    exact this
  rw [ec] at X' step
  have hl' : a < H.size := (Array.getElem?_eq_some_iff.mp f2).1
  have hheap : ((T.setVm vm').setCell a (arrV (kA K ti) n1 (va_cpy (mE M a0) (mE M a) sp.toNat dp.toNat nn.toNat))).heap = H.setIfInBounds a (arrV (kA K ti) n1 (va_cpy (mE M a0) (mE M a) sp.toNat dp.toNat nn.toNat)) := by rw [← hT]; rfl
  generalize hG : va_cpy (mE M a0) (mE M a) sp.toNat dp.toNat nn.toNat = G at *
  have e1 : (H.setIfInBounds a (arrV (kA K ti) n1 G))[a]? = some (arrV (kA K ti) n1 G) := by simp [Array.getElem?_setIfInBounds, hl']
  have z1 : (H.setIfInBounds a (arrV (kA K ti) n1 G)).size = H.size := by simp
  have oq : ∀ q : Nat, q ≠ a → (H.setIfInBounds a (arrV (kA K ti) n1 G))[q]? = H[q]? := fun q hq => by simp [Array.getElem?_setIfInBounds, Ne.symm hq]
  have eE : mE (setA M a G) a = G := funext fun j => if_pos rfl
  have hHp : Hp K (setA M a G) s (H.setIfInBounds a (arrV (kA K ti) n1 G)) := hH.arr ht1 hb1 z1 oq ⟨ty, _, hat, e1, by
      obtain ⟨-, kA', hkA, comp, hk⟩ := f3
      exact ⟨(fun k h => by cases h), kA', hkA, comp, hk⟩, rfl, (fun h => by cases h), arrV_size _ _ _, fun i hi => by rw [arrV_read _ _ hi, eE], fun _ => ⟨by rw [eE], hti⟩⟩
  have hSn : va_S (kO K) s.heap (H.setIfInBounds a (arrV (kA K ti) n1 G)) (locs ++ ((arrV (kA K ti) n0 (mE M a0)).stretch (ii sp).toNatClampNeg (ii nn).toNatClampNeg).zipIdx.map fun q => (⟨a, (ii dp).toNatClampNeg + q.2⟩ : Loc)) := by
    refine ⟨by rw [z1]; exact hS0.1, fun q q1 q2 => ?_, fun q hq => ?_⟩
    · have : q ≠ a := fun e => q2 (by rw [e]; exact hb1)
      rw [oq q this]
      exact hS0.2.1 q q1 q2
    · rcases List.mem_append.mp hq with h | h
      · exact hS0.2.2 q h
      · obtain ⟨z, -, hz⟩ := List.mem_map.mp h
        rw [← hz]
        exact hb1
  obtain ⟨t, a1, b1⟩ := h ⟨⟨c1, c2, c3, c4, c5, c6, c7, c8, c9, c10⟩, ⟨r1, r2, r3, r4, r5, r6⟩, hHp, hSn, hL⟩ _ hheap X'
  exact ⟨t, step t a1, b1⟩
/-- references -/
theorem g_copyR (pc' : Nat) {ix a0 a ti n0 n1 : Nat} {sp dp nn : Int} (hdg : decode (fC f) pc = .ok (.invokestatic ix, 3)) (hp : pc + 3 = pc') (hl : Cond.methodLink (fO f) ix arraycopyName ∈ lw_all) (ht0 : mT M a0 = some (.inr (ti, n0))) (ht1 : mT M a = some (.inr (ti, n1))) (hb0 : kB K ≤ a0) (hb1 : kB K ≤ a) (hti : ti = 3 ∨ ti = 4)
    (h1 : 0 ≤ sp) (h2 : 0 ≤ dp) (h3 : 0 ≤ nn) (h4 : sp + nn ≤ n0) (h5 : dp + nn ≤ n1) (h6 : n0 ≤ 1000000000) (h7 : n1 ≤ 1000000000)
    (hv : ∀ i : Nat, i < nn.toNat → mE M a0 (sp.toNat + i) = .null ∨ ∃ y cj, mE M a0 (sp.toNat + i) = .ref y ∧ mT M y = some (.inl cj) ∧ ASG cj ti)
    (hd : 1 ≤ d) (hst : st.length ≤ 4) (h : Go K f d k n pc' L st (setA M a (va_cpy (mE M a0) (mE M a) sp.toNat dp.toNat nn.toNat)) Q) : Go K f d k n pc L (.int (ii nn) :: .int (ii dp) :: .ref a :: .int (ii sp) :: .ref a0 :: st) M Q := by
  obtain ⟨E, hat⟩ : ∃ E, atS[ti]? = some (.object E) := by rcases hti with rfl | rfl <;> exact ⟨_, rfl⟩
  refine g_copy0 pc' hdg hp hl ht0 ht1 hb0 hb1 hat h1 h2 h3 h4 h5 h6 h7 (fun s H hK hH cA comp k1 k2 T vm' hT hal i hi => ?_) hd hst h
  rcases hv i hi with e | ⟨y, cj, e, ty, hg⟩
  · rw [e]; exact ⟨rfl, trivial⟩
  · rw [e]
    obtain ⟨r, cv, o1, o2, o3, o4, o5, o6, o7⟩ := hH.2.2.1 y cj ty
    have hts : (tysS K)[ti]? = some (kA K ti, .object E) := by rcases hti with rfl | rfl <;> cases hat <;> rfl
    obtain ⟨kA', comp', k1', k2', k3, k4⟩ := (hK.1.2 ti _ hts).2
    cases k1.symm.trans k1'
    cases k2.symm.trans k2'
    obtain ⟨as1, kv, as2⟩ := hg.use hK hat k3
    obtain ⟨kE, hkE, -⟩ := Vm.findClass_spec k3
    obtain ⟨kC', hkC', -⟩ := hal.2.2 _ _ as2
    obtain ⟨kE', hkE', -⟩ := hal.2.2 _ _ hkE
    refine ⟨rfl, cv, (show T.heap[y]? = some cv by rw [hT]; exact o2), (fun q h => by rw [h] at o4; cases o4), ⟨kC', by rw [o3]; exact hkC'⟩, ⟨kE', hkE'⟩, ?_⟩
    show vm'.assignable _ _ = true
    rw [hal.assignable, o3]
    exact as1
/-- bytes -/
theorem g_copyB (pc' : Nat) {ix a0 a n0 n1 : Nat} {sp dp nn : Int} (hdg : decode (fC f) pc = .ok (.invokestatic ix, 3)) (hp : pc + 3 = pc') (hl : Cond.methodLink (fO f) ix arraycopyName ∈ lw_all) (ht0 : mT M a0 = some (.inr (1, n0))) (ht1 : mT M a = some (.inr (1, n1))) (hb0 : kB K ≤ a0) (hb1 : kB K ≤ a)
    (h1 : 0 ≤ sp) (h2 : 0 ≤ dp) (h3 : 0 ≤ nn) (h4 : sp + nn ≤ n0) (h5 : dp + nn ≤ n1) (h6 : n0 ≤ 1000000000) (h7 : n1 ≤ 1000000000)
    (hv : ∀ i : Nat, i < nn.toNat → fits .byte (mE M a0 (sp.toNat + i)) = true)
    (hd : 1 ≤ d) (hst : st.length ≤ 4) (h : Go K f d k n pc' L st (setA M a (va_cpy (mE M a0) (mE M a) sp.toNat dp.toNat nn.toNat)) Q) : Go K f d k n pc L (.int (ii nn) :: .int (ii dp) :: .ref a :: .int (ii sp) :: .ref a0 :: st) M Q := by
  refine g_copy0 pc' hdg hp hl ht0 ht1 hb0 hb1 (ty := .byte) rfl h1 h2 h3 h4 h5 h6 h7 (fun s H hK hH cA comp k1 k2 T vm' hT hal i hi => ⟨hv i hi, ?_⟩) hd hst h
  have := hv i hi
  cases e : mE M a0 (sp.toNat + i) with
  | int x => exact trivial
  | _ => rw [e] at this; simp [fits] at this
/-- getClass() of an Object array of ours; its class constant -/
theorem g_getC (pc' : Nat) {ix a n0 : Nat} (hdg : decode (fC f) pc = .ok (.invokevirtual ix, 3)) (hp : pc + 3 = pc') (hl : Cond.methodLink (fO f) ix ⟨"java/lang/Object", "getClass", "()Ljava/lang/Class;"⟩ ∈ lw_all) (ht : mT M a = some (.inr (3, n0))) (hb : kB K ≤ a) (hd : 1 ≤ d) (hst : st.length ≤ 4) (h : Go K f d k n pc' L (.ref (kC K 7) :: st) M Q) : Go K f d k n pc L (.ref a :: st) M Q := by
  subst hp
  intro p e R s m args below meth c H locs cells slots mc ms ls A
  obtain ⟨⟨c1, c2, c3, c4, c5, c6, c7, c8, c9, c10⟩, ⟨r1, r2, r3, r4, r5, r6⟩, hH, hS0, hL⟩ := id A
  obtain ⟨ty0, cell0, g1, g2, g3, g4, g5, g6, g7, g8⟩ := hH.2.2.2.1 a 3 n0 ht
  cases g1
  have e0 := (g8 hb).1
  have hnm : s.vm.findClass "[Ljava/lang/Object;" = some (kA K 3) := va_nmO (c10.1.2 3 _ rfl).2 rfl
  refine va_getC c1 c2 (by rw [c5]; exact hL.1.symm) c6 (c7 _ hl) (c10.2.2.2.2.2.2.2.2.1.1.use) (c7 _ q3024) (c7 _ q442) (c7 _ q474) c10.2.2.2.2.2.2.2.2.1.2 ⟨cell0, g2, g4, by rw [e0]; exact hnm⟩ (by omega) (by have := cat8 hst; omega) hdg (h A)
theorem g_ldcM (pc' : Nat) {ix : Nat} (hdg : decode (fC f) pc = .ok (.ldc ix, 2)) (hp : pc + 2 = pc') (hl : Cond.classLink (fO f) ix "[Ljava/lang/Object;" ∈ lw_all) (h : Go K f d k n pc' L (.ref (kC K 7) :: st) M Q) : Go K f d k n pc L st M Q := by
  subst hp
  intro p e R s m args below meth c H locs cells slots mc ms ls A
  obtain ⟨c1, c2, c3, c4, c5, c6, c7, c8, c9, c10⟩ := A.1
  exact va_ldcM c1 c2 c6 (c7 _ hl) c10.2.2.2.2.2.2.2.2.1.2 hdg (h A)
end GM
