/-! ===== rows that make objects and arrays, and arrays' elements ===== -/
section GI
variable {K : KT} {f : FI} {d k n pc : Nat} {L : List (Option Value)} {st : List Value} {M : Mem} {Q : Res → Mem → Prop}
def d0 (t : FieldType) : Value := match t with
  | .long => .long 0
  | .float => .float 0
  | .double => .double 0
  | .object _ => .null
  | .array _ => .null
  | _ => .int (ii 0)
theorem d0_eq (t : FieldType) : defaultValue t = d0 t := by cases t <;> rfl
/-- 'new' in a method's class: which class -/
def NO (own : String) (ix ci N : Nat) (tf : Nat → FieldType) : Prop := ∃ (C : String) (T : u_T), clS[ci]? = some (C, T, N) ∧ (∀ w ∈ u_ws C T N, w ∈ lw_all) ∧ (∀ k, k < N → parseFieldDescriptor (T k).2.2.1 = some (tf k)) ∧ Cond.classLink own ix C ∈ lw_all ∧ Cond.instantiable C N ∈ lw_all ∧ Cond.initialized C ∈ lw_all
theorem Agr.newN {B : Nat} {M0 M' : Mem} (h : Agr B M0 M) (hB : B ≤ mN M) (h1 : ∀ b, b ≠ mN M → mT M' b = mT M b ∧ (∀ c j, mF M' c j b = mF M c j b) ∧ ∀ i, mE M' b i = mE M b i) : Agr B M0 M' := fun b hb => by
  obtain ⟨g1, g2, g3⟩ := h b hb
  obtain ⟨e1, e2, e3⟩ := h1 b (by omega)
  exact ⟨e1.trans g1, fun c j => (e2 c j).trans (g2 c j), fun i => (e3 i).trans (g3 i)⟩
/-- one more cell -/
theorem Hp.newN {U : State} {H H' : Heap} {M' : Mem} (h : Hp K M U H) (z : H'.size = H.size + 1) (o : ∀ q : Nat, q < H.size → H'[q]? = H[q]?) (hn : mN M' = mN M + 1)
    (h1 : ∀ b, b ≠ mN M → mT M' b = mT M b ∧ (∀ c j, mF M' c j b = mF M c j b) ∧ mE M' b = mE M b)
    (ho : ∀ ci, mT M' (mN M) = some (.inl ci) → OkO K M' H' (mN M) ci) (ha : ∀ ti nn, mT M' (mN M) = some (.inr (ti, nn)) → OkA K M' U H' (mN M) ti nn) : Hp K M' U H' := by
  have hlt : ∀ {b : Nat} {t : Tag}, mT M b = some t → b < H.size := fun q => by rw [← h.1]; exact h.lt q
  obtain ⟨g1, g2, g3, g4, g5, g6⟩ := id h
  refine ⟨by rw [hn, g1, z], by omega, fun b c q => ?_, fun b tj nj q => ?_, g5.newN (by omega) (fun b hb => ⟨(h1 b hb).1, (h1 b hb).2.1, fun i => congrFun (h1 b hb).2.2 i⟩), g6⟩
  · by_cases hb : b = mN M
    · subst hb
      exact ho c q
    · obtain ⟨e1, e2, e3⟩ := h1 b hb
      rw [e1] at q
      obtain ⟨r, cell, q1, q2, q3, q4, q5, q6, q7⟩ := g3 b c q
      exact ⟨r, cell, q1, by rw [o b (hlt q)]; exact q2, q3, q4, q5, q6, fun j hj => by rw [e2]; exact q7 j hj⟩
  · by_cases hb : b = mN M
    · subst hb
      exact ha tj nj q
    · obtain ⟨e1, e2, e3⟩ := h1 b hb
      rw [e1] at q
      obtain ⟨ty, cell, q1, q2, q3⟩ := g4 b tj nj q
      exact ⟨ty, cell, q1, by rw [o b (hlt q)]; exact q2, by rw [e3]; exact q3⟩
theorem g_S1 {s : State} {H H' : Heap} {locs : List Loc} (hS : va_S (kO K) s.heap H locs) (z : H'.size = H.size + 1) (o : ∀ q : Nat, q < H.size → H'[q]? = H[q]?) : va_S (kO K) s.heap H' locs :=
  ⟨Nat.le_trans hS.1 (by omega), fun q h1 h2 => (o q (Nat.lt_of_lt_of_le h1 hS.1)).trans (hS.2.1 q h1 h2), hS.2.2⟩
theorem g_new (pc' k' n' : Nat) {ix ci N : Nat} {tf : Nat → FieldType} (hdg : decode (fC f) pc = .ok (.new ix, 3)) (hp : pc + 3 = pc') (hl : NO (fO f) ix ci N tf) (hk : k' + 1 ≤ k) (hn : n' + N ≤ n) (h : Go K f d k' n' pc' L (.ref (mN M) :: st) (newO M ci (fun j => d0 (tf j))) Q) : Go K f d k n pc L st M Q := by
  subst hp
  intro p e R s m args below meth c H locs cells slots mc ms ls A
  obtain ⟨C, T, l1, l2, l3, l4, l5, l6⟩ := hl
  obtain ⟨⟨c1, c2, c3, c4, c5, c6, c7, c8, c9, c10⟩, ⟨r1, r2, r3, r4, r5, r6⟩, hH, hS0, hL⟩ := id A
  have hKn := c10.1.1 ci _ l1
  refine W.newcK c1 c2 c6 (c7 _ l4) (c7 _ l5) (c7 _ l6) rfl hdg (by omega) (by omega) hKn.2.1 (h := mN M) hH.1.symm fun H1 kC hkC e1 z1 o1 => ?_
  refine h ⟨A.1, ⟨r1, r2, r3, r4, by omega, by omega⟩, ?_, ?_, hL⟩
  · refine hH.newN (by rw [z1, hH.1]) (fun q hq => o1 q (by rw [hH.1]; exact hq)) rfl (fun b hb => ⟨mT_newO_old hb, fun c j => mF_newO_old hb, rfl⟩) (fun cj q => ?_) (fun ti nn q => ?_)
    · rw [mT_newO_new] at q
      cases q
      obtain ⟨cell, b1, b2, b3, b4⟩ := u_born tf c7 l2 hKn hkC e1 l3
      refine ⟨_, cell, l1, b1, b2, by rw [b3]; rfl, (by rw [b3]; exact fun h => by cases h), fun _ => b3, fun j hj => ?_⟩
      rw [mF_newO_new, ← d0_eq]
      exact b4 j hj
    · rw [mT_newO_new] at q
      cases q
  · exact g_S1 hS0 (by rw [z1, hH.1]) (fun q hq => o1 q (by rw [hH.1]; exact hq))
/-- the new object's place is new -/
theorem g_newa_aux {U : State} {H H' : Heap} {ti N : Nat} {ty : FieldType} (hH : Hp K M U H) (hti : ti < 6) (hat : atS[ti]? = some ty) (hA : ArrOfT U (kA K ti) ty) (e1 : H'[mN M]? = some (arrV (kA K ti) N (fun _ => d0 ty))) (z : H'.size = H.size + 1) (o : ∀ q : Nat, q < H.size → H'[q]? = H[q]?) : Hp K (newA M ti N (d0 ty)) U H' := by
  have e : mE (newA M ti N (d0 ty)) (mN M) = fun _ => d0 ty := funext fun i => mE_newA_new
  refine hH.newN z o rfl (fun b hb => ⟨mT_newA_old hb, fun c j => rfl, funext fun i => mE_newA_old hb⟩) (fun cj q => ?_) (fun tj nn q => ?_)
  · rw [mT_newA_new] at q
    cases q
  · rw [mT_newA_new] at q
    cases q
    refine ⟨ty, _, hat, e1, hA N _, rfl, (fun h => by cases h), arrV_size _ _ _, fun i hi => ?_, fun _ => ⟨by rw [e], hti⟩⟩
    rw [arrV_read _ _ hi, e]
theorem g_newarr (pc' k' n' : Nat) {ti N : Nat} {ty : FieldType} {at' : ArrayType} {a : Int} (hdg : decode (fC f) pc = .ok (.newarray at', 2)) (hp : pc + 2 = pc') (hty : newarray.typeOf at' = ty) (hts : (tysS K)[ti]? = some (kA K ti, ty)) (hpr : ∀ (U : State) (cA : ClassId), va_RA U cA ty → U.vm.findClass ("[" ++ ty.toString) = some cA) (hat : atS[ti]? = some ty) (hti : ti < 6) (hq : Cond.arrayClass ty ∈ lw_all) (hcb : componentBytes ty ≤ 8) (ha : 0 ≤ a) (hN : a.toNat = N) (hN2 : N ≤ 1000000) (hk : k' + 1 ≤ k) (hn : n' + N ≤ n)
    (h : Go K f d k' n' pc' L (.ref (mN M) :: st) (newA M ti N (d0 ty)) Q) : Go K f d k n pc L (.int (ii a) :: st) M Q := by
  subst hp; subst hty
  intro p e R s m args below meth c H locs cells slots mc ms ls A
  obtain ⟨⟨c1, c2, c3, c4, c5, c6, c7, c8, c9, c10⟩, ⟨r1, r2, r3, r4, r5, r6⟩, hH, hS0, hL⟩ := id A
  have ha2 : a < 2147483648 := by omega
  have hnn : (ii a).toNatClampNeg = N := by rw [ii_nat ha ha2]; exact hN
  have hneg : ¬ ii a < 0 := fun q => by
    have := (ii_lt (a := a) (b := 0) ⟨by omega, ha2⟩ (by decide)).mp q
    omega
  have hKt := c10.1.2 ti _ hts
  refine va_newaK c1 c2 (c7 _ hq) rfl hdg rfl hneg hnn (by have := Nat.mul_le_mul hN2 hcb; omega) (by omega) (by omega) (h := mN M) hH.1.symm fun H1 cA e1 z1 o1 hAr hNm => ?_
  have ecA : cA = kA K ti := Option.some.inj (hNm.symm.trans (hpr s _ hKt.2))
  subst ecA
  have z2 : H1.size = H.size + 1 := by rw [z1, hH.1]
  have o2 : ∀ q : Nat, q < H.size → H1[q]? = H[q]? := fun q hq => o1 q (by rw [hH.1]; exact hq)
  exact h ⟨A.1, ⟨r1, r2, r3, r4, by omega, by omega⟩, g_newa_aux hH hti hat hKt.1 (by rw [e1, d0_eq]) z2 o2, g_S1 hS0 z2 o2, hL⟩
theorem g_newI (pc' k' n' : Nat) {N : Nat} {a : Int} (hdg : decode (fC f) pc = .ok (.newarray .int, 2)) (hp : pc + 2 = pc') (ha : 0 ≤ a) (hN : a.toNat = N) (hN2 : N ≤ 1000000) (hk : k' + 1 ≤ k) (hn : n' + N ≤ n) (h : Go K f d k' n' pc' L (.ref (mN M) :: st) (newA M 0 N (.int (ii 0))) Q) : Go K f d k n pc L (.int (ii a) :: st) M Q :=
  g_newarr pc' k' n' (ti := 0) (ty := .int) hdg hp rfl rfl (fun _ _ h => h) rfl (by decide) q183 (by decide) ha hN hN2 hk hn h
theorem g_newB (pc' k' n' : Nat) {N : Nat} {a : Int} (hdg : decode (fC f) pc = .ok (.newarray .byte, 2)) (hp : pc + 2 = pc') (ha : 0 ≤ a) (hN : a.toNat = N) (hN2 : N ≤ 1000000) (hk : k' + 1 ≤ k) (hn : n' + N ≤ n) (h : Go K f d k' n' pc' L (.ref (mN M) :: st) (newA M 1 N (.int (ii 0))) Q) : Go K f d k n pc L (.int (ii a) :: st) M Q :=
  g_newarr pc' k' n' (ti := 1) (ty := .byte) hdg hp rfl rfl (fun _ _ h => h) rfl (by decide) q182 (by decide) ha hN hN2 hk hn h
theorem g_newJ (pc' k' n' : Nat) {N : Nat} {a : Int} (hdg : decode (fC f) pc = .ok (.newarray .long, 2)) (hp : pc + 2 = pc') (ha : 0 ≤ a) (hN : a.toNat = N) (hN2 : N ≤ 1000000) (hk : k' + 1 ≤ k) (hn : n' + N ≤ n) (h : Go K f d k' n' pc' L (.ref (mN M) :: st) (newA M 2 N (.long 0)) Q) : Go K f d k n pc L (.int (ii a) :: st) M Q :=
  g_newarr pc' k' n' (ti := 2) (ty := .long) hdg hp rfl rfl (fun _ _ h => h) rfl (by decide) q2970 (by decide) ha hN hN2 hk hn h
theorem g_newR (pc' k' n' : Nat) {ix ti N : Nat} {C : String} {a : Int} (hdg : decode (fC f) pc = .ok (.anewarray ix, 3)) (hp : pc + 3 = pc') (hl : Cond.classLink (fO f) ix C ∈ lw_all) (hti : (ti = 3 ∧ C = "java/lang/Object") ∨ (ti = 4 ∧ C = "PostChaiseYard$Status") ∨ (ti = 5 ∧ C = "java/lang/String")) (ha : 0 ≤ a) (hN : a.toNat = N) (hN2 : N ≤ 1000000) (hk : k' + 1 ≤ k) (hn : n' + N ≤ n)
    (h : Go K f d k' n' pc' L (.ref (mN M) :: st) (newA M ti N .null) Q) : Go K f d k n pc L (.int (ii a) :: st) M Q := by
  subst hp
  intro p e R s m args below meth c H locs cells slots mc ms ls A
  obtain ⟨⟨c1, c2, c3, c4, c5, c6, c7, c8, c9, c10⟩, ⟨r1, r2, r3, r4, r5, r6⟩, hH, hS0, hL⟩ := id A
  have ha2 : a < 2147483648 := by omega
  have hnn : (ii a).toNatClampNeg = N := by rw [ii_nat ha ha2]; exact hN
  have hneg : ¬ ii a < 0 := fun q => by
    have := (ii_lt (a := a) (b := 0) ⟨by omega, ha2⟩ (by decide)).mp q
    omega
  have hover : va_AO C s := by
    rcases hti with ⟨-, rfl⟩ | ⟨-, rfl⟩ | ⟨-, rfl⟩
    · exact c10.2.2.1.1
    · exact c10.2.2.1.2.1
    · exact c10.2.2.1.2.2
  have h6 : ti < 6 := by omega
  have hat : atS[ti]? = some (.object C) := by rcases hti with ⟨rfl, rfl⟩ | ⟨rfl, rfl⟩ | ⟨rfl, rfl⟩ <;> rfl
  have hts : (tysS K)[ti]? = some (kA K ti, .object C) := by rcases hti with ⟨rfl, rfl⟩ | ⟨rfl, rfl⟩ | ⟨rfl, rfl⟩ <;> rfl
  have hKt := c10.1.2 ti _ hts
  refine W.anew c1 c2 c6 (c7 _ hl) (va_AO.use hover) rfl hdg rfl hneg (by rw [hnn]; omega) (by omega) (by rw [hnn]; omega) fun cA kA' comp f1 f2 f3 f4 => ?_
  obtain ⟨kA2, comp2, g1, g2, g3, g4⟩ := hKt.2
  have ecA : cA = kA K ti := Option.some.inj (f1.symm.trans g4)
  subst ecA
  rw [hnn]
  generalize hH1 : H.push ({ cls := kA K ti, slots := Array.replicate N .null, vm := .none } : Cell) = H1
  have z2 : H1.size = H.size + 1 := by rw [← hH1, Array.size_push]
  have o2 : ∀ q : Nat, q < H.size → H1[q]? = H[q]? := fun q hq => by rw [← hH1, Array.getElem?_push, if_neg (Nat.ne_of_lt hq)]
  have e1 : H1[mN M]? = some (arrV (kA K ti) N (fun _ => .null)) := by rw [hH.1, ← hH1, Array.getElem?_push_size, ← arrV_new]
  rw [← hH.1]
  exact h ⟨A.1, ⟨r1, r2, r3, r4, by omega, by omega⟩, g_newa_aux (ty := .object C) hH h6 hat hKt.1 e1 z2 o2, g_S1 hS0 z2 o2, hL⟩
theorem g_alen (pc' : Nat) {a ti nn : Nat} (hdg : decode (fC f) pc = .ok (.arraylength, 1)) (hp : pc + 1 = pc') (ht : mT M a = some (.inr (ti, nn))) (h : Go K f d k n pc' L (.int (ii nn) :: st) M Q) : Go K f d k n pc L (.ref a :: st) M Q := by
  subst hp
  intro p e R s m args below meth c H locs cells slots mc ms ls A
  obtain ⟨ty, cell, g1, g2, g3, g4, g5, g6, g7⟩ := A.2.2.1.2.2.2.1 a ti nn ht
  exact W.alen (n := ii nn) A.1.1 A.1.2.1 g2 g3 (by rw [g6]; rfl) rfl rfl hdg (h A)
theorem ii_in {i : Int} {nn : Nat} (h0 : 0 ≤ i) (h1 : i < nn) (h2 : i < 2147483648) : ¬ (ii i < 0 ∨ nn ≤ (ii i).toNatClampNeg) := by
  rw [ii_nat h0 h2]
  rintro (q | q)
  · have := (ii_lt (a := i) (b := 0) ⟨by omega, h2⟩ (by decide)).mp q
    omega
  · omega
theorem g_iald (pc' : Nat) {a nn : Nat} {i : Int} {v : Value} (hdg : decode (fC f) pc = .ok (.iaload, 1)) (hp : pc + 1 = pc') (ht : mT M a = some (.inr (0, nn))) (h0 : 0 ≤ i) (h1 : i < nn) (h2 : i < 2147483648) (hv : mE M a i.toNat = v) (h : Go K f d k n pc' L (v :: st) M Q) : Go K f d k n pc L (.int (ii i) :: .ref a :: st) M Q := by
  subst hp
  intro p e R s m args below meth c H locs cells slots mc ms ls A
  obtain ⟨ty, cell, g1, g2, g3, g4, g5, g6, g7, g8⟩ := A.2.2.1.2.2.2.1 a 0 nn ht
  cases g1
  exact W.iald (v := v) A.1.1 A.1.2.1 g2 g3 g5 (by rw [g6]; exact ii_in h0 h1 h2) (by rw [ii_nat h0 h2, g7 _ (by omega), hv]) rfl rfl hdg (h A)
theorem g_bald (pc' : Nat) {a nn : Nat} {i : Int} {v : Value} (hdg : decode (fC f) pc = .ok (.baload, 1)) (hp : pc + 1 = pc') (ht : mT M a = some (.inr (1, nn))) (h0 : 0 ≤ i) (h1 : i < nn) (h2 : i < 2147483648) (hv : mE M a i.toNat = v) (h : Go K f d k n pc' L (v :: st) M Q) : Go K f d k n pc L (.int (ii i) :: .ref a :: st) M Q := by
  subst hp
  intro p e R s m args below meth c H locs cells slots mc ms ls A
  obtain ⟨ty, cell, g1, g2, g3, g4, g5, g6, g7, g8⟩ := A.2.2.1.2.2.2.1 a 1 nn ht
  cases g1
  exact W.bald (v := v) A.1.1 A.1.2.1 g2 g3 g5 (by rw [g6]; exact ii_in h0 h1 h2) (by rw [ii_nat h0 h2, g7 _ (by omega), hv]) rfl rfl hdg (h A)
theorem g_lald (pc' : Nat) {a nn : Nat} {i : Int} {v : Value} (hdg : decode (fC f) pc = .ok (.laload, 1)) (hp : pc + 1 = pc') (ht : mT M a = some (.inr (2, nn))) (h0 : 0 ≤ i) (h1 : i < nn) (h2 : i < 2147483648) (hv : mE M a i.toNat = v) (h : Go K f d k n pc' L (v :: st) M Q) : Go K f d k n pc L (.int (ii i) :: .ref a :: st) M Q := by
  subst hp
  intro p e R s m args below meth c H locs cells slots mc ms ls A
  obtain ⟨ty, cell, g1, g2, g3, g4, g5, g6, g7, g8⟩ := A.2.2.1.2.2.2.1 a 2 nn ht
  cases g1
  exact W.lald (v := v) A.1.1 A.1.2.1 g2 g3 g5 (by rw [g6]; exact ii_in h0 h1 h2) (by rw [ii_nat h0 h2, g7 _ (by omega), hv]) rfl rfl hdg (h A)
theorem g_aald (pc' : Nat) {a ti nn : Nat} {i : Int} {v : Value} (hdg : decode (fC f) pc = .ok (.aaload, 1)) (hp : pc + 1 = pc') (ht : mT M a = some (.inr (ti, nn))) (hti : 3 ≤ ti) (h0 : 0 ≤ i) (h1 : i < nn) (h2 : i < 2147483648) (hv : mE M a i.toNat = v) (h : Go K f d k n pc' L (v :: st) M Q) : Go K f d k n pc L (.int (ii i) :: .ref a :: st) M Q := by
  subst hp
  intro p e R s m args below meth c H locs cells slots mc ms ls A
  obtain ⟨ty, cell, g1, g2, g3, g4, g5, g6, g7, g8⟩ := A.2.2.1.2.2.2.1 a ti nn ht
  have hr : ty.isReference = true := by
    have h7 : ti < 7 := (List.getElem?_eq_some_iff.mp g1).1
    rcases (show ti = 3 ∨ ti = 4 ∨ ti = 5 ∨ ti = 6 by omega) with rfl | rfl | rfl | rfl <;> (cases g1; rfl)
  exact W.aald (v := v) A.1.1 A.1.2.1 g2 g3 hr g5 (by rw [g6]; exact ii_in h0 h1 h2) (by rw [ii_nat h0 h2, g7 _ (by omega), hv]) rfl rfl hdg (h A)
theorem OkA.put {U : State} {H H' : Heap} {a ti nn i : Nat} {v : Value} {cell : Cell} {ty : FieldType} (g1 : atS[ti]? = some ty) (g3 : U.isArrayOf cell ty) (g6 : cell.slots.size = nn) (hc : cell = arrV (kA K ti) nn (mE M a)) (hti : ti < 6) (hi : i < nn) (e1 : H'[a]? = some (cell.setSlot i v)) : OkA K (setA M a (fun j => if j = i then v else mE M a j)) U H' a ti nn := by
  subst hc
  have e : mE (setA M a (fun j => if j = i then v else mE M a j)) a = updV (mE M a) i v := funext fun j => if_pos rfl
  rw [arrV_store] at e1
  refine ⟨ty, _, g1, e1, ?_, rfl, (fun h => by cases h), arrV_size _ _ _, fun j hj => ?_, fun _ => ⟨by rw [e], hti⟩⟩
  · obtain ⟨-, kA', hkA, comp, hk⟩ := g3
    exact ⟨(fun k h => by cases h), kA', hkA, comp, hk⟩
  · rw [arrV_read _ _ hj, e]
theorem g_iast (pc' : Nat) {a nn : Nat} {i : Int} {x : Int32} (hdg : decode (fC f) pc = .ok (.iastore, 1)) (hp : pc + 1 = pc') (ht : mT M a = some (.inr (0, nn))) (ha : kB K ≤ a) (h0 : 0 ≤ i) (h1 : i < nn) (h2 : i < 2147483648) (h : Go K f d k n pc' L st (setE M a i.toNat (.int x)) Q) : Go K f d k n pc L (.int x :: .int (ii i) :: .ref a :: st) M Q := by
  subst hp
  rw [setE_setA] at h
  intro p e R s m args below meth c H locs cells slots mc ms ls A
  obtain ⟨hC, hR, hH, hS0, hL⟩ := id A
  obtain ⟨ty, cell, g1, g2, g3, g4, g5, g6, g7, g8⟩ := hH.2.2.2.1 a 0 nn ht
  cases g1
  refine W.iast A.1.1 A.1.2.1 g2 g3 g5 (by rw [g6]; exact ii_in h0 h1 h2) rfl rfl hdg fun H1 e1 z1 o1 => ?_
  rw [ii_nat h0 h2] at e1 ⊢
  exact h ⟨hC, hR, hH.arr ht ha z1 o1 (OkA.put (ty := .int) (H := H) rfl g3 g6 (g8 ha).1 (by decide) (by omega) e1), hS0.put z1 o1 ha, hL⟩
theorem g_last (pc' : Nat) {a nn : Nat} {i : Int} {x : Int64} (hdg : decode (fC f) pc = .ok (.lastore, 1)) (hp : pc + 1 = pc') (ht : mT M a = some (.inr (2, nn))) (ha : kB K ≤ a) (h0 : 0 ≤ i) (h1 : i < nn) (h2 : i < 2147483648) (h : Go K f d k n pc' L st (setE M a i.toNat (.long x)) Q) : Go K f d k n pc L (.long x :: .int (ii i) :: .ref a :: st) M Q := by
  subst hp
  rw [setE_setA] at h
  intro p e R s m args below meth c H locs cells slots mc ms ls A
  obtain ⟨hC, hR, hH, hS0, hL⟩ := id A
  obtain ⟨ty, cell, g1, g2, g3, g4, g5, g6, g7, g8⟩ := hH.2.2.2.1 a 2 nn ht
  cases g1
  refine W.last A.1.1 A.1.2.1 g2 g3 g5 (by rw [g6]; exact ii_in h0 h1 h2) rfl rfl hdg fun H1 e1 z1 o1 => ?_
  rw [ii_nat h0 h2] at e1 ⊢
  exact h ⟨hC, hR, hH.arr ht ha z1 o1 (OkA.put (ty := .long) (H := H) rfl g3 g6 (g8 ha).1 (by decide) (by omega) e1), hS0.put z1 o1 ha, hL⟩
theorem g_bast (pc' : Nat) {a nn : Nat} {i : Int} {x y : Int32} (hdg : decode (fC f) pc = .ok (.bastore, 1)) (hp : pc + 1 = pc') (ht : mT M a = some (.inr (1, nn))) (ha : kB K ≤ a) (h0 : 0 ≤ i) (h1 : i < nn) (h2 : i < 2147483648) (hx : x.toInt8.toInt32 = y) (h : Go K f d k n pc' L st (setE M a i.toNat (.int y)) Q) : Go K f d k n pc L (.int x :: .int (ii i) :: .ref a :: st) M Q := by
  subst hp
  rw [setE_setA] at h
  intro p e R s m args below meth c H locs cells slots mc ms ls A
  obtain ⟨hC, hR, hH, hS0, hL⟩ := id A
  obtain ⟨ty, cell, g1, g2, g3, g4, g5, g6, g7, g8⟩ := hH.2.2.2.1 a 1 nn ht
  cases g1
  refine W.bast A.1.1 A.1.2.1 g2 g3 g5 (by rw [g6]; exact ii_in h0 h1 h2) rfl rfl hdg fun H1 e1 z1 o1 => ?_
  rw [ii_nat h0 h2] at e1 ⊢
  have hn : narrow .byte (.int x) = .int y := by rw [← hx]; rfl
  rw [hn] at e1
  exact h ⟨hC, hR, hH.arr ht ha z1 o1 (OkA.put (ty := .byte) (H := H) rfl g3 g6 (g8 ha).1 (by decide) (by omega) e1), hS0.put z1 o1 ha, hL⟩
/-- an object of class cj may stand in an array of kind ti -/
def ASG (cj ti : Nat) : Prop := ∃ (r : vw_C) (E : String), clS[cj]? = some r ∧ atS[ti]? = some (.object E) ∧ (r.1 = E ∨ Cond.castable r.1 E ∈ lw_rd)
theorem ASG.use {s : State} {cj ti : Nat} {comp : ClassId} {E : String} (h : ASG cj ti) (hK : Kn K s) (hE : atS[ti]? = some (.object E)) (hc : s.vm.findClass E = some comp) : s.vm.assignable ((kD K).1 cj) comp = true ∧ ∃ kv, s.vm.classes[(kD K).1 cj]? = some kv := by
  obtain ⟨r, E', h1, h2, h3⟩ := h
  cases hE.symm.trans h2
  obtain ⟨-, hfc, kC, hkC, -⟩ := hK.1.1 cj r h1
  refine ⟨?_, kC, hkC⟩
  rcases h3 with h3 | h3
  · rw [h3] at hfc
    cases hfc.symm.trans hc
    exact va_asg _ _
  · obtain ⟨c0, t0, f1, f2, f3⟩ := Cond.castable_spec (va_Nw.use (A := #[]) rfl (hK.2.1 _ h3))
    cases hfc.symm.trans f1
    cases hc.symm.trans f2
    exact f3
theorem g_aast (pc' : Nat) {a ti nn x cj : Nat} {i : Int} (hdg : decode (fC f) pc = .ok (.aastore, 1)) (hp : pc + 1 = pc') (ht : mT M a = some (.inr (ti, nn))) (ha : kB K ≤ a) (h0 : 0 ≤ i) (h1 : i < nn) (h2 : i < 2147483648) (hx : mT M x = some (.inl cj)) (hg : ASG cj ti) (h : Go K f d k n pc' L st (setE M a i.toNat (.ref x)) Q) : Go K f d k n pc L (.ref x :: .int (ii i) :: .ref a :: st) M Q := by
  subst hp
  rw [setE_setA] at h
  intro p e R s m args below meth c H locs cells slots mc ms ls A
  obtain ⟨hC, hR, hH, hS0, hL⟩ := id A
  obtain ⟨ty, cell, g1, g2, g3, g4, g5, g6, g7, g8⟩ := hH.2.2.2.1 a ti nn ht
  obtain ⟨r, cv, o1, o2, o3, o4, o5, o6, o7⟩ := hH.2.2.1 x cj hx
  obtain ⟨r', E, q1, q2, q3⟩ := id hg
  cases g1.symm.trans q2
  have hts : (tysS K)[ti]? = some (kA K ti, .object E) := by
    have h6 := (g8 ha).2
    rcases (show ti = 0 ∨ ti = 1 ∨ ti = 2 ∨ ti = 3 ∨ ti = 4 ∨ ti = 5 by omega) with rfl | rfl | rfl | rfl | rfl | rfl <;> cases q2 <;> rfl
  obtain ⟨kA', comp, k1, k2, k3, k4⟩ := (hC.2.2.2.2.2.2.2.2.2.1.2 ti _ hts).2
  obtain ⟨as1, kv, as2⟩ := hg.use hC.2.2.2.2.2.2.2.2.2 q2 k3
  obtain ⟨kE, hkE, -⟩ := Vm.findClass_spec k3
  have hcl : cell.cls = kA K ti := by rw [(g8 ha).1]; rfl
  have hin := ii_in h0 h1 h2
  refine W.aast A.1.1 A.1.2.1 g2 (fun q hq => by rw [hq] at g4; cases g4) g5 (by rw [hcl]; exact k1) k2 rfl hkE ⟨fun q => hin (Or.inl q), by rw [g6]; exact Nat.not_le.mp fun q => hin (Or.inr q)⟩ o2 (fun q hq => by rw [hq] at o4; cases o4) (by rw [o3]; exact as2) (by rw [o3]; exact as1) rfl rfl hdg fun H1 e1 z1 o1 => ?_
  rw [ii_nat h0 h2] at e1 ⊢
  exact h ⟨hC, hR, hH.arr ht ha z1 o1 (OkA.put (H := H) g1 g3 g6 (g8 ha).1 (g8 ha).2 (by omega) e1), hS0.put z1 o1 ha, hL⟩
theorem g_aastN (pc' : Nat) {a ti nn : Nat} {i : Int} (hdg : decode (fC f) pc = .ok (.aastore, 1)) (hp : pc + 1 = pc') (ht : mT M a = some (.inr (ti, nn))) (hti : 3 ≤ ti) (ha : kB K ≤ a) (h0 : 0 ≤ i) (h1 : i < nn) (h2 : i < 2147483648) (h : Go K f d k n pc' L st (setE M a i.toNat .null) Q) : Go K f d k n pc L (.null :: .int (ii i) :: .ref a :: st) M Q := by
  subst hp
  rw [setE_setA] at h
  intro p e R s m args below meth c H locs cells slots mc ms ls A
  obtain ⟨hC, hR, hH, hS0, hL⟩ := id A
  obtain ⟨ty, cell, g1, g2, g3, g4, g5, g6, g7, g8⟩ := hH.2.2.2.1 a ti nn ht
  have hty : ∃ E, ty = .object E := by
    have h7 : ti < 7 := (List.getElem?_eq_some_iff.mp g1).1
    rcases (show ti = 3 ∨ ti = 4 ∨ ti = 5 ∨ ti = 6 by omega) with rfl | rfl | rfl | rfl <;> (cases g1; exact ⟨_, rfl⟩)
  obtain ⟨E, rfl⟩ := hty
  refine va_WaastN A.1.1 A.1.2.1 g2 g3 g5 (by rw [g6]; exact ii_in h0 h1 h2) rfl rfl hdg fun H1 e1 z1 o1 => ?_
  rw [ii_nat h0 h2] at e1 ⊢
  exact h ⟨hC, hR, hH.arr ht ha z1 o1 (OkA.put (H := H) g1 g3 g6 (g8 ha).1 (g8 ha).2 (by omega) e1), hS0.put z1 o1 ha, hL⟩
/-! casts -/
theorem g_recv {s : State} {H : Heap} {a ci : Nat} {r : vw_C} (hK : Kn K s) (hH : Hp K M s H) (ht : mT M a = some (.inl ci)) (hc : clS[ci]? = some r) : ∃ cell : Cell, H[a]? = some cell ∧ cell.vm.isStatics = false ∧ s.vm.findClass r.1 = some cell.cls := by
  obtain ⟨r', cv, o1, o2, o3, o4, o5, o6, o7⟩ := hH.2.2.1 a ci ht
  cases o1.symm.trans hc
  exact ⟨cv, o2, o4, by rw [o3]; exact (hK.1.1 ci _ hc).2.1⟩
def CK (own : String) (ix ci : Nat) : Prop := ∃ (r : vw_C) (nm : String), clS[ci]? = some r ∧ Cond.classLink own ix nm ∈ lw_all ∧ (r.1 = nm ∨ Cond.castable r.1 nm ∈ lw_rd)
theorem g_cast (pc' : Nat) {ix a ci : Nat} (hdg : decode (fC f) pc = .ok (.checkcast ix, 3)) (hp : pc + 3 = pc') (hc : CK (fO f) ix ci) (ht : mT M a = some (.inl ci)) (h : Go K f d k n pc' L (.ref a :: st) M Q) : Go K f d k n pc L (.ref a :: st) M Q := by
  subst hp
  intro p e R s m args below meth c H locs cells slots mc ms ls A
  obtain ⟨r, nm, q1, q2, q3⟩ := hc
  obtain ⟨c1, c2, c3, c4, c5, c6, c7, c8, c9, c10⟩ := A.1
  have hr := g_recv c10 A.2.2.1 ht q1
  rcases q3 with q3 | q3
  · rw [q3] at hr
    exact va_castE c1 c2 c6 (c7 _ q2) hr hdg (h A)
  · exact va_castY c1 c2 c6 (c7 _ q2) (c10.2.1 _ q3) hr hdg (h A)
theorem g_castN (pc' : Nat) {ix : Nat} (hdg : decode (fC f) pc = .ok (.checkcast ix, 3)) (hp : pc + 3 = pc') (h : Go K f d k n pc' L (.null :: st) M Q) : Go K f d k n pc L (.null :: st) M Q := by
  subst hp
  intro p e R s m args below meth c H locs cells slots mc ms ls A
  exact lv_castN A.1.1 A.1.2.1 hdg (h A)
theorem g_instY (pc' : Nat) {ix a ci : Nat} (hdg : decode (fC f) pc = .ok (.instanceof ix, 3)) (hp : pc + 3 = pc') (hc : CK (fO f) ix ci) (ht : mT M a = some (.inl ci)) (h : Go K f d k n pc' L (.int (ii 1) :: st) M Q) : Go K f d k n pc L (.ref a :: st) M Q := by
  subst hp
  intro p e R s m args below meth c H locs cells slots mc ms ls A
  obtain ⟨r, nm, q1, q2, q3⟩ := hc
  obtain ⟨c1, c2, c3, c4, c5, c6, c7, c8, c9, c10⟩ := A.1
  have hr := g_recv c10 A.2.2.1 ht q1
  rcases q3 with q3 | q3
  · rw [q3] at hr
    exact va_instE c1 c2 c6 (c7 _ q2) hr hdg (h A)
  · exact va_instY c1 c2 c6 (c7 _ q2) (c10.2.1 _ q3) hr hdg (h A)
theorem g_objInit (pc' : Nat) {ix a : Nat} (hdg : decode (fC f) pc = .ok (.invokespecial ix, 3)) (hp : pc + 3 = pc') (hq : Cond.methodLink (fO f) ix Lib.objectInit ∈ lw_all) (hi : Cond.instanceMethod Lib.objectInit ∈ lw_all) (hc : Cond.code Lib.objectInit ⟨#[0xb1]⟩ 1 none ∈ lw_all) (hd : 1 ≤ d) (hst : (st.map fun v => v.category).sum ≤ 8) (h : Go K f d k n pc' L st M Q) : Go K f d k n pc L (.ref a :: st) M Q := by
  subst hp
  intro p e R s m args below meth c H locs cells slots mc ms ls A
  obtain ⟨⟨c1, c2, c3, c4, c5, c6, c7, c8, c9, c10⟩, ⟨r1, r2, -⟩, hH, hS0, hL⟩ := id A
  exact W.objInit c1 c2 c6 (c7 _ hq) (c7 _ hi) (c7 _ hc) (g := F0 m pc ls (.ref a :: st)) rfl (by rw [c5]; exact hL.1) rfl hdg (by omega) (by show 2 * 0 + _ + 12 ≤ _; omega) (h A)
end GI
