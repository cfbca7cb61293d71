/-! ===== rows that read and write the memory ===== -/
section GH
variable {K : KT} {f : FI} {d k n pc : Nat} {L : List (Option Value)} {st : List Value} {M : Mem} {Q : Res → Mem → Prop}
theorem Hp.obj {s U : State} {H H' : Heap} {a ci kf : Nat} {v : Value} (h : Hp K M U H) (ht : mT M a = some (.inl ci)) (ha : kB K ≤ a) (z : H'.size = H.size) (o : ∀ q : Nat, q ≠ a → H'[q]? = H[q]?) (hc : OkO K (setF M ci kf a v) H' a ci) : Hp K (setF M ci kf a v) U H' := by
  obtain ⟨h1, h2, h3, h4, h5, h6⟩ := h
  refine ⟨h1.trans z.symm, by rw [z]; exact h2, fun b c q => ?_, fun b ti nn q => ?_, fun b hb => ?_, h6⟩
  · by_cases hba : b = a
    · subst hba
      have e : c = ci := by
        have := ht.symm.trans q
        cases this; rfl
      subst e
      exact hc
    · obtain ⟨r, cell, g1, g2, g3⟩ := h3 b c q
      refine ⟨r, cell, g1, by rw [o b hba]; exact g2, g3.1, g3.2.1, g3.2.2.1, g3.2.2.2.1, fun j hj => ?_⟩
      rw [mF_setF_a hba]
      exact g3.2.2.2.2 j hj
  · have hba : b ≠ a := fun e => by
      subst e
      have := ht.symm.trans q
      cases this
    obtain ⟨ty, cell, g1, g2, g3⟩ := h4 b ti nn q
    exact ⟨ty, cell, g1, by rw [o b hba]; exact g2, g3⟩
  · obtain ⟨g1, g2, g3⟩ := h5 b hb
    exact ⟨g1, fun c j => by rw [mF_setF_a (by omega)]; exact g2 c j, g3⟩
theorem Hp.arr {U : State} {H H' : Heap} {a ti nn : Nat} {F : Nat → Value} (h : Hp K M U H) (ht : mT M a = some (.inr (ti, nn))) (ha : kB K ≤ a) (z : H'.size = H.size) (o : ∀ q : Nat, q ≠ a → H'[q]? = H[q]?) (hc : OkA K (setA M a F) U H' a ti nn) : Hp K (setA M a F) U H' := by
  obtain ⟨h1, h2, h3, h4, h5, h6⟩ := h
  refine ⟨h1.trans z.symm, by rw [z]; exact h2, fun b c q => ?_, fun b tj nj q => ?_, fun b hb => ?_, h6⟩
  · have hba : b ≠ a := fun e => by
      subst e
      have := ht.symm.trans q
      cases this
    obtain ⟨r, cell, g1, g2, g3⟩ := h3 b c q
    exact ⟨r, cell, g1, by rw [o b hba]; exact g2, g3⟩
  · by_cases hba : b = a
    · subst hba
      have := ht.symm.trans q
      cases this
      exact hc
    · obtain ⟨ty, cell, g1, g2, g3⟩ := h4 b tj nj q
      have e : mE (setA M a F) b = mE M b := funext fun i => if_neg hba
      exact ⟨ty, cell, g1, by rw [o b hba]; exact g2, by rw [e]; exact g3⟩
  · obtain ⟨g1, g2, g3⟩ := h5 b hb
    exact ⟨g1, g2, fun i => by rw [mE_setA, if_neg (by omega)]; exact g3 i⟩
theorem setE_setA {a i : Nat} {v : Value} : setE M a i v = setA M a (fun j => if j = i then v else mE M a j) := by
  unfold setE setA mE
  congr 3
  funext b j
  by_cases hb : b = a
  · subst hb
    simp
  · simp [hb]
/-- a field's link in a method's class: which field of which class it is -/
def FL (own : String) (ix ci kf : Nat) (ty : FieldType) (fin : Bool) : Prop := ∃ (C : String) (T : u_T) (N : Nat) (ref : String) (tf : Nat → FieldType), clS[ci]? = some (C, T, N) ∧ (∀ w ∈ u_ws C T N, w ∈ lw_all) ∧ kf < N ∧ Cond.fieldLink own ix ref (T kf).2.1 (T kf).2.2.1 ∈ lw_all ∧
  (ref = (T kf).1 ∨ Cond.sameField ref (T kf).1 (T kf).2.1 (T kf).2.2.1 ∈ lw_all) ∧ (∀ k, k < N → parseFieldDescriptor (T k).2.2.1 = some (tf k)) ∧ (∀ a, a < N → ∀ b, b < N → a ≠ b → (T a).2.1 ≠ (T b).2.1) ∧ tf kf = ty ∧ (T kf).2.2.2 = fin
/-- .. across a nest -/
def FLN (own : String) (ix ci kf : Nat) : Prop := ∃ (C : String) (T : u_T) (N : Nat) (host : String), clS[ci]? = some (C, T, N) ∧ (∀ w ∈ u_ws C T N, w ∈ lw_all) ∧ kf < N ∧ Cond.fieldLinkNest own ix C (T kf).2.1 (T kf).2.2.1 host ∈ lw_rd ∧ (T kf).1 = C
def FT (ty : FieldType) (v : Value) : Prop := narrow ty v = v ∧ fits ty v = true
theorem ft_i {x : Int32} : FT .int (.int x) := ⟨rfl, rfl⟩
theorem ft_o {C : String} {v : Value} (h : RV v) : FT (.object C) v := by rcases h with rfl | ⟨a, rfl⟩ <;> exact ⟨rfl, rfl⟩
theorem ft_a {t : FieldType} {v : Value} (h : RV v) : FT (.array t) v := by rcases h with rfl | ⟨a, rfl⟩ <;> exact ⟨rfl, rfl⟩
theorem ft_z0 : FT .boolean (.int (ii 0)) := ⟨by decide, by decide⟩
theorem ft_z1 : FT .boolean (.int (ii 1)) := ⟨by decide, by decide⟩
theorem ft_z {z : Int} (h : z = 0 ∨ z = 1) : FT .boolean (.int (ii z)) := by rcases h with rfl | rfl; exact ft_z0; exact ft_z1
theorem g_getf (pc' : Nat) {ix ci kf : Nat} {ty : FieldType} {fin : Bool} {a : Nat} {v : Value} (hdg : decode (fC f) pc = .ok (.getfield ix, 3)) (hp : pc + 3 = pc') (hl : FL (fO f) ix ci kf ty fin) (ht : mT M a = some (.inl ci)) (hv : mF M ci kf a = v) (h : Go K f d k n pc' L (v :: st) M Q) : Go K f d k n pc L (.ref a :: st) M Q := by
  subst hp
  intro p e R s m args below meth c H locs cells slots mc ms ls A
  obtain ⟨C, T, N, ref, tf, l1, l2, l3, l4, l5, l6, l7, l8, l9⟩ := hl
  obtain ⟨c1, c2, c3, c4, c5, c6, c7, c8, c9, c10⟩ := A.1
  obtain ⟨r, cell, o1, o2, o3, o4, o5, o6, o7⟩ := A.2.2.1.2.2.1 a ci ht
  cases o1.symm.trans l1
  obtain ⟨hS, hfc, kC, hkC, hkind⟩ := c10.1.1 ci _ l1
  obtain ⟨cf, kfl, fi, ff, hi, hsl⟩ := hS kf l3
  have hsame : ∀ x, s.fieldFound? (T kf).1 (T kf).2.1 (T kf).2.2.1 = some x → s.fieldFound? ref (T kf).2.1 (T kf).2.2.1 = some x := by
    rcases l5 with rfl | l5
    · exact fun x hx => hx
    · exact u_same (c7 _ l5)
  refine W.getf c1 c2 c6 (c7 _ l4) (hsame _ hi) (u_facts hfc hkC (u_lays c7 l2 l3) hi).1 o2 o5 (v := v) ?_ rfl rfl hdg (h A)
  rw [hsl, o7 kf l3, hv]
theorem g_getfN (pc' : Nat) {ix ci kf : Nat} {a : Nat} {v : Value} (hdg : decode (fC f) pc = .ok (.getfield ix, 3)) (hp : pc + 3 = pc') (hl : FLN (fO f) ix ci kf) (ht : mT M a = some (.inl ci)) (hv : mF M ci kf a = v) (h : Go K f d k n pc' L (v :: st) M Q) : Go K f d k n pc L (.ref a :: st) M Q := by
  subst hp
  intro p e R s m args below meth c H locs cells slots mc ms ls A
  obtain ⟨C, T, N, host, l1, l2, l3, l4, l5⟩ := hl
  obtain ⟨c1, c2, c3, c4, c5, c6, c7, c8, c9, c10⟩ := A.1
  obtain ⟨r, cell, o1, o2, o3, o4, o5, o6, o7⟩ := A.2.2.1.2.2.1 a ci ht
  cases o1.symm.trans l1
  obtain ⟨hS, hfc, kC, hkC, hkind⟩ := c10.1.1 ci _ l1
  obtain ⟨cf, kfl, fi, ff, hi, hsl⟩ := hS kf l3
  have hi' : s.fieldFound? C (T kf).2.1 (T kf).2.2.1 = some (cf, kfl, fi, ff) := by rw [← l5]; exact hi
  refine va_Wgetf c1 c2 c6 (va_Nw.use rfl (c10.2.1 _ l4)) hi' (u_facts hfc hkC (u_lays c7 l2 l3) hi).1 o2 o5 (v := v) ?_ rfl rfl hdg (h A)
  rw [hsl, o7 kf l3, hv]
theorem g_apart {s : State} {args : Array Value} {ci : Nat} {C : String} {T : u_T} {N : Nat} {tf : Nat → FieldType} (hts : ∀ w ∈ lw_all, w.before args s = true) (hK : va_K (kD K) clS (tysS K) s) (l1 : clS[ci]? = some (C, T, N)) (l2 : ∀ w ∈ u_ws C T N, w ∈ lw_all) (l6 : ∀ k, k < N → parseFieldDescriptor (T k).2.2.1 = some (tf k)) (l7 : ∀ a, a < N → ∀ b, b < N → a ≠ b → (T a).2.1 ≠ (T b).2.1) :
    ∀ x y, x < N → y < N → x ≠ y → ((kD K).2 ci) x ≠ ((kD K).2 ci) y := va_apart (own := C) hts l2 tf l6 l7 hK l1
theorem OkO.put {H' : Heap} {a ci kf : Nat} {C : String} {T : u_T} {N : Nat} {cell : Cell} {v : Value} (l1 : clS[ci]? = some (C, T, N)) (l3 : kf < N) (hap : ∀ x y, x < N → y < N → x ≠ y → ((kD K).2 ci) x ≠ ((kD K).2 ci) y)
    (o3 : cell.cls = (kD K).1 ci) (o6 : cell.vm = .none) (o7 : ∀ k, k < N → cell.slots[(kD K).2 ci k]? = some (mF M ci k a)) (e1 : H'[a]? = some (cell.setSlot ((kD K).2 ci kf) v)) : OkO K (setF M ci kf a v) H' a ci := by
  have hvm : (cell.setSlot ((kD K).2 ci kf) v).vm = .none := o6
  refine ⟨_, _, l1, e1, o3, (by rw [hvm]; rfl), (by rw [hvm]; exact fun h => by cases h), fun _ => hvm, fun j hj => ?_⟩
  have := t_set o7 hap l3 v j hj
  rw [this]
  by_cases hjk : j = kf
  · subst hjk
    rw [mF_setF_self]
    simp [updV]
  · rw [mF_setF_k hjk]
    simp [updV, hjk]
theorem g_putf (pc' : Nat) {ix ci kf : Nat} {ty : FieldType} {a : Nat} {v : Value} (hdg : decode (fC f) pc = .ok (.putfield ix, 3)) (hp : pc + 3 = pc') (hl : FL (fO f) ix ci kf ty false) (ht : mT M a = some (.inl ci)) (ha : kB K ≤ a) (hv : FT ty v) (h : Go K f d k n pc' L st (setF M ci kf a v) Q) : Go K f d k n pc L (v :: .ref a :: st) M Q := by
  subst hp
  intro p e R s m args below meth c H locs cells slots mc ms ls A
  obtain ⟨C, T, N, ref, tf, l1, l2, l3, l4, l5, l6, l7, l8, l9⟩ := hl
  obtain ⟨⟨c1, c2, c3, c4, c5, c6, c7, c8, c9, c10⟩, hR, hH, hS0, hL⟩ := id A
  obtain ⟨r, cell, o1, o2, o3, o4, o5, o6, o7⟩ := hH.2.2.1 a ci ht
  cases o1.symm.trans l1
  obtain ⟨hS, hfc, kC, hkC, hkind⟩ := c10.1.1 ci _ l1
  have hap := g_apart (K := K) c7 c10.1 l1 l2 l6 l7
  obtain ⟨cf, kfl, fi, ff, hi, hsl⟩ := hS kf l3
  have hsame : ∀ x, s.fieldFound? (T kf).1 (T kf).2.1 (T kf).2.2.1 = some x → s.fieldFound? ref (T kf).2.1 (T kf).2.2.1 = some x := by
    rcases l5 with rfl | l5
    · exact fun x hx => hx
    · exact u_same (c7 _ l5)
  have hlay := c7 _ (l2 _ (u_in_lay l3))
  unfold u_lay at hlay
  rw [if_neg (by rw [l9]; decide)] at hlay
  have hst := (u_facts hfc hkC (u_lays c7 l2 l3) hi).1
  have hd : parseFieldDescriptor (T kf).2.2.1 = some ty := by rw [l6 kf l3, l8]
  have h6 := u_store hfc hkC hkind hlay hi hd hv.1 hv.2
  refine W.putK c1 c2 (f := ff) ⟨c6, c7 _ l4, ⟨_, _, _, hsame _ hi⟩, hst⟩ (by rw [o3]; exact h6) o2 (o6 ha) (by rw [hsl]; exact k2_hasslot (o7 kf l3)) rfl rfl hdg fun H' e1 e2 e3 => ?_
  rw [hsl] at e1 ⊢
  exact h ⟨A.1, hR, hH.obj (s := s) ht ha e2 e3 (OkO.put l1 l3 hap o3 (o6 ha) o7 e1), hS0.put e2 e3 ha, hL⟩
/-- a final field, in its class's constructor -/
theorem g_putF (pc' : Nat) {ix ci kf : Nat} {ty : FieldType} {a : Nat} {v : Value} (hdg : decode (fC f) pc = .ok (.putfield ix, 3)) (hp : pc + 3 = pc') (hl : FL (fO f) ix ci kf ty true) (hdc : ∀ (C : String) (T : u_T) (N : Nat), clS[ci]? = some (C, T, N) → (T kf).1 = fO f) (hn : fN f = "<init>") (ht : mT M a = some (.inl ci)) (ha : kB K ≤ a) (hv : FT ty v) (h : Go K f d k n pc' L st (setF M ci kf a v) Q) : Go K f d k n pc L (v :: .ref a :: st) M Q := by
  subst hp
  intro p e R s m args below meth c H locs cells slots mc ms ls A
  obtain ⟨C, T, N, ref, tf, l1, l2, l3, l4, l5, l6, l7, l8, l9⟩ := hl
  obtain ⟨⟨c1, c2, c3, c4, c5, c6, c7, c8, c9, c10⟩, hR, hH, hS0, hL⟩ := id A
  obtain ⟨r, cell, o1, o2, o3, o4, o5, o6, o7⟩ := hH.2.2.1 a ci ht
  cases o1.symm.trans l1
  obtain ⟨hS, hfc, kC, hkC, hkind⟩ := c10.1.1 ci _ l1
  have hap := g_apart (K := K) c7 c10.1 l1 l2 l6 l7
  obtain ⟨cf, kfl, fi, ff, hi, hsl⟩ := hS kf l3
  have hsame : ∀ x, s.fieldFound? (T kf).1 (T kf).2.1 (T kf).2.2.1 = some x → s.fieldFound? ref (T kf).2.1 (T kf).2.2.1 = some x := by
    rcases l5 with rfl | l5
    · exact fun x hx => hx
    · exact u_same (c7 _ l5)
  have hlay := c7 _ (l2 _ (u_in_lay l3))
  unfold u_lay at hlay
  rw [if_pos l9] at hlay
  have hst := (u_facts hfc hkC (u_lays c7 l2 l3) hi).1
  have hd : parseFieldDescriptor (T kf).2.2.1 = some ty := by rw [l6 kf l3, l8]
  have hcf : m.cls = cf := by
    obtain ⟨_, _, c', _, _, _, -, -, hf', -, -, -, hown2, -⟩ := Cond.laysFinal_spec hlay
    have e1 : c' = cf := by have := hi.symm.trans hf'; simp at this; exact this.1.symm
    rw [hdc _ _ _ l1] at hown2
    rw [← e1]; exact Option.some.inj (c6.symm.trans hown2)
  have h6 := u_fits hfc hkC hkind (Or.inr hlay) hi hd hv.1 hv.2
  refine W.putFinK c1 c2 c6 (c7 _ l4) (hsame _ hi) hst hcf (c8.trans hn) (by rw [o3]; exact h6) o2 (o6 ha) (by rw [hsl]; exact k2_hasslot (o7 kf l3)) rfl rfl hdg fun H' e1 e2 e3 => ?_
  rw [hsl] at e1 ⊢
  exact h ⟨A.1, hR, hH.obj (s := s) ht ha e2 e3 (OkO.put l1 l3 hap o3 (o6 ha) o7 e1), hS0.put e2 e3 ha, hL⟩
theorem g_gets (pc' : Nat) {ix : Nat} {q : String × String × String × Value} {ref : String} (hdg : decode (fC f) pc = .ok (.getstatic ix, 3)) (hp : pc + 3 = pc') (hl : Cond.fieldLink (fO f) ix q.1 q.2.1 q.2.2.1 ∈ lw_all) (hq : q ∈ statS K) (h : Go K f d k n pc' L (q.2.2.2 :: st) M Q) : Go K f d k n pc L st M Q := by
  subst hp
  intro p e R s m args below meth c H locs cells slots mc ms ls A
  obtain ⟨c1, c2, c3, c4, c5, c6, c7, c8, c9, c10⟩ := A.1
  exact va_gets c1 c2 (c10.2.2.2.1 q hq) A.2.2.2.1 c6 (c7 _ hl) (fun _ hx => hx) hdg (h A)
theorem g_ldcS (pc' : Nat) {ix w : Nat} {tx : String} (hdg : decode (fC f) pc = .ok (.ldc ix, 2)) (hp : pc + 2 = pc') (hq : (fO f, ix, tx, w) ∈ strS) (h : Go K f d k n pc' L (.ref (kC K (10 + w)) :: st) M Q) : Go K f d k n pc L st M Q := by
  subst hp
  intro p e R s m args below meth c H locs cells slots mc ms ls A
  obtain ⟨c1, c2, c3, c4, c5, c6, c7, c8, c9, c10⟩ := A.1
  exact va_ldcS c1 c2 c6 (c10.2.2.2.2.2.2.2.1 _ hq) hdg (h A)
end GH
