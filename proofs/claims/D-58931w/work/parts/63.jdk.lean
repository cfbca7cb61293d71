/-! ===== the JDK: ArrayList searched and shortened ===== -/
def ixN : List Nat → Nat → Int → Int
  | [], _, _ => -1
  | x :: t, y, i => if x = y then i else ixN t y (i + 1)
section JD0
variable {K : KT} {f : FI} {d k n pc : Nat} {L : List (Option Value)} {st : List Value} {M : Mem} {Q : Res → Mem → Prop}
theorem k_U1z (pc' : Nat) {f' : FI} {y : MethodName} {ix : Nat} {d' q : Nat} {b ci : Nat} {v1 : Value} {rest : List Value} (hdg : decode (fC f) pc = .ok (.invokevirtual ix, 3)) (hp : pc + 3 = pc') (hl : LU (fO f) ix y f' 1 ci) (ht : mT M b = some (.inl ci)) (hq : fL f' = q + 2) (e1 : v1.category = 1) (hrest : rest.length ≤ 4) (hd : d' + 1 ≤ d) (h : Go K f' d' 0 0 0 (some (.ref b) :: some v1 :: List.replicate q none) [] M (Kont K f d k n pc pc' L rest Q)) : Go K f d k n pc L (v1 :: .ref b :: rest) M Q := by
  subst hp
  obtain ⟨x, owner, r, a1, a2, a3, a4, a5, a6, a7, a8⟩ := hl
  exact g_callU [v1] k n hdg a1 a2 a3 a4 a5 a6 a7 a8 rfl ht rfl rfl (cat8 hrest) (argL_of (by omega) (argL_1 (rfl : (Value.ref b).category = 1) (argL_1 e1 argL0))) hd (Nat.le_refl _) (Nat.le_refl _) h
end JD0
section JD
variable {K : KT} {k n : Nat} {M : Mem} {Q : Res → Mem → Prop} {l ar cap : Nat} {xs : List Value}
theorem l_indexOf {as : List Nat} {y : Nat} (hA : ALp K M l ar cap (as.map Value.ref)) (hy : mT M y = some (.inl 3)) : ∀ (ys : List Nat) (i : Nat), as.drop i = ys → i ≤ as.length → Q (.inl (some (.int (ii (ixN ys y i))))) M → Go K fJ2_indexOfRange 2 k n 42 [some (.ref l), some (.ref y), some (.int (ii 0)), some (.int (ii as.length)), some (.ref ar), some (.int (ii i))] [] M Q := by
  obtain ⟨⟨a1, a2, a3⟩, ⟨mc, b⟩, c, e, ⟨g1, g2⟩, h3, h4, h5, h6⟩ := id hA
  simp only [List.length_map] at e h3 h4
  intro ys
  induction ys with
  | nil =>
    intro i hd hi hQ
    have hl : as.length ≤ i := by
      have := congrArg List.length hd
      simp at this; omega
    refine g_iload5 44 dJ2_indexOfRange_42 rfl ?_
    refine g_iload3 45 dJ2_indexOfRange_44 rfl ?_
    refine g_icmp_ge 69 48 dJ2_indexOfRange_45 rfl rfl (by omega) (by omega) (fun c45 => ?_) (fun c45 => ?_)
    · refine g_iconst 70 dJ2_indexOfRange_69 rfl ?_
      refine g_iret dJ2_indexOfRange_70 rfl ?_
      exact hQ
    · omega
  | cons x t ih =>
    intro i hd hi hQ
    have hl : i < as.length := by
      have := congrArg List.length hd
      simp at this; omega
    have hx : as[i]? = some x := by
      have := congrArg (fun z => z[0]?) hd
      simpa using this
    have hv : mE M ar i = .ref x := by
      rw [h4 i (by omega), List.getD_eq_getElem?_getD, List.getElem?_map, hx]
      rfl
    have hd2 : as.drop (i + 1) = t := by
      rw [← List.drop_drop, hd]; rfl
    unfold ixN at hQ
    refine g_iload5 44 dJ2_indexOfRange_42 rfl ?_
    refine g_iload3 45 dJ2_indexOfRange_44 rfl ?_
    refine g_icmp_ge 69 48 dJ2_indexOfRange_45 rfl rfl (by omega) (by omega) (fun c45 => by omega) (fun c45 => ?_)
    refine g_aload1 49 (by first | exact rv_r | exact rv_n | assumption | exact rv_f) dJ2_indexOfRange_48 rfl ?_
    refine g_aload4 51 (by first | exact rv_r | exact rv_n | assumption | exact rv_f) dJ2_indexOfRange_49 rfl ?_
    refine g_iload5 53 dJ2_indexOfRange_51 rfl ?_
    refine g_aald 54 dJ2_indexOfRange_53 rfl (by (repeat (first | refine mT_setF.trans ?_ | refine mT_setE.trans ?_ | refine mT_setA.trans ?_ | refine (mT_newA_old (by first | assumption | (apply Ne.symm; assumption) | omega | decide)).trans ?_ | refine (mT_newO_old (by first | assumption | (apply Ne.symm; assumption) | omega | decide)).trans ?_)); first | assumption | exact mT_newA_new | exact mT_newO_new) (by first | exact Nat.le_of_ble_eq_true rfl | omega) (by omega) (by omega) (by omega) (hv) ?_
    refine k_U1z 57 dJ2_indexOfRange_54 rfl lu_J2_93_3 (by (repeat (first | refine mT_setF.trans ?_ | refine mT_setE.trans ?_ | refine mT_setA.trans ?_ | refine (mT_newA_old (by first | assumption | (apply Ne.symm; assumption) | omega | decide)).trans ?_ | refine (mT_newO_old (by first | assumption | (apply Ne.symm; assumption) | omega | decide)).trans ?_)); first | assumption | exact mT_newA_new | exact mT_newO_new) rfl (by first | rfl | exact rv_cat (by assumption) | exact rv_cat rv_f) (Nat.le_of_ble_eq_true rfl) (by first | exact Nat.le_of_ble_eq_true rfl | omega) (c_J36_equals ?_)
    by_cases q : x = y
    · rw [if_pos q] at hQ
      rw [if_pos q.symm]
      refine g_if_eq 63 60 dJ2_indexOfRange_57 rfl rfl (by decide) (fun c => by omega) (fun c => ?_)
      refine g_iload5 62 dJ2_indexOfRange_60 rfl ?_
      refine g_iret dJ2_indexOfRange_62 rfl ?_
      exact hQ
    · rw [if_neg q] at hQ
      rw [if_neg (fun z => q z.symm)]
      refine g_if_eq 63 60 dJ2_indexOfRange_57 rfl rfl (by decide) (fun c => ?_) (fun c => by omega)
      refine g_iinc5 66 (Nat.le_of_ble_eq_true rfl) (by first | exact c1_0 | exact c1_i | exact c1_r | exact c1_n | exact c1_v (by assumption) | exact c1_f) dJ2_indexOfRange_63 rfl ?_
      refine g_goto 42 dJ2_indexOfRange_66 rfl ?_
      have := ih (i + 1) hd2 (by omega) (by simpa using hQ)
      simpa using this
theorem c_J2_indexOfRange {as : List Nat} {y : Nat} (hA : ALp K M l ar cap (as.map Value.ref)) (hy : mT M y = some (.inl 3)) (hQ : Q (.inl (some (.int (ii (ixN as y 0))))) M) : Go K fJ2_indexOfRange 2 k n 0 [some (.ref l), some (.ref y), some (.int (ii 0)), some (.int (ii as.length)), none, none] [] M Q := by
  obtain ⟨⟨a1, a2, a3⟩, ⟨mc, b⟩, c, e, ⟨g1, g2⟩, h3, h4, h5, h6⟩ := id hA
  refine g_aload0 1 (by first | exact rv_r | exact rv_n | assumption | exact rv_f) dJ2_indexOfRange_0 rfl ?_
  refine g_getf 4 dJ2_indexOfRange_1 rfl fl_J2_9 (by (repeat (first | refine mT_setF.trans ?_ | refine mT_setE.trans ?_ | refine mT_setA.trans ?_ | refine (mT_newA_old (by first | assumption | (apply Ne.symm; assumption) | omega | decide)).trans ?_ | refine (mT_newO_old (by first | assumption | (apply Ne.symm; assumption) | omega | decide)).trans ?_)); first | assumption | exact mT_newA_new | exact mT_newO_new) (by (repeat (first | refine mF_setE.trans ?_ | refine mF_setA.trans ?_ | refine mF_newA.trans ?_ | refine (mF_setF_c (by decide)).trans ?_ | refine (mF_setF_k (by decide)).trans ?_ | refine (mF_setF_a (by first | assumption | (apply Ne.symm; assumption) | omega | decide)).trans ?_ | refine (mF_newO_old (by first | assumption | (apply Ne.symm; assumption) | omega | decide)).trans ?_)); first | assumption | exact mF_setF_self | exact mF_newO_new) ?_
  refine g_astore4 6 (Nat.le_of_ble_eq_true rfl) (by first | exact c1_0 | exact c1_i | exact c1_r | exact c1_n | exact c1_v (by assumption) | exact c1_f) (by first | exact rv_r | exact rv_n | assumption | exact rv_f) dJ2_indexOfRange_4 rfl ?_
  refine g_aload1 7 (by first | exact rv_r | exact rv_n | assumption | exact rv_f) dJ2_indexOfRange_6 rfl ?_
  refine g_ifnonnull 39 10 dJ2_indexOfRange_7 rfl rfl rv_r (fun a _ => ?_) (fun c => by cases c)
  refine g_iload2 40 dJ2_indexOfRange_39 rfl ?_
  refine g_istore5 42 (Nat.le_of_ble_eq_true rfl) (by first | exact c1_0 | exact c1_i | exact c1_r | exact c1_n | exact c1_v (by assumption) | exact c1_f) dJ2_indexOfRange_40 rfl ?_
  exact l_indexOf hA hy as 0 rfl (Nat.zero_le _) hQ
theorem c_J2_indexOf {as : List Nat} {y : Nat} (hA : ALp K M l ar cap (as.map Value.ref)) (hy : mT M y = some (.inl 3)) (hQ : Q (.inl (some (.int (ii (ixN as y 0))))) M) : Go K fJ2_indexOf 3 k n 0 [some (.ref l), some (.ref y)] [] M Q := by
  obtain ⟨⟨a1, a2, a3⟩, ⟨mc, b⟩, c, e, ⟨g1, g2⟩, h3, h4, h5, h6⟩ := id hA
  rw [List.length_map] at e
  refine g_aload0 1 (by first | exact rv_r | exact rv_n | assumption | exact rv_f) dJ2_indexOf_0 rfl ?_
  refine g_aload1 2 (by first | exact rv_r | exact rv_n | assumption | exact rv_f) dJ2_indexOf_1 rfl ?_
  refine g_iconst 3 dJ2_indexOf_2 rfl ?_
  refine g_aload0 4 (by first | exact rv_r | exact rv_n | assumption | exact rv_f) dJ2_indexOf_3 rfl ?_
  refine g_getf 7 dJ2_indexOf_4 rfl fl_J2_48 (by (repeat (first | refine mT_setF.trans ?_ | refine mT_setE.trans ?_ | refine mT_setA.trans ?_ | refine (mT_newA_old (by first | assumption | (apply Ne.symm; assumption) | omega | decide)).trans ?_ | refine (mT_newO_old (by first | assumption | (apply Ne.symm; assumption) | omega | decide)).trans ?_)); first | assumption | exact mT_newA_new | exact mT_newO_new) (by (repeat (first | refine mF_setE.trans ?_ | refine mF_setA.trans ?_ | refine mF_newA.trans ?_ | refine (mF_setF_c (by decide)).trans ?_ | refine (mF_setF_k (by decide)).trans ?_ | refine (mF_setF_a (by first | assumption | (apply Ne.symm; assumption) | omega | decide)).trans ?_ | refine (mF_newO_old (by first | assumption | (apply Ne.symm; assumption) | omega | decide)).trans ?_)); first | assumption | exact mF_setF_self | exact mF_newO_new) ?_
  refine k_V3z 10 dJ2_indexOf_7 rfl lk_J2_89 (by (repeat (first | refine mT_setF.trans ?_ | refine mT_setE.trans ?_ | refine mT_setA.trans ?_ | refine (mT_newA_old (by first | assumption | (apply Ne.symm; assumption) | omega | decide)).trans ?_ | refine (mT_newO_old (by first | assumption | (apply Ne.symm; assumption) | omega | decide)).trans ?_)); first | assumption | exact mT_newA_new | exact mT_newO_new) rfl (by first | rfl | exact rv_cat (by assumption) | exact rv_cat rv_f) (by first | rfl | exact rv_cat (by assumption) | exact rv_cat rv_f) (by first | rfl | exact rv_cat (by assumption) | exact rv_cat rv_f) (Nat.le_of_ble_eq_true rfl) (by first | exact Nat.le_of_ble_eq_true rfl | omega) (c_J2_indexOfRange hA hy ?_)
  refine g_iret dJ2_indexOf_10 rfl ?_
  exact hQ
theorem c_J2_fastRemove (hA : ALp K M l ar cap xs) {i : Nat} (hi : i < xs.length) (hQ : ∀ M', ALp K M' l ar cap (xs.eraseIdx i) → Fr (fun a => a = l ∨ a = ar) M M' → mN M' = mN M → Q (.inl none) M') : Go K fJ2_fastRemove 1 k n 0 [some (.ref l), some (.ref ar), some (.int (ii i)), none] [] M Q := by
  obtain ⟨⟨a1, a2, a3⟩, ⟨mc, b⟩, c, e, ⟨g1, g2⟩, h3, h4, h5, h6⟩ := id hA
  have hb : kB K ≤ ar := h5.1 (by omega)
  have hne : l ≠ ar := fun z => by rw [z, g1] at a1; cases a1
  have tailQ : ∀ M2, mT M2 ar = some (.inr (3, cap)) → mT M2 l = some (.inl 11) → mN M2 = mN M → Fr (fun a => a = l ∨ a = ar) M M2 → (∃ mc, mF M2 11 0 l = .int (ii mc)) → mF M2 11 1 l = .ref ar → (∀ j, j < xs.length - 1 → mE M2 ar j = (xs.eraseIdx i).getD j .null) → Go K fJ2_fastRemove 1 k n 34 [some (.ref l), some (.ref ar), some (.int (ii i)), some (.int (ii ((xs.length : Int) - 1)))] [] M2 Q := by
    intro M2 t1 t2 t3 f1 k0 k1 k2
    refine g_aload1 35 (by first | exact rv_r | exact rv_n | assumption | exact rv_f) dJ2_fastRemove_34 rfl ?_
    refine g_aload0 36 (by first | exact rv_r | exact rv_n | assumption | exact rv_f) dJ2_fastRemove_35 rfl ?_
    refine g_iload3 37 dJ2_fastRemove_36 rfl ?_
    refine g_dup_x1 38 (by first | rfl | exact rv_cat (by assumption) | exact rv_cat rv_f) (by first | rfl | exact rv_cat (by assumption) | exact rv_cat rv_f) dJ2_fastRemove_37 rfl ?_
    refine g_putf 41 dJ2_fastRemove_38 rfl fl_J2_48 (by (repeat (first | refine mT_setF.trans ?_ | refine mT_setE.trans ?_ | refine mT_setA.trans ?_ | refine (mT_newA_old (by first | assumption | (apply Ne.symm; assumption) | omega | decide)).trans ?_ | refine (mT_newO_old (by first | assumption | (apply Ne.symm; assumption) | omega | decide)).trans ?_)); first | assumption | exact mT_newA_new | exact mT_newO_new) (by first | assumption | omega) ft_i ?_
    refine g_null 42 dJ2_fastRemove_41 rfl ?_
    refine g_aastN 43 dJ2_fastRemove_42 rfl (mT_setF.trans t1) (by decide) hb (by omega) (by omega) (by omega) ?_
    refine g_vret dJ2_fastRemove_43 rfl ?_
    have hlen : (xs.eraseIdx i).length = xs.length - 1 := by rw [List.length_eraseIdx, if_pos hi]
    have fin : Fr (fun a => a = l ∨ a = ar) M (setE (setF M2 11 2 l (.int (ii ((xs.length : Int) - 1)))) ar ((xs.length : Int) - 1).toNat .null) := f1.trans ((Fr.setF (S := fun a => a = l ∨ a = ar) (Or.inl rfl)).trans (Fr.setE (S := fun a => a = l ∨ a = ar) (Or.inr rfl)) (fun _ _ h => h) (fun _ _ h => h)) (fun _ _ h => h) (fun _ _ h => h)
    obtain ⟨m0, k0⟩ := k0
    refine hQ _ ⟨⟨t2, a2, by show l < mN M2; omega⟩, ⟨m0, (mF_setE).trans ((mF_setF_k (by decide)).trans k0)⟩, (mF_setE).trans ((mF_setF_k (by decide)).trans k1), (mF_setE).trans (mF_setF_self.trans (by rw [hlen]; congr 3; omega)), ⟨t1, by show ar < mN M2; omega⟩, ⟨by omega, h3.2⟩, fun j hj => ?_, h5, fun x hx => (h6 x (List.mem_of_mem_eraseIdx hx)).fr fin⟩ fin t3
    exact (mE_setE_i (by omega)).trans ((mE_setF).trans (k2 j (by omega)))
  refine g_aload0 1 (by first | exact rv_r | exact rv_n | assumption | exact rv_f) dJ2_fastRemove_0 rfl ?_
  refine g_dup 2 (by first | rfl | exact rv_cat (by assumption) | exact rv_cat rv_f) dJ2_fastRemove_1 rfl ?_
  refine g_getf 5 dJ2_fastRemove_2 rfl fl_J2_63 (by (repeat (first | refine mT_setF.trans ?_ | refine mT_setE.trans ?_ | refine mT_setA.trans ?_ | refine (mT_newA_old (by first | assumption | (apply Ne.symm; assumption) | omega | decide)).trans ?_ | refine (mT_newO_old (by first | assumption | (apply Ne.symm; assumption) | omega | decide)).trans ?_)); first | assumption | exact mT_newA_new | exact mT_newO_new) (by (repeat (first | refine mF_setE.trans ?_ | refine mF_setA.trans ?_ | refine mF_newA.trans ?_ | refine (mF_setF_c (by decide)).trans ?_ | refine (mF_setF_k (by decide)).trans ?_ | refine (mF_setF_a (by first | assumption | (apply Ne.symm; assumption) | omega | decide)).trans ?_ | refine (mF_newO_old (by first | assumption | (apply Ne.symm; assumption) | omega | decide)).trans ?_)); first | assumption | exact mF_setF_self | exact mF_newO_new) ?_
  refine g_iconst 6 dJ2_fastRemove_5 rfl ?_
  refine g_iadd 7 dJ2_fastRemove_6 rfl ?_
  refine g_putf 10 dJ2_fastRemove_7 rfl fl_J2_63 (by (repeat (first | refine mT_setF.trans ?_ | refine mT_setE.trans ?_ | refine mT_setA.trans ?_ | refine (mT_newA_old (by first | assumption | (apply Ne.symm; assumption) | omega | decide)).trans ?_ | refine (mT_newO_old (by first | assumption | (apply Ne.symm; assumption) | omega | decide)).trans ?_)); first | assumption | exact mT_newA_new | exact mT_newO_new) (by first | assumption | omega) ft_i ?_
  refine g_aload0 11 (by first | exact rv_r | exact rv_n | assumption | exact rv_f) dJ2_fastRemove_10 rfl ?_
  refine g_getf 14 dJ2_fastRemove_11 rfl fl_J2_48 (by (repeat (first | refine mT_setF.trans ?_ | refine mT_setE.trans ?_ | refine mT_setA.trans ?_ | refine (mT_newA_old (by first | assumption | (apply Ne.symm; assumption) | omega | decide)).trans ?_ | refine (mT_newO_old (by first | assumption | (apply Ne.symm; assumption) | omega | decide)).trans ?_)); first | assumption | exact mT_newA_new | exact mT_newO_new) (by (repeat (first | refine mF_setE.trans ?_ | refine mF_setA.trans ?_ | refine mF_newA.trans ?_ | refine (mF_setF_c (by decide)).trans ?_ | refine (mF_setF_k (by decide)).trans ?_ | refine (mF_setF_a (by first | assumption | (apply Ne.symm; assumption) | omega | decide)).trans ?_ | refine (mF_newO_old (by first | assumption | (apply Ne.symm; assumption) | omega | decide)).trans ?_)); first | assumption | exact mF_setF_self | exact mF_newO_new) ?_
  refine g_iconst 15 dJ2_fastRemove_14 rfl ?_
  refine g_isub 16 dJ2_fastRemove_15 rfl ?_
  refine g_dup 17 (by first | rfl | exact rv_cat (by assumption) | exact rv_cat rv_f) dJ2_fastRemove_16 rfl ?_
  refine g_istore3 18 (Nat.le_of_ble_eq_true rfl) (by first | exact c1_0 | exact c1_i | exact c1_r | exact c1_n | exact c1_v (by assumption) | exact c1_f) dJ2_fastRemove_17 rfl ?_
  refine g_iload2 19 dJ2_fastRemove_18 rfl ?_
  refine g_icmp_le 34 22 dJ2_fastRemove_19 rfl rfl (by omega) (by omega) (fun c19 => ?_) (fun c19 => ?_)
  · refine tailQ _ g1 a1 rfl (Fr.setF (Or.inl rfl)) ⟨_, mF_setF_self⟩ ((mF_setF_k (by decide)).trans c) (fun j hj => ?_)
    rw [List.getD_eq_getElem?_getD, List.getElem?_eraseIdx, if_pos (by omega), ← List.getD_eq_getElem?_getD]
    exact h4 j (by omega)
  · refine g_aload1 23 (by first | exact rv_r | exact rv_n | assumption | exact rv_f) dJ2_fastRemove_22 rfl ?_
    refine g_iload2 24 dJ2_fastRemove_23 rfl ?_
    refine g_iconst 25 dJ2_fastRemove_24 rfl ?_
    refine g_iadd 26 dJ2_fastRemove_25 rfl ?_
    refine g_aload1 27 (by first | exact rv_r | exact rv_n | assumption | exact rv_f) dJ2_fastRemove_26 rfl ?_
    refine g_iload2 28 dJ2_fastRemove_27 rfl ?_
    refine g_iload3 29 dJ2_fastRemove_28 rfl ?_
    refine g_iload2 30 dJ2_fastRemove_29 rfl ?_
    refine g_isub 31 dJ2_fastRemove_30 rfl ?_
    refine g_copyR 34 dJ2_fastRemove_31 rfl q2047 (mT_setF.trans g1) (mT_setF.trans g1) hb hb (Or.inl rfl) (by omega) (by omega) (by omega) (by omega) (by omega) (by omega) (by omega) (fun j hj => ?_) (Nat.le_of_ble_eq_true rfl) (Nat.le_of_ble_eq_true rfl) ?_
    · rw [mE_setF, h4 _ (by omega)]
      rcases h6 _ (getD_mem (v := .null) (show ((i : Int) + 1).toNat + j < xs.length by omega)) with h | ⟨y, cj, z1, z2, z3, z4⟩
      · exact Or.inl h
      · exact Or.inr ⟨y, cj, z1, z3, z4⟩
    · refine tailQ _ (mT_setA.trans (mT_setF.trans g1)) (mT_setA.trans (mT_setF.trans a1)) rfl ((Fr.setF (S := fun a => a = l ∨ a = ar) (Or.inl rfl)).trans (Fr.setA (S := fun a => a = l ∨ a = ar) (fun _ => Or.inr rfl)) (fun _ _ h => h) (fun _ _ h => h)) ⟨_, (mF_setA).trans mF_setF_self⟩ ((mF_setA).trans ((mF_setF_k (by decide)).trans c)) (fun j hj => ?_)
      rw [mE_setA, if_pos rfl, List.getD_eq_getElem?_getD, List.getElem?_eraseIdx]
      unfold va_cpy
      by_cases q : j < i
      · rw [if_neg (by omega), if_pos q, mE_setF, ← List.getD_eq_getElem?_getD]
        exact h4 j (by omega)
      · rw [if_pos (by omega), if_neg q, mE_setF, h4 _ (by omega), List.getD_eq_getElem?_getD, show ((i : Int) + 1).toNat + (j - (i : Int).toNat) = j + 1 by omega]
theorem c_J2_remove (hA : ALp K M l ar cap xs) {i : Nat} (hi : i < xs.length) (hQ : ∀ M', ALp K M' l ar cap (xs.eraseIdx i) → Fr (fun a => a = l ∨ a = ar) M M' → mN M' = mN M → Q (.inl (some (xs.getD i .null))) M') : Go K fJ2_remove 3 k n 0 [some (.ref l), some (.int (ii i)), none, none] [] M Q := by
  obtain ⟨⟨a1, a2, a3⟩, ⟨mc, b⟩, c, e, ⟨g1, g2⟩, h3, h4, h5, h6⟩ := id hA
  have hr : RV (xs.getD i .null) := (h6 _ (getD_mem hi)).rv
  have hv : mE M ar (i : Int).toNat = xs.getD i .null := h4 i hi
  refine g_iload1 1 dJ2_remove_0 rfl ?_
  refine g_aload0 2 (by first | exact rv_r | exact rv_n | assumption | exact rv_f) dJ2_remove_1 rfl ?_
  refine g_getf 5 dJ2_remove_2 rfl fl_J2_48 (by (repeat (first | refine mT_setF.trans ?_ | refine mT_setE.trans ?_ | refine mT_setA.trans ?_ | refine (mT_newA_old (by first | assumption | (apply Ne.symm; assumption) | omega | decide)).trans ?_ | refine (mT_newO_old (by first | assumption | (apply Ne.symm; assumption) | omega | decide)).trans ?_)); first | assumption | exact mT_newA_new | exact mT_newO_new) (by (repeat (first | refine mF_setE.trans ?_ | refine mF_setA.trans ?_ | refine mF_newA.trans ?_ | refine (mF_setF_c (by decide)).trans ?_ | refine (mF_setF_k (by decide)).trans ?_ | refine (mF_setF_a (by first | assumption | (apply Ne.symm; assumption) | omega | decide)).trans ?_ | refine (mF_newO_old (by first | assumption | (apply Ne.symm; assumption) | omega | decide)).trans ?_)); first | assumption | exact mF_setF_self | exact mF_newO_new) ?_
  refine k_S2z 8 dJ2_remove_5 rfl lk_J2_118 rfl (by first | rfl | exact rv_cat (by assumption) | exact rv_cat rv_f) (by first | rfl | exact rv_cat (by assumption) | exact rv_cat rv_f) (Nat.le_of_ble_eq_true rfl) (by first | exact Nat.le_of_ble_eq_true rfl | omega) (c_J14_checkIndex (by omega) (by omega) (by omega) ?_)
  refine g_pop 9 (by first | rfl | exact rv_cat (by assumption) | exact rv_cat rv_f) dJ2_remove_8 rfl ?_
  refine g_aload0 10 (by first | exact rv_r | exact rv_n | assumption | exact rv_f) dJ2_remove_9 rfl ?_
  refine g_getf 13 dJ2_remove_10 rfl fl_J2_9 (by (repeat (first | refine mT_setF.trans ?_ | refine mT_setE.trans ?_ | refine mT_setA.trans ?_ | refine (mT_newA_old (by first | assumption | (apply Ne.symm; assumption) | omega | decide)).trans ?_ | refine (mT_newO_old (by first | assumption | (apply Ne.symm; assumption) | omega | decide)).trans ?_)); first | assumption | exact mT_newA_new | exact mT_newO_new) (by (repeat (first | refine mF_setE.trans ?_ | refine mF_setA.trans ?_ | refine mF_newA.trans ?_ | refine (mF_setF_c (by decide)).trans ?_ | refine (mF_setF_k (by decide)).trans ?_ | refine (mF_setF_a (by first | assumption | (apply Ne.symm; assumption) | omega | decide)).trans ?_ | refine (mF_newO_old (by first | assumption | (apply Ne.symm; assumption) | omega | decide)).trans ?_)); first | assumption | exact mF_setF_self | exact mF_newO_new) ?_
  refine g_astore2 14 (Nat.le_of_ble_eq_true rfl) (by first | exact c1_0 | exact c1_i | exact c1_r | exact c1_n | exact c1_v (by assumption) | exact c1_f) (by first | exact rv_r | exact rv_n | assumption | exact rv_f) dJ2_remove_13 rfl ?_
  refine g_aload2 15 (by first | exact rv_r | exact rv_n | assumption | exact rv_f) dJ2_remove_14 rfl ?_
  refine g_iload1 16 dJ2_remove_15 rfl ?_
  refine g_aald 17 dJ2_remove_16 rfl (by (repeat (first | refine mT_setF.trans ?_ | refine mT_setE.trans ?_ | refine mT_setA.trans ?_ | refine (mT_newA_old (by first | assumption | (apply Ne.symm; assumption) | omega | decide)).trans ?_ | refine (mT_newO_old (by first | assumption | (apply Ne.symm; assumption) | omega | decide)).trans ?_)); first | assumption | exact mT_newA_new | exact mT_newO_new) (by first | exact Nat.le_of_ble_eq_true rfl | omega) (by omega) (by omega) (by omega) (hv) ?_
  refine g_astore3 18 (Nat.le_of_ble_eq_true rfl) (by first | exact c1_0 | exact c1_i | exact c1_r | exact c1_n | exact c1_v (by assumption) | exact c1_f) (by first | exact rv_r | exact rv_n | assumption | exact rv_f) dJ2_remove_17 rfl ?_
  refine g_aload0 19 (by first | exact rv_r | exact rv_n | assumption | exact rv_f) dJ2_remove_18 rfl ?_
  refine g_aload2 20 (by first | exact rv_r | exact rv_n | assumption | exact rv_f) dJ2_remove_19 rfl ?_
  refine g_iload1 21 dJ2_remove_20 rfl ?_
  refine k_V2z 24 dJ2_remove_21 rfl lk_J2_144 (by (repeat (first | refine mT_setF.trans ?_ | refine mT_setE.trans ?_ | refine mT_setA.trans ?_ | refine (mT_newA_old (by first | assumption | (apply Ne.symm; assumption) | omega | decide)).trans ?_ | refine (mT_newO_old (by first | assumption | (apply Ne.symm; assumption) | omega | decide)).trans ?_)); first | assumption | exact mT_newA_new | exact mT_newO_new) rfl (by first | rfl | exact rv_cat (by assumption) | exact rv_cat rv_f) (by first | rfl | exact rv_cat (by assumption) | exact rv_cat rv_f) (Nat.le_of_ble_eq_true rfl) (by first | exact Nat.le_of_ble_eq_true rfl | omega) (c_J2_fastRemove hA hi (fun M' p1 p2 p3 => ?_))
  refine g_aload3 25 (by first | exact rv_r | exact rv_n | assumption | exact rv_f) dJ2_remove_24 rfl ?_
  refine g_aret dJ2_remove_25 rfl (Or.inl ⟨_, rfl⟩) (by first | exact rv_r | exact rv_n | assumption | exact rv_f) ?_
  exact hQ M' p1 p2 p3
end JD
