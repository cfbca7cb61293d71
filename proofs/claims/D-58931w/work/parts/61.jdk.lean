/-! ===== the JDK: ArrayList ===== -/
theorem shr1 {c : Int} (h : 0 ≤ c ∧ c ≤ 40) : ii c >>> (ii 1 &&& 31) = ii (c / 2) := by
  have key : ∀ b : Fin 41, ii (b.val : Int) >>> (ii 1 &&& 31) = ii ((b.val : Int) / 2) := by decide +kernel
  have := key ⟨c.toNat, by omega⟩
  simpa only [show ((c.toNat : Nat) : Int) = c by omega] using this
theorem getD_mem {xs : List Value} {i : Nat} {v : Value} (h : i < xs.length) : xs.getD i v ∈ xs := by
  rw [List.getD_eq_getElem?_getD, List.getElem?_eq_getElem h]
  exact List.getElem_mem h
section JB
variable {K : KT} {k n : Nat} {M : Mem} {Q : Res → Mem → Prop} {l ar cap : Nat} {xs : List Value}
theorem c_J13_copyOf {ar n0 N : Nat} (ht : mT M ar = some (.inr (3, n0))) (hlt : ar < mN M) (hb : kB K ≤ ar) (hN : n0 ≤ N) (hN2 : N ≤ 1000000) (he : ∀ i, i < n0 → OBJ M (mE M ar i)) (hQ : ∀ M', Fr (fun _ => False) M M' → mN M' = mN M + 1 → mT M' (mN M) = some (.inr (3, N)) → (∀ i, i < n0 → mE M' (mN M) i = mE M ar i) → (∀ i, n0 ≤ i → mE M' (mN M) i = .null) → Q (.inl (some (.ref (mN M)))) M') : Go K fJ13_copyOf 3 1 N 0 [some (.ref ar), some (.int (ii N))] [] M Q := by
  refine g_aload0 1 (by first | exact rv_r | exact rv_n | assumption | exact rv_f) dJ13_copyOf_0 rfl ?_
  refine g_iload1 2 dJ13_copyOf_1 rfl ?_
  refine g_aload0 3 (by first | exact rv_r | exact rv_n | assumption | exact rv_f) dJ13_copyOf_2 rfl ?_
  refine g_getC 6 dJ13_copyOf_3 rfl q441 ht hb (Nat.le_of_ble_eq_true rfl) (Nat.le_of_ble_eq_true rfl) ?_
  refine k_S3 9 dJ13_copyOf_6 rfl lk_J13_300 rfl (by first | rfl | exact rv_cat (by assumption) | exact rv_cat rv_f) (by first | rfl | exact rv_cat (by assumption) | exact rv_cat rv_f) (by first | rfl | exact rv_cat (by assumption) | exact rv_cat rv_f) (Nat.le_of_ble_eq_true rfl) ⟨by first | exact Nat.le_of_ble_eq_true rfl | omega, by first | exact Nat.le_of_ble_eq_true rfl | omega, by first | exact Nat.le_of_ble_eq_true rfl | omega⟩ (c_J13_copyOf_2 ht hlt hb hN hN2 he (fun M' a b c e f => ?_))
  refine g_aret dJ13_copyOf_9 rfl (Or.inr ⟨_, rfl⟩) (by first | exact rv_r | exact rv_n | assumption | exact rv_f) ?_
  exact hQ M' a b c e f
theorem c_J2_size (hA : ALp K M l ar cap xs) (hQ : Q (.inl (some (.int (ii xs.length)))) M) : Go K fJ2_size 1 k n 0 [some (.ref l)] [] M Q := by
  obtain ⟨⟨a1, a2, a3⟩, ⟨mc, b⟩, c, e, ⟨g1, g2⟩, h3, h4, h5, h6⟩ := hA
  refine g_aload0 1 (by first | exact rv_r | exact rv_n | assumption | exact rv_f) dJ2_size_0 rfl ?_
  refine g_getf 4 dJ2_size_1 rfl fl_J2_48 (by (repeat (first | refine mT_setF.trans ?_ | refine mT_setE.trans ?_ | refine mT_setA.trans ?_ | refine (mT_newA_old (by first | assumption | (apply Ne.symm; assumption) | omega | decide)).trans ?_ | refine (mT_newO_old (by first | assumption | (apply Ne.symm; assumption) | omega | decide)).trans ?_)); first | assumption | exact mT_newA_new | exact mT_newO_new) (by (repeat (first | refine mF_setE.trans ?_ | refine mF_setA.trans ?_ | refine mF_newA.trans ?_ | refine (mF_setF_c (by decide)).trans ?_ | refine (mF_setF_k (by decide)).trans ?_ | refine (mF_setF_a (by first | assumption | (apply Ne.symm; assumption) | omega | decide)).trans ?_ | refine (mF_newO_old (by first | assumption | (apply Ne.symm; assumption) | omega | decide)).trans ?_)); first | assumption | exact mF_setF_self | exact mF_newO_new) ?_
  refine g_iret dJ2_size_4 rfl ?_
  exact hQ
theorem c_J2_isEmpty (hA : ALp K M l ar cap xs) (hQ : Q (.inl (some (.int (ii (if xs.length = 0 then 1 else 0))))) M) : Go K fJ2_isEmpty 1 k n 0 [some (.ref l)] [] M Q := by
  obtain ⟨⟨a1, a2, a3⟩, ⟨mc, b⟩, c, e, ⟨g1, g2⟩, h3, h4, h5, h6⟩ := hA
  refine g_aload0 1 (by first | exact rv_r | exact rv_n | assumption | exact rv_f) dJ2_isEmpty_0 rfl ?_
  refine g_getf 4 dJ2_isEmpty_1 rfl fl_J2_48 (by (repeat (first | refine mT_setF.trans ?_ | refine mT_setE.trans ?_ | refine mT_setA.trans ?_ | refine (mT_newA_old (by first | assumption | (apply Ne.symm; assumption) | omega | decide)).trans ?_ | refine (mT_newO_old (by first | assumption | (apply Ne.symm; assumption) | omega | decide)).trans ?_)); first | assumption | exact mT_newA_new | exact mT_newO_new) (by (repeat (first | refine mF_setE.trans ?_ | refine mF_setA.trans ?_ | refine mF_newA.trans ?_ | refine (mF_setF_c (by decide)).trans ?_ | refine (mF_setF_k (by decide)).trans ?_ | refine (mF_setF_a (by first | assumption | (apply Ne.symm; assumption) | omega | decide)).trans ?_ | refine (mF_newO_old (by first | assumption | (apply Ne.symm; assumption) | omega | decide)).trans ?_)); first | assumption | exact mF_setF_self | exact mF_newO_new) ?_
  refine g_if_ne 11 7 dJ2_isEmpty_4 rfl rfl (by omega) (fun c4 => ?_) (fun c4 => ?_)
  · refine g_iconst 12 dJ2_isEmpty_11 rfl ?_
    refine g_zret dJ2_isEmpty_12 rfl (by first | rfl | exact zr inP_01 | exact zr (by omega) | exact zr (by assumption)) ?_
    refine lq hQ ?_
    split <;> omega
  · refine g_iconst 8 dJ2_isEmpty_7 rfl ?_
    refine g_goto 12 dJ2_isEmpty_8 rfl ?_
    refine g_zret dJ2_isEmpty_12 rfl (by first | rfl | exact zr inP_01 | exact zr (by omega) | exact zr (by assumption)) ?_
    refine lq hQ ?_
    split <;> omega
theorem c_J2_elementData (hA : ALp K M l ar cap xs) {i : Int} (h0 : 0 ≤ i) (h1 : i < xs.length) (hQ : Q (.inl (some (xs.getD i.toNat .null))) M) : Go K fJ2_elementData 1 k n 0 [some (.ref l), some (.int (ii i))] [] M Q := by
  obtain ⟨⟨a1, a2, a3⟩, ⟨mc, b⟩, c, e, ⟨g1, g2⟩, h3, h4, h5, h6⟩ := hA
  have hv := h4 i.toNat (by omega)
  have hr : RV (xs.getD i.toNat .null) := (h6 _ (getD_mem (by omega))).rv
  refine g_aload0 1 (by first | exact rv_r | exact rv_n | assumption | exact rv_f) dJ2_elementData_0 rfl ?_
  refine g_getf 4 dJ2_elementData_1 rfl fl_J2_9 (by (repeat (first | refine mT_setF.trans ?_ | refine mT_setE.trans ?_ | refine mT_setA.trans ?_ | refine (mT_newA_old (by first | assumption | (apply Ne.symm; assumption) | omega | decide)).trans ?_ | refine (mT_newO_old (by first | assumption | (apply Ne.symm; assumption) | omega | decide)).trans ?_)); first | assumption | exact mT_newA_new | exact mT_newO_new) (by (repeat (first | refine mF_setE.trans ?_ | refine mF_setA.trans ?_ | refine mF_newA.trans ?_ | refine (mF_setF_c (by decide)).trans ?_ | refine (mF_setF_k (by decide)).trans ?_ | refine (mF_setF_a (by first | assumption | (apply Ne.symm; assumption) | omega | decide)).trans ?_ | refine (mF_newO_old (by first | assumption | (apply Ne.symm; assumption) | omega | decide)).trans ?_)); first | assumption | exact mF_setF_self | exact mF_newO_new) ?_
  refine g_iload1 5 dJ2_elementData_4 rfl ?_
  refine g_aald 6 dJ2_elementData_5 rfl (by (repeat (first | refine mT_setF.trans ?_ | refine mT_setE.trans ?_ | refine mT_setA.trans ?_ | refine (mT_newA_old (by first | assumption | (apply Ne.symm; assumption) | omega | decide)).trans ?_ | refine (mT_newO_old (by first | assumption | (apply Ne.symm; assumption) | omega | decide)).trans ?_)); first | assumption | exact mT_newA_new | exact mT_newO_new) (by first | exact Nat.le_of_ble_eq_true rfl | omega) (by omega) (by omega) (by omega) (by (repeat (first | refine mE_setF.trans ?_ | refine mE_newO.trans ?_ | refine (mE_newA_old (by first | assumption | (apply Ne.symm; assumption) | omega | decide)).trans ?_ | refine (mE_setE_a (by first | assumption | (apply Ne.symm; assumption) | omega | decide)).trans ?_ | refine (mE_setE_i (by first | assumption | (apply Ne.symm; assumption) | omega | decide)).trans ?_)); first | assumption | exact mE_setE_self | exact mE_newA_new) ?_
  refine g_aret dJ2_elementData_6 rfl (Or.inl ⟨_, rfl⟩) (by first | exact rv_r | exact rv_n | assumption | exact rv_f) ?_
  exact hQ
theorem c_J2_get (hA : ALp K M l ar cap xs) {i : Int} (h0 : 0 ≤ i) (h1 : i < xs.length) (hQ : Q (.inl (some (xs.getD i.toNat .null))) M) : Go K fJ2_get 3 k n 0 [some (.ref l), some (.int (ii i))] [] M Q := by
  obtain ⟨⟨a1, a2, a3⟩, ⟨mc, b⟩, c, e, ⟨g1, g2⟩, h3, h4, h5, h6⟩ := id hA
  have hr : RV (xs.getD i.toNat .null) := (h6 _ (getD_mem (by omega))).rv
  refine g_iload1 1 dJ2_get_0 rfl ?_
  refine g_aload0 2 (by first | exact rv_r | exact rv_n | assumption | exact rv_f) dJ2_get_1 rfl ?_
  refine g_getf 5 dJ2_get_2 rfl fl_J2_48 (by (repeat (first | refine mT_setF.trans ?_ | refine mT_setE.trans ?_ | refine mT_setA.trans ?_ | refine (mT_newA_old (by first | assumption | (apply Ne.symm; assumption) | omega | decide)).trans ?_ | refine (mT_newO_old (by first | assumption | (apply Ne.symm; assumption) | omega | decide)).trans ?_)); first | assumption | exact mT_newA_new | exact mT_newO_new) (by (repeat (first | refine mF_setE.trans ?_ | refine mF_setA.trans ?_ | refine mF_newA.trans ?_ | refine (mF_setF_c (by decide)).trans ?_ | refine (mF_setF_k (by decide)).trans ?_ | refine (mF_setF_a (by first | assumption | (apply Ne.symm; assumption) | omega | decide)).trans ?_ | refine (mF_newO_old (by first | assumption | (apply Ne.symm; assumption) | omega | decide)).trans ?_)); first | assumption | exact mF_setF_self | exact mF_newO_new) ?_
  refine k_S2z 8 dJ2_get_5 rfl lk_J2_118 rfl (by first | rfl | exact rv_cat (by assumption) | exact rv_cat rv_f) (by first | rfl | exact rv_cat (by assumption) | exact rv_cat rv_f) (Nat.le_of_ble_eq_true rfl) (by first | exact Nat.le_of_ble_eq_true rfl | omega) (c_J14_checkIndex (by omega) (by omega) (by omega) ?_)
  refine g_pop 9 (by first | rfl | exact rv_cat (by assumption) | exact rv_cat rv_f) dJ2_get_8 rfl ?_
  refine g_aload0 10 (by first | exact rv_r | exact rv_n | assumption | exact rv_f) dJ2_get_9 rfl ?_
  refine g_iload1 11 dJ2_get_10 rfl ?_
  refine k_V1z 14 dJ2_get_11 rfl lk_J2_123 (by (repeat (first | refine mT_setF.trans ?_ | refine mT_setE.trans ?_ | refine mT_setA.trans ?_ | refine (mT_newA_old (by first | assumption | (apply Ne.symm; assumption) | omega | decide)).trans ?_ | refine (mT_newO_old (by first | assumption | (apply Ne.symm; assumption) | omega | decide)).trans ?_)); first | assumption | exact mT_newA_new | exact mT_newO_new) rfl (by first | rfl | exact rv_cat (by assumption) | exact rv_cat rv_f) (Nat.le_of_ble_eq_true rfl) (by first | exact Nat.le_of_ble_eq_true rfl | omega) (c_J2_elementData hA h0 h1 ?_)
  refine g_aret dJ2_get_14 rfl (Or.inl ⟨_, rfl⟩) (by first | exact rv_r | exact rv_n | assumption | exact rv_f) ?_
  exact hQ
theorem c_J2_grow_2 (hA : ALp K M l ar cap xs) (hf : xs.length = cap) (hc : cap ≤ 25) (hQ : ∀ M' cap', cap < cap' → cap' ≤ 40 → Fr (fun a => a = l) M M' → mN M' = mN M + 1 → (∀ j, j ≠ 1 → mF M' 11 j l = mF M 11 j l) → mF M' 11 1 l = .ref (mN M) → mT M' (mN M) = some (.inr (3, cap')) → (∀ i, i < cap → mE M' (mN M) i = mE M ar i) → Q (.inl (some (.ref (mN M)))) M') : Go K fJ2_grow_2 4 1 40 0 [some (.ref l), some (.int (ii ((cap : Int) + 1))), none, none] [] M Q := by
  obtain ⟨⟨a1, a2, a3⟩, ⟨mc, b⟩, c, e, ⟨g1, g2⟩, h3, h4, h5, h6⟩ := id hA
  refine g_cm fun hcm hag hbn => ?_
  have hl' : l ≠ mN M := by omega
  by_cases q : cap = 0
  · have har : ar = kC K 4 := h5.2 q
    refine g_aload0 1 (by first | exact rv_r | exact rv_n | assumption | exact rv_f) dJ2_grow_2_0 rfl ?_
    refine g_getf 4 dJ2_grow_2_1 rfl fl_J2_9 (by (repeat (first | refine mT_setF.trans ?_ | refine mT_setE.trans ?_ | refine mT_setA.trans ?_ | refine (mT_newA_old (by first | assumption | (apply Ne.symm; assumption) | omega | decide)).trans ?_ | refine (mT_newO_old (by first | assumption | (apply Ne.symm; assumption) | omega | decide)).trans ?_)); first | assumption | exact mT_newA_new | exact mT_newO_new) (by (repeat (first | refine mF_setE.trans ?_ | refine mF_setA.trans ?_ | refine mF_newA.trans ?_ | refine (mF_setF_c (by decide)).trans ?_ | refine (mF_setF_k (by decide)).trans ?_ | refine (mF_setF_a (by first | assumption | (apply Ne.symm; assumption) | omega | decide)).trans ?_ | refine (mF_newO_old (by first | assumption | (apply Ne.symm; assumption) | omega | decide)).trans ?_)); first | assumption | exact mF_setF_self | exact mF_newO_new) ?_
    refine g_alen 5 dJ2_grow_2_4 rfl (by (repeat (first | refine mT_setF.trans ?_ | refine mT_setE.trans ?_ | refine mT_setA.trans ?_ | refine (mT_newA_old (by first | assumption | (apply Ne.symm; assumption) | omega | decide)).trans ?_ | refine (mT_newO_old (by first | assumption | (apply Ne.symm; assumption) | omega | decide)).trans ?_)); first | assumption | exact mT_newA_new | exact mT_newO_new) ?_
    refine g_istore2 6 (Nat.le_of_ble_eq_true rfl) (by first | exact c1_0 | exact c1_i | exact c1_r | exact c1_n | exact c1_v (by assumption) | exact c1_f) dJ2_grow_2_5 rfl ?_
    refine g_iload2 7 dJ2_grow_2_6 rfl ?_
    refine g_if_gt 20 10 dJ2_grow_2_7 rfl rfl (by omega) (fun c7 => by omega) (fun c7 => ?_)
    refine g_aload0 11 (by first | exact rv_r | exact rv_n | assumption | exact rv_f) dJ2_grow_2_10 rfl ?_
    refine g_getf 14 dJ2_grow_2_11 rfl fl_J2_9 (by (repeat (first | refine mT_setF.trans ?_ | refine mT_setE.trans ?_ | refine mT_setA.trans ?_ | refine (mT_newA_old (by first | assumption | (apply Ne.symm; assumption) | omega | decide)).trans ?_ | refine (mT_newO_old (by first | assumption | (apply Ne.symm; assumption) | omega | decide)).trans ?_)); first | assumption | exact mT_newA_new | exact mT_newO_new) (by (repeat (first | refine mF_setE.trans ?_ | refine mF_setA.trans ?_ | refine mF_newA.trans ?_ | refine (mF_setF_c (by decide)).trans ?_ | refine (mF_setF_k (by decide)).trans ?_ | refine (mF_setF_a (by first | assumption | (apply Ne.symm; assumption) | omega | decide)).trans ?_ | refine (mF_newO_old (by first | assumption | (apply Ne.symm; assumption) | omega | decide)).trans ?_)); first | assumption | exact mF_setF_self | exact mF_newO_new) ?_
    refine g_gets 17 (q := ("java/util/ArrayList", "DEFAULTCAPACITY_EMPTY_ELEMENTDATA", "[Ljava/lang/Object;", .ref (kC K 4))) (ref := "") dJ2_grow_2_14 rfl q168 (by simp [statS]) ?_
    refine g_acmp_eq 45 20 dJ2_grow_2_17 rfl rfl rv_r rv_r (fun _ => ?_) (fun c17 => absurd (by rw [har]) c17)
    refine g_aload0 46 (by first | exact rv_r | exact rv_n | assumption | exact rv_f) dJ2_grow_2_45 rfl ?_
    refine g_bipush 48 (by rfl) dJ2_grow_2_46 rfl ?_
    refine g_iload1 49 dJ2_grow_2_48 rfl ?_
    refine k_S2z 52 dJ2_grow_2_49 rfl lk_J2_79 rfl (by first | rfl | exact rv_cat (by assumption) | exact rv_cat rv_f) (by first | rfl | exact rv_cat (by assumption) | exact rv_cat rv_f) (Nat.le_of_ble_eq_true rfl) (by first | exact Nat.le_of_ble_eq_true rfl | omega) (c_J12_max (by omega) (by omega) ?_)
    rw [show (if (10 : Int) < (cap : Int) + 1 then (cap : Int) + 1 else 10) = 10 by rw [if_neg (by omega)]]
    refine g_newR (N := 10) 55 0 0 dJ2_grow_2_52 rfl q487 (Or.inl ⟨rfl, rfl⟩) (by omega) (by omega) (by decide) (by omega) (by omega) ?_
    refine g_dup_x1 56 (by first | rfl | exact rv_cat (by assumption) | exact rv_cat rv_f) (by first | rfl | exact rv_cat (by assumption) | exact rv_cat rv_f) dJ2_grow_2_55 rfl ?_
    refine g_putf 59 dJ2_grow_2_56 rfl fl_J2_9 (by (repeat (first | refine mT_setF.trans ?_ | refine mT_setE.trans ?_ | refine mT_setA.trans ?_ | refine (mT_newA_old (by first | assumption | (apply Ne.symm; assumption) | omega | decide)).trans ?_ | refine (mT_newO_old (by first | assumption | (apply Ne.symm; assumption) | omega | decide)).trans ?_)); first | assumption | exact mT_newA_new | exact mT_newO_new) (by first | assumption | omega) (ft_a (by first | exact rv_r | exact rv_n | assumption | exact rv_f)) ?_
    refine g_aret dJ2_grow_2_59 rfl (Or.inr ⟨_, rfl⟩) (by first | exact rv_r | exact rv_n | assumption | exact rv_f) ?_
    refine hQ _ 10 (by omega) (by omega) (Fr.newA.trans (Fr.setF (S := fun a => a = l) rfl) (fun _ _ h => h) (fun _ _ h => h)) rfl (fun j hj => (mF_setF_k hj).trans mF_newA) mF_setF_self (mT_setF.trans mT_newA_new) (fun i hi => by omega)
  · have hb : kB K ≤ ar := h5.1 (by omega)
    refine g_aload0 1 (by first | exact rv_r | exact rv_n | assumption | exact rv_f) dJ2_grow_2_0 rfl ?_
    refine g_getf 4 dJ2_grow_2_1 rfl fl_J2_9 (by (repeat (first | refine mT_setF.trans ?_ | refine mT_setE.trans ?_ | refine mT_setA.trans ?_ | refine (mT_newA_old (by first | assumption | (apply Ne.symm; assumption) | omega | decide)).trans ?_ | refine (mT_newO_old (by first | assumption | (apply Ne.symm; assumption) | omega | decide)).trans ?_)); first | assumption | exact mT_newA_new | exact mT_newO_new) (by (repeat (first | refine mF_setE.trans ?_ | refine mF_setA.trans ?_ | refine mF_newA.trans ?_ | refine (mF_setF_c (by decide)).trans ?_ | refine (mF_setF_k (by decide)).trans ?_ | refine (mF_setF_a (by first | assumption | (apply Ne.symm; assumption) | omega | decide)).trans ?_ | refine (mF_newO_old (by first | assumption | (apply Ne.symm; assumption) | omega | decide)).trans ?_)); first | assumption | exact mF_setF_self | exact mF_newO_new) ?_
    refine g_alen 5 dJ2_grow_2_4 rfl (by (repeat (first | refine mT_setF.trans ?_ | refine mT_setE.trans ?_ | refine mT_setA.trans ?_ | refine (mT_newA_old (by first | assumption | (apply Ne.symm; assumption) | omega | decide)).trans ?_ | refine (mT_newO_old (by first | assumption | (apply Ne.symm; assumption) | omega | decide)).trans ?_)); first | assumption | exact mT_newA_new | exact mT_newO_new) ?_
    refine g_istore2 6 (Nat.le_of_ble_eq_true rfl) (by first | exact c1_0 | exact c1_i | exact c1_r | exact c1_n | exact c1_v (by assumption) | exact c1_f) dJ2_grow_2_5 rfl ?_
    refine g_iload2 7 dJ2_grow_2_6 rfl ?_
    refine g_if_gt 20 10 dJ2_grow_2_7 rfl rfl (by omega) (fun c7 => ?_) (fun c7 => by omega)
    refine g_iload2 21 dJ2_grow_2_20 rfl ?_
    refine g_iload1 22 dJ2_grow_2_21 rfl ?_
    refine g_iload2 23 dJ2_grow_2_22 rfl ?_
    refine g_isub 24 dJ2_grow_2_23 rfl ?_
    refine g_iload2 25 dJ2_grow_2_24 rfl ?_
    refine g_iconst 26 dJ2_grow_2_25 rfl ?_
    refine g_ishr 27 (shr1 (by omega)) dJ2_grow_2_26 rfl ?_
    refine k_S3z 30 dJ2_grow_2_27 rfl lk_J2_73 rfl (by first | rfl | exact rv_cat (by assumption) | exact rv_cat rv_f) (by first | rfl | exact rv_cat (by assumption) | exact rv_cat rv_f) (by first | rfl | exact rv_cat (by assumption) | exact rv_cat rv_f) (Nat.le_of_ble_eq_true rfl) (by first | exact Nat.le_of_ble_eq_true rfl | omega) (c_J11_newLength (by omega) (by omega) (by omega) (by omega) ?_)
    have hx : (if (cap : Int) + 1 - (cap : Int) < (cap : Int) / 2 then (cap : Int) / 2 else (cap : Int) + 1 - (cap : Int)) = ((max 1 (cap / 2) : Nat) : Int) := by
      split <;> omega
    rw [hx, show (cap : Int) + ((max 1 (cap / 2) : Nat) : Int) = ((cap + max 1 (cap / 2) : Nat) : Int) by omega]
    have hcap2 : cap < cap + max 1 (cap / 2) ∧ cap + max 1 (cap / 2) ≤ 40 := by omega
    generalize cap + max 1 (cap / 2) = cap2 at *
    refine g_istore3 31 (Nat.le_of_ble_eq_true rfl) (by first | exact c1_0 | exact c1_i | exact c1_r | exact c1_n | exact c1_v (by assumption) | exact c1_f) dJ2_grow_2_30 rfl ?_
    refine g_aload0 32 (by first | exact rv_r | exact rv_n | assumption | exact rv_f) dJ2_grow_2_31 rfl ?_
    refine g_aload0 33 (by first | exact rv_r | exact rv_n | assumption | exact rv_f) dJ2_grow_2_32 rfl ?_
    refine g_getf 36 dJ2_grow_2_33 rfl fl_J2_9 (by (repeat (first | refine mT_setF.trans ?_ | refine mT_setE.trans ?_ | refine mT_setA.trans ?_ | refine (mT_newA_old (by first | assumption | (apply Ne.symm; assumption) | omega | decide)).trans ?_ | refine (mT_newO_old (by first | assumption | (apply Ne.symm; assumption) | omega | decide)).trans ?_)); first | assumption | exact mT_newA_new | exact mT_newO_new) (by (repeat (first | refine mF_setE.trans ?_ | refine mF_setA.trans ?_ | refine mF_newA.trans ?_ | refine (mF_setF_c (by decide)).trans ?_ | refine (mF_setF_k (by decide)).trans ?_ | refine (mF_setF_a (by first | assumption | (apply Ne.symm; assumption) | omega | decide)).trans ?_ | refine (mF_newO_old (by first | assumption | (apply Ne.symm; assumption) | omega | decide)).trans ?_)); first | assumption | exact mF_setF_self | exact mF_newO_new) ?_
    refine g_iload3 37 dJ2_grow_2_36 rfl ?_
    refine k_S2 40 dJ2_grow_2_37 rfl lk_J2_66 rfl (by first | rfl | exact rv_cat (by assumption) | exact rv_cat rv_f) (by first | rfl | exact rv_cat (by assumption) | exact rv_cat rv_f) (Nat.le_of_ble_eq_true rfl) ⟨by first | exact Nat.le_of_ble_eq_true rfl | omega, by first | exact Nat.le_of_ble_eq_true rfl | omega, by first | exact Nat.le_of_ble_eq_true rfl | omega⟩ (c_J13_copyOf (N := cap2) g1 g2 hb (by omega) (by omega) (fun i hi => ?_) (fun M' f1 f2 f3 f4 f5 => ?_))
    · rw [h4 i (by omega)]
      exact h6 _ (getD_mem (by omega))
    · have ht' : mT M' l = some (.inl 11) := (f1.t a3).trans a1
      refine g_dup_x1 41 (by first | rfl | exact rv_cat (by assumption) | exact rv_cat rv_f) (by first | rfl | exact rv_cat (by assumption) | exact rv_cat rv_f) dJ2_grow_2_40 rfl ?_
      refine g_putf 44 dJ2_grow_2_41 rfl fl_J2_9 (by (repeat (first | refine mT_setF.trans ?_ | refine mT_setE.trans ?_ | refine mT_setA.trans ?_ | refine (mT_newA_old (by first | assumption | (apply Ne.symm; assumption) | omega | decide)).trans ?_ | refine (mT_newO_old (by first | assumption | (apply Ne.symm; assumption) | omega | decide)).trans ?_)); first | assumption | exact mT_newA_new | exact mT_newO_new) (by first | assumption | omega) (ft_a (by first | exact rv_r | exact rv_n | assumption | exact rv_f)) ?_
      refine g_aret dJ2_grow_2_44 rfl (Or.inr ⟨_, rfl⟩) (by first | exact rv_r | exact rv_n | assumption | exact rv_f) ?_
      refine hQ _ cap2 hcap2.1 hcap2.2 ((f1.mono (fun _ _ h => h.elim)).trans (Fr.setF (S := fun a => a = l) rfl) (fun _ _ h => h) (fun _ _ h => h)) f2 (fun j hj => (mF_setF_k hj).trans (f1.f a3 (fun h => h) _ _)) mF_setF_self (mT_setF.trans f3) (fun i hi => f4 i hi)
theorem c_J2_grow (hA : ALp K M l ar cap xs) (hf : xs.length = cap) (hc : cap ≤ 25) (hQ : ∀ M' cap', cap < cap' → cap' ≤ 40 → Fr (fun a => a = l) M M' → mN M' = mN M + 1 → (∀ j, j ≠ 1 → mF M' 11 j l = mF M 11 j l) → mF M' 11 1 l = .ref (mN M) → mT M' (mN M) = some (.inr (3, cap')) → (∀ i, i < cap → mE M' (mN M) i = mE M ar i) → Q (.inl (some (.ref (mN M)))) M') : Go K fJ2_grow 5 1 40 0 [some (.ref l)] [] M Q := by
  obtain ⟨⟨a1, a2, a3⟩, ⟨mc, b⟩, c, e, ⟨g1, g2⟩, h3, h4, h5, h6⟩ := id hA
  refine g_aload0 1 (by first | exact rv_r | exact rv_n | assumption | exact rv_f) dJ2_grow_0 rfl ?_
  refine g_aload0 2 (by first | exact rv_r | exact rv_n | assumption | exact rv_f) dJ2_grow_1 rfl ?_
  refine g_getf 5 dJ2_grow_2 rfl fl_J2_48 (by (repeat (first | refine mT_setF.trans ?_ | refine mT_setE.trans ?_ | refine mT_setA.trans ?_ | refine (mT_newA_old (by first | assumption | (apply Ne.symm; assumption) | omega | decide)).trans ?_ | refine (mT_newO_old (by first | assumption | (apply Ne.symm; assumption) | omega | decide)).trans ?_)); first | assumption | exact mT_newA_new | exact mT_newO_new) (by (repeat (first | refine mF_setE.trans ?_ | refine mF_setA.trans ?_ | refine mF_newA.trans ?_ | refine (mF_setF_c (by decide)).trans ?_ | refine (mF_setF_k (by decide)).trans ?_ | refine (mF_setF_a (by first | assumption | (apply Ne.symm; assumption) | omega | decide)).trans ?_ | refine (mF_newO_old (by first | assumption | (apply Ne.symm; assumption) | omega | decide)).trans ?_)); first | assumption | exact mF_setF_self | exact mF_newO_new) ?_
  refine g_iconst 6 dJ2_grow_5 rfl ?_
  refine g_iadd 7 dJ2_grow_6 rfl ?_
  rw [hf]
  refine k_V1 10 dJ2_grow_7 rfl lk_J2_69 (by (repeat (first | refine mT_setF.trans ?_ | refine mT_setE.trans ?_ | refine mT_setA.trans ?_ | refine (mT_newA_old (by first | assumption | (apply Ne.symm; assumption) | omega | decide)).trans ?_ | refine (mT_newO_old (by first | assumption | (apply Ne.symm; assumption) | omega | decide)).trans ?_)); first | assumption | exact mT_newA_new | exact mT_newO_new) rfl (by first | rfl | exact rv_cat (by assumption) | exact rv_cat rv_f) (Nat.le_of_ble_eq_true rfl) ⟨by first | exact Nat.le_of_ble_eq_true rfl | omega, by first | exact Nat.le_of_ble_eq_true rfl | omega, by first | exact Nat.le_of_ble_eq_true rfl | omega⟩ (c_J2_grow_2 hA hf hc (fun M' cap' x1 x2 x3 x4 x5 x6 x7 x8 => ?_))
  refine g_aret dJ2_grow_10 rfl (Or.inr ⟨_, rfl⟩) (by first | exact rv_r | exact rv_n | assumption | exact rv_f) ?_
  exact hQ M' cap' x1 x2 x3 x4 x5 x6 x7 x8
/-- one element more -/
theorem ALp.push {M' : Mem} {ar' cap' y cj : Nat} (hA : ALp K M l ar cap xs) (hl : Fr (fun a => a = l ∨ a = ar') M M') (h0 : ∃ mc, mF M' 11 0 l = .int (ii mc)) (h1 : mF M' 11 1 l = .ref ar') (h2 : mF M' 11 2 l = .int (ii ((xs.length : Int) + 1))) (ht : mT M' ar' = some (.inr (3, cap')) ∧ ar' < mN M') (hc : xs.length + 1 ≤ cap' ∧ cap' ≤ 1000000) (hb : kB K ≤ ar') (he : ∀ i, i < xs.length → mE M' ar' i = xs.getD i .null) (hy : mE M' ar' xs.length = .ref y) (hyt : mT M y = some (.inl cj) ∧ y < mN M ∧ ASG cj 3) : ALp K M' l ar' cap' (xs ++ [.ref y]) := by
  obtain ⟨⟨a1, a2, a3⟩, -, c, e, ⟨g1, g2⟩, h3, h4, h5, h6⟩ := id hA
  refine ⟨⟨(hl.t a3).trans a1, a2, Nat.lt_of_lt_of_le a3 hl.1⟩, h0, h1, by rw [h2]; simp, ht, ⟨by simp; omega, hc.2⟩, fun i hi => ?_, ⟨fun _ => hb, fun z => by omega⟩, fun x hx => ?_⟩
  · simp at hi
    by_cases q : i = xs.length
    · subst q
      rw [hy]
      simp
    · rw [he i (by omega)]
      simp [List.getD_eq_getElem?_getD, List.getElem?_append_left (show i < xs.length by omega)]
  · rcases List.mem_append.mp hx with h | h
    · exact (h6 x h).fr hl
    · simp at h
      exact Or.inr ⟨y, cj, h, Nat.lt_of_lt_of_le hyt.2.1 hl.1, (hl.t hyt.2.1).trans hyt.1, hyt.2.2⟩
theorem c_J2_add_2 {y cj : Nat} (hA : ALp K M l ar cap xs) (hc : xs.length ≤ 25) (hy : mT M y = some (.inl cj) ∧ y < mN M ∧ ASG cj 3) (hQ : ∀ M' ar' cap', ALp K M' l ar' cap' (xs ++ [.ref y]) → Fr (fun a => a = l ∨ (a = ar ∧ 0 < cap)) M M' → ((ar' = ar ∧ cap' = cap ∧ mN M' = mN M) ∨ (ar' = mN M ∧ mN M' = mN M + 1)) → Q (.inl none) M') : Go K fJ2_add_2 6 1 40 0 [some (.ref l), some (.ref y), some (.ref ar), some (.int (ii xs.length))] [] M Q := by
  obtain ⟨⟨a1, a2, a3⟩, ⟨mc, b⟩, c, e, ⟨g1, g2⟩, h3, h4, h5, h6⟩ := id hA
  have hne : l ≠ ar := fun z => by rw [z, g1] at a1; cases a1
  have tailQ : ∀ (k n : Nat) M2 ar' cap', (mT M2 ar' = some (.inr (3, cap')) ∧ ar' < mN M2) → mT M2 l = some (.inl 11) → mT M2 y = some (.inl cj) → kB K ≤ ar' → xs.length < cap' → cap' ≤ 1000000 → Fr (fun a => a = l) M M2 → (∀ j, j ≠ 1 → mF M2 11 j l = mF M 11 j l) → mF M2 11 1 l = .ref ar' → (∀ i, i < xs.length → mE M2 ar' i = mE M ar i) → l ≠ ar' → ((ar' = ar ∧ cap' = cap ∧ mN M2 = mN M) ∨ (ar' = mN M ∧ mN M2 = mN M + 1)) → Go K fJ2_add_2 6 k n 11 [some (.ref l), some (.ref y), some (.ref ar'), some (.int (ii xs.length))] [] M2 Q := by
    intro k n M2 ar' cap' t1 t2 t3 t4 t5 t6 f1 k1 k2 k3 k4 k5
    obtain ⟨t1, t1'⟩ := t1
    refine g_aload2 12 (by first | exact rv_r | exact rv_n | assumption | exact rv_f) dJ2_add_2_11 rfl ?_
    refine g_iload3 13 dJ2_add_2_12 rfl ?_
    refine g_aload1 14 (by first | exact rv_r | exact rv_n | assumption | exact rv_f) dJ2_add_2_13 rfl ?_
    refine g_aast 15 dJ2_add_2_14 rfl t1 t4 (by omega) (by omega) (by omega) t3 hy.2.2 ?_
    refine g_aload0 16 (by first | exact rv_r | exact rv_n | assumption | exact rv_f) dJ2_add_2_15 rfl ?_
    refine g_iload3 17 dJ2_add_2_16 rfl ?_
    refine g_iconst 18 dJ2_add_2_17 rfl ?_
    refine g_iadd 19 dJ2_add_2_18 rfl ?_
    refine g_putf 22 dJ2_add_2_19 rfl fl_J2_48 (by (repeat (first | refine mT_setF.trans ?_ | refine mT_setE.trans ?_ | refine mT_setA.trans ?_ | refine (mT_newA_old (by first | assumption | (apply Ne.symm; assumption) | omega | decide)).trans ?_ | refine (mT_newO_old (by first | assumption | (apply Ne.symm; assumption) | omega | decide)).trans ?_)); first | assumption | exact mT_newA_new | exact mT_newO_new) (by first | assumption | omega) ft_i ?_
    refine g_vret dJ2_add_2_22 rfl ?_
    have fin : Fr (fun a => a = l ∨ a = ar') M (setF (setE M2 ar' (xs.length : Int).toNat (.ref y)) 11 2 l (.int (ii ((xs.length : Int) + 1)))) := (f1.trans ((Fr.setE (S := fun a => a = l ∨ a = ar') (Or.inr rfl)).trans (Fr.setF (S := fun a => a = l ∨ a = ar') (Or.inl rfl)) (fun _ _ h => h) (fun _ _ h => h)) (fun _ _ h => Or.inl h) (fun _ _ h => h))
    refine hQ _ ar' cap' (hA.push fin ⟨mc, (mF_setF_k (by decide)).trans ((k1 0 (by decide)).trans b)⟩ ((mF_setF_k (by decide)).trans k2) mF_setF_self ⟨t1, t1'⟩ ⟨by omega, t6⟩ t4 (fun i hi => ?_) ?_ hy) (fin.mono (fun a ha h => ?_)) ?_
    · exact ((mE_setE_i (by omega)).trans (k3 i hi)).trans (h4 i hi)
    · exact mE_setE_self
    · rcases h with h | h
      · exact Or.inl h
      · rcases k5 with k5 | k5
        · exact Or.inr ⟨h.trans k5.1, by omega⟩
        · omega
    · rcases k5 with k5 | k5
      · exact Or.inl k5
      · exact Or.inr k5
  by_cases q : xs.length = cap
  · refine g_iload3 1 dJ2_add_2_0 rfl ?_
    refine g_aload2 2 (by first | exact rv_r | exact rv_n | assumption | exact rv_f) dJ2_add_2_1 rfl ?_
    refine g_alen 3 dJ2_add_2_2 rfl (by (repeat (first | refine mT_setF.trans ?_ | refine mT_setE.trans ?_ | refine mT_setA.trans ?_ | refine (mT_newA_old (by first | assumption | (apply Ne.symm; assumption) | omega | decide)).trans ?_ | refine (mT_newO_old (by first | assumption | (apply Ne.symm; assumption) | omega | decide)).trans ?_)); first | assumption | exact mT_newA_new | exact mT_newO_new) ?_
    refine g_icmp_ne 11 6 dJ2_add_2_3 rfl rfl (by omega) (by omega) (fun c3 => by omega) (fun c3 => ?_)
    refine g_aload0 7 (by first | exact rv_r | exact rv_n | assumption | exact rv_f) dJ2_add_2_6 rfl ?_
    refine k_V0 10 dJ2_add_2_7 rfl lk_J2_129 (by (repeat (first | refine mT_setF.trans ?_ | refine mT_setE.trans ?_ | refine mT_setA.trans ?_ | refine (mT_newA_old (by first | assumption | (apply Ne.symm; assumption) | omega | decide)).trans ?_ | refine (mT_newO_old (by first | assumption | (apply Ne.symm; assumption) | omega | decide)).trans ?_)); first | assumption | exact mT_newA_new | exact mT_newO_new) rfl  (Nat.le_of_ble_eq_true rfl) ⟨by first | exact Nat.le_of_ble_eq_true rfl | omega, by first | exact Nat.le_of_ble_eq_true rfl | omega, by first | exact Nat.le_of_ble_eq_true rfl | omega⟩ (c_J2_grow hA q (by omega) (fun M2 cap2 x1 x2 x3 x4 x5 x6 x7 x8 => ?_))
    refine g_astore2 11 (Nat.le_of_ble_eq_true rfl) (by first | exact c1_0 | exact c1_i | exact c1_r | exact c1_n | exact c1_v (by assumption) | exact c1_f) (by first | exact rv_r | exact rv_n | assumption | exact rv_f) dJ2_add_2_10 rfl ?_
    refine tailQ _ _ M2 (mN M) cap2 ⟨x7, by omega⟩ ((x3.t a3).trans a1) ((x3.t hy.2.1).trans hy.1) (by omega) (by omega) (by omega) x3 x5 x6 (fun i hi => x8 i (by omega)) (by omega) (Or.inr ⟨rfl, x4⟩)
  · refine g_iload3 1 dJ2_add_2_0 rfl ?_
    refine g_aload2 2 (by first | exact rv_r | exact rv_n | assumption | exact rv_f) dJ2_add_2_1 rfl ?_
    refine g_alen 3 dJ2_add_2_2 rfl (by (repeat (first | refine mT_setF.trans ?_ | refine mT_setE.trans ?_ | refine mT_setA.trans ?_ | refine (mT_newA_old (by first | assumption | (apply Ne.symm; assumption) | omega | decide)).trans ?_ | refine (mT_newO_old (by first | assumption | (apply Ne.symm; assumption) | omega | decide)).trans ?_)); first | assumption | exact mT_newA_new | exact mT_newO_new) ?_
    refine g_icmp_ne 11 6 dJ2_add_2_3 rfl rfl (by omega) (by omega) (fun c3 => ?_) (fun c3 => by omega)
    refine tailQ _ _ M ar cap ⟨g1, g2⟩ a1 hy.1 (h5.1 (by omega)) (by omega) (by omega) Fr.rfl (fun _ _ => rfl) c (fun _ _ => rfl) hne (Or.inl ⟨rfl, rfl, rfl⟩)
theorem c_J2_add {y cj : Nat} (hA : ALp K M l ar cap xs) (hc : xs.length ≤ 25) (hy : mT M y = some (.inl cj) ∧ y < mN M ∧ ASG cj 3) (hQ : ∀ M' ar' cap', ALp K M' l ar' cap' (xs ++ [.ref y]) → Fr (fun a => a = l ∨ (a = ar ∧ 0 < cap)) M M' → ((ar' = ar ∧ cap' = cap ∧ mN M' = mN M) ∨ (ar' = mN M ∧ mN M' = mN M + 1)) → Q (.inl (some (.int (ii 1)))) M') : Go K fJ2_add 7 1 40 0 [some (.ref l), some (.ref y)] [] M Q := by
  obtain ⟨⟨a1, a2, a3⟩, ⟨mc, b⟩, c, e, ⟨g1, g2⟩, h3, h4, h5, h6⟩ := id hA
  refine g_aload0 1 (by first | exact rv_r | exact rv_n | assumption | exact rv_f) dJ2_add_0 rfl ?_
  refine g_dup 2 (by first | rfl | exact rv_cat (by assumption) | exact rv_cat rv_f) dJ2_add_1 rfl ?_
  refine g_getf 5 dJ2_add_2 rfl fl_J2_63 (by (repeat (first | refine mT_setF.trans ?_ | refine mT_setE.trans ?_ | refine mT_setA.trans ?_ | refine (mT_newA_old (by first | assumption | (apply Ne.symm; assumption) | omega | decide)).trans ?_ | refine (mT_newO_old (by first | assumption | (apply Ne.symm; assumption) | omega | decide)).trans ?_)); first | assumption | exact mT_newA_new | exact mT_newO_new) (by (repeat (first | refine mF_setE.trans ?_ | refine mF_setA.trans ?_ | refine mF_newA.trans ?_ | refine (mF_setF_c (by decide)).trans ?_ | refine (mF_setF_k (by decide)).trans ?_ | refine (mF_setF_a (by first | assumption | (apply Ne.symm; assumption) | omega | decide)).trans ?_ | refine (mF_newO_old (by first | assumption | (apply Ne.symm; assumption) | omega | decide)).trans ?_)); first | assumption | exact mF_setF_self | exact mF_newO_new) ?_
  refine g_iconst 6 dJ2_add_5 rfl ?_
  refine g_iadd 7 dJ2_add_6 rfl ?_
  refine g_putf 10 dJ2_add_7 rfl fl_J2_63 (by (repeat (first | refine mT_setF.trans ?_ | refine mT_setE.trans ?_ | refine mT_setA.trans ?_ | refine (mT_newA_old (by first | assumption | (apply Ne.symm; assumption) | omega | decide)).trans ?_ | refine (mT_newO_old (by first | assumption | (apply Ne.symm; assumption) | omega | decide)).trans ?_)); first | assumption | exact mT_newA_new | exact mT_newO_new) (by first | assumption | omega) ft_i ?_
  refine g_aload0 11 (by first | exact rv_r | exact rv_n | assumption | exact rv_f) dJ2_add_10 rfl ?_
  refine g_aload1 12 (by first | exact rv_r | exact rv_n | assumption | exact rv_f) dJ2_add_11 rfl ?_
  refine g_aload0 13 (by first | exact rv_r | exact rv_n | assumption | exact rv_f) dJ2_add_12 rfl ?_
  refine g_getf 16 dJ2_add_13 rfl fl_J2_9 (by (repeat (first | refine mT_setF.trans ?_ | refine mT_setE.trans ?_ | refine mT_setA.trans ?_ | refine (mT_newA_old (by first | assumption | (apply Ne.symm; assumption) | omega | decide)).trans ?_ | refine (mT_newO_old (by first | assumption | (apply Ne.symm; assumption) | omega | decide)).trans ?_)); first | assumption | exact mT_newA_new | exact mT_newO_new) (by (repeat (first | refine mF_setE.trans ?_ | refine mF_setA.trans ?_ | refine mF_newA.trans ?_ | refine (mF_setF_c (by decide)).trans ?_ | refine (mF_setF_k (by decide)).trans ?_ | refine (mF_setF_a (by first | assumption | (apply Ne.symm; assumption) | omega | decide)).trans ?_ | refine (mF_newO_old (by first | assumption | (apply Ne.symm; assumption) | omega | decide)).trans ?_)); first | assumption | exact mF_setF_self | exact mF_newO_new) ?_
  refine g_aload0 17 (by first | exact rv_r | exact rv_n | assumption | exact rv_f) dJ2_add_16 rfl ?_
  refine g_getf 20 dJ2_add_17 rfl fl_J2_48 (by (repeat (first | refine mT_setF.trans ?_ | refine mT_setE.trans ?_ | refine mT_setA.trans ?_ | refine (mT_newA_old (by first | assumption | (apply Ne.symm; assumption) | omega | decide)).trans ?_ | refine (mT_newO_old (by first | assumption | (apply Ne.symm; assumption) | omega | decide)).trans ?_)); first | assumption | exact mT_newA_new | exact mT_newO_new) (by (repeat (first | refine mF_setE.trans ?_ | refine mF_setA.trans ?_ | refine mF_newA.trans ?_ | refine (mF_setF_c (by decide)).trans ?_ | refine (mF_setF_k (by decide)).trans ?_ | refine (mF_setF_a (by first | assumption | (apply Ne.symm; assumption) | omega | decide)).trans ?_ | refine (mF_newO_old (by first | assumption | (apply Ne.symm; assumption) | omega | decide)).trans ?_)); first | assumption | exact mF_setF_self | exact mF_newO_new) ?_
  have hf1 : Fr (fun a => a = l) M (setF M 11 0 l (.int (ii (mc + 1)))) := Fr.setF rfl
  have hm1 : mF (setF M 11 0 l (.int (ii (mc + 1)))) 11 0 l = .int (ii (mc + 1)) := mF_setF_self
  have hl1 : ∀ j, j ≠ 0 → mF (setF M 11 0 l (.int (ii (mc + 1)))) 11 j l = mF M 11 j l := fun j hj => mF_setF_k hj
  have he1 : ∀ a i, mE (setF M 11 0 l (.int (ii (mc + 1)))) a i = mE M a i := fun _ _ => rfl
  have hn1 : mN (setF M 11 0 l (.int (ii (mc + 1)))) = mN M := rfl
  generalize setF M 11 0 l (.int (ii (mc + 1))) = M1 at *
  have hA1 : ALp K M1 l ar cap xs := ⟨⟨(hf1.t a3).trans a1, a2, by omega⟩, ⟨_, hm1⟩, (hl1 1 (by decide)).trans c, (hl1 2 (by decide)).trans e, ⟨(hf1.t g2).trans g1, by omega⟩, h3, fun i hi => (he1 _ _).trans (h4 i hi), h5, fun x hx => (h6 x hx).fr hf1⟩
  have hy1 : mT M1 y = some (.inl cj) := (hf1.t hy.2.1).trans hy.1
  have ht1 : mT M1 l = some (.inl 11) := hA1.1.1
  refine k_V3 23 dJ2_add_20 rfl lk_J2_131 (by (repeat (first | refine mT_setF.trans ?_ | refine mT_setE.trans ?_ | refine mT_setA.trans ?_ | refine (mT_newA_old (by first | assumption | (apply Ne.symm; assumption) | omega | decide)).trans ?_ | refine (mT_newO_old (by first | assumption | (apply Ne.symm; assumption) | omega | decide)).trans ?_)); first | assumption | exact mT_newA_new | exact mT_newO_new) rfl (by first | rfl | exact rv_cat (by assumption) | exact rv_cat rv_f) (by first | rfl | exact rv_cat (by assumption) | exact rv_cat rv_f) (by first | rfl | exact rv_cat (by assumption) | exact rv_cat rv_f) (Nat.le_of_ble_eq_true rfl) ⟨by first | exact Nat.le_of_ble_eq_true rfl | omega, by first | exact Nat.le_of_ble_eq_true rfl | omega, by first | exact Nat.le_of_ble_eq_true rfl | omega⟩ (c_J2_add_2 hA1 hc ⟨hy1, by omega, hy.2.2⟩ (fun M' ar' cap' p1 p2 p3 => ?_))
  refine g_iconst 24 dJ2_add_23 rfl ?_
  refine g_zret dJ2_add_24 rfl (by first | rfl | exact zr inP_01 | exact zr (by omega) | exact zr (by assumption)) ?_
  refine hQ M' ar' cap' p1 (hf1.trans p2 (fun _ _ h => Or.inl h) (fun _ _ h => h)) (by rw [← hn1]; exact p3)
end JB
