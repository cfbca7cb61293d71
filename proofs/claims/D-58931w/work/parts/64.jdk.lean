/-! ===== keys and their order ===== -/
def cmpP (x y : Int) : Int := if x < y then -1 else if x = y then 0 else 1
/-- an object of class ci (a guest, a chaise) with its key: rank or wear first, then the number -/
def KEY (M : Mem) (ci : Nat) (κ : Nat → Int) (a : Nat) : Prop := (mT M a = some (.inl ci) ∧ a < mN M) ∧ ∃ w nu : Int, mF M ci 1 a = .int (ii w) ∧ mF M ci 0 a = .int (ii nu) ∧ R32 w ∧ 0 ≤ nu ∧ nu < 1000 ∧ κ a = w * 1000 + nu
section JE
variable {K : KT} {k n : Nat} {M : Mem} {Q : Res → Mem → Prop} {κ : Nat → Int}
theorem c_J17_compare {a b : Int} (ha : R32 a) (hb : R32 b) (hQ : Q (.inl (some (.int (ii (cmpP a b))))) M) : Go K fJ17_compare 1 k n 0 [some (.int (ii a)), some (.int (ii b))] [] M Q := by
  refine g_iload0 1 dJ17_compare_0 rfl ?_
  refine g_iload1 2 dJ17_compare_1 rfl ?_
  refine g_icmp_ge 9 5 dJ17_compare_2 rfl rfl (by omega) (by omega) (fun c2 => ?_) (fun c2 => ?_)
  · refine g_iload0 10 dJ17_compare_9 rfl ?_
    refine g_iload1 11 dJ17_compare_10 rfl ?_
    refine g_icmp_ne 18 14 dJ17_compare_11 rfl rfl (by omega) (by omega) (fun c11 => ?_) (fun c11 => ?_)
    · refine g_iconst 19 dJ17_compare_18 rfl ?_
      refine g_iret dJ17_compare_19 rfl ?_
      refine lq hQ ?_
      unfold cmpP; (repeat' split) <;> omega
    · refine g_iconst 15 dJ17_compare_14 rfl ?_
      refine g_goto 19 dJ17_compare_15 rfl ?_
      refine g_iret dJ17_compare_19 rfl ?_
      refine lq hQ ?_
      unfold cmpP; (repeat' split) <;> omega
  · refine g_iconst 6 dJ17_compare_5 rfl ?_
    refine g_goto 19 dJ17_compare_6 rfl ?_
    refine g_iret dJ17_compare_19 rfl ?_
    refine lq hQ ?_
    unfold cmpP; (repeat' split) <;> omega
theorem cmp_key {w1 n1 w2 n2 : Int} (h1 : 0 ≤ n1 ∧ n1 < 1000) (h2 : 0 ≤ n2 ∧ n2 < 1000) : cmpP (w1 * 1000 + n1) (w2 * 1000 + n2) = if w1 = w2 then cmpP n1 n2 else cmpP w1 w2 := by
  unfold cmpP; (repeat' split) <;> omega
theorem c_X8_compareTo_2 {a b : Nat} (ha : KEY M 7 κ a) (hb : KEY M 7 κ b) (hQ : Q (.inl (some (.int (ii (cmpP (κ a) (κ b)))))) M) : Go K fX8_compareTo_2 2 k n 0 [some (.ref a), some (.ref b)] [] M Q := by
  obtain ⟨⟨t1, -⟩, w1, n1, f1, g1, r1, p1, q1, e1⟩ := ha
  obtain ⟨⟨t2, -⟩, w2, n2, f2, g2, r2, p2, q2, e2⟩ := hb
  have s1 : R32 n1 := by omega
  have s2 : R32 n2 := by omega
  rw [e1, e2, cmp_key ⟨p1, q1⟩ ⟨p2, q2⟩] at hQ
  refine g_aload0 1 (by first | exact rv_r | exact rv_n | assumption | exact rv_f) dX8_compareTo_2_0 rfl ?_
  refine g_getf 4 dX8_compareTo_2_1 rfl fl_X8_13 (by (repeat (first | refine mT_setF.trans ?_ | refine mT_setE.trans ?_ | refine mT_setA.trans ?_ | refine (mT_newA_old (by first | assumption | (apply Ne.symm; assumption) | omega | decide)).trans ?_ | refine (mT_newO_old (by first | assumption | (apply Ne.symm; assumption) | omega | decide)).trans ?_)); first | assumption | exact mT_newA_new | exact mT_newO_new) (by (repeat (first | refine mF_setE.trans ?_ | refine mF_setA.trans ?_ | refine mF_newA.trans ?_ | refine (mF_setF_c (by decide)).trans ?_ | refine (mF_setF_k (by decide)).trans ?_ | refine (mF_setF_a (by first | assumption | (apply Ne.symm; assumption) | omega | decide)).trans ?_ | refine (mF_newO_old (by first | assumption | (apply Ne.symm; assumption) | omega | decide)).trans ?_)); first | assumption | exact mF_setF_self | exact mF_newO_new) ?_
  refine g_aload1 5 (by first | exact rv_r | exact rv_n | assumption | exact rv_f) dX8_compareTo_2_4 rfl ?_
  refine g_getf 8 dX8_compareTo_2_5 rfl fl_X8_13 (by (repeat (first | refine mT_setF.trans ?_ | refine mT_setE.trans ?_ | refine mT_setA.trans ?_ | refine (mT_newA_old (by first | assumption | (apply Ne.symm; assumption) | omega | decide)).trans ?_ | refine (mT_newO_old (by first | assumption | (apply Ne.symm; assumption) | omega | decide)).trans ?_)); first | assumption | exact mT_newA_new | exact mT_newO_new) (by (repeat (first | refine mF_setE.trans ?_ | refine mF_setA.trans ?_ | refine mF_newA.trans ?_ | refine (mF_setF_c (by decide)).trans ?_ | refine (mF_setF_k (by decide)).trans ?_ | refine (mF_setF_a (by first | assumption | (apply Ne.symm; assumption) | omega | decide)).trans ?_ | refine (mF_newO_old (by first | assumption | (apply Ne.symm; assumption) | omega | decide)).trans ?_)); first | assumption | exact mF_setF_self | exact mF_newO_new) ?_
  refine g_icmp_eq 25 11 dX8_compareTo_2_8 rfl rfl (by omega) (by omega) (fun c8 => ?_) (fun c8 => ?_)
  · refine g_aload0 26 (by first | exact rv_r | exact rv_n | assumption | exact rv_f) dX8_compareTo_2_25 rfl ?_
    refine g_getf 29 dX8_compareTo_2_26 rfl fl_X8_7 (by (repeat (first | refine mT_setF.trans ?_ | refine mT_setE.trans ?_ | refine mT_setA.trans ?_ | refine (mT_newA_old (by first | assumption | (apply Ne.symm; assumption) | omega | decide)).trans ?_ | refine (mT_newO_old (by first | assumption | (apply Ne.symm; assumption) | omega | decide)).trans ?_)); first | assumption | exact mT_newA_new | exact mT_newO_new) (by (repeat (first | refine mF_setE.trans ?_ | refine mF_setA.trans ?_ | refine mF_newA.trans ?_ | refine (mF_setF_c (by decide)).trans ?_ | refine (mF_setF_k (by decide)).trans ?_ | refine (mF_setF_a (by first | assumption | (apply Ne.symm; assumption) | omega | decide)).trans ?_ | refine (mF_newO_old (by first | assumption | (apply Ne.symm; assumption) | omega | decide)).trans ?_)); first | assumption | exact mF_setF_self | exact mF_newO_new) ?_
    refine g_aload1 30 (by first | exact rv_r | exact rv_n | assumption | exact rv_f) dX8_compareTo_2_29 rfl ?_
    refine g_getf 33 dX8_compareTo_2_30 rfl fl_X8_7 (by (repeat (first | refine mT_setF.trans ?_ | refine mT_setE.trans ?_ | refine mT_setA.trans ?_ | refine (mT_newA_old (by first | assumption | (apply Ne.symm; assumption) | omega | decide)).trans ?_ | refine (mT_newO_old (by first | assumption | (apply Ne.symm; assumption) | omega | decide)).trans ?_)); first | assumption | exact mT_newA_new | exact mT_newO_new) (by (repeat (first | refine mF_setE.trans ?_ | refine mF_setA.trans ?_ | refine mF_newA.trans ?_ | refine (mF_setF_c (by decide)).trans ?_ | refine (mF_setF_k (by decide)).trans ?_ | refine (mF_setF_a (by first | assumption | (apply Ne.symm; assumption) | omega | decide)).trans ?_ | refine (mF_newO_old (by first | assumption | (apply Ne.symm; assumption) | omega | decide)).trans ?_)); first | assumption | exact mF_setF_self | exact mF_newO_new) ?_
    refine k_S2z 36 dX8_compareTo_2_33 rfl lk_X8_28 rfl (by first | rfl | exact rv_cat (by assumption) | exact rv_cat rv_f) (by first | rfl | exact rv_cat (by assumption) | exact rv_cat rv_f) (Nat.le_of_ble_eq_true rfl) (by first | exact Nat.le_of_ble_eq_true rfl | omega) (c_J17_compare (by assumption) (by assumption) ?_)
    refine g_iret dX8_compareTo_2_36 rfl ?_
    refine lq hQ ?_
    first | rw [if_pos c8] | rw [if_neg c8]
  · refine g_aload0 12 (by first | exact rv_r | exact rv_n | assumption | exact rv_f) dX8_compareTo_2_11 rfl ?_
    refine g_getf 15 dX8_compareTo_2_12 rfl fl_X8_13 (by (repeat (first | refine mT_setF.trans ?_ | refine mT_setE.trans ?_ | refine mT_setA.trans ?_ | refine (mT_newA_old (by first | assumption | (apply Ne.symm; assumption) | omega | decide)).trans ?_ | refine (mT_newO_old (by first | assumption | (apply Ne.symm; assumption) | omega | decide)).trans ?_)); first | assumption | exact mT_newA_new | exact mT_newO_new) (by (repeat (first | refine mF_setE.trans ?_ | refine mF_setA.trans ?_ | refine mF_newA.trans ?_ | refine (mF_setF_c (by decide)).trans ?_ | refine (mF_setF_k (by decide)).trans ?_ | refine (mF_setF_a (by first | assumption | (apply Ne.symm; assumption) | omega | decide)).trans ?_ | refine (mF_newO_old (by first | assumption | (apply Ne.symm; assumption) | omega | decide)).trans ?_)); first | assumption | exact mF_setF_self | exact mF_newO_new) ?_
    refine g_aload1 16 (by first | exact rv_r | exact rv_n | assumption | exact rv_f) dX8_compareTo_2_15 rfl ?_
    refine g_getf 19 dX8_compareTo_2_16 rfl fl_X8_13 (by (repeat (first | refine mT_setF.trans ?_ | refine mT_setE.trans ?_ | refine mT_setA.trans ?_ | refine (mT_newA_old (by first | assumption | (apply Ne.symm; assumption) | omega | decide)).trans ?_ | refine (mT_newO_old (by first | assumption | (apply Ne.symm; assumption) | omega | decide)).trans ?_)); first | assumption | exact mT_newA_new | exact mT_newO_new) (by (repeat (first | refine mF_setE.trans ?_ | refine mF_setA.trans ?_ | refine mF_newA.trans ?_ | refine (mF_setF_c (by decide)).trans ?_ | refine (mF_setF_k (by decide)).trans ?_ | refine (mF_setF_a (by first | assumption | (apply Ne.symm; assumption) | omega | decide)).trans ?_ | refine (mF_newO_old (by first | assumption | (apply Ne.symm; assumption) | omega | decide)).trans ?_)); first | assumption | exact mF_setF_self | exact mF_newO_new) ?_
    refine k_S2z 22 dX8_compareTo_2_19 rfl lk_X8_28 rfl (by first | rfl | exact rv_cat (by assumption) | exact rv_cat rv_f) (by first | rfl | exact rv_cat (by assumption) | exact rv_cat rv_f) (Nat.le_of_ble_eq_true rfl) (by first | exact Nat.le_of_ble_eq_true rfl | omega) (c_J17_compare (by assumption) (by assumption) ?_)
    refine g_goto 36 dX8_compareTo_2_22 rfl ?_
    refine g_iret dX8_compareTo_2_36 rfl ?_
    refine lq hQ ?_
    first | rw [if_pos c8] | rw [if_neg c8]
theorem c_X5_compareTo_2 {a b : Nat} (ha : KEY M 4 κ a) (hb : KEY M 4 κ b) (hQ : Q (.inl (some (.int (ii (cmpP (κ a) (κ b)))))) M) : Go K fX5_compareTo_2 2 k n 0 [some (.ref a), some (.ref b)] [] M Q := by
  obtain ⟨⟨t1, -⟩, w1, n1, f1, g1, r1, p1, q1, e1⟩ := ha
  obtain ⟨⟨t2, -⟩, w2, n2, f2, g2, r2, p2, q2, e2⟩ := hb
  have s1 : R32 n1 := by omega
  have s2 : R32 n2 := by omega
  rw [e1, e2, cmp_key ⟨p1, q1⟩ ⟨p2, q2⟩] at hQ
  refine g_aload0 1 (by first | exact rv_r | exact rv_n | assumption | exact rv_f) dX5_compareTo_2_0 rfl ?_
  refine g_getf 4 dX5_compareTo_2_1 rfl fl_X5_16 (by (repeat (first | refine mT_setF.trans ?_ | refine mT_setE.trans ?_ | refine mT_setA.trans ?_ | refine (mT_newA_old (by first | assumption | (apply Ne.symm; assumption) | omega | decide)).trans ?_ | refine (mT_newO_old (by first | assumption | (apply Ne.symm; assumption) | omega | decide)).trans ?_)); first | assumption | exact mT_newA_new | exact mT_newO_new) (by (repeat (first | refine mF_setE.trans ?_ | refine mF_setA.trans ?_ | refine mF_newA.trans ?_ | refine (mF_setF_c (by decide)).trans ?_ | refine (mF_setF_k (by decide)).trans ?_ | refine (mF_setF_a (by first | assumption | (apply Ne.symm; assumption) | omega | decide)).trans ?_ | refine (mF_newO_old (by first | assumption | (apply Ne.symm; assumption) | omega | decide)).trans ?_)); first | assumption | exact mF_setF_self | exact mF_newO_new) ?_
  refine g_aload1 5 (by first | exact rv_r | exact rv_n | assumption | exact rv_f) dX5_compareTo_2_4 rfl ?_
  refine g_getf 8 dX5_compareTo_2_5 rfl fl_X5_16 (by (repeat (first | refine mT_setF.trans ?_ | refine mT_setE.trans ?_ | refine mT_setA.trans ?_ | refine (mT_newA_old (by first | assumption | (apply Ne.symm; assumption) | omega | decide)).trans ?_ | refine (mT_newO_old (by first | assumption | (apply Ne.symm; assumption) | omega | decide)).trans ?_)); first | assumption | exact mT_newA_new | exact mT_newO_new) (by (repeat (first | refine mF_setE.trans ?_ | refine mF_setA.trans ?_ | refine mF_newA.trans ?_ | refine (mF_setF_c (by decide)).trans ?_ | refine (mF_setF_k (by decide)).trans ?_ | refine (mF_setF_a (by first | assumption | (apply Ne.symm; assumption) | omega | decide)).trans ?_ | refine (mF_newO_old (by first | assumption | (apply Ne.symm; assumption) | omega | decide)).trans ?_)); first | assumption | exact mF_setF_self | exact mF_newO_new) ?_
  refine g_icmp_eq 25 11 dX5_compareTo_2_8 rfl rfl (by omega) (by omega) (fun c8 => ?_) (fun c8 => ?_)
  · refine g_aload0 26 (by first | exact rv_r | exact rv_n | assumption | exact rv_f) dX5_compareTo_2_25 rfl ?_
    refine g_getf 29 dX5_compareTo_2_26 rfl fl_X5_7 (by (repeat (first | refine mT_setF.trans ?_ | refine mT_setE.trans ?_ | refine mT_setA.trans ?_ | refine (mT_newA_old (by first | assumption | (apply Ne.symm; assumption) | omega | decide)).trans ?_ | refine (mT_newO_old (by first | assumption | (apply Ne.symm; assumption) | omega | decide)).trans ?_)); first | assumption | exact mT_newA_new | exact mT_newO_new) (by (repeat (first | refine mF_setE.trans ?_ | refine mF_setA.trans ?_ | refine mF_newA.trans ?_ | refine (mF_setF_c (by decide)).trans ?_ | refine (mF_setF_k (by decide)).trans ?_ | refine (mF_setF_a (by first | assumption | (apply Ne.symm; assumption) | omega | decide)).trans ?_ | refine (mF_newO_old (by first | assumption | (apply Ne.symm; assumption) | omega | decide)).trans ?_)); first | assumption | exact mF_setF_self | exact mF_newO_new) ?_
    refine g_aload1 30 (by first | exact rv_r | exact rv_n | assumption | exact rv_f) dX5_compareTo_2_29 rfl ?_
    refine g_getf 33 dX5_compareTo_2_30 rfl fl_X5_7 (by (repeat (first | refine mT_setF.trans ?_ | refine mT_setE.trans ?_ | refine mT_setA.trans ?_ | refine (mT_newA_old (by first | assumption | (apply Ne.symm; assumption) | omega | decide)).trans ?_ | refine (mT_newO_old (by first | assumption | (apply Ne.symm; assumption) | omega | decide)).trans ?_)); first | assumption | exact mT_newA_new | exact mT_newO_new) (by (repeat (first | refine mF_setE.trans ?_ | refine mF_setA.trans ?_ | refine mF_newA.trans ?_ | refine (mF_setF_c (by decide)).trans ?_ | refine (mF_setF_k (by decide)).trans ?_ | refine (mF_setF_a (by first | assumption | (apply Ne.symm; assumption) | omega | decide)).trans ?_ | refine (mF_newO_old (by first | assumption | (apply Ne.symm; assumption) | omega | decide)).trans ?_)); first | assumption | exact mF_setF_self | exact mF_newO_new) ?_
    refine k_S2z 36 dX5_compareTo_2_33 rfl lk_X5_30 rfl (by first | rfl | exact rv_cat (by assumption) | exact rv_cat rv_f) (by first | rfl | exact rv_cat (by assumption) | exact rv_cat rv_f) (Nat.le_of_ble_eq_true rfl) (by first | exact Nat.le_of_ble_eq_true rfl | omega) (c_J17_compare (by assumption) (by assumption) ?_)
    refine g_iret dX5_compareTo_2_36 rfl ?_
    refine lq hQ ?_
    first | rw [if_pos c8] | rw [if_neg c8]
  · refine g_aload0 12 (by first | exact rv_r | exact rv_n | assumption | exact rv_f) dX5_compareTo_2_11 rfl ?_
    refine g_getf 15 dX5_compareTo_2_12 rfl fl_X5_16 (by (repeat (first | refine mT_setF.trans ?_ | refine mT_setE.trans ?_ | refine mT_setA.trans ?_ | refine (mT_newA_old (by first | assumption | (apply Ne.symm; assumption) | omega | decide)).trans ?_ | refine (mT_newO_old (by first | assumption | (apply Ne.symm; assumption) | omega | decide)).trans ?_)); first | assumption | exact mT_newA_new | exact mT_newO_new) (by (repeat (first | refine mF_setE.trans ?_ | refine mF_setA.trans ?_ | refine mF_newA.trans ?_ | refine (mF_setF_c (by decide)).trans ?_ | refine (mF_setF_k (by decide)).trans ?_ | refine (mF_setF_a (by first | assumption | (apply Ne.symm; assumption) | omega | decide)).trans ?_ | refine (mF_newO_old (by first | assumption | (apply Ne.symm; assumption) | omega | decide)).trans ?_)); first | assumption | exact mF_setF_self | exact mF_newO_new) ?_
    refine g_aload1 16 (by first | exact rv_r | exact rv_n | assumption | exact rv_f) dX5_compareTo_2_15 rfl ?_
    refine g_getf 19 dX5_compareTo_2_16 rfl fl_X5_16 (by (repeat (first | refine mT_setF.trans ?_ | refine mT_setE.trans ?_ | refine mT_setA.trans ?_ | refine (mT_newA_old (by first | assumption | (apply Ne.symm; assumption) | omega | decide)).trans ?_ | refine (mT_newO_old (by first | assumption | (apply Ne.symm; assumption) | omega | decide)).trans ?_)); first | assumption | exact mT_newA_new | exact mT_newO_new) (by (repeat (first | refine mF_setE.trans ?_ | refine mF_setA.trans ?_ | refine mF_newA.trans ?_ | refine (mF_setF_c (by decide)).trans ?_ | refine (mF_setF_k (by decide)).trans ?_ | refine (mF_setF_a (by first | assumption | (apply Ne.symm; assumption) | omega | decide)).trans ?_ | refine (mF_newO_old (by first | assumption | (apply Ne.symm; assumption) | omega | decide)).trans ?_)); first | assumption | exact mF_setF_self | exact mF_newO_new) ?_
    refine k_S2z 22 dX5_compareTo_2_19 rfl lk_X5_30 rfl (by first | rfl | exact rv_cat (by assumption) | exact rv_cat rv_f) (by first | rfl | exact rv_cat (by assumption) | exact rv_cat rv_f) (Nat.le_of_ble_eq_true rfl) (by first | exact Nat.le_of_ble_eq_true rfl | omega) (c_J17_compare (by assumption) (by assumption) ?_)
    refine g_goto 36 dX5_compareTo_2_22 rfl ?_
    refine g_iret dX5_compareTo_2_36 rfl ?_
    refine lq hQ ?_
    first | rw [if_pos c8] | rw [if_neg c8]
theorem c_X8_compareTo {a b : Nat} (ha : KEY M 7 κ a) (hb : KEY M 7 κ b) (hQ : Q (.inl (some (.int (ii (cmpP (κ a) (κ b)))))) M) : Go K fX8_compareTo 3 k n 0 [some (.ref a), some (.ref b)] [] M Q := by
  have t1 := ha.1.1
  have t2 := hb.1.1
  refine g_aload0 1 (by first | exact rv_r | exact rv_n | assumption | exact rv_f) dX8_compareTo_0 rfl ?_
  refine g_aload1 2 (by first | exact rv_r | exact rv_n | assumption | exact rv_f) dX8_compareTo_1 rfl ?_
  refine g_cast 5 dX8_compareTo_2 rfl ck_X8_8_7 (by (repeat (first | refine mT_setF.trans ?_ | refine mT_setE.trans ?_ | refine mT_setA.trans ?_ | refine (mT_newA_old (by first | assumption | (apply Ne.symm; assumption) | omega | decide)).trans ?_ | refine (mT_newO_old (by first | assumption | (apply Ne.symm; assumption) | omega | decide)).trans ?_)); first | assumption | exact mT_newA_new | exact mT_newO_new) ?_
  refine k_V1z 8 dX8_compareTo_5 rfl lk_X8_34 (by (repeat (first | refine mT_setF.trans ?_ | refine mT_setE.trans ?_ | refine mT_setA.trans ?_ | refine (mT_newA_old (by first | assumption | (apply Ne.symm; assumption) | omega | decide)).trans ?_ | refine (mT_newO_old (by first | assumption | (apply Ne.symm; assumption) | omega | decide)).trans ?_)); first | assumption | exact mT_newA_new | exact mT_newO_new) rfl (by first | rfl | exact rv_cat (by assumption) | exact rv_cat rv_f) (Nat.le_of_ble_eq_true rfl) (by first | exact Nat.le_of_ble_eq_true rfl | omega) (c_X8_compareTo_2 ha hb ?_)
  refine g_iret dX8_compareTo_8 rfl ?_
  exact hQ
theorem c_X5_compareTo {a b : Nat} (ha : KEY M 4 κ a) (hb : KEY M 4 κ b) (hQ : Q (.inl (some (.int (ii (cmpP (κ a) (κ b)))))) M) : Go K fX5_compareTo 3 k n 0 [some (.ref a), some (.ref b)] [] M Q := by
  have t1 := ha.1.1
  have t2 := hb.1.1
  refine g_aload0 1 (by first | exact rv_r | exact rv_n | assumption | exact rv_f) dX5_compareTo_0 rfl ?_
  refine g_aload1 2 (by first | exact rv_r | exact rv_n | assumption | exact rv_f) dX5_compareTo_1 rfl ?_
  refine g_cast 5 dX5_compareTo_2 rfl ck_X5_8_4 (by (repeat (first | refine mT_setF.trans ?_ | refine mT_setE.trans ?_ | refine mT_setA.trans ?_ | refine (mT_newA_old (by first | assumption | (apply Ne.symm; assumption) | omega | decide)).trans ?_ | refine (mT_newO_old (by first | assumption | (apply Ne.symm; assumption) | omega | decide)).trans ?_)); first | assumption | exact mT_newA_new | exact mT_newO_new) ?_
  refine k_V1z 8 dX5_compareTo_5 rfl lk_X5_36 (by (repeat (first | refine mT_setF.trans ?_ | refine mT_setE.trans ?_ | refine mT_setA.trans ?_ | refine (mT_newA_old (by first | assumption | (apply Ne.symm; assumption) | omega | decide)).trans ?_ | refine (mT_newO_old (by first | assumption | (apply Ne.symm; assumption) | omega | decide)).trans ?_)); first | assumption | exact mT_newA_new | exact mT_newO_new) rfl (by first | rfl | exact rv_cat (by assumption) | exact rv_cat rv_f) (Nat.le_of_ble_eq_true rfl) (by first | exact Nat.le_of_ble_eq_true rfl | omega) (c_X5_compareTo_2 ha hb ?_)
  refine g_iret dX5_compareTo_8 rfl ?_
  exact hQ
/-- a comparison in PriorityQueue's code -/
theorem l_cmp {f : FI} {d pc ci a b cnt : Nat} {L : List (Option Value)} {st : List Value} (hO : fO f = "java/util/PriorityQueue") (hdg : decode (fC f) pc = .ok (.invokeinterface 146 cnt, 5)) (hci : ci = 7 ∨ ci = 4) (ha : KEY M ci κ a) (hb : KEY M ci κ b) (hst : st.length ≤ 4) (hd : 4 ≤ d) (h : Go K f d k n (pc + 5) L (.int (ii (cmpP (κ a) (κ b))) :: st) M Q) : Go K f d k n pc L (.ref b :: .ref a :: st) M Q := by
  rcases hci with rfl | rfl
  · exact k_F1z (d' := 3) (pc + 5) hdg rfl (by rw [hO]; exact lk_J4_146_7) ha.1.1 rfl rfl hst (by omega) (c_X8_compareTo ha hb (Kont.v h))
  · exact k_F1z (d' := 3) (pc + 5) hdg rfl (by rw [hO]; exact lk_J4_146_4) ha.1.1 rfl rfl hst (by omega) (c_X5_compareTo ha hb (Kont.v h))
/-- a cast in PriorityQueue's code -/
theorem l_ccast {f : FI} {d pc pc' ci a : Nat} {L : List (Option Value)} {st : List Value} (hO : fO f = "java/util/PriorityQueue") (hdg : decode (fC f) pc = .ok (.checkcast 144, 3)) (hp : pc + 3 = pc') (hci : ci = 7 ∨ ci = 4) (ha : KEY M ci κ a) (h : Go K f d k n pc' L (.ref a :: st) M Q) : Go K f d k n pc L (.ref a :: st) M Q := by
  rcases hci with rfl | rfl
  · exact g_cast pc' hdg hp (by rw [hO]; exact ck_J4_144_7) ha.1.1 h
  · exact g_cast pc' hdg hp (by rw [hO]; exact ck_J4_144_4) ha.1.1 h
theorem asg7 : ASG 7 3 := by unfold ASG; exact ⟨_, _, rfl, rfl, Or.inr (by decide +kernel)⟩
theorem asg4 : ASG 4 3 := by unfold ASG; exact ⟨_, _, rfl, rfl, Or.inr (by decide +kernel)⟩
theorem asg3 : ASG 3 3 := by unfold ASG; exact ⟨_, _, rfl, rfl, Or.inr (by decide +kernel)⟩
theorem asg2 : ASG 2 3 := by unfold ASG; exact ⟨_, _, rfl, rfl, Or.inr (by decide +kernel)⟩
theorem asg1 : ASG 1 3 := by unfold ASG; exact ⟨_, _, rfl, rfl, Or.inr (by decide +kernel)⟩
end JE
