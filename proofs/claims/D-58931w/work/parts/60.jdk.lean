/-! ===== the JDK: numbers, checks, copies; ArrayList ===== -/
section JA
variable {K : KT} {k n : Nat} {M : Mem} {Q : Res → Mem → Prop}
theorem c_J12_max {a b : Int} (ha : R32 a) (hb : R32 b) (hQ : Q (.inl (some (.int (ii (if a < b then b else a))))) M) : Go K fJ12_max 1 k n 0 [some (.int (ii a)), some (.int (ii b))] [] M Q := by
  refine g_iload0 1 dJ12_max_0 rfl ?_
  refine g_iload1 2 dJ12_max_1 rfl ?_
  refine g_icmp_lt 9 5 dJ12_max_2 rfl rfl (by omega) (by omega) (fun c2 => ?_) (fun c2 => ?_)
  · refine g_iload1 10 dJ12_max_9 rfl ?_
    refine g_iret dJ12_max_10 rfl ?_
    refine lq hQ ?_
    split <;> omega
  · refine g_iload0 6 dJ12_max_5 rfl ?_
    refine g_goto 10 dJ12_max_6 rfl ?_
    refine g_iret dJ12_max_10 rfl ?_
    refine lq hQ ?_
    split <;> omega
theorem c_J12_min {a b : Int} (ha : R32 a) (hb : R32 b) (hQ : Q (.inl (some (.int (ii (if b < a then b else a))))) M) : Go K fJ12_min 1 k n 0 [some (.int (ii a)), some (.int (ii b))] [] M Q := by
  refine g_iload0 1 dJ12_min_0 rfl ?_
  refine g_iload1 2 dJ12_min_1 rfl ?_
  refine g_icmp_gt 9 5 dJ12_min_2 rfl rfl (by omega) (by omega) (fun c2 => ?_) (fun c2 => ?_)
  · refine g_iload1 10 dJ12_min_9 rfl ?_
    refine g_iret dJ12_min_10 rfl ?_
    refine lq hQ ?_
    split <;> omega
  · refine g_iload0 6 dJ12_min_5 rfl ?_
    refine g_goto 10 dJ12_min_6 rfl ?_
    refine g_iret dJ12_min_10 rfl ?_
    refine lq hQ ?_
    split <;> omega
theorem c_J15_checkIndex {i m : Int} {v : Value} (h0 : 0 ≤ i) (h1 : i < m) (hm : m < 2147483648) (hQ : Q (.inl (some (.int (ii i)))) M) : Go K fJ15_checkIndex 1 k n 0 [some (.int (ii i)), some (.int (ii m)), some v] [] M Q := by
  refine g_iload0 1 dJ15_checkIndex_0 rfl ?_
  refine g_if_lt 9 4 dJ15_checkIndex_1 rfl rfl (by omega) (fun c1 => ?_) (fun c1 => ?_)
  · omega
  · refine g_iload0 5 dJ15_checkIndex_4 rfl ?_
    refine g_iload1 6 dJ15_checkIndex_5 rfl ?_
    refine g_icmp_lt 16 9 dJ15_checkIndex_6 rfl rfl (by omega) (by omega) (fun c6 => ?_) (fun c6 => ?_)
    · refine g_iload0 17 dJ15_checkIndex_16 rfl ?_
      refine g_iret dJ15_checkIndex_17 rfl ?_
      exact hQ
    · omega
theorem c_J14_checkIndex {i m : Int} (h0 : 0 ≤ i) (h1 : i < m) (hm : m < 2147483648) (hQ : Q (.inl (some (.int (ii i)))) M) : Go K fJ14_checkIndex 2 k n 0 [some (.int (ii i)), some (.int (ii m))] [] M Q := by
  refine g_iload0 1 dJ14_checkIndex_0 rfl ?_
  refine g_iload1 2 dJ14_checkIndex_1 rfl ?_
  refine g_null 3 dJ14_checkIndex_2 rfl ?_
  refine k_S3z 6 dJ14_checkIndex_3 rfl lk_J14_105 rfl (by first | rfl | exact rv_cat (by assumption) | exact rv_cat rv_f) (by first | rfl | exact rv_cat (by assumption) | exact rv_cat rv_f) (by first | rfl | exact rv_cat (by assumption) | exact rv_cat rv_f) (Nat.le_of_ble_eq_true rfl) (by first | exact Nat.le_of_ble_eq_true rfl | omega) (c_J15_checkIndex h0 h1 hm ?_)
  refine g_iret dJ14_checkIndex_6 rfl ?_
  exact hQ
theorem c_J11_newLength {a b c : Int} (ha : 0 ≤ a ∧ a ≤ 1000000) (hb : 0 ≤ b ∧ b ≤ 1000000) (hc : 0 ≤ c ∧ c ≤ 1000000) (hp : 0 < a + b) (hQ : Q (.inl (some (.int (ii (a + (if b < c then c else b)))))) M) : Go K fJ11_newLength 2 k n 0 [some (.int (ii a)), some (.int (ii b)), some (.int (ii c)), none] [] M Q := by
  have hx : 0 ≤ (if b < c then c else b) ∧ (if b < c then c else b) ≤ 1000000 ∧ b ≤ (if b < c then c else b) := by split <;> omega
  refine g_iload0 1 dJ11_newLength_0 rfl ?_
  refine g_iload1 2 dJ11_newLength_1 rfl ?_
  refine g_iload2 3 dJ11_newLength_2 rfl ?_
  refine k_S2z 6 dJ11_newLength_3 rfl lk_J11_194 rfl (by first | rfl | exact rv_cat (by assumption) | exact rv_cat rv_f) (by first | rfl | exact rv_cat (by assumption) | exact rv_cat rv_f) (Nat.le_of_ble_eq_true rfl) (by first | exact Nat.le_of_ble_eq_true rfl | omega) (c_J12_max (by omega) (by omega) ?_)
  refine g_iadd 7 dJ11_newLength_6 rfl ?_
  refine g_istore3 8 (Nat.le_of_ble_eq_true rfl) (by first | exact c1_0 | exact c1_i | exact c1_r | exact c1_n | exact c1_v (by assumption) | exact c1_f) dJ11_newLength_7 rfl ?_
  refine g_iconst 9 dJ11_newLength_8 rfl ?_
  refine g_iload3 10 dJ11_newLength_9 rfl ?_
  refine g_icmp_ge 21 13 dJ11_newLength_10 rfl rfl (by omega) (by omega) (fun c10 => ?_) (fun c10 => ?_)
  · omega
  · refine g_iload3 14 dJ11_newLength_13 rfl ?_
    refine g_ldc 16 q434 dJ11_newLength_14 rfl ?_
    rw [show ((2147483639 : Int32)) = ii (2147483639) from by decide +kernel]
    refine g_icmp_gt 21 19 dJ11_newLength_16 rfl rfl (by omega) (by omega) (fun c16 => ?_) (fun c16 => ?_)
    · omega
    · refine g_iload3 20 dJ11_newLength_19 rfl ?_
      refine g_iret dJ11_newLength_20 rfl ?_
      exact hQ
/-- what a copied Object array holds -/
theorem c_J13_copyOf_2 {ar n0 N : Nat} (ht : mT M ar = some (.inr (3, n0))) (hlt : ar < mN M) (hb : kB K ≤ ar) (hN : n0 ≤ N) (hN2 : N ≤ 1000000) (he : ∀ i, i < n0 → OBJ M (mE M ar i)) (hQ : ∀ M', Fr (fun _ => False) M M' → mN M' = mN M + 1 → mT M' (mN M) = some (.inr (3, N)) → (∀ i, i < n0 → mE M' (mN M) i = mE M ar i) → (∀ i, n0 ≤ i → mE M' (mN M) i = .null) → Q (.inl (some (.ref (mN M)))) M') : Go K fJ13_copyOf_2 2 1 N 0 [some (.ref ar), some (.int (ii N)), some (.ref (kC K 7)), none] [] M Q := by
  refine g_cm fun hcm hag hbn => ?_
  have hne : mN M ≠ ar := by omega
  have hne' : ar ≠ mN M := by omega
  refine g_aload2 1 (by first | exact rv_r | exact rv_n | assumption | exact rv_f) dJ13_copyOf_2_0 rfl ?_
  refine g_ldcM 3 dJ13_copyOf_2_1 rfl q478 ?_
  refine g_acmp_ne 13 6 dJ13_copyOf_2_3 rfl rfl rv_r rv_r (fun c => absurd rfl c) (fun _ => ?_)
  refine g_iload1 7 dJ13_copyOf_2_6 rfl ?_
  refine g_newR 10 0 0 dJ13_copyOf_2_7 rfl q479 (Or.inl ⟨rfl, rfl⟩) (by omega) (by omega) hN2 (by omega) (by omega) ?_
  refine g_goto 24 dJ13_copyOf_2_10 rfl ?_
  refine g_astore3 25 (Nat.le_of_ble_eq_true rfl) (by first | exact c1_0 | exact c1_i | exact c1_r | exact c1_n | exact c1_v (by assumption) | exact c1_f) (by first | exact rv_r | exact rv_n | assumption | exact rv_f) dJ13_copyOf_2_24 rfl ?_
  refine g_aload0 26 (by first | exact rv_r | exact rv_n | assumption | exact rv_f) dJ13_copyOf_2_25 rfl ?_
  refine g_iconst 27 dJ13_copyOf_2_26 rfl ?_
  refine g_aload3 28 (by first | exact rv_r | exact rv_n | assumption | exact rv_f) dJ13_copyOf_2_27 rfl ?_
  refine g_iconst 29 dJ13_copyOf_2_28 rfl ?_
  refine g_aload0 30 (by first | exact rv_r | exact rv_n | assumption | exact rv_f) dJ13_copyOf_2_29 rfl ?_
  refine g_alen 31 dJ13_copyOf_2_30 rfl (by (repeat (first | refine mT_setF.trans ?_ | refine mT_setE.trans ?_ | refine mT_setA.trans ?_ | refine (mT_newA_old (by first | assumption | (apply Ne.symm; assumption) | omega | decide)).trans ?_ | refine (mT_newO_old (by first | assumption | (apply Ne.symm; assumption) | omega | decide)).trans ?_)); first | assumption | exact mT_newA_new | exact mT_newO_new) ?_
  refine g_iload1 32 dJ13_copyOf_2_31 rfl ?_
  refine k_S2z 35 dJ13_copyOf_2_32 rfl lk_J13_304 rfl (by first | rfl | exact rv_cat (by assumption) | exact rv_cat rv_f) (by first | rfl | exact rv_cat (by assumption) | exact rv_cat rv_f) (Nat.le_of_ble_eq_true rfl) (by first | exact Nat.le_of_ble_eq_true rfl | omega) (c_J12_min (by omega) (by omega) ?_)
  rw [show (if (N : Int) < (n0 : Int) then (N : Int) else (n0 : Int)) = (n0 : Int) by rw [if_neg (by omega)]]
  refine g_copyR 38 dJ13_copyOf_2_35 rfl q483 ((mT_newA_old hne').trans ht) mT_newA_new hb (Nat.le_trans hb (by omega)) (Or.inl rfl) (by omega) (by omega) (by omega) (by omega) (by omega) (by omega) (by omega) (fun i hi => ?_) (by omega) (Nat.le_of_ble_eq_true rfl) ?_
  · rw [mE_newA_old hne']
    rcases he i (by omega) with h | ⟨y, cj, h1, h2, h3, h4⟩
    · left; simpa using h
    · right; exact ⟨y, cj, by simpa using h1, (mT_newA_old (Nat.ne_of_lt h2)).trans h3, h4⟩
  · refine g_aload3 39 (by first | exact rv_r | exact rv_n | assumption | exact rv_f) dJ13_copyOf_2_38 rfl ?_
    refine g_aret dJ13_copyOf_2_39 rfl (Or.inr ⟨_, rfl⟩) (by first | exact rv_r | exact rv_n | assumption | exact rv_f) ?_
    refine hQ _ ((Fr.newA (S := fun _ => False)).trans (Fr.setA (S := fun a => a = mN M) (fun _ => rfl)) (fun _ _ h => h) (fun a h e => by omega)) rfl (mT_setA.trans mT_newA_new) (fun i hi => ?_) (fun i hi => ?_)
    · rw [mE_setA, if_pos rfl]
      unfold va_cpy
      rw [if_pos ⟨by simp, by simpa using hi⟩, mE_newA_old hne']
      simp
    · rw [mE_setA, if_pos rfl]
      unfold va_cpy
      rw [if_neg (by simp; omega), mE_newA_new]
end JA
