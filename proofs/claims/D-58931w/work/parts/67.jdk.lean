/-! ===== the JDK: PriorityQueue ===== -/
/-- a PriorityQueue pq on the array ar of cap places: its first n hold e, in heap order by the key κ; objects of class ci -/
def PQp (K : KT) (M : Mem) (ci : Nat) (κ : Nat → Int) (pq ar cap n : Nat) (e : Nat → Nat) : Prop :=
  (mT M pq = some (.inl 12) ∧ kB K ≤ pq ∧ pq < mN M) ∧ (∃ mc, mF M 12 3 pq = .int (ii mc)) ∧ mF M 12 0 pq = .ref ar ∧ mF M 12 1 pq = .int (ii n) ∧ mF M 12 2 pq = .null ∧ (mT M ar = some (.inr (3, cap)) ∧ ar < mN M ∧ kB K ≤ ar) ∧ (n ≤ cap ∧ 1 ≤ cap ∧ cap ≤ 1000) ∧
  (∀ i, i < n → mE M ar i = .ref (e i)) ∧ (∀ i, n ≤ i → i < cap → mE M ar i = .null) ∧ heapN κ n e ∧ injN n e ∧ ∀ i, i < n → KEY M ci κ (e i)
theorem KEY.fr {S : Nat → Prop} {ci a : Nat} {κ : Nat → Int} {M M' : Mem} (h : KEY M ci κ a) (g : Fr S M M') (hn : ¬ S a) : KEY M' ci κ a := by
  obtain ⟨⟨h1, h2⟩, w, nu, f1, f2, h3⟩ := h
  exact ⟨⟨(g.t h2).trans h1, Nat.lt_of_lt_of_le h2 g.1⟩, w, nu, (g.f h2 hn _ _).trans f1, (g.f h2 hn _ _).trans f2, h3⟩
theorem PQp.fr {K : KT} {S : Nat → Prop} {M M' : Mem} {ci pq ar cap n : Nat} {κ : Nat → Int} {e : Nat → Nat} (h : PQp K M ci κ pq ar cap n e) (hf : Fr S M M') (h1 : ¬ S pq) (h2 : ¬ S ar) (h3 : ∀ i, i < n → ¬ S (e i)) : PQp K M' ci κ pq ar cap n e := by
  obtain ⟨⟨a1, a2, a3⟩, ⟨mc, b⟩, c, d, g, ⟨i1, i2, i3⟩, j, k1, k2, k3, k4, k5⟩ := h
  exact ⟨⟨(hf.t a3).trans a1, a2, Nat.lt_of_lt_of_le a3 hf.1⟩, ⟨mc, (hf.f a3 h1 _ _).trans b⟩, (hf.f a3 h1 _ _).trans c, (hf.f a3 h1 _ _).trans d, (hf.f a3 h1 _ _).trans g, ⟨(hf.t i2).trans i1, Nat.lt_of_lt_of_le i2 hf.1, i3⟩, j, fun i hi => (hf.e i2 h2 _).trans (k1 i hi), fun i hi hi2 => (hf.e i2 h2 _).trans (k2 i hi hi2), k3, k4, fun i hi => (k5 i hi).fr hf (h3 i hi)⟩
section JG
variable {K : KT} {k n : Nat} {M : Mem} {Q : Res → Mem → Prop} {κ : Nat → Int} {ci pq ar cap N : Nat} {e : Nat → Nat}
theorem c_J4_size (hA : PQp K M ci κ pq ar cap N e) (hQ : Q (.inl (some (.int (ii N)))) M) : Go K fJ4_size 1 k n 0 [some (.ref pq)] [] M Q := by
  obtain ⟨⟨a1, a2, a3⟩, ⟨mc, b⟩, c, d, g, ⟨i1, i2, i3⟩, j, k1, k2, k3, k4, k5⟩ := hA
  refine g_aload0 1 (by first | exact rv_r | exact rv_n | assumption | exact rv_f) dJ4_size_0 rfl ?_
  refine g_getf 4 dJ4_size_1 rfl fl_J4_58 (by (repeat (first | refine mT_setF.trans ?_ | refine mT_setE.trans ?_ | refine mT_setA.trans ?_ | refine (mT_newA_old (by first | assumption | (apply Ne.symm; assumption) | omega | decide)).trans ?_ | refine (mT_newO_old (by first | assumption | (apply Ne.symm; assumption) | omega | decide)).trans ?_)); first | assumption | exact mT_newA_new | exact mT_newO_new) (by (repeat (first | refine mF_setE.trans ?_ | refine mF_setA.trans ?_ | refine mF_newA.trans ?_ | refine (mF_setF_c (by decide)).trans ?_ | refine (mF_setF_k (by decide)).trans ?_ | refine (mF_setF_a (by first | assumption | (apply Ne.symm; assumption) | omega | decide)).trans ?_ | refine (mF_newO_old (by first | assumption | (apply Ne.symm; assumption) | omega | decide)).trans ?_)); first | assumption | exact mF_setF_self | exact mF_newO_new) ?_
  refine g_iret dJ4_size_4 rfl ?_
  exact hQ
theorem c_J0_isEmptyQ (hA : PQp K M ci κ pq ar cap N e) (hQ : Q (.inl (some (.int (ii (if N = 0 then 1 else 0))))) M) : Go K fJ0_isEmpty 2 k n 0 [some (.ref pq)] [] M Q := by
  obtain ⟨⟨a1, a2, a3⟩, ⟨mc, b⟩, c, d, g, ⟨i1, i2, i3⟩, j, k1, k2, k3, k4, k5⟩ := id hA
  refine g_aload0 1 (by first | exact rv_r | exact rv_n | assumption | exact rv_f) dJ0_isEmpty_0 rfl ?_
  refine k_U0z 4 dJ0_isEmpty_1 rfl lu_J0_7_12 (by (repeat (first | refine mT_setF.trans ?_ | refine mT_setE.trans ?_ | refine mT_setA.trans ?_ | refine (mT_newA_old (by first | assumption | (apply Ne.symm; assumption) | omega | decide)).trans ?_ | refine (mT_newO_old (by first | assumption | (apply Ne.symm; assumption) | omega | decide)).trans ?_)); first | assumption | exact mT_newA_new | exact mT_newO_new) rfl  (Nat.le_of_ble_eq_true rfl) (by first | exact Nat.le_of_ble_eq_true rfl | omega) (c_J4_size hA ?_)
  refine g_if_ne 11 7 dJ0_isEmpty_4 rfl rfl (by omega) (fun c4 => ?_) (fun c4 => ?_)
  · refine g_iconst 12 dJ0_isEmpty_11 rfl ?_
    refine g_zret dJ0_isEmpty_12 rfl (by first | rfl | exact zr inP_01 | exact zr (by omega) | exact zr (by assumption)) ?_
    refine lq hQ ?_
    first | rw [if_pos (by omega)] | rw [if_neg (by omega)]
  · refine g_iconst 8 dJ0_isEmpty_7 rfl ?_
    refine g_goto 12 dJ0_isEmpty_8 rfl ?_
    refine g_zret dJ0_isEmpty_12 rfl (by first | rfl | exact zr inP_01 | exact zr (by omega) | exact zr (by assumption)) ?_
    refine lq hQ ?_
    first | rw [if_pos (by omega)] | rw [if_neg (by omega)]
theorem c_J4_peek (hA : PQp K M ci κ pq ar cap N e) (hQ : Q (.inl (some (if N = 0 then .null else .ref (e 0)))) M) : Go K fJ4_peek 1 k n 0 [some (.ref pq)] [] M Q := by
  obtain ⟨⟨a1, a2, a3⟩, ⟨mc, b⟩, c, d, g, ⟨i1, i2, i3⟩, j, k1, k2, k3, k4, k5⟩ := hA
  by_cases q : N = 0
  · rw [if_pos q] at hQ
    have hv := k2 0 (by omega) (by omega)
    refine g_aload0 1 (by first | exact rv_r | exact rv_n | assumption | exact rv_f) dJ4_peek_0 rfl ?_
    refine g_getf 4 dJ4_peek_1 rfl fl_J4_17 (by (repeat (first | refine mT_setF.trans ?_ | refine mT_setE.trans ?_ | refine mT_setA.trans ?_ | refine (mT_newA_old (by first | assumption | (apply Ne.symm; assumption) | omega | decide)).trans ?_ | refine (mT_newO_old (by first | assumption | (apply Ne.symm; assumption) | omega | decide)).trans ?_)); first | assumption | exact mT_newA_new | exact mT_newO_new) (by (repeat (first | refine mF_setE.trans ?_ | refine mF_setA.trans ?_ | refine mF_newA.trans ?_ | refine (mF_setF_c (by decide)).trans ?_ | refine (mF_setF_k (by decide)).trans ?_ | refine (mF_setF_a (by first | assumption | (apply Ne.symm; assumption) | omega | decide)).trans ?_ | refine (mF_newO_old (by first | assumption | (apply Ne.symm; assumption) | omega | decide)).trans ?_)); first | assumption | exact mF_setF_self | exact mF_newO_new) ?_
    refine g_iconst 5 dJ4_peek_4 rfl ?_
    refine g_aald 6 dJ4_peek_5 rfl (by (repeat (first | refine mT_setF.trans ?_ | refine mT_setE.trans ?_ | refine mT_setA.trans ?_ | refine (mT_newA_old (by first | assumption | (apply Ne.symm; assumption) | omega | decide)).trans ?_ | refine (mT_newO_old (by first | assumption | (apply Ne.symm; assumption) | omega | decide)).trans ?_)); first | assumption | exact mT_newA_new | exact mT_newO_new) (by first | exact Nat.le_of_ble_eq_true rfl | omega) (by omega) (by omega) (by omega) (by (repeat (first | refine mE_setF.trans ?_ | refine mE_newO.trans ?_ | refine (mE_newA_old (by first | assumption | (apply Ne.symm; assumption) | omega | decide)).trans ?_ | refine (mE_setE_a (by first | assumption | (apply Ne.symm; assumption) | omega | decide)).trans ?_ | refine (mE_setE_i (by first | assumption | (apply Ne.symm; assumption) | omega | decide)).trans ?_)); first | assumption | exact mE_setE_self | exact mE_newA_new) ?_
    refine g_aret dJ4_peek_6 rfl (Or.inl ⟨_, rfl⟩) (by first | exact rv_r | exact rv_n | assumption | exact rv_f) ?_
    exact hQ
  · rw [if_neg q] at hQ
    have hv := k1 0 (by omega)
    refine g_aload0 1 (by first | exact rv_r | exact rv_n | assumption | exact rv_f) dJ4_peek_0 rfl ?_
    refine g_getf 4 dJ4_peek_1 rfl fl_J4_17 (by (repeat (first | refine mT_setF.trans ?_ | refine mT_setE.trans ?_ | refine mT_setA.trans ?_ | refine (mT_newA_old (by first | assumption | (apply Ne.symm; assumption) | omega | decide)).trans ?_ | refine (mT_newO_old (by first | assumption | (apply Ne.symm; assumption) | omega | decide)).trans ?_)); first | assumption | exact mT_newA_new | exact mT_newO_new) (by (repeat (first | refine mF_setE.trans ?_ | refine mF_setA.trans ?_ | refine mF_newA.trans ?_ | refine (mF_setF_c (by decide)).trans ?_ | refine (mF_setF_k (by decide)).trans ?_ | refine (mF_setF_a (by first | assumption | (apply Ne.symm; assumption) | omega | decide)).trans ?_ | refine (mF_newO_old (by first | assumption | (apply Ne.symm; assumption) | omega | decide)).trans ?_)); first | assumption | exact mF_setF_self | exact mF_newO_new) ?_
    refine g_iconst 5 dJ4_peek_4 rfl ?_
    refine g_aald 6 dJ4_peek_5 rfl (by (repeat (first | refine mT_setF.trans ?_ | refine mT_setE.trans ?_ | refine mT_setA.trans ?_ | refine (mT_newA_old (by first | assumption | (apply Ne.symm; assumption) | omega | decide)).trans ?_ | refine (mT_newO_old (by first | assumption | (apply Ne.symm; assumption) | omega | decide)).trans ?_)); first | assumption | exact mT_newA_new | exact mT_newO_new) (by first | exact Nat.le_of_ble_eq_true rfl | omega) (by omega) (by omega) (by omega) (by (repeat (first | refine mE_setF.trans ?_ | refine mE_newO.trans ?_ | refine (mE_newA_old (by first | assumption | (apply Ne.symm; assumption) | omega | decide)).trans ?_ | refine (mE_setE_a (by first | assumption | (apply Ne.symm; assumption) | omega | decide)).trans ?_ | refine (mE_setE_i (by first | assumption | (apply Ne.symm; assumption) | omega | decide)).trans ?_)); first | assumption | exact mE_setE_self | exact mE_newA_new) ?_
    refine g_aret dJ4_peek_6 rfl (Or.inl ⟨_, rfl⟩) (by first | exact rv_r | exact rv_n | assumption | exact rv_f) ?_
    exact hQ
theorem c_J3_init {b : Nat} (hQ : Q (.inl none) M) : Go K fJ3_init 3 k n 0 [some (.ref b)] [] M Q := by
  refine g_aload0 1 (by first | exact rv_r | exact rv_n | assumption | exact rv_f) dJ3_init_0 rfl ?_
  refine k_I0z 4 dJ3_init_1 rfl lk_J3_1 rfl  (Nat.le_of_ble_eq_true rfl) (by first | exact Nat.le_of_ble_eq_true rfl | omega) (c_J0_init ?_)
  refine g_vret dJ3_init_4 rfl ?_
  exact hQ
theorem c_J4_siftUp {x : Nat} (hci : ci = 7 ∨ ci = 4) (t1 : mT M pq = some (.inl 12)) (f0 : mF M 12 0 pq = .ref ar) (f2 : mF M 12 2 pq = .null) (ht : mT M ar = some (.inr (3, cap))) (hb : kB K ≤ ar) (hc : cap ≤ 1000) (hN : N < cap) (hN2 : N ≤ 40) (he : ∀ i, i < N → mE M ar i = .ref (e i)) (hp : heapN κ N e) (hk : ∀ i, i < N → KEY M ci κ (e i)) (hx : KEY M ci κ x)
    (hQ : ∀ M' v, EA ar M M' → (∀ i, i < N + 1 → mE M' ar i = .ref (v i)) → heapN κ (N + 1) v → SM (N + 1) (upN e N x) v → (∀ i, N < i → mE M' ar i = mE M ar i) → Q (.inl none) M') : Go K fJ4_siftUp 6 k n 0 [some (.ref pq), some (.int (ii N)), some (.ref x)] [] M Q := by
  have hxt := hx.1.1
  refine g_aload0 1 (by first | exact rv_r | exact rv_n | assumption | exact rv_f) dJ4_siftUp_0 rfl ?_
  refine g_getf 4 dJ4_siftUp_1 rfl fl_J4_21 (by (repeat (first | refine mT_setF.trans ?_ | refine mT_setE.trans ?_ | refine mT_setA.trans ?_ | refine (mT_newA_old (by first | assumption | (apply Ne.symm; assumption) | omega | decide)).trans ?_ | refine (mT_newO_old (by first | assumption | (apply Ne.symm; assumption) | omega | decide)).trans ?_)); first | assumption | exact mT_newA_new | exact mT_newO_new) (by (repeat (first | refine mF_setE.trans ?_ | refine mF_setA.trans ?_ | refine mF_newA.trans ?_ | refine (mF_setF_c (by decide)).trans ?_ | refine (mF_setF_k (by decide)).trans ?_ | refine (mF_setF_a (by first | assumption | (apply Ne.symm; assumption) | omega | decide)).trans ?_ | refine (mF_newO_old (by first | assumption | (apply Ne.symm; assumption) | omega | decide)).trans ?_)); first | assumption | exact mF_setF_self | exact mF_newO_new) ?_
  refine g_ifnull 23 7 dJ4_siftUp_4 rfl rfl rv_n (fun _ => ?_) (fun a c => by cases c)
  refine g_iload1 24 dJ4_siftUp_23 rfl ?_
  refine g_aload2 25 (by first | exact rv_r | exact rv_n | assumption | exact rv_f) dJ4_siftUp_24 rfl ?_
  refine g_aload0 26 (by first | exact rv_r | exact rv_n | assumption | exact rv_f) dJ4_siftUp_25 rfl ?_
  refine g_getf 29 dJ4_siftUp_26 rfl fl_J4_17 (by (repeat (first | refine mT_setF.trans ?_ | refine mT_setE.trans ?_ | refine mT_setA.trans ?_ | refine (mT_newA_old (by first | assumption | (apply Ne.symm; assumption) | omega | decide)).trans ?_ | refine (mT_newO_old (by first | assumption | (apply Ne.symm; assumption) | omega | decide)).trans ?_)); first | assumption | exact mT_newA_new | exact mT_newO_new) (by (repeat (first | refine mF_setE.trans ?_ | refine mF_setA.trans ?_ | refine mF_newA.trans ?_ | refine (mF_setF_c (by decide)).trans ?_ | refine (mF_setF_k (by decide)).trans ?_ | refine (mF_setF_a (by first | assumption | (apply Ne.symm; assumption) | omega | decide)).trans ?_ | refine (mF_newO_old (by first | assumption | (apply Ne.symm; assumption) | omega | decide)).trans ?_)); first | assumption | exact mF_setF_self | exact mF_newO_new) ?_
  refine k_S3z 32 dJ4_siftUp_29 rfl lk_J4_140 rfl (by first | rfl | exact rv_cat (by assumption) | exact rv_cat rv_f) (by first | rfl | exact rv_cat (by assumption) | exact rv_cat rv_f) (by first | rfl | exact rv_cat (by assumption) | exact rv_cat rv_f) (Nat.le_of_ble_eq_true rfl) (by first | exact Nat.le_of_ble_eq_true rfl | omega) ((show Go K fJ4_siftUpComparable 5 0 0 0 [some (.int (ii N)), some (.ref x), some (.ref ar), none, none, none] [] M _ from ?_))
  refine g_aload1 1 (by first | exact rv_r | exact rv_n | assumption | exact rv_f) dJ4_siftUpComparable_0 rfl ?_
  refine l_ccast rfl dJ4_siftUpComparable_1 rfl hci hx ?_
  refine g_astore3 5 (Nat.le_of_ble_eq_true rfl) (by first | exact c1_0 | exact c1_i | exact c1_r | exact c1_n | exact c1_v (by assumption) | exact c1_f) (by first | exact rv_r | exact rv_n | assumption | exact rv_f) dJ4_siftUpComparable_4 rfl ?_
  refine l_siftUp hci hN hN2 hb N N e M _ _ (Nat.le_refl _) (Nat.le_refl _) ht hc (fun i hi hne => he i (by omega)) (fun i hi hne => hk i (by omega)) hx (upI.start hp) c1_0 (fun M' v a1 a2 a3 a4 a5 => ?_)
  refine Kont.u ?_
  refine g_vret dJ4_siftUp_32 rfl ?_
  exact hQ M' v a1 a2 a3 a4 a5
end JG
