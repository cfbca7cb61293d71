/-! ===== the twin's methods: who is next; the row ===== -/
theorem ii_div {a b : Int} (ha : 0 ≤ a ∧ a < 2147483648) (hb : 0 < b ∧ b < 2147483648) : ii a / ii b = ii (a / b) := by
  rw [← Int.tdiv_eq_ediv_of_nonneg ha.1]
  have e : Int32.maxValue.toInt = 2147483647 := by decide
  have e' : Int32.minValue.toInt = -2147483648 := by decide
  exact (Int32.ofInt_tdiv (by omega) (by omega) (by omega) (by omega)).symm
theorem ii_ne0 {b : Int} (hb : 0 < b ∧ b < 2147483648) : ¬ ii b = 0 := fun h => by
  have := (ii_inj (a := b) (b := 0) ⟨by omega, hb.2⟩ (by decide)).mp h
  omega
/-- a boy's place in the row -/
def plF (s : Int → Int) (b : Int) : Nat → Int → Int
  | 0, k => k
  | j + 1, k => if s (5 + k) = b then k else plF s b j (k + 1)
def placeP (s : Int → Int) (b : Int) : Int := plF s b (s 4).toNat 0
def shiftF : Nat → Int → (Int → Int) → (Int → Int)
  | 0, _, s => s
  | j + 1, k, s => shiftF j (k + 1) (up s (5 + k) (s (5 + k + 1)))
def leavesP (s : Int → Int) (b : Int) : Int → Int := shiftF (s 4 - 1 - placeP s b).toNat (placeP s b) (up s 4 (s 4 - 1))
def standsP (s : Int → Int) (b : Int) : Int → Int :=
  let s1 := up s (5 + s 4) b
  let s2 := up s1 4 (s1 4 + 1)
  up s2 (232 + 2 * b + 0) 0
theorem plF_r {s : Int → Int} {b : Int} : ∀ (j : Nat) (k : Int), (∃ q, k ≤ q ∧ q < k + j ∧ s (5 + q) = b) → k ≤ plF s b j k ∧ plF s b j k < k + j ∧ s (5 + plF s b j k) = b
  | 0, k, ⟨q, h1, h2, h3⟩ => by omega
  | j + 1, k, ⟨q, h1, h2, h3⟩ => by
    unfold plF
    split
    · rename_i h; exact ⟨Int.le_refl _, by omega, h⟩
    · rename_i h
      have hq : q ≠ k := fun e => h (e ▸ h3)
      have := plF_r (s := s) (b := b) j (k + 1) ⟨q, by omega, by omega, h3⟩
      omega
theorem placeP_r {s : Int → Int} {b : Int} (h : ∃ q, 0 ≤ q ∧ q < s 4 ∧ s (5 + q) = b) : 0 ≤ placeP s b ∧ placeP s b < s 4 ∧ s (5 + placeP s b) = b := by
  obtain ⟨q, h1, h2, h3⟩ := h
  have := plF_r (s := s) (b := b) (s 4).toNat 0 ⟨q, h1, by omega, h3⟩
  unfold placeP
  omega
section TWB
variable {K : KT} {k n m : Nat} {M M0 : Mem} {Q : Res → Mem → Prop} {s : Int → Int} {T : Nat → Int → Int}
theorem l_inLine (hT : Tw (kB K) M0 m s T M) (h3 : 0 ≤ s 3 ∧ s 3 ≤ 40) {p r : Int} (hr : 0 ≤ r ∧ r < 3) : ∀ (j : Nat) (g l : Int), g + j = s 3 → 0 ≤ g → (0 ≤ l ∧ l < 2147483648) → ((inG s r j g l).1 ≠ -1 → Q (.inl (some (.int (ii (inG s r j g l).1)))) M) → ((inG s r j g l).1 = -1 → Go K fX6_inLine 2 k n 60 [some (.ref m), some (.int (ii p)), some (.int (ii (inG s r j g l).2)), some (.int (ii r)), some (.int (ii (s 3)))] [] M Q) → Go K fX6_inLine 2 k n 12 [some (.ref m), some (.int (ii p)), some (.int (ii l)), some (.int (ii r)), some (.int (ii g))] [] M Q := by
  intro j
  induction j with
  | zero =>
    intro g l e h0 hl hq hn
    obtain rfl : g = s 3 := by omega
    refine g_iload4 14 dX6_inLine_12 rfl ?_
    refine g_aload0 15 (by first | exact rv_r | exact rv_n | assumption | exact rv_f) dX6_inLine_14 rfl ?_
    refine g_getf 18 dX6_inLine_15 rfl fl_X6_7 hT.t (hT.f0) ?_
    refine g_iconst 19 dX6_inLine_18 rfl ?_
    refine g_iald 20 dX6_inLine_19 rfl hT.a0 (by omega) (by omega) (by omega) (hT.e0 (by omega) (by omega)) ?_
    refine g_icmp_ge 60 23 dX6_inLine_20 rfl rfl (by first | exact hT.r _ | exact hT.rT _ _ | omega) (by first | exact hT.r _ | exact hT.rT _ _ | omega) (fun c20 => ?_) (fun c20 => ?_)
    · exact hn rfl
    · omega
  | succ j ih =>
    intro g l e h0 hl hq hn
    by_cases h1 : s (17 + 5 * g + 2) = 0 ∧ s (17 + 5 * g + 0) = r
    · by_cases h2 : l = 0
      · have e1 : inG s r (j + 1) g l = (g, l) := by rw [inG, if_pos h1, if_pos h2]
        rw [e1] at hq hn
        refine g_iload4 14 dX6_inLine_12 rfl ?_
        refine g_aload0 15 (by first | exact rv_r | exact rv_n | assumption | exact rv_f) dX6_inLine_14 rfl ?_
        refine g_getf 18 dX6_inLine_15 rfl fl_X6_7 hT.t (hT.f0) ?_
        refine g_iconst 19 dX6_inLine_18 rfl ?_
        refine g_iald 20 dX6_inLine_19 rfl hT.a0 (by omega) (by omega) (by omega) (hT.e0 (by omega) (by omega)) ?_
        refine g_icmp_ge 60 23 dX6_inLine_20 rfl rfl (by first | exact hT.r _ | exact hT.rT _ _ | omega) (by first | exact hT.r _ | exact hT.rT _ _ | omega) (fun c20 => ?_) (fun c20 => ?_)
        · omega
        · refine g_aload0 24 (by first | exact rv_r | exact rv_n | assumption | exact rv_f) dX6_inLine_23 rfl ?_
          refine g_iload4 26 dX6_inLine_24 rfl ?_
          refine g_iconst 27 dX6_inLine_26 rfl ?_
          refine k_V2z 30 dX6_inLine_27 rfl lk_X6_36 hT.t rfl (by first | rfl | exact rv_cat (by assumption) | exact rv_cat rv_f) (by first | rfl | exact rv_cat (by assumption) | exact rv_cat rv_f) (Nat.le_of_ble_eq_true rfl) (by first | exact Nat.le_of_ble_eq_true rfl | omega) (c_X6_guest hT (by first | assumption | omega) (by first | assumption | omega) ?_)
          refine g_if_ne 54 33 dX6_inLine_30 rfl rfl (by first | exact hT.r _ | exact hT.rT _ _ | omega) (fun c30 => ?_) (fun c30 => ?_)
          · omega
          · refine g_aload0 34 (by first | exact rv_r | exact rv_n | assumption | exact rv_f) dX6_inLine_33 rfl ?_
            refine g_iload4 36 dX6_inLine_34 rfl ?_
            refine g_iconst 37 dX6_inLine_36 rfl ?_
            refine k_V2z 40 dX6_inLine_37 rfl lk_X6_36 hT.t rfl (by first | rfl | exact rv_cat (by assumption) | exact rv_cat rv_f) (by first | rfl | exact rv_cat (by assumption) | exact rv_cat rv_f) (Nat.le_of_ble_eq_true rfl) (by first | exact Nat.le_of_ble_eq_true rfl | omega) (c_X6_guest hT (by first | assumption | omega) (by first | assumption | omega) ?_)
            refine g_iload3 41 dX6_inLine_40 rfl ?_
            refine g_icmp_ne 54 44 dX6_inLine_41 rfl rfl (by first | exact hT.r _ | exact hT.rT _ _ | omega) (by first | exact hT.r _ | exact hT.rT _ _ | omega) (fun c41 => ?_) (fun c41 => ?_)
            · omega
            · refine g_iload2 45 dX6_inLine_44 rfl ?_
              refine g_if_ne 51 48 dX6_inLine_45 rfl rfl (by first | exact hT.r _ | exact hT.rT _ _ | omega) (fun c45 => ?_) (fun c45 => ?_)
              · omega
              · refine g_iload4 50 dX6_inLine_48 rfl ?_
                refine g_iret dX6_inLine_50 rfl ?_
                exact hq (by simp; omega)
      · have e1 : inG s r (j + 1) g l = inG s r j (g + 1) (l + -1) := by rw [inG, if_pos h1, if_neg h2]
        rw [e1] at hq hn
        refine g_iload4 14 dX6_inLine_12 rfl ?_
        refine g_aload0 15 (by first | exact rv_r | exact rv_n | assumption | exact rv_f) dX6_inLine_14 rfl ?_
        refine g_getf 18 dX6_inLine_15 rfl fl_X6_7 hT.t (hT.f0) ?_
        refine g_iconst 19 dX6_inLine_18 rfl ?_
        refine g_iald 20 dX6_inLine_19 rfl hT.a0 (by omega) (by omega) (by omega) (hT.e0 (by omega) (by omega)) ?_
        refine g_icmp_ge 60 23 dX6_inLine_20 rfl rfl (by first | exact hT.r _ | exact hT.rT _ _ | omega) (by first | exact hT.r _ | exact hT.rT _ _ | omega) (fun c20 => ?_) (fun c20 => ?_)
        · omega
        · refine g_aload0 24 (by first | exact rv_r | exact rv_n | assumption | exact rv_f) dX6_inLine_23 rfl ?_
          refine g_iload4 26 dX6_inLine_24 rfl ?_
          refine g_iconst 27 dX6_inLine_26 rfl ?_
          refine k_V2z 30 dX6_inLine_27 rfl lk_X6_36 hT.t rfl (by first | rfl | exact rv_cat (by assumption) | exact rv_cat rv_f) (by first | rfl | exact rv_cat (by assumption) | exact rv_cat rv_f) (Nat.le_of_ble_eq_true rfl) (by first | exact Nat.le_of_ble_eq_true rfl | omega) (c_X6_guest hT (by first | assumption | omega) (by first | assumption | omega) ?_)
          refine g_if_ne 54 33 dX6_inLine_30 rfl rfl (by first | exact hT.r _ | exact hT.rT _ _ | omega) (fun c30 => ?_) (fun c30 => ?_)
          · refine g_iinc4 57 (Nat.le_of_ble_eq_true rfl) (by first | exact c1_0 | exact c1_i | exact c1_r | exact c1_n | exact c1_v (by assumption) | exact c1_f) dX6_inLine_54 rfl ?_
            refine g_goto 12 dX6_inLine_57 rfl ?_
            first | exact ih _ _ (by omega) (by omega) (by omega) hq hn | omega
          · refine g_aload0 34 (by first | exact rv_r | exact rv_n | assumption | exact rv_f) dX6_inLine_33 rfl ?_
            refine g_iload4 36 dX6_inLine_34 rfl ?_
            refine g_iconst 37 dX6_inLine_36 rfl ?_
            refine k_V2z 40 dX6_inLine_37 rfl lk_X6_36 hT.t rfl (by first | rfl | exact rv_cat (by assumption) | exact rv_cat rv_f) (by first | rfl | exact rv_cat (by assumption) | exact rv_cat rv_f) (Nat.le_of_ble_eq_true rfl) (by first | exact Nat.le_of_ble_eq_true rfl | omega) (c_X6_guest hT (by first | assumption | omega) (by first | assumption | omega) ?_)
            refine g_iload3 41 dX6_inLine_40 rfl ?_
            refine g_icmp_ne 54 44 dX6_inLine_41 rfl rfl (by first | exact hT.r _ | exact hT.rT _ _ | omega) (by first | exact hT.r _ | exact hT.rT _ _ | omega) (fun c41 => ?_) (fun c41 => ?_)
            · refine g_iinc4 57 (Nat.le_of_ble_eq_true rfl) (by first | exact c1_0 | exact c1_i | exact c1_r | exact c1_n | exact c1_v (by assumption) | exact c1_f) dX6_inLine_54 rfl ?_
              refine g_goto 12 dX6_inLine_57 rfl ?_
              first | exact ih _ _ (by omega) (by omega) (by omega) hq hn | omega
            · refine g_iload2 45 dX6_inLine_44 rfl ?_
              refine g_if_ne 51 48 dX6_inLine_45 rfl rfl (by first | exact hT.r _ | exact hT.rT _ _ | omega) (fun c45 => ?_) (fun c45 => ?_)
              · refine g_iinc2 54 (Nat.le_of_ble_eq_true rfl) (by first | exact c1_0 | exact c1_i | exact c1_r | exact c1_n | exact c1_v (by assumption) | exact c1_f) dX6_inLine_51 rfl ?_
                refine g_iinc4 57 (Nat.le_of_ble_eq_true rfl) (by first | exact c1_0 | exact c1_i | exact c1_r | exact c1_n | exact c1_v (by assumption) | exact c1_f) dX6_inLine_54 rfl ?_
                refine g_goto 12 dX6_inLine_57 rfl ?_
                first | exact ih _ _ (by omega) (by omega) (by omega) hq hn | omega
              · refine g_iload4 50 dX6_inLine_48 rfl ?_
                refine g_iret dX6_inLine_50 rfl ?_
                omega
    · have e1 : inG s r (j + 1) g l = inG s r j (g + 1) l := by rw [inG, if_neg h1]
      rw [e1] at hq hn
      refine g_iload4 14 dX6_inLine_12 rfl ?_
      refine g_aload0 15 (by first | exact rv_r | exact rv_n | assumption | exact rv_f) dX6_inLine_14 rfl ?_
      refine g_getf 18 dX6_inLine_15 rfl fl_X6_7 hT.t (hT.f0) ?_
      refine g_iconst 19 dX6_inLine_18 rfl ?_
      refine g_iald 20 dX6_inLine_19 rfl hT.a0 (by omega) (by omega) (by omega) (hT.e0 (by omega) (by omega)) ?_
      refine g_icmp_ge 60 23 dX6_inLine_20 rfl rfl (by first | exact hT.r _ | exact hT.rT _ _ | omega) (by first | exact hT.r _ | exact hT.rT _ _ | omega) (fun c20 => ?_) (fun c20 => ?_)
      · omega
      · refine g_aload0 24 (by first | exact rv_r | exact rv_n | assumption | exact rv_f) dX6_inLine_23 rfl ?_
        refine g_iload4 26 dX6_inLine_24 rfl ?_
        refine g_iconst 27 dX6_inLine_26 rfl ?_
        refine k_V2z 30 dX6_inLine_27 rfl lk_X6_36 hT.t rfl (by first | rfl | exact rv_cat (by assumption) | exact rv_cat rv_f) (by first | rfl | exact rv_cat (by assumption) | exact rv_cat rv_f) (Nat.le_of_ble_eq_true rfl) (by first | exact Nat.le_of_ble_eq_true rfl | omega) (c_X6_guest hT (by first | assumption | omega) (by first | assumption | omega) ?_)
        refine g_if_ne 54 33 dX6_inLine_30 rfl rfl (by first | exact hT.r _ | exact hT.rT _ _ | omega) (fun c30 => ?_) (fun c30 => ?_)
        · refine g_iinc4 57 (Nat.le_of_ble_eq_true rfl) (by first | exact c1_0 | exact c1_i | exact c1_r | exact c1_n | exact c1_v (by assumption) | exact c1_f) dX6_inLine_54 rfl ?_
          refine g_goto 12 dX6_inLine_57 rfl ?_
          exact ih _ _ (by omega) (by omega) (by omega) hq hn
        · refine g_aload0 34 (by first | exact rv_r | exact rv_n | assumption | exact rv_f) dX6_inLine_33 rfl ?_
          refine g_iload4 36 dX6_inLine_34 rfl ?_
          refine g_iconst 37 dX6_inLine_36 rfl ?_
          refine k_V2z 40 dX6_inLine_37 rfl lk_X6_36 hT.t rfl (by first | rfl | exact rv_cat (by assumption) | exact rv_cat rv_f) (by first | rfl | exact rv_cat (by assumption) | exact rv_cat rv_f) (Nat.le_of_ble_eq_true rfl) (by first | exact Nat.le_of_ble_eq_true rfl | omega) (c_X6_guest hT (by first | assumption | omega) (by first | assumption | omega) ?_)
          refine g_iload3 41 dX6_inLine_40 rfl ?_
          refine g_icmp_ne 54 44 dX6_inLine_41 rfl rfl (by first | exact hT.r _ | exact hT.rT _ _ | omega) (by first | exact hT.r _ | exact hT.rT _ _ | omega) (fun c41 => ?_) (fun c41 => ?_)
          · refine g_iinc4 57 (Nat.le_of_ble_eq_true rfl) (by first | exact c1_0 | exact c1_i | exact c1_r | exact c1_n | exact c1_v (by assumption) | exact c1_f) dX6_inLine_54 rfl ?_
            refine g_goto 12 dX6_inLine_57 rfl ?_
            exact ih _ _ (by omega) (by omega) (by omega) hq hn
          · omega
theorem l_inLineR (hT : Tw (kB K) M0 m s T M) (h3 : 0 ≤ s 3 ∧ s 3 ≤ 40) {p : Int} : ∀ (j : Nat) (r l : Int) (x : Option Value), r + j = 3 → 0 ≤ r → (0 ≤ l ∧ l < 2147483648) → Q (.inl (some (.int (ii (inR s j r l))))) M → Go K fX6_inLine 2 k n 4 [some (.ref m), some (.int (ii p)), some (.int (ii l)), some (.int (ii r)), x] [] M Q := by
  intro j
  induction j with
  | zero =>
    intro r l x e h0 hl hq
    refine g_iload3 5 dX6_inLine_4 rfl ?_
    refine g_iconst 6 dX6_inLine_5 rfl ?_
    refine g_icmp_ge 66 9 dX6_inLine_6 rfl rfl (by first | exact hT.r _ | exact hT.rT _ _ | omega) (by first | exact hT.r _ | exact hT.rT _ _ | omega) (fun c6 => ?_) (fun c6 => ?_)
    · refine g_iconst 67 dX6_inLine_66 rfl ?_
      refine g_iret dX6_inLine_67 rfl ?_
      exact hq
    · omega
  | succ j ih =>
    intro r l x e h0 hl hq
    have hb := inG_r (s := s) (r := r) (s 3).toNat 0 l (by omega) (by omega)
    refine g_iload3 5 dX6_inLine_4 rfl ?_
    refine g_iconst 6 dX6_inLine_5 rfl ?_
    refine g_icmp_ge 66 9 dX6_inLine_6 rfl rfl (by first | exact hT.r _ | exact hT.rT _ _ | omega) (by first | exact hT.r _ | exact hT.rT _ _ | omega) (fun c6 => ?_) (fun c6 => ?_)
    · omega
    · refine g_iconst 10 dX6_inLine_9 rfl ?_
      refine g_istore4 12 (Nat.le_of_ble_eq_true rfl) (by first | exact c1_0 | exact c1_i | exact c1_r | exact c1_n | exact c1_v (by assumption) | exact c1_f) dX6_inLine_10 rfl ?_
      refine l_inLine hT h3 (by omega) (s 3).toNat 0 l (by omega) (by omega) hl (fun q => ?_) (fun q => ?_)
      · rw [inR, if_neg q] at hq
        exact hq
      · rw [inR, if_pos q] at hq
        refine g_iinc3 63 (Nat.le_of_ble_eq_true rfl) (by first | exact c1_0 | exact c1_i | exact c1_r | exact c1_n | exact c1_v (by assumption) | exact c1_f) dX6_inLine_60 rfl ?_
        refine g_goto 4 dX6_inLine_63 rfl ?_
        exact ih _ _ _ (by omega) (by omega) (by omega) hq
theorem c_X6_inLine (hT : Tw (kB K) M0 m s T M) {p : Int} (h3 : 0 ≤ s 3 ∧ s 3 ≤ 40) (hp : 0 ≤ p ∧ p < 2147483648) (hQ : Q (.inl (some (.int (ii (inLineP s p))))) M) : Go K fX6_inLine 2 k n 0 [some (.ref m), some (.int (ii p)), none, none, none] [] M Q := by
  refine g_iload1 1 dX6_inLine_0 rfl ?_
  refine g_istore2 2 (Nat.le_of_ble_eq_true rfl) (by first | exact c1_0 | exact c1_i | exact c1_r | exact c1_n | exact c1_v (by assumption) | exact c1_f) dX6_inLine_1 rfl ?_
  refine g_iconst 3 dX6_inLine_2 rfl ?_
  refine g_istore3 4 (Nat.le_of_ble_eq_true rfl) (by first | exact c1_0 | exact c1_i | exact c1_r | exact c1_n | exact c1_v (by assumption) | exact c1_f) dX6_inLine_3 rfl ?_
  exact l_inLineR hT h3 3 0 p _ (by omega) (by omega) hp hQ
theorem l_rested (hT : Tw (kB K) M0 m s T M) : ∀ (j : Nat) (p x : Int) (y : Option Value), p + j = 5 → 0 ≤ p → (x = -1 ∨ (0 ≤ x ∧ x < 5)) → Q (.inl (some (.int (ii (restF s j p x))))) M → Go K fX6_rested 2 k n 4 [some (.ref m), some (.int (ii x)), some (.int (ii p)), y] [] M Q := by
  intro j
  induction j with
  | zero =>
    intro p x y e h0 hx hq
    refine g_iload2 5 dX6_rested_4 rfl ?_
    refine g_iconst 6 dX6_rested_5 rfl ?_
    refine g_icmp_ge 69 9 dX6_rested_6 rfl rfl (by first | exact hT.r _ | exact hT.rT _ _ | omega) (by first | exact hT.r _ | exact hT.rT _ _ | omega) (fun c6 => ?_) (fun c6 => ?_)
    · refine g_iload1 70 dX6_rested_69 rfl ?_
      refine g_iret dX6_rested_70 rfl ?_
      exact hq
    · omega
  | succ j ih =>
    intro p x y e h0 hx hq
    have hb := restStep_r (s := s) hx (show 0 ≤ p ∧ p < 5 by omega)
    rw [restF] at hq
    by_cases h1 : (s (217 + 3 * p + 0) = 0 ∧ s (217 + 3 * p + 1) = 0) ∧ (x = -1 ∨ s (217 + 3 * p + 2) < s (217 + 3 * x + 2))
    · have e1 : restStep s p x = p := if_pos h1
      rw [e1] at hq hb
      refine g_iload2 5 dX6_rested_4 rfl ?_
      refine g_iconst 6 dX6_rested_5 rfl ?_
      refine g_icmp_ge 69 9 dX6_rested_6 rfl rfl (by first | exact hT.r _ | exact hT.rT _ _ | omega) (by first | exact hT.r _ | exact hT.rT _ _ | omega) (fun c6 => ?_) (fun c6 => ?_)
      · omega
      · refine g_aload0 10 (by first | exact rv_r | exact rv_n | assumption | exact rv_f) dX6_rested_9 rfl ?_
        refine g_iload2 11 dX6_rested_10 rfl ?_
        refine g_iconst 12 dX6_rested_11 rfl ?_
        refine k_V2z 15 dX6_rested_12 rfl lk_X6_44 hT.t rfl (by first | rfl | exact rv_cat (by assumption) | exact rv_cat rv_f) (by first | rfl | exact rv_cat (by assumption) | exact rv_cat rv_f) (Nat.le_of_ble_eq_true rfl) (by first | exact Nat.le_of_ble_eq_true rfl | omega) (c_X6_pair hT (by first | assumption | omega) (by first | assumption | omega) ?_)
        refine g_if_ne 31 18 dX6_rested_15 rfl rfl (by first | exact hT.r _ | exact hT.rT _ _ | omega) (fun c15 => ?_) (fun c15 => ?_)
        · refine g_iconst 32 dX6_rested_31 rfl ?_
          refine g_istore3 33 (Nat.le_of_ble_eq_true rfl) (by first | exact c1_0 | exact c1_i | exact c1_r | exact c1_n | exact c1_v (by assumption) | exact c1_f) dX6_rested_32 rfl ?_
          refine g_iload3 34 dX6_rested_33 rfl ?_
          refine g_if_eq 61 37 dX6_rested_34 rfl rfl (by first | exact hT.r _ | exact hT.rT _ _ | omega) (fun c34 => ?_) (fun c34 => ?_)
          · refine g_iload1 62 dX6_rested_61 rfl ?_
            refine g_istore1 63 (Nat.le_of_ble_eq_true rfl) (by first | exact c1_0 | exact c1_i | exact c1_r | exact c1_n | exact c1_v (by assumption) | exact c1_f) dX6_rested_62 rfl ?_
            refine g_iinc2 66 (Nat.le_of_ble_eq_true rfl) (by first | exact c1_0 | exact c1_i | exact c1_r | exact c1_n | exact c1_v (by assumption) | exact c1_f) dX6_rested_63 rfl ?_
            refine g_goto 4 dX6_rested_66 rfl ?_
            first | exact ih _ _ _ (by omega) (by omega) hb hq | omega
          · refine g_iload1 38 dX6_rested_37 rfl ?_
            refine g_iconst 39 dX6_rested_38 rfl ?_
            refine g_icmp_eq 57 42 dX6_rested_39 rfl rfl (by first | exact hT.r _ | exact hT.rT _ _ | omega) (by first | exact hT.r _ | exact hT.rT _ _ | omega) (fun c39 => ?_) (fun c39 => ?_)
            · refine g_iload2 58 dX6_rested_57 rfl ?_
              refine g_goto 62 dX6_rested_58 rfl ?_
              refine g_istore1 63 (Nat.le_of_ble_eq_true rfl) (by first | exact c1_0 | exact c1_i | exact c1_r | exact c1_n | exact c1_v (by assumption) | exact c1_f) dX6_rested_62 rfl ?_
              refine g_iinc2 66 (Nat.le_of_ble_eq_true rfl) (by first | exact c1_0 | exact c1_i | exact c1_r | exact c1_n | exact c1_v (by assumption) | exact c1_f) dX6_rested_63 rfl ?_
              refine g_goto 4 dX6_rested_66 rfl ?_
              first | exact ih _ _ _ (by omega) (by omega) hb hq | omega
            · refine g_aload0 43 (by first | exact rv_r | exact rv_n | assumption | exact rv_f) dX6_rested_42 rfl ?_
              refine g_iload2 44 dX6_rested_43 rfl ?_
              refine g_iconst 45 dX6_rested_44 rfl ?_
              refine k_V2z 48 dX6_rested_45 rfl lk_X6_44 hT.t rfl (by first | rfl | exact rv_cat (by assumption) | exact rv_cat rv_f) (by first | rfl | exact rv_cat (by assumption) | exact rv_cat rv_f) (Nat.le_of_ble_eq_true rfl) (by first | exact Nat.le_of_ble_eq_true rfl | omega) (c_X6_pair hT (by first | assumption | omega) (by first | assumption | omega) ?_)
              refine g_aload0 49 (by first | exact rv_r | exact rv_n | assumption | exact rv_f) dX6_rested_48 rfl ?_
              refine g_iload1 50 dX6_rested_49 rfl ?_
              refine g_iconst 51 dX6_rested_50 rfl ?_
              refine k_V2z 54 dX6_rested_51 rfl lk_X6_44 hT.t rfl (by first | rfl | exact rv_cat (by assumption) | exact rv_cat rv_f) (by first | rfl | exact rv_cat (by assumption) | exact rv_cat rv_f) (Nat.le_of_ble_eq_true rfl) (by first | exact Nat.le_of_ble_eq_true rfl | omega) (c_X6_pair hT (by first | assumption | omega) (by first | assumption | omega) ?_)
              refine g_icmp_ge 61 57 dX6_rested_54 rfl rfl (by first | exact hT.r _ | exact hT.rT _ _ | omega) (by first | exact hT.r _ | exact hT.rT _ _ | omega) (fun c54 => ?_) (fun c54 => ?_)
              · refine g_iload1 62 dX6_rested_61 rfl ?_
                refine g_istore1 63 (Nat.le_of_ble_eq_true rfl) (by first | exact c1_0 | exact c1_i | exact c1_r | exact c1_n | exact c1_v (by assumption) | exact c1_f) dX6_rested_62 rfl ?_
                refine g_iinc2 66 (Nat.le_of_ble_eq_true rfl) (by first | exact c1_0 | exact c1_i | exact c1_r | exact c1_n | exact c1_v (by assumption) | exact c1_f) dX6_rested_63 rfl ?_
                refine g_goto 4 dX6_rested_66 rfl ?_
                first | exact ih _ _ _ (by omega) (by omega) hb hq | omega
              · refine g_iload2 58 dX6_rested_57 rfl ?_
                refine g_goto 62 dX6_rested_58 rfl ?_
                refine g_istore1 63 (Nat.le_of_ble_eq_true rfl) (by first | exact c1_0 | exact c1_i | exact c1_r | exact c1_n | exact c1_v (by assumption) | exact c1_f) dX6_rested_62 rfl ?_
                refine g_iinc2 66 (Nat.le_of_ble_eq_true rfl) (by first | exact c1_0 | exact c1_i | exact c1_r | exact c1_n | exact c1_v (by assumption) | exact c1_f) dX6_rested_63 rfl ?_
                refine g_goto 4 dX6_rested_66 rfl ?_
                first | exact ih _ _ _ (by omega) (by omega) hb hq | omega
        · refine g_aload0 19 (by first | exact rv_r | exact rv_n | assumption | exact rv_f) dX6_rested_18 rfl ?_
          refine g_iload2 20 dX6_rested_19 rfl ?_
          refine g_iconst 21 dX6_rested_20 rfl ?_
          refine k_V2z 24 dX6_rested_21 rfl lk_X6_44 hT.t rfl (by first | rfl | exact rv_cat (by assumption) | exact rv_cat rv_f) (by first | rfl | exact rv_cat (by assumption) | exact rv_cat rv_f) (Nat.le_of_ble_eq_true rfl) (by first | exact Nat.le_of_ble_eq_true rfl | omega) (c_X6_pair hT (by first | assumption | omega) (by first | assumption | omega) ?_)
          refine g_if_ne 31 27 dX6_rested_24 rfl rfl (by first | exact hT.r _ | exact hT.rT _ _ | omega) (fun c24 => ?_) (fun c24 => ?_)
          · refine g_iconst 32 dX6_rested_31 rfl ?_
            refine g_istore3 33 (Nat.le_of_ble_eq_true rfl) (by first | exact c1_0 | exact c1_i | exact c1_r | exact c1_n | exact c1_v (by assumption) | exact c1_f) dX6_rested_32 rfl ?_
            refine g_iload3 34 dX6_rested_33 rfl ?_
            refine g_if_eq 61 37 dX6_rested_34 rfl rfl (by first | exact hT.r _ | exact hT.rT _ _ | omega) (fun c34 => ?_) (fun c34 => ?_)
            · refine g_iload1 62 dX6_rested_61 rfl ?_
              refine g_istore1 63 (Nat.le_of_ble_eq_true rfl) (by first | exact c1_0 | exact c1_i | exact c1_r | exact c1_n | exact c1_v (by assumption) | exact c1_f) dX6_rested_62 rfl ?_
              refine g_iinc2 66 (Nat.le_of_ble_eq_true rfl) (by first | exact c1_0 | exact c1_i | exact c1_r | exact c1_n | exact c1_v (by assumption) | exact c1_f) dX6_rested_63 rfl ?_
              refine g_goto 4 dX6_rested_66 rfl ?_
              first | exact ih _ _ _ (by omega) (by omega) hb hq | omega
            · refine g_iload1 38 dX6_rested_37 rfl ?_
              refine g_iconst 39 dX6_rested_38 rfl ?_
              refine g_icmp_eq 57 42 dX6_rested_39 rfl rfl (by first | exact hT.r _ | exact hT.rT _ _ | omega) (by first | exact hT.r _ | exact hT.rT _ _ | omega) (fun c39 => ?_) (fun c39 => ?_)
              · refine g_iload2 58 dX6_rested_57 rfl ?_
                refine g_goto 62 dX6_rested_58 rfl ?_
                refine g_istore1 63 (Nat.le_of_ble_eq_true rfl) (by first | exact c1_0 | exact c1_i | exact c1_r | exact c1_n | exact c1_v (by assumption) | exact c1_f) dX6_rested_62 rfl ?_
                refine g_iinc2 66 (Nat.le_of_ble_eq_true rfl) (by first | exact c1_0 | exact c1_i | exact c1_r | exact c1_n | exact c1_v (by assumption) | exact c1_f) dX6_rested_63 rfl ?_
                refine g_goto 4 dX6_rested_66 rfl ?_
                first | exact ih _ _ _ (by omega) (by omega) hb hq | omega
              · refine g_aload0 43 (by first | exact rv_r | exact rv_n | assumption | exact rv_f) dX6_rested_42 rfl ?_
                refine g_iload2 44 dX6_rested_43 rfl ?_
                refine g_iconst 45 dX6_rested_44 rfl ?_
                refine k_V2z 48 dX6_rested_45 rfl lk_X6_44 hT.t rfl (by first | rfl | exact rv_cat (by assumption) | exact rv_cat rv_f) (by first | rfl | exact rv_cat (by assumption) | exact rv_cat rv_f) (Nat.le_of_ble_eq_true rfl) (by first | exact Nat.le_of_ble_eq_true rfl | omega) (c_X6_pair hT (by first | assumption | omega) (by first | assumption | omega) ?_)
                refine g_aload0 49 (by first | exact rv_r | exact rv_n | assumption | exact rv_f) dX6_rested_48 rfl ?_
                refine g_iload1 50 dX6_rested_49 rfl ?_
                refine g_iconst 51 dX6_rested_50 rfl ?_
                refine k_V2z 54 dX6_rested_51 rfl lk_X6_44 hT.t rfl (by first | rfl | exact rv_cat (by assumption) | exact rv_cat rv_f) (by first | rfl | exact rv_cat (by assumption) | exact rv_cat rv_f) (Nat.le_of_ble_eq_true rfl) (by first | exact Nat.le_of_ble_eq_true rfl | omega) (c_X6_pair hT (by first | assumption | omega) (by first | assumption | omega) ?_)
                refine g_icmp_ge 61 57 dX6_rested_54 rfl rfl (by first | exact hT.r _ | exact hT.rT _ _ | omega) (by first | exact hT.r _ | exact hT.rT _ _ | omega) (fun c54 => ?_) (fun c54 => ?_)
                · refine g_iload1 62 dX6_rested_61 rfl ?_
                  refine g_istore1 63 (Nat.le_of_ble_eq_true rfl) (by first | exact c1_0 | exact c1_i | exact c1_r | exact c1_n | exact c1_v (by assumption) | exact c1_f) dX6_rested_62 rfl ?_
                  refine g_iinc2 66 (Nat.le_of_ble_eq_true rfl) (by first | exact c1_0 | exact c1_i | exact c1_r | exact c1_n | exact c1_v (by assumption) | exact c1_f) dX6_rested_63 rfl ?_
                  refine g_goto 4 dX6_rested_66 rfl ?_
                  first | exact ih _ _ _ (by omega) (by omega) hb hq | omega
                · refine g_iload2 58 dX6_rested_57 rfl ?_
                  refine g_goto 62 dX6_rested_58 rfl ?_
                  refine g_istore1 63 (Nat.le_of_ble_eq_true rfl) (by first | exact c1_0 | exact c1_i | exact c1_r | exact c1_n | exact c1_v (by assumption) | exact c1_f) dX6_rested_62 rfl ?_
                  refine g_iinc2 66 (Nat.le_of_ble_eq_true rfl) (by first | exact c1_0 | exact c1_i | exact c1_r | exact c1_n | exact c1_v (by assumption) | exact c1_f) dX6_rested_63 rfl ?_
                  refine g_goto 4 dX6_rested_66 rfl ?_
                  first | exact ih _ _ _ (by omega) (by omega) hb hq | omega
          · refine g_iconst 28 dX6_rested_27 rfl ?_
            refine g_goto 32 dX6_rested_28 rfl ?_
            refine g_istore3 33 (Nat.le_of_ble_eq_true rfl) (by first | exact c1_0 | exact c1_i | exact c1_r | exact c1_n | exact c1_v (by assumption) | exact c1_f) dX6_rested_32 rfl ?_
            refine g_iload3 34 dX6_rested_33 rfl ?_
            refine g_if_eq 61 37 dX6_rested_34 rfl rfl (by first | exact hT.r _ | exact hT.rT _ _ | omega) (fun c34 => ?_) (fun c34 => ?_)
            · refine g_iload1 62 dX6_rested_61 rfl ?_
              refine g_istore1 63 (Nat.le_of_ble_eq_true rfl) (by first | exact c1_0 | exact c1_i | exact c1_r | exact c1_n | exact c1_v (by assumption) | exact c1_f) dX6_rested_62 rfl ?_
              refine g_iinc2 66 (Nat.le_of_ble_eq_true rfl) (by first | exact c1_0 | exact c1_i | exact c1_r | exact c1_n | exact c1_v (by assumption) | exact c1_f) dX6_rested_63 rfl ?_
              refine g_goto 4 dX6_rested_66 rfl ?_
              first | exact ih _ _ _ (by omega) (by omega) hb hq | omega
            · refine g_iload1 38 dX6_rested_37 rfl ?_
              refine g_iconst 39 dX6_rested_38 rfl ?_
              refine g_icmp_eq 57 42 dX6_rested_39 rfl rfl (by first | exact hT.r _ | exact hT.rT _ _ | omega) (by first | exact hT.r _ | exact hT.rT _ _ | omega) (fun c39 => ?_) (fun c39 => ?_)
              · refine g_iload2 58 dX6_rested_57 rfl ?_
                refine g_goto 62 dX6_rested_58 rfl ?_
                refine g_istore1 63 (Nat.le_of_ble_eq_true rfl) (by first | exact c1_0 | exact c1_i | exact c1_r | exact c1_n | exact c1_v (by assumption) | exact c1_f) dX6_rested_62 rfl ?_
                refine g_iinc2 66 (Nat.le_of_ble_eq_true rfl) (by first | exact c1_0 | exact c1_i | exact c1_r | exact c1_n | exact c1_v (by assumption) | exact c1_f) dX6_rested_63 rfl ?_
                refine g_goto 4 dX6_rested_66 rfl ?_
                first | exact ih _ _ _ (by omega) (by omega) hb hq | omega
              · refine g_aload0 43 (by first | exact rv_r | exact rv_n | assumption | exact rv_f) dX6_rested_42 rfl ?_
                refine g_iload2 44 dX6_rested_43 rfl ?_
                refine g_iconst 45 dX6_rested_44 rfl ?_
                refine k_V2z 48 dX6_rested_45 rfl lk_X6_44 hT.t rfl (by first | rfl | exact rv_cat (by assumption) | exact rv_cat rv_f) (by first | rfl | exact rv_cat (by assumption) | exact rv_cat rv_f) (Nat.le_of_ble_eq_true rfl) (by first | exact Nat.le_of_ble_eq_true rfl | omega) (c_X6_pair hT (by first | assumption | omega) (by first | assumption | omega) ?_)
                refine g_aload0 49 (by first | exact rv_r | exact rv_n | assumption | exact rv_f) dX6_rested_48 rfl ?_
                refine g_iload1 50 dX6_rested_49 rfl ?_
                refine g_iconst 51 dX6_rested_50 rfl ?_
                refine k_V2z 54 dX6_rested_51 rfl lk_X6_44 hT.t rfl (by first | rfl | exact rv_cat (by assumption) | exact rv_cat rv_f) (by first | rfl | exact rv_cat (by assumption) | exact rv_cat rv_f) (Nat.le_of_ble_eq_true rfl) (by first | exact Nat.le_of_ble_eq_true rfl | omega) (c_X6_pair hT (by first | assumption | omega) (by first | assumption | omega) ?_)
                refine g_icmp_ge 61 57 dX6_rested_54 rfl rfl (by first | exact hT.r _ | exact hT.rT _ _ | omega) (by first | exact hT.r _ | exact hT.rT _ _ | omega) (fun c54 => ?_) (fun c54 => ?_)
                · refine g_iload1 62 dX6_rested_61 rfl ?_
                  refine g_istore1 63 (Nat.le_of_ble_eq_true rfl) (by first | exact c1_0 | exact c1_i | exact c1_r | exact c1_n | exact c1_v (by assumption) | exact c1_f) dX6_rested_62 rfl ?_
                  refine g_iinc2 66 (Nat.le_of_ble_eq_true rfl) (by first | exact c1_0 | exact c1_i | exact c1_r | exact c1_n | exact c1_v (by assumption) | exact c1_f) dX6_rested_63 rfl ?_
                  refine g_goto 4 dX6_rested_66 rfl ?_
                  first | exact ih _ _ _ (by omega) (by omega) hb hq | omega
                · refine g_iload2 58 dX6_rested_57 rfl ?_
                  refine g_goto 62 dX6_rested_58 rfl ?_
                  refine g_istore1 63 (Nat.le_of_ble_eq_true rfl) (by first | exact c1_0 | exact c1_i | exact c1_r | exact c1_n | exact c1_v (by assumption) | exact c1_f) dX6_rested_62 rfl ?_
                  refine g_iinc2 66 (Nat.le_of_ble_eq_true rfl) (by first | exact c1_0 | exact c1_i | exact c1_r | exact c1_n | exact c1_v (by assumption) | exact c1_f) dX6_rested_63 rfl ?_
                  refine g_goto 4 dX6_rested_66 rfl ?_
                  first | exact ih _ _ _ (by omega) (by omega) hb hq | omega
    · have e1 : restStep s p x = x := if_neg h1
      rw [e1] at hq hb
      refine g_iload2 5 dX6_rested_4 rfl ?_
      refine g_iconst 6 dX6_rested_5 rfl ?_
      refine g_icmp_ge 69 9 dX6_rested_6 rfl rfl (by first | exact hT.r _ | exact hT.rT _ _ | omega) (by first | exact hT.r _ | exact hT.rT _ _ | omega) (fun c6 => ?_) (fun c6 => ?_)
      · omega
      · refine g_aload0 10 (by first | exact rv_r | exact rv_n | assumption | exact rv_f) dX6_rested_9 rfl ?_
        refine g_iload2 11 dX6_rested_10 rfl ?_
        refine g_iconst 12 dX6_rested_11 rfl ?_
        refine k_V2z 15 dX6_rested_12 rfl lk_X6_44 hT.t rfl (by first | rfl | exact rv_cat (by assumption) | exact rv_cat rv_f) (by first | rfl | exact rv_cat (by assumption) | exact rv_cat rv_f) (Nat.le_of_ble_eq_true rfl) (by first | exact Nat.le_of_ble_eq_true rfl | omega) (c_X6_pair hT (by first | assumption | omega) (by first | assumption | omega) ?_)
        refine g_if_ne 31 18 dX6_rested_15 rfl rfl (by first | exact hT.r _ | exact hT.rT _ _ | omega) (fun c15 => ?_) (fun c15 => ?_)
        · refine g_iconst 32 dX6_rested_31 rfl ?_
          refine g_istore3 33 (Nat.le_of_ble_eq_true rfl) (by first | exact c1_0 | exact c1_i | exact c1_r | exact c1_n | exact c1_v (by assumption) | exact c1_f) dX6_rested_32 rfl ?_
          refine g_iload3 34 dX6_rested_33 rfl ?_
          refine g_if_eq 61 37 dX6_rested_34 rfl rfl (by first | exact hT.r _ | exact hT.rT _ _ | omega) (fun c34 => ?_) (fun c34 => ?_)
          · refine g_iload1 62 dX6_rested_61 rfl ?_
            refine g_istore1 63 (Nat.le_of_ble_eq_true rfl) (by first | exact c1_0 | exact c1_i | exact c1_r | exact c1_n | exact c1_v (by assumption) | exact c1_f) dX6_rested_62 rfl ?_
            refine g_iinc2 66 (Nat.le_of_ble_eq_true rfl) (by first | exact c1_0 | exact c1_i | exact c1_r | exact c1_n | exact c1_v (by assumption) | exact c1_f) dX6_rested_63 rfl ?_
            refine g_goto 4 dX6_rested_66 rfl ?_
            first | exact ih _ _ _ (by omega) (by omega) hb hq | omega
          · refine g_iload1 38 dX6_rested_37 rfl ?_
            refine g_iconst 39 dX6_rested_38 rfl ?_
            refine g_icmp_eq 57 42 dX6_rested_39 rfl rfl (by first | exact hT.r _ | exact hT.rT _ _ | omega) (by first | exact hT.r _ | exact hT.rT _ _ | omega) (fun c39 => ?_) (fun c39 => ?_)
            · refine g_iload2 58 dX6_rested_57 rfl ?_
              refine g_goto 62 dX6_rested_58 rfl ?_
              refine g_istore1 63 (Nat.le_of_ble_eq_true rfl) (by first | exact c1_0 | exact c1_i | exact c1_r | exact c1_n | exact c1_v (by assumption) | exact c1_f) dX6_rested_62 rfl ?_
              refine g_iinc2 66 (Nat.le_of_ble_eq_true rfl) (by first | exact c1_0 | exact c1_i | exact c1_r | exact c1_n | exact c1_v (by assumption) | exact c1_f) dX6_rested_63 rfl ?_
              refine g_goto 4 dX6_rested_66 rfl ?_
              first | exact ih _ _ _ (by omega) (by omega) hb hq | omega
            · refine g_aload0 43 (by first | exact rv_r | exact rv_n | assumption | exact rv_f) dX6_rested_42 rfl ?_
              refine g_iload2 44 dX6_rested_43 rfl ?_
              refine g_iconst 45 dX6_rested_44 rfl ?_
              refine k_V2z 48 dX6_rested_45 rfl lk_X6_44 hT.t rfl (by first | rfl | exact rv_cat (by assumption) | exact rv_cat rv_f) (by first | rfl | exact rv_cat (by assumption) | exact rv_cat rv_f) (Nat.le_of_ble_eq_true rfl) (by first | exact Nat.le_of_ble_eq_true rfl | omega) (c_X6_pair hT (by first | assumption | omega) (by first | assumption | omega) ?_)
              refine g_aload0 49 (by first | exact rv_r | exact rv_n | assumption | exact rv_f) dX6_rested_48 rfl ?_
              refine g_iload1 50 dX6_rested_49 rfl ?_
              refine g_iconst 51 dX6_rested_50 rfl ?_
              refine k_V2z 54 dX6_rested_51 rfl lk_X6_44 hT.t rfl (by first | rfl | exact rv_cat (by assumption) | exact rv_cat rv_f) (by first | rfl | exact rv_cat (by assumption) | exact rv_cat rv_f) (Nat.le_of_ble_eq_true rfl) (by first | exact Nat.le_of_ble_eq_true rfl | omega) (c_X6_pair hT (by first | assumption | omega) (by first | assumption | omega) ?_)
              refine g_icmp_ge 61 57 dX6_rested_54 rfl rfl (by first | exact hT.r _ | exact hT.rT _ _ | omega) (by first | exact hT.r _ | exact hT.rT _ _ | omega) (fun c54 => ?_) (fun c54 => ?_)
              · refine g_iload1 62 dX6_rested_61 rfl ?_
                refine g_istore1 63 (Nat.le_of_ble_eq_true rfl) (by first | exact c1_0 | exact c1_i | exact c1_r | exact c1_n | exact c1_v (by assumption) | exact c1_f) dX6_rested_62 rfl ?_
                refine g_iinc2 66 (Nat.le_of_ble_eq_true rfl) (by first | exact c1_0 | exact c1_i | exact c1_r | exact c1_n | exact c1_v (by assumption) | exact c1_f) dX6_rested_63 rfl ?_
                refine g_goto 4 dX6_rested_66 rfl ?_
                first | exact ih _ _ _ (by omega) (by omega) hb hq | omega
              · refine g_iload2 58 dX6_rested_57 rfl ?_
                refine g_goto 62 dX6_rested_58 rfl ?_
                refine g_istore1 63 (Nat.le_of_ble_eq_true rfl) (by first | exact c1_0 | exact c1_i | exact c1_r | exact c1_n | exact c1_v (by assumption) | exact c1_f) dX6_rested_62 rfl ?_
                refine g_iinc2 66 (Nat.le_of_ble_eq_true rfl) (by first | exact c1_0 | exact c1_i | exact c1_r | exact c1_n | exact c1_v (by assumption) | exact c1_f) dX6_rested_63 rfl ?_
                refine g_goto 4 dX6_rested_66 rfl ?_
                first | exact ih _ _ _ (by omega) (by omega) hb hq | omega
        · refine g_aload0 19 (by first | exact rv_r | exact rv_n | assumption | exact rv_f) dX6_rested_18 rfl ?_
          refine g_iload2 20 dX6_rested_19 rfl ?_
          refine g_iconst 21 dX6_rested_20 rfl ?_
          refine k_V2z 24 dX6_rested_21 rfl lk_X6_44 hT.t rfl (by first | rfl | exact rv_cat (by assumption) | exact rv_cat rv_f) (by first | rfl | exact rv_cat (by assumption) | exact rv_cat rv_f) (Nat.le_of_ble_eq_true rfl) (by first | exact Nat.le_of_ble_eq_true rfl | omega) (c_X6_pair hT (by first | assumption | omega) (by first | assumption | omega) ?_)
          refine g_if_ne 31 27 dX6_rested_24 rfl rfl (by first | exact hT.r _ | exact hT.rT _ _ | omega) (fun c24 => ?_) (fun c24 => ?_)
          · refine g_iconst 32 dX6_rested_31 rfl ?_
            refine g_istore3 33 (Nat.le_of_ble_eq_true rfl) (by first | exact c1_0 | exact c1_i | exact c1_r | exact c1_n | exact c1_v (by assumption) | exact c1_f) dX6_rested_32 rfl ?_
            refine g_iload3 34 dX6_rested_33 rfl ?_
            refine g_if_eq 61 37 dX6_rested_34 rfl rfl (by first | exact hT.r _ | exact hT.rT _ _ | omega) (fun c34 => ?_) (fun c34 => ?_)
            · refine g_iload1 62 dX6_rested_61 rfl ?_
              refine g_istore1 63 (Nat.le_of_ble_eq_true rfl) (by first | exact c1_0 | exact c1_i | exact c1_r | exact c1_n | exact c1_v (by assumption) | exact c1_f) dX6_rested_62 rfl ?_
              refine g_iinc2 66 (Nat.le_of_ble_eq_true rfl) (by first | exact c1_0 | exact c1_i | exact c1_r | exact c1_n | exact c1_v (by assumption) | exact c1_f) dX6_rested_63 rfl ?_
              refine g_goto 4 dX6_rested_66 rfl ?_
              first | exact ih _ _ _ (by omega) (by omega) hb hq | omega
            · refine g_iload1 38 dX6_rested_37 rfl ?_
              refine g_iconst 39 dX6_rested_38 rfl ?_
              refine g_icmp_eq 57 42 dX6_rested_39 rfl rfl (by first | exact hT.r _ | exact hT.rT _ _ | omega) (by first | exact hT.r _ | exact hT.rT _ _ | omega) (fun c39 => ?_) (fun c39 => ?_)
              · refine g_iload2 58 dX6_rested_57 rfl ?_
                refine g_goto 62 dX6_rested_58 rfl ?_
                refine g_istore1 63 (Nat.le_of_ble_eq_true rfl) (by first | exact c1_0 | exact c1_i | exact c1_r | exact c1_n | exact c1_v (by assumption) | exact c1_f) dX6_rested_62 rfl ?_
                refine g_iinc2 66 (Nat.le_of_ble_eq_true rfl) (by first | exact c1_0 | exact c1_i | exact c1_r | exact c1_n | exact c1_v (by assumption) | exact c1_f) dX6_rested_63 rfl ?_
                refine g_goto 4 dX6_rested_66 rfl ?_
                first | exact ih _ _ _ (by omega) (by omega) hb hq | omega
              · refine g_aload0 43 (by first | exact rv_r | exact rv_n | assumption | exact rv_f) dX6_rested_42 rfl ?_
                refine g_iload2 44 dX6_rested_43 rfl ?_
                refine g_iconst 45 dX6_rested_44 rfl ?_
                refine k_V2z 48 dX6_rested_45 rfl lk_X6_44 hT.t rfl (by first | rfl | exact rv_cat (by assumption) | exact rv_cat rv_f) (by first | rfl | exact rv_cat (by assumption) | exact rv_cat rv_f) (Nat.le_of_ble_eq_true rfl) (by first | exact Nat.le_of_ble_eq_true rfl | omega) (c_X6_pair hT (by first | assumption | omega) (by first | assumption | omega) ?_)
                refine g_aload0 49 (by first | exact rv_r | exact rv_n | assumption | exact rv_f) dX6_rested_48 rfl ?_
                refine g_iload1 50 dX6_rested_49 rfl ?_
                refine g_iconst 51 dX6_rested_50 rfl ?_
                refine k_V2z 54 dX6_rested_51 rfl lk_X6_44 hT.t rfl (by first | rfl | exact rv_cat (by assumption) | exact rv_cat rv_f) (by first | rfl | exact rv_cat (by assumption) | exact rv_cat rv_f) (Nat.le_of_ble_eq_true rfl) (by first | exact Nat.le_of_ble_eq_true rfl | omega) (c_X6_pair hT (by first | assumption | omega) (by first | assumption | omega) ?_)
                refine g_icmp_ge 61 57 dX6_rested_54 rfl rfl (by first | exact hT.r _ | exact hT.rT _ _ | omega) (by first | exact hT.r _ | exact hT.rT _ _ | omega) (fun c54 => ?_) (fun c54 => ?_)
                · refine g_iload1 62 dX6_rested_61 rfl ?_
                  refine g_istore1 63 (Nat.le_of_ble_eq_true rfl) (by first | exact c1_0 | exact c1_i | exact c1_r | exact c1_n | exact c1_v (by assumption) | exact c1_f) dX6_rested_62 rfl ?_
                  refine g_iinc2 66 (Nat.le_of_ble_eq_true rfl) (by first | exact c1_0 | exact c1_i | exact c1_r | exact c1_n | exact c1_v (by assumption) | exact c1_f) dX6_rested_63 rfl ?_
                  refine g_goto 4 dX6_rested_66 rfl ?_
                  first | exact ih _ _ _ (by omega) (by omega) hb hq | omega
                · refine g_iload2 58 dX6_rested_57 rfl ?_
                  refine g_goto 62 dX6_rested_58 rfl ?_
                  refine g_istore1 63 (Nat.le_of_ble_eq_true rfl) (by first | exact c1_0 | exact c1_i | exact c1_r | exact c1_n | exact c1_v (by assumption) | exact c1_f) dX6_rested_62 rfl ?_
                  refine g_iinc2 66 (Nat.le_of_ble_eq_true rfl) (by first | exact c1_0 | exact c1_i | exact c1_r | exact c1_n | exact c1_v (by assumption) | exact c1_f) dX6_rested_63 rfl ?_
                  refine g_goto 4 dX6_rested_66 rfl ?_
                  first | exact ih _ _ _ (by omega) (by omega) hb hq | omega
          · refine g_iconst 28 dX6_rested_27 rfl ?_
            refine g_goto 32 dX6_rested_28 rfl ?_
            refine g_istore3 33 (Nat.le_of_ble_eq_true rfl) (by first | exact c1_0 | exact c1_i | exact c1_r | exact c1_n | exact c1_v (by assumption) | exact c1_f) dX6_rested_32 rfl ?_
            refine g_iload3 34 dX6_rested_33 rfl ?_
            refine g_if_eq 61 37 dX6_rested_34 rfl rfl (by first | exact hT.r _ | exact hT.rT _ _ | omega) (fun c34 => ?_) (fun c34 => ?_)
            · refine g_iload1 62 dX6_rested_61 rfl ?_
              refine g_istore1 63 (Nat.le_of_ble_eq_true rfl) (by first | exact c1_0 | exact c1_i | exact c1_r | exact c1_n | exact c1_v (by assumption) | exact c1_f) dX6_rested_62 rfl ?_
              refine g_iinc2 66 (Nat.le_of_ble_eq_true rfl) (by first | exact c1_0 | exact c1_i | exact c1_r | exact c1_n | exact c1_v (by assumption) | exact c1_f) dX6_rested_63 rfl ?_
              refine g_goto 4 dX6_rested_66 rfl ?_
              first | exact ih _ _ _ (by omega) (by omega) hb hq | omega
            · refine g_iload1 38 dX6_rested_37 rfl ?_
              refine g_iconst 39 dX6_rested_38 rfl ?_
              refine g_icmp_eq 57 42 dX6_rested_39 rfl rfl (by first | exact hT.r _ | exact hT.rT _ _ | omega) (by first | exact hT.r _ | exact hT.rT _ _ | omega) (fun c39 => ?_) (fun c39 => ?_)
              · refine g_iload2 58 dX6_rested_57 rfl ?_
                refine g_goto 62 dX6_rested_58 rfl ?_
                refine g_istore1 63 (Nat.le_of_ble_eq_true rfl) (by first | exact c1_0 | exact c1_i | exact c1_r | exact c1_n | exact c1_v (by assumption) | exact c1_f) dX6_rested_62 rfl ?_
                refine g_iinc2 66 (Nat.le_of_ble_eq_true rfl) (by first | exact c1_0 | exact c1_i | exact c1_r | exact c1_n | exact c1_v (by assumption) | exact c1_f) dX6_rested_63 rfl ?_
                refine g_goto 4 dX6_rested_66 rfl ?_
                first | exact ih _ _ _ (by omega) (by omega) hb hq | omega
              · refine g_aload0 43 (by first | exact rv_r | exact rv_n | assumption | exact rv_f) dX6_rested_42 rfl ?_
                refine g_iload2 44 dX6_rested_43 rfl ?_
                refine g_iconst 45 dX6_rested_44 rfl ?_
                refine k_V2z 48 dX6_rested_45 rfl lk_X6_44 hT.t rfl (by first | rfl | exact rv_cat (by assumption) | exact rv_cat rv_f) (by first | rfl | exact rv_cat (by assumption) | exact rv_cat rv_f) (Nat.le_of_ble_eq_true rfl) (by first | exact Nat.le_of_ble_eq_true rfl | omega) (c_X6_pair hT (by first | assumption | omega) (by first | assumption | omega) ?_)
                refine g_aload0 49 (by first | exact rv_r | exact rv_n | assumption | exact rv_f) dX6_rested_48 rfl ?_
                refine g_iload1 50 dX6_rested_49 rfl ?_
                refine g_iconst 51 dX6_rested_50 rfl ?_
                refine k_V2z 54 dX6_rested_51 rfl lk_X6_44 hT.t rfl (by first | rfl | exact rv_cat (by assumption) | exact rv_cat rv_f) (by first | rfl | exact rv_cat (by assumption) | exact rv_cat rv_f) (Nat.le_of_ble_eq_true rfl) (by first | exact Nat.le_of_ble_eq_true rfl | omega) (c_X6_pair hT (by first | assumption | omega) (by first | assumption | omega) ?_)
                refine g_icmp_ge 61 57 dX6_rested_54 rfl rfl (by first | exact hT.r _ | exact hT.rT _ _ | omega) (by first | exact hT.r _ | exact hT.rT _ _ | omega) (fun c54 => ?_) (fun c54 => ?_)
                · refine g_iload1 62 dX6_rested_61 rfl ?_
                  refine g_istore1 63 (Nat.le_of_ble_eq_true rfl) (by first | exact c1_0 | exact c1_i | exact c1_r | exact c1_n | exact c1_v (by assumption) | exact c1_f) dX6_rested_62 rfl ?_
                  refine g_iinc2 66 (Nat.le_of_ble_eq_true rfl) (by first | exact c1_0 | exact c1_i | exact c1_r | exact c1_n | exact c1_v (by assumption) | exact c1_f) dX6_rested_63 rfl ?_
                  refine g_goto 4 dX6_rested_66 rfl ?_
                  first | exact ih _ _ _ (by omega) (by omega) hb hq | omega
                · refine g_iload2 58 dX6_rested_57 rfl ?_
                  refine g_goto 62 dX6_rested_58 rfl ?_
                  refine g_istore1 63 (Nat.le_of_ble_eq_true rfl) (by first | exact c1_0 | exact c1_i | exact c1_r | exact c1_n | exact c1_v (by assumption) | exact c1_f) dX6_rested_62 rfl ?_
                  refine g_iinc2 66 (Nat.le_of_ble_eq_true rfl) (by first | exact c1_0 | exact c1_i | exact c1_r | exact c1_n | exact c1_v (by assumption) | exact c1_f) dX6_rested_63 rfl ?_
                  refine g_goto 4 dX6_rested_66 rfl ?_
                  first | exact ih _ _ _ (by omega) (by omega) hb hq | omega
theorem c_X6_rested (hT : Tw (kB K) M0 m s T M) (hQ : Q (.inl (some (.int (ii (restedP s))))) M) : Go K fX6_rested 2 k n 0 [some (.ref m), none, none, none] [] M Q := by
  refine g_iconst 1 dX6_rested_0 rfl ?_
  refine g_istore1 2 (Nat.le_of_ble_eq_true rfl) (by first | exact c1_0 | exact c1_i | exact c1_r | exact c1_n | exact c1_v (by assumption) | exact c1_f) dX6_rested_1 rfl ?_
  refine g_iconst 3 dX6_rested_2 rfl ?_
  refine g_istore2 4 (Nat.le_of_ble_eq_true rfl) (by first | exact c1_0 | exact c1_i | exact c1_r | exact c1_n | exact c1_v (by assumption) | exact c1_f) dX6_rested_3 rfl ?_
  exact l_rested hT 5 0 (-1) _ (by omega) (by omega) (Or.inl rfl) hQ
theorem l_ready (hT : Tw (kB K) M0 m s T M) : ∀ (j : Nat) (p x : Int) (y : Option Value), p + j = 3 → 0 ≤ p → (x = -1 ∨ (0 ≤ x ∧ x < 3)) → Q (.inl (some (.int (ii (readyF s j p x))))) M → Go K fX6_ready 2 k n 4 [some (.ref m), some (.int (ii x)), some (.int (ii p)), y] [] M Q := by
  intro j
  induction j with
  | zero =>
    intro p x y e h0 hx hq
    refine g_iload2 5 dX6_ready_4 rfl ?_
    refine g_iconst 6 dX6_ready_5 rfl ?_
    refine g_icmp_ge 69 9 dX6_ready_6 rfl rfl (by first | exact hT.r _ | exact hT.rT _ _ | omega) (by first | exact hT.r _ | exact hT.rT _ _ | omega) (fun c6 => ?_) (fun c6 => ?_)
    · refine g_iload1 70 dX6_ready_69 rfl ?_
      refine g_iret dX6_ready_70 rfl ?_
      exact hq
    · omega
  | succ j ih =>
    intro p x y e h0 hx hq
    have hb := readyStep_r (s := s) hx (show 0 ≤ p ∧ p < 3 by omega)
    rw [readyF] at hq
    by_cases h1 : (s (240 + 10 * p + 0) = 0 ∧ s (240 + 10 * p + 2) = 0) ∧ (x = -1 ∨ s (240 + 10 * p + 1) < s (240 + 10 * x + 1))
    · have e1 : readyStep s p x = p := if_pos h1
      rw [e1] at hq hb
      refine g_iload2 5 dX6_ready_4 rfl ?_
      refine g_iconst 6 dX6_ready_5 rfl ?_
      refine g_icmp_ge 69 9 dX6_ready_6 rfl rfl (by first | exact hT.r _ | exact hT.rT _ _ | omega) (by first | exact hT.r _ | exact hT.rT _ _ | omega) (fun c6 => ?_) (fun c6 => ?_)
      · omega
      · refine g_aload0 10 (by first | exact rv_r | exact rv_n | assumption | exact rv_f) dX6_ready_9 rfl ?_
        refine g_iload2 11 dX6_ready_10 rfl ?_
        refine g_iconst 12 dX6_ready_11 rfl ?_
        refine k_V2z 15 dX6_ready_12 rfl lk_X6_47 hT.t rfl (by first | rfl | exact rv_cat (by assumption) | exact rv_cat rv_f) (by first | rfl | exact rv_cat (by assumption) | exact rv_cat rv_f) (Nat.le_of_ble_eq_true rfl) (by first | exact Nat.le_of_ble_eq_true rfl | omega) (c_X6_chaise hT (by first | assumption | omega) (by first | assumption | omega) ?_)
        refine g_if_ne 31 18 dX6_ready_15 rfl rfl (by first | exact hT.r _ | exact hT.rT _ _ | omega) (fun c15 => ?_) (fun c15 => ?_)
        · refine g_iconst 32 dX6_ready_31 rfl ?_
          refine g_istore3 33 (Nat.le_of_ble_eq_true rfl) (by first | exact c1_0 | exact c1_i | exact c1_r | exact c1_n | exact c1_v (by assumption) | exact c1_f) dX6_ready_32 rfl ?_
          refine g_iload3 34 dX6_ready_33 rfl ?_
          refine g_if_eq 61 37 dX6_ready_34 rfl rfl (by first | exact hT.r _ | exact hT.rT _ _ | omega) (fun c34 => ?_) (fun c34 => ?_)
          · refine g_iload1 62 dX6_ready_61 rfl ?_
            refine g_istore1 63 (Nat.le_of_ble_eq_true rfl) (by first | exact c1_0 | exact c1_i | exact c1_r | exact c1_n | exact c1_v (by assumption) | exact c1_f) dX6_ready_62 rfl ?_
            refine g_iinc2 66 (Nat.le_of_ble_eq_true rfl) (by first | exact c1_0 | exact c1_i | exact c1_r | exact c1_n | exact c1_v (by assumption) | exact c1_f) dX6_ready_63 rfl ?_
            refine g_goto 4 dX6_ready_66 rfl ?_
            first | exact ih _ _ _ (by omega) (by omega) hb hq | omega
          · refine g_iload1 38 dX6_ready_37 rfl ?_
            refine g_iconst 39 dX6_ready_38 rfl ?_
            refine g_icmp_eq 57 42 dX6_ready_39 rfl rfl (by first | exact hT.r _ | exact hT.rT _ _ | omega) (by first | exact hT.r _ | exact hT.rT _ _ | omega) (fun c39 => ?_) (fun c39 => ?_)
            · refine g_iload2 58 dX6_ready_57 rfl ?_
              refine g_goto 62 dX6_ready_58 rfl ?_
              refine g_istore1 63 (Nat.le_of_ble_eq_true rfl) (by first | exact c1_0 | exact c1_i | exact c1_r | exact c1_n | exact c1_v (by assumption) | exact c1_f) dX6_ready_62 rfl ?_
              refine g_iinc2 66 (Nat.le_of_ble_eq_true rfl) (by first | exact c1_0 | exact c1_i | exact c1_r | exact c1_n | exact c1_v (by assumption) | exact c1_f) dX6_ready_63 rfl ?_
              refine g_goto 4 dX6_ready_66 rfl ?_
              first | exact ih _ _ _ (by omega) (by omega) hb hq | omega
            · refine g_aload0 43 (by first | exact rv_r | exact rv_n | assumption | exact rv_f) dX6_ready_42 rfl ?_
              refine g_iload2 44 dX6_ready_43 rfl ?_
              refine g_iconst 45 dX6_ready_44 rfl ?_
              refine k_V2z 48 dX6_ready_45 rfl lk_X6_47 hT.t rfl (by first | rfl | exact rv_cat (by assumption) | exact rv_cat rv_f) (by first | rfl | exact rv_cat (by assumption) | exact rv_cat rv_f) (Nat.le_of_ble_eq_true rfl) (by first | exact Nat.le_of_ble_eq_true rfl | omega) (c_X6_chaise hT (by first | assumption | omega) (by first | assumption | omega) ?_)
              refine g_aload0 49 (by first | exact rv_r | exact rv_n | assumption | exact rv_f) dX6_ready_48 rfl ?_
              refine g_iload1 50 dX6_ready_49 rfl ?_
              refine g_iconst 51 dX6_ready_50 rfl ?_
              refine k_V2z 54 dX6_ready_51 rfl lk_X6_47 hT.t rfl (by first | rfl | exact rv_cat (by assumption) | exact rv_cat rv_f) (by first | rfl | exact rv_cat (by assumption) | exact rv_cat rv_f) (Nat.le_of_ble_eq_true rfl) (by first | exact Nat.le_of_ble_eq_true rfl | omega) (c_X6_chaise hT (by first | assumption | omega) (by first | assumption | omega) ?_)
              refine g_icmp_ge 61 57 dX6_ready_54 rfl rfl (by first | exact hT.r _ | exact hT.rT _ _ | omega) (by first | exact hT.r _ | exact hT.rT _ _ | omega) (fun c54 => ?_) (fun c54 => ?_)
              · refine g_iload1 62 dX6_ready_61 rfl ?_
                refine g_istore1 63 (Nat.le_of_ble_eq_true rfl) (by first | exact c1_0 | exact c1_i | exact c1_r | exact c1_n | exact c1_v (by assumption) | exact c1_f) dX6_ready_62 rfl ?_
                refine g_iinc2 66 (Nat.le_of_ble_eq_true rfl) (by first | exact c1_0 | exact c1_i | exact c1_r | exact c1_n | exact c1_v (by assumption) | exact c1_f) dX6_ready_63 rfl ?_
                refine g_goto 4 dX6_ready_66 rfl ?_
                first | exact ih _ _ _ (by omega) (by omega) hb hq | omega
              · refine g_iload2 58 dX6_ready_57 rfl ?_
                refine g_goto 62 dX6_ready_58 rfl ?_
                refine g_istore1 63 (Nat.le_of_ble_eq_true rfl) (by first | exact c1_0 | exact c1_i | exact c1_r | exact c1_n | exact c1_v (by assumption) | exact c1_f) dX6_ready_62 rfl ?_
                refine g_iinc2 66 (Nat.le_of_ble_eq_true rfl) (by first | exact c1_0 | exact c1_i | exact c1_r | exact c1_n | exact c1_v (by assumption) | exact c1_f) dX6_ready_63 rfl ?_
                refine g_goto 4 dX6_ready_66 rfl ?_
                first | exact ih _ _ _ (by omega) (by omega) hb hq | omega
        · refine g_aload0 19 (by first | exact rv_r | exact rv_n | assumption | exact rv_f) dX6_ready_18 rfl ?_
          refine g_iload2 20 dX6_ready_19 rfl ?_
          refine g_iconst 21 dX6_ready_20 rfl ?_
          refine k_V2z 24 dX6_ready_21 rfl lk_X6_47 hT.t rfl (by first | rfl | exact rv_cat (by assumption) | exact rv_cat rv_f) (by first | rfl | exact rv_cat (by assumption) | exact rv_cat rv_f) (Nat.le_of_ble_eq_true rfl) (by first | exact Nat.le_of_ble_eq_true rfl | omega) (c_X6_chaise hT (by first | assumption | omega) (by first | assumption | omega) ?_)
          refine g_if_ne 31 27 dX6_ready_24 rfl rfl (by first | exact hT.r _ | exact hT.rT _ _ | omega) (fun c24 => ?_) (fun c24 => ?_)
          · refine g_iconst 32 dX6_ready_31 rfl ?_
            refine g_istore3 33 (Nat.le_of_ble_eq_true rfl) (by first | exact c1_0 | exact c1_i | exact c1_r | exact c1_n | exact c1_v (by assumption) | exact c1_f) dX6_ready_32 rfl ?_
            refine g_iload3 34 dX6_ready_33 rfl ?_
            refine g_if_eq 61 37 dX6_ready_34 rfl rfl (by first | exact hT.r _ | exact hT.rT _ _ | omega) (fun c34 => ?_) (fun c34 => ?_)
            · refine g_iload1 62 dX6_ready_61 rfl ?_
              refine g_istore1 63 (Nat.le_of_ble_eq_true rfl) (by first | exact c1_0 | exact c1_i | exact c1_r | exact c1_n | exact c1_v (by assumption) | exact c1_f) dX6_ready_62 rfl ?_
              refine g_iinc2 66 (Nat.le_of_ble_eq_true rfl) (by first | exact c1_0 | exact c1_i | exact c1_r | exact c1_n | exact c1_v (by assumption) | exact c1_f) dX6_ready_63 rfl ?_
              refine g_goto 4 dX6_ready_66 rfl ?_
              first | exact ih _ _ _ (by omega) (by omega) hb hq | omega
            · refine g_iload1 38 dX6_ready_37 rfl ?_
              refine g_iconst 39 dX6_ready_38 rfl ?_
              refine g_icmp_eq 57 42 dX6_ready_39 rfl rfl (by first | exact hT.r _ | exact hT.rT _ _ | omega) (by first | exact hT.r _ | exact hT.rT _ _ | omega) (fun c39 => ?_) (fun c39 => ?_)
              · refine g_iload2 58 dX6_ready_57 rfl ?_
                refine g_goto 62 dX6_ready_58 rfl ?_
                refine g_istore1 63 (Nat.le_of_ble_eq_true rfl) (by first | exact c1_0 | exact c1_i | exact c1_r | exact c1_n | exact c1_v (by assumption) | exact c1_f) dX6_ready_62 rfl ?_
                refine g_iinc2 66 (Nat.le_of_ble_eq_true rfl) (by first | exact c1_0 | exact c1_i | exact c1_r | exact c1_n | exact c1_v (by assumption) | exact c1_f) dX6_ready_63 rfl ?_
                refine g_goto 4 dX6_ready_66 rfl ?_
                first | exact ih _ _ _ (by omega) (by omega) hb hq | omega
              · refine g_aload0 43 (by first | exact rv_r | exact rv_n | assumption | exact rv_f) dX6_ready_42 rfl ?_
                refine g_iload2 44 dX6_ready_43 rfl ?_
                refine g_iconst 45 dX6_ready_44 rfl ?_
                refine k_V2z 48 dX6_ready_45 rfl lk_X6_47 hT.t rfl (by first | rfl | exact rv_cat (by assumption) | exact rv_cat rv_f) (by first | rfl | exact rv_cat (by assumption) | exact rv_cat rv_f) (Nat.le_of_ble_eq_true rfl) (by first | exact Nat.le_of_ble_eq_true rfl | omega) (c_X6_chaise hT (by first | assumption | omega) (by first | assumption | omega) ?_)
                refine g_aload0 49 (by first | exact rv_r | exact rv_n | assumption | exact rv_f) dX6_ready_48 rfl ?_
                refine g_iload1 50 dX6_ready_49 rfl ?_
                refine g_iconst 51 dX6_ready_50 rfl ?_
                refine k_V2z 54 dX6_ready_51 rfl lk_X6_47 hT.t rfl (by first | rfl | exact rv_cat (by assumption) | exact rv_cat rv_f) (by first | rfl | exact rv_cat (by assumption) | exact rv_cat rv_f) (Nat.le_of_ble_eq_true rfl) (by first | exact Nat.le_of_ble_eq_true rfl | omega) (c_X6_chaise hT (by first | assumption | omega) (by first | assumption | omega) ?_)
                refine g_icmp_ge 61 57 dX6_ready_54 rfl rfl (by first | exact hT.r _ | exact hT.rT _ _ | omega) (by first | exact hT.r _ | exact hT.rT _ _ | omega) (fun c54 => ?_) (fun c54 => ?_)
                · refine g_iload1 62 dX6_ready_61 rfl ?_
                  refine g_istore1 63 (Nat.le_of_ble_eq_true rfl) (by first | exact c1_0 | exact c1_i | exact c1_r | exact c1_n | exact c1_v (by assumption) | exact c1_f) dX6_ready_62 rfl ?_
                  refine g_iinc2 66 (Nat.le_of_ble_eq_true rfl) (by first | exact c1_0 | exact c1_i | exact c1_r | exact c1_n | exact c1_v (by assumption) | exact c1_f) dX6_ready_63 rfl ?_
                  refine g_goto 4 dX6_ready_66 rfl ?_
                  first | exact ih _ _ _ (by omega) (by omega) hb hq | omega
                · refine g_iload2 58 dX6_ready_57 rfl ?_
                  refine g_goto 62 dX6_ready_58 rfl ?_
                  refine g_istore1 63 (Nat.le_of_ble_eq_true rfl) (by first | exact c1_0 | exact c1_i | exact c1_r | exact c1_n | exact c1_v (by assumption) | exact c1_f) dX6_ready_62 rfl ?_
                  refine g_iinc2 66 (Nat.le_of_ble_eq_true rfl) (by first | exact c1_0 | exact c1_i | exact c1_r | exact c1_n | exact c1_v (by assumption) | exact c1_f) dX6_ready_63 rfl ?_
                  refine g_goto 4 dX6_ready_66 rfl ?_
                  first | exact ih _ _ _ (by omega) (by omega) hb hq | omega
          · refine g_iconst 28 dX6_ready_27 rfl ?_
            refine g_goto 32 dX6_ready_28 rfl ?_
            refine g_istore3 33 (Nat.le_of_ble_eq_true rfl) (by first | exact c1_0 | exact c1_i | exact c1_r | exact c1_n | exact c1_v (by assumption) | exact c1_f) dX6_ready_32 rfl ?_
            refine g_iload3 34 dX6_ready_33 rfl ?_
            refine g_if_eq 61 37 dX6_ready_34 rfl rfl (by first | exact hT.r _ | exact hT.rT _ _ | omega) (fun c34 => ?_) (fun c34 => ?_)
            · refine g_iload1 62 dX6_ready_61 rfl ?_
              refine g_istore1 63 (Nat.le_of_ble_eq_true rfl) (by first | exact c1_0 | exact c1_i | exact c1_r | exact c1_n | exact c1_v (by assumption) | exact c1_f) dX6_ready_62 rfl ?_
              refine g_iinc2 66 (Nat.le_of_ble_eq_true rfl) (by first | exact c1_0 | exact c1_i | exact c1_r | exact c1_n | exact c1_v (by assumption) | exact c1_f) dX6_ready_63 rfl ?_
              refine g_goto 4 dX6_ready_66 rfl ?_
              first | exact ih _ _ _ (by omega) (by omega) hb hq | omega
            · refine g_iload1 38 dX6_ready_37 rfl ?_
              refine g_iconst 39 dX6_ready_38 rfl ?_
              refine g_icmp_eq 57 42 dX6_ready_39 rfl rfl (by first | exact hT.r _ | exact hT.rT _ _ | omega) (by first | exact hT.r _ | exact hT.rT _ _ | omega) (fun c39 => ?_) (fun c39 => ?_)
              · refine g_iload2 58 dX6_ready_57 rfl ?_
                refine g_goto 62 dX6_ready_58 rfl ?_
                refine g_istore1 63 (Nat.le_of_ble_eq_true rfl) (by first | exact c1_0 | exact c1_i | exact c1_r | exact c1_n | exact c1_v (by assumption) | exact c1_f) dX6_ready_62 rfl ?_
                refine g_iinc2 66 (Nat.le_of_ble_eq_true rfl) (by first | exact c1_0 | exact c1_i | exact c1_r | exact c1_n | exact c1_v (by assumption) | exact c1_f) dX6_ready_63 rfl ?_
                refine g_goto 4 dX6_ready_66 rfl ?_
                first | exact ih _ _ _ (by omega) (by omega) hb hq | omega
              · refine g_aload0 43 (by first | exact rv_r | exact rv_n | assumption | exact rv_f) dX6_ready_42 rfl ?_
                refine g_iload2 44 dX6_ready_43 rfl ?_
                refine g_iconst 45 dX6_ready_44 rfl ?_
                refine k_V2z 48 dX6_ready_45 rfl lk_X6_47 hT.t rfl (by first | rfl | exact rv_cat (by assumption) | exact rv_cat rv_f) (by first | rfl | exact rv_cat (by assumption) | exact rv_cat rv_f) (Nat.le_of_ble_eq_true rfl) (by first | exact Nat.le_of_ble_eq_true rfl | omega) (c_X6_chaise hT (by first | assumption | omega) (by first | assumption | omega) ?_)
                refine g_aload0 49 (by first | exact rv_r | exact rv_n | assumption | exact rv_f) dX6_ready_48 rfl ?_
                refine g_iload1 50 dX6_ready_49 rfl ?_
                refine g_iconst 51 dX6_ready_50 rfl ?_
                refine k_V2z 54 dX6_ready_51 rfl lk_X6_47 hT.t rfl (by first | rfl | exact rv_cat (by assumption) | exact rv_cat rv_f) (by first | rfl | exact rv_cat (by assumption) | exact rv_cat rv_f) (Nat.le_of_ble_eq_true rfl) (by first | exact Nat.le_of_ble_eq_true rfl | omega) (c_X6_chaise hT (by first | assumption | omega) (by first | assumption | omega) ?_)
                refine g_icmp_ge 61 57 dX6_ready_54 rfl rfl (by first | exact hT.r _ | exact hT.rT _ _ | omega) (by first | exact hT.r _ | exact hT.rT _ _ | omega) (fun c54 => ?_) (fun c54 => ?_)
                · refine g_iload1 62 dX6_ready_61 rfl ?_
                  refine g_istore1 63 (Nat.le_of_ble_eq_true rfl) (by first | exact c1_0 | exact c1_i | exact c1_r | exact c1_n | exact c1_v (by assumption) | exact c1_f) dX6_ready_62 rfl ?_
                  refine g_iinc2 66 (Nat.le_of_ble_eq_true rfl) (by first | exact c1_0 | exact c1_i | exact c1_r | exact c1_n | exact c1_v (by assumption) | exact c1_f) dX6_ready_63 rfl ?_
                  refine g_goto 4 dX6_ready_66 rfl ?_
                  first | exact ih _ _ _ (by omega) (by omega) hb hq | omega
                · refine g_iload2 58 dX6_ready_57 rfl ?_
                  refine g_goto 62 dX6_ready_58 rfl ?_
                  refine g_istore1 63 (Nat.le_of_ble_eq_true rfl) (by first | exact c1_0 | exact c1_i | exact c1_r | exact c1_n | exact c1_v (by assumption) | exact c1_f) dX6_ready_62 rfl ?_
                  refine g_iinc2 66 (Nat.le_of_ble_eq_true rfl) (by first | exact c1_0 | exact c1_i | exact c1_r | exact c1_n | exact c1_v (by assumption) | exact c1_f) dX6_ready_63 rfl ?_
                  refine g_goto 4 dX6_ready_66 rfl ?_
                  first | exact ih _ _ _ (by omega) (by omega) hb hq | omega
    · have e1 : readyStep s p x = x := if_neg h1
      rw [e1] at hq hb
      refine g_iload2 5 dX6_ready_4 rfl ?_
      refine g_iconst 6 dX6_ready_5 rfl ?_
      refine g_icmp_ge 69 9 dX6_ready_6 rfl rfl (by first | exact hT.r _ | exact hT.rT _ _ | omega) (by first | exact hT.r _ | exact hT.rT _ _ | omega) (fun c6 => ?_) (fun c6 => ?_)
      · omega
      · refine g_aload0 10 (by first | exact rv_r | exact rv_n | assumption | exact rv_f) dX6_ready_9 rfl ?_
        refine g_iload2 11 dX6_ready_10 rfl ?_
        refine g_iconst 12 dX6_ready_11 rfl ?_
        refine k_V2z 15 dX6_ready_12 rfl lk_X6_47 hT.t rfl (by first | rfl | exact rv_cat (by assumption) | exact rv_cat rv_f) (by first | rfl | exact rv_cat (by assumption) | exact rv_cat rv_f) (Nat.le_of_ble_eq_true rfl) (by first | exact Nat.le_of_ble_eq_true rfl | omega) (c_X6_chaise hT (by first | assumption | omega) (by first | assumption | omega) ?_)
        refine g_if_ne 31 18 dX6_ready_15 rfl rfl (by first | exact hT.r _ | exact hT.rT _ _ | omega) (fun c15 => ?_) (fun c15 => ?_)
        · refine g_iconst 32 dX6_ready_31 rfl ?_
          refine g_istore3 33 (Nat.le_of_ble_eq_true rfl) (by first | exact c1_0 | exact c1_i | exact c1_r | exact c1_n | exact c1_v (by assumption) | exact c1_f) dX6_ready_32 rfl ?_
          refine g_iload3 34 dX6_ready_33 rfl ?_
          refine g_if_eq 61 37 dX6_ready_34 rfl rfl (by first | exact hT.r _ | exact hT.rT _ _ | omega) (fun c34 => ?_) (fun c34 => ?_)
          · refine g_iload1 62 dX6_ready_61 rfl ?_
            refine g_istore1 63 (Nat.le_of_ble_eq_true rfl) (by first | exact c1_0 | exact c1_i | exact c1_r | exact c1_n | exact c1_v (by assumption) | exact c1_f) dX6_ready_62 rfl ?_
            refine g_iinc2 66 (Nat.le_of_ble_eq_true rfl) (by first | exact c1_0 | exact c1_i | exact c1_r | exact c1_n | exact c1_v (by assumption) | exact c1_f) dX6_ready_63 rfl ?_
            refine g_goto 4 dX6_ready_66 rfl ?_
            first | exact ih _ _ _ (by omega) (by omega) hb hq | omega
          · refine g_iload1 38 dX6_ready_37 rfl ?_
            refine g_iconst 39 dX6_ready_38 rfl ?_
            refine g_icmp_eq 57 42 dX6_ready_39 rfl rfl (by first | exact hT.r _ | exact hT.rT _ _ | omega) (by first | exact hT.r _ | exact hT.rT _ _ | omega) (fun c39 => ?_) (fun c39 => ?_)
            · refine g_iload2 58 dX6_ready_57 rfl ?_
              refine g_goto 62 dX6_ready_58 rfl ?_
              refine g_istore1 63 (Nat.le_of_ble_eq_true rfl) (by first | exact c1_0 | exact c1_i | exact c1_r | exact c1_n | exact c1_v (by assumption) | exact c1_f) dX6_ready_62 rfl ?_
              refine g_iinc2 66 (Nat.le_of_ble_eq_true rfl) (by first | exact c1_0 | exact c1_i | exact c1_r | exact c1_n | exact c1_v (by assumption) | exact c1_f) dX6_ready_63 rfl ?_
              refine g_goto 4 dX6_ready_66 rfl ?_
              first | exact ih _ _ _ (by omega) (by omega) hb hq | omega
            · refine g_aload0 43 (by first | exact rv_r | exact rv_n | assumption | exact rv_f) dX6_ready_42 rfl ?_
              refine g_iload2 44 dX6_ready_43 rfl ?_
              refine g_iconst 45 dX6_ready_44 rfl ?_
              refine k_V2z 48 dX6_ready_45 rfl lk_X6_47 hT.t rfl (by first | rfl | exact rv_cat (by assumption) | exact rv_cat rv_f) (by first | rfl | exact rv_cat (by assumption) | exact rv_cat rv_f) (Nat.le_of_ble_eq_true rfl) (by first | exact Nat.le_of_ble_eq_true rfl | omega) (c_X6_chaise hT (by first | assumption | omega) (by first | assumption | omega) ?_)
              refine g_aload0 49 (by first | exact rv_r | exact rv_n | assumption | exact rv_f) dX6_ready_48 rfl ?_
              refine g_iload1 50 dX6_ready_49 rfl ?_
              refine g_iconst 51 dX6_ready_50 rfl ?_
              refine k_V2z 54 dX6_ready_51 rfl lk_X6_47 hT.t rfl (by first | rfl | exact rv_cat (by assumption) | exact rv_cat rv_f) (by first | rfl | exact rv_cat (by assumption) | exact rv_cat rv_f) (Nat.le_of_ble_eq_true rfl) (by first | exact Nat.le_of_ble_eq_true rfl | omega) (c_X6_chaise hT (by first | assumption | omega) (by first | assumption | omega) ?_)
              refine g_icmp_ge 61 57 dX6_ready_54 rfl rfl (by first | exact hT.r _ | exact hT.rT _ _ | omega) (by first | exact hT.r _ | exact hT.rT _ _ | omega) (fun c54 => ?_) (fun c54 => ?_)
              · refine g_iload1 62 dX6_ready_61 rfl ?_
                refine g_istore1 63 (Nat.le_of_ble_eq_true rfl) (by first | exact c1_0 | exact c1_i | exact c1_r | exact c1_n | exact c1_v (by assumption) | exact c1_f) dX6_ready_62 rfl ?_
                refine g_iinc2 66 (Nat.le_of_ble_eq_true rfl) (by first | exact c1_0 | exact c1_i | exact c1_r | exact c1_n | exact c1_v (by assumption) | exact c1_f) dX6_ready_63 rfl ?_
                refine g_goto 4 dX6_ready_66 rfl ?_
                first | exact ih _ _ _ (by omega) (by omega) hb hq | omega
              · refine g_iload2 58 dX6_ready_57 rfl ?_
                refine g_goto 62 dX6_ready_58 rfl ?_
                refine g_istore1 63 (Nat.le_of_ble_eq_true rfl) (by first | exact c1_0 | exact c1_i | exact c1_r | exact c1_n | exact c1_v (by assumption) | exact c1_f) dX6_ready_62 rfl ?_
                refine g_iinc2 66 (Nat.le_of_ble_eq_true rfl) (by first | exact c1_0 | exact c1_i | exact c1_r | exact c1_n | exact c1_v (by assumption) | exact c1_f) dX6_ready_63 rfl ?_
                refine g_goto 4 dX6_ready_66 rfl ?_
                first | exact ih _ _ _ (by omega) (by omega) hb hq | omega
        · refine g_aload0 19 (by first | exact rv_r | exact rv_n | assumption | exact rv_f) dX6_ready_18 rfl ?_
          refine g_iload2 20 dX6_ready_19 rfl ?_
          refine g_iconst 21 dX6_ready_20 rfl ?_
          refine k_V2z 24 dX6_ready_21 rfl lk_X6_47 hT.t rfl (by first | rfl | exact rv_cat (by assumption) | exact rv_cat rv_f) (by first | rfl | exact rv_cat (by assumption) | exact rv_cat rv_f) (Nat.le_of_ble_eq_true rfl) (by first | exact Nat.le_of_ble_eq_true rfl | omega) (c_X6_chaise hT (by first | assumption | omega) (by first | assumption | omega) ?_)
          refine g_if_ne 31 27 dX6_ready_24 rfl rfl (by first | exact hT.r _ | exact hT.rT _ _ | omega) (fun c24 => ?_) (fun c24 => ?_)
          · refine g_iconst 32 dX6_ready_31 rfl ?_
            refine g_istore3 33 (Nat.le_of_ble_eq_true rfl) (by first | exact c1_0 | exact c1_i | exact c1_r | exact c1_n | exact c1_v (by assumption) | exact c1_f) dX6_ready_32 rfl ?_
            refine g_iload3 34 dX6_ready_33 rfl ?_
            refine g_if_eq 61 37 dX6_ready_34 rfl rfl (by first | exact hT.r _ | exact hT.rT _ _ | omega) (fun c34 => ?_) (fun c34 => ?_)
            · refine g_iload1 62 dX6_ready_61 rfl ?_
              refine g_istore1 63 (Nat.le_of_ble_eq_true rfl) (by first | exact c1_0 | exact c1_i | exact c1_r | exact c1_n | exact c1_v (by assumption) | exact c1_f) dX6_ready_62 rfl ?_
              refine g_iinc2 66 (Nat.le_of_ble_eq_true rfl) (by first | exact c1_0 | exact c1_i | exact c1_r | exact c1_n | exact c1_v (by assumption) | exact c1_f) dX6_ready_63 rfl ?_
              refine g_goto 4 dX6_ready_66 rfl ?_
              first | exact ih _ _ _ (by omega) (by omega) hb hq | omega
            · refine g_iload1 38 dX6_ready_37 rfl ?_
              refine g_iconst 39 dX6_ready_38 rfl ?_
              refine g_icmp_eq 57 42 dX6_ready_39 rfl rfl (by first | exact hT.r _ | exact hT.rT _ _ | omega) (by first | exact hT.r _ | exact hT.rT _ _ | omega) (fun c39 => ?_) (fun c39 => ?_)
              · refine g_iload2 58 dX6_ready_57 rfl ?_
                refine g_goto 62 dX6_ready_58 rfl ?_
                refine g_istore1 63 (Nat.le_of_ble_eq_true rfl) (by first | exact c1_0 | exact c1_i | exact c1_r | exact c1_n | exact c1_v (by assumption) | exact c1_f) dX6_ready_62 rfl ?_
                refine g_iinc2 66 (Nat.le_of_ble_eq_true rfl) (by first | exact c1_0 | exact c1_i | exact c1_r | exact c1_n | exact c1_v (by assumption) | exact c1_f) dX6_ready_63 rfl ?_
                refine g_goto 4 dX6_ready_66 rfl ?_
                first | exact ih _ _ _ (by omega) (by omega) hb hq | omega
              · refine g_aload0 43 (by first | exact rv_r | exact rv_n | assumption | exact rv_f) dX6_ready_42 rfl ?_
                refine g_iload2 44 dX6_ready_43 rfl ?_
                refine g_iconst 45 dX6_ready_44 rfl ?_
                refine k_V2z 48 dX6_ready_45 rfl lk_X6_47 hT.t rfl (by first | rfl | exact rv_cat (by assumption) | exact rv_cat rv_f) (by first | rfl | exact rv_cat (by assumption) | exact rv_cat rv_f) (Nat.le_of_ble_eq_true rfl) (by first | exact Nat.le_of_ble_eq_true rfl | omega) (c_X6_chaise hT (by first | assumption | omega) (by first | assumption | omega) ?_)
                refine g_aload0 49 (by first | exact rv_r | exact rv_n | assumption | exact rv_f) dX6_ready_48 rfl ?_
                refine g_iload1 50 dX6_ready_49 rfl ?_
                refine g_iconst 51 dX6_ready_50 rfl ?_
                refine k_V2z 54 dX6_ready_51 rfl lk_X6_47 hT.t rfl (by first | rfl | exact rv_cat (by assumption) | exact rv_cat rv_f) (by first | rfl | exact rv_cat (by assumption) | exact rv_cat rv_f) (Nat.le_of_ble_eq_true rfl) (by first | exact Nat.le_of_ble_eq_true rfl | omega) (c_X6_chaise hT (by first | assumption | omega) (by first | assumption | omega) ?_)
                refine g_icmp_ge 61 57 dX6_ready_54 rfl rfl (by first | exact hT.r _ | exact hT.rT _ _ | omega) (by first | exact hT.r _ | exact hT.rT _ _ | omega) (fun c54 => ?_) (fun c54 => ?_)
                · refine g_iload1 62 dX6_ready_61 rfl ?_
                  refine g_istore1 63 (Nat.le_of_ble_eq_true rfl) (by first | exact c1_0 | exact c1_i | exact c1_r | exact c1_n | exact c1_v (by assumption) | exact c1_f) dX6_ready_62 rfl ?_
                  refine g_iinc2 66 (Nat.le_of_ble_eq_true rfl) (by first | exact c1_0 | exact c1_i | exact c1_r | exact c1_n | exact c1_v (by assumption) | exact c1_f) dX6_ready_63 rfl ?_
                  refine g_goto 4 dX6_ready_66 rfl ?_
                  first | exact ih _ _ _ (by omega) (by omega) hb hq | omega
                · refine g_iload2 58 dX6_ready_57 rfl ?_
                  refine g_goto 62 dX6_ready_58 rfl ?_
                  refine g_istore1 63 (Nat.le_of_ble_eq_true rfl) (by first | exact c1_0 | exact c1_i | exact c1_r | exact c1_n | exact c1_v (by assumption) | exact c1_f) dX6_ready_62 rfl ?_
                  refine g_iinc2 66 (Nat.le_of_ble_eq_true rfl) (by first | exact c1_0 | exact c1_i | exact c1_r | exact c1_n | exact c1_v (by assumption) | exact c1_f) dX6_ready_63 rfl ?_
                  refine g_goto 4 dX6_ready_66 rfl ?_
                  first | exact ih _ _ _ (by omega) (by omega) hb hq | omega
          · refine g_iconst 28 dX6_ready_27 rfl ?_
            refine g_goto 32 dX6_ready_28 rfl ?_
            refine g_istore3 33 (Nat.le_of_ble_eq_true rfl) (by first | exact c1_0 | exact c1_i | exact c1_r | exact c1_n | exact c1_v (by assumption) | exact c1_f) dX6_ready_32 rfl ?_
            refine g_iload3 34 dX6_ready_33 rfl ?_
            refine g_if_eq 61 37 dX6_ready_34 rfl rfl (by first | exact hT.r _ | exact hT.rT _ _ | omega) (fun c34 => ?_) (fun c34 => ?_)
            · refine g_iload1 62 dX6_ready_61 rfl ?_
              refine g_istore1 63 (Nat.le_of_ble_eq_true rfl) (by first | exact c1_0 | exact c1_i | exact c1_r | exact c1_n | exact c1_v (by assumption) | exact c1_f) dX6_ready_62 rfl ?_
              refine g_iinc2 66 (Nat.le_of_ble_eq_true rfl) (by first | exact c1_0 | exact c1_i | exact c1_r | exact c1_n | exact c1_v (by assumption) | exact c1_f) dX6_ready_63 rfl ?_
              refine g_goto 4 dX6_ready_66 rfl ?_
              first | exact ih _ _ _ (by omega) (by omega) hb hq | omega
            · refine g_iload1 38 dX6_ready_37 rfl ?_
              refine g_iconst 39 dX6_ready_38 rfl ?_
              refine g_icmp_eq 57 42 dX6_ready_39 rfl rfl (by first | exact hT.r _ | exact hT.rT _ _ | omega) (by first | exact hT.r _ | exact hT.rT _ _ | omega) (fun c39 => ?_) (fun c39 => ?_)
              · refine g_iload2 58 dX6_ready_57 rfl ?_
                refine g_goto 62 dX6_ready_58 rfl ?_
                refine g_istore1 63 (Nat.le_of_ble_eq_true rfl) (by first | exact c1_0 | exact c1_i | exact c1_r | exact c1_n | exact c1_v (by assumption) | exact c1_f) dX6_ready_62 rfl ?_
                refine g_iinc2 66 (Nat.le_of_ble_eq_true rfl) (by first | exact c1_0 | exact c1_i | exact c1_r | exact c1_n | exact c1_v (by assumption) | exact c1_f) dX6_ready_63 rfl ?_
                refine g_goto 4 dX6_ready_66 rfl ?_
                first | exact ih _ _ _ (by omega) (by omega) hb hq | omega
              · refine g_aload0 43 (by first | exact rv_r | exact rv_n | assumption | exact rv_f) dX6_ready_42 rfl ?_
                refine g_iload2 44 dX6_ready_43 rfl ?_
                refine g_iconst 45 dX6_ready_44 rfl ?_
                refine k_V2z 48 dX6_ready_45 rfl lk_X6_47 hT.t rfl (by first | rfl | exact rv_cat (by assumption) | exact rv_cat rv_f) (by first | rfl | exact rv_cat (by assumption) | exact rv_cat rv_f) (Nat.le_of_ble_eq_true rfl) (by first | exact Nat.le_of_ble_eq_true rfl | omega) (c_X6_chaise hT (by first | assumption | omega) (by first | assumption | omega) ?_)
                refine g_aload0 49 (by first | exact rv_r | exact rv_n | assumption | exact rv_f) dX6_ready_48 rfl ?_
                refine g_iload1 50 dX6_ready_49 rfl ?_
                refine g_iconst 51 dX6_ready_50 rfl ?_
                refine k_V2z 54 dX6_ready_51 rfl lk_X6_47 hT.t rfl (by first | rfl | exact rv_cat (by assumption) | exact rv_cat rv_f) (by first | rfl | exact rv_cat (by assumption) | exact rv_cat rv_f) (Nat.le_of_ble_eq_true rfl) (by first | exact Nat.le_of_ble_eq_true rfl | omega) (c_X6_chaise hT (by first | assumption | omega) (by first | assumption | omega) ?_)
                refine g_icmp_ge 61 57 dX6_ready_54 rfl rfl (by first | exact hT.r _ | exact hT.rT _ _ | omega) (by first | exact hT.r _ | exact hT.rT _ _ | omega) (fun c54 => ?_) (fun c54 => ?_)
                · refine g_iload1 62 dX6_ready_61 rfl ?_
                  refine g_istore1 63 (Nat.le_of_ble_eq_true rfl) (by first | exact c1_0 | exact c1_i | exact c1_r | exact c1_n | exact c1_v (by assumption) | exact c1_f) dX6_ready_62 rfl ?_
                  refine g_iinc2 66 (Nat.le_of_ble_eq_true rfl) (by first | exact c1_0 | exact c1_i | exact c1_r | exact c1_n | exact c1_v (by assumption) | exact c1_f) dX6_ready_63 rfl ?_
                  refine g_goto 4 dX6_ready_66 rfl ?_
                  first | exact ih _ _ _ (by omega) (by omega) hb hq | omega
                · refine g_iload2 58 dX6_ready_57 rfl ?_
                  refine g_goto 62 dX6_ready_58 rfl ?_
                  refine g_istore1 63 (Nat.le_of_ble_eq_true rfl) (by first | exact c1_0 | exact c1_i | exact c1_r | exact c1_n | exact c1_v (by assumption) | exact c1_f) dX6_ready_62 rfl ?_
                  refine g_iinc2 66 (Nat.le_of_ble_eq_true rfl) (by first | exact c1_0 | exact c1_i | exact c1_r | exact c1_n | exact c1_v (by assumption) | exact c1_f) dX6_ready_63 rfl ?_
                  refine g_goto 4 dX6_ready_66 rfl ?_
                  first | exact ih _ _ _ (by omega) (by omega) hb hq | omega
theorem c_X6_ready (hT : Tw (kB K) M0 m s T M) (hQ : Q (.inl (some (.int (ii (readyP s))))) M) : Go K fX6_ready 2 k n 0 [some (.ref m), none, none, none] [] M Q := by
  refine g_iconst 1 dX6_ready_0 rfl ?_
  refine g_istore1 2 (Nat.le_of_ble_eq_true rfl) (by first | exact c1_0 | exact c1_i | exact c1_r | exact c1_n | exact c1_v (by assumption) | exact c1_f) dX6_ready_1 rfl ?_
  refine g_iconst 3 dX6_ready_2 rfl ?_
  refine g_istore2 4 (Nat.le_of_ble_eq_true rfl) (by first | exact c1_0 | exact c1_i | exact c1_r | exact c1_n | exact c1_v (by assumption) | exact c1_f) dX6_ready_3 rfl ?_
  exact l_ready hT 3 0 (-1) _ (by omega) (by omega) (Or.inl rfl) hQ
theorem c_X6_why (hT : Tw (kB K) M0 m s T M) (h3 : 0 ≤ s 3 ∧ s 3 ≤ 40) (hQ : Q (.inl (some (.int (ii (whyP s))))) M) : Go K fX6_why 3 k n 0 [some (.ref m)] [] M Q := by
  have hb1 := inLineP_r (s := s) (p := 0) h3.1 (by omega)
  have hb2 := restedP_r s
  have hb3 := readyP_r s
  refine g_aload0 1 (by first | exact rv_r | exact rv_n | assumption | exact rv_f) dX6_why_0 rfl ?_
  refine g_iconst 2 dX6_why_1 rfl ?_
  refine k_V1z 5 dX6_why_2 rfl lk_X6_50 hT.t rfl (by first | rfl | exact rv_cat (by assumption) | exact rv_cat rv_f) (Nat.le_of_ble_eq_true rfl) (by first | exact Nat.le_of_ble_eq_true rfl | omega) (c_X6_inLine hT (by first | assumption | omega) (by first | assumption | omega) ?_)
  refine g_iconst 6 dX6_why_5 rfl ?_
  refine g_icmp_ne 13 9 dX6_why_6 rfl rfl (by first | exact hT.r _ | exact hT.rT _ _ | omega) (by first | exact hT.r _ | exact hT.rT _ _ | omega) (fun c6 => ?_) (fun c6 => ?_)
  · refine g_aload0 14 (by first | exact rv_r | exact rv_n | assumption | exact rv_f) dX6_why_13 rfl ?_
    refine k_V0z 17 dX6_why_14 rfl lk_X6_53 hT.t rfl  (Nat.le_of_ble_eq_true rfl) (by first | exact Nat.le_of_ble_eq_true rfl | omega) (c_X6_rested hT ?_)
    refine g_iconst 18 dX6_why_17 rfl ?_
    refine g_icmp_ne 25 21 dX6_why_18 rfl rfl (by first | exact hT.r _ | exact hT.rT _ _ | omega) (by first | exact hT.r _ | exact hT.rT _ _ | omega) (fun c18 => ?_) (fun c18 => ?_)
    · refine g_aload0 26 (by first | exact rv_r | exact rv_n | assumption | exact rv_f) dX6_why_25 rfl ?_
      refine g_getf 29 dX6_why_26 rfl fl_X6_7 hT.t (hT.f0) ?_
      refine g_iconst 30 dX6_why_29 rfl ?_
      refine g_iald 31 dX6_why_30 rfl hT.a0 (by omega) (by omega) (by omega) (hT.e0 (by omega) (by omega)) ?_
      refine g_if_ne 38 34 dX6_why_31 rfl rfl (by first | exact hT.r _ | exact hT.rT _ _ | omega) (fun c31 => ?_) (fun c31 => ?_)
      · refine g_aload0 39 (by first | exact rv_r | exact rv_n | assumption | exact rv_f) dX6_why_38 rfl ?_
        refine k_V0z 42 dX6_why_39 rfl lk_X6_57 hT.t rfl  (Nat.le_of_ble_eq_true rfl) (by first | exact Nat.le_of_ble_eq_true rfl | omega) (c_X6_ready hT ?_)
        refine g_iconst 43 dX6_why_42 rfl ?_
        refine g_icmp_ne 50 46 dX6_why_43 rfl rfl (by first | exact hT.r _ | exact hT.rT _ _ | omega) (by first | exact hT.r _ | exact hT.rT _ _ | omega) (fun c43 => ?_) (fun c43 => ?_)
        · refine g_iconst 51 dX6_why_50 rfl ?_
          refine g_iret dX6_why_51 rfl ?_
          refine lq hQ ?_
          unfold whyP
          (repeat' split) <;> omega
        · refine g_iconst 47 dX6_why_46 rfl ?_
          refine g_goto 51 dX6_why_47 rfl ?_
          refine g_iret dX6_why_51 rfl ?_
          refine lq hQ ?_
          unfold whyP
          (repeat' split) <;> omega
      · refine g_iconst 35 dX6_why_34 rfl ?_
        refine g_goto 51 dX6_why_35 rfl ?_
        refine g_iret dX6_why_51 rfl ?_
        refine lq hQ ?_
        unfold whyP
        (repeat' split) <;> omega
    · refine g_iconst 22 dX6_why_21 rfl ?_
      refine g_goto 51 dX6_why_22 rfl ?_
      refine g_iret dX6_why_51 rfl ?_
      refine lq hQ ?_
      unfold whyP
      (repeat' split) <;> omega
  · refine g_iconst 10 dX6_why_9 rfl ?_
    refine g_goto 51 dX6_why_10 rfl ?_
    refine g_iret dX6_why_51 rfl ?_
    refine lq hQ ?_
    unfold whyP
    (repeat' split) <;> omega
theorem l_leaves1 (hT : Tw (kB K) M0 m s T M) {b : Int} (hb : R32 b) : ∀ (j : Nat) (q : Int), 0 ≤ q → q + j ≤ 4 → (∃ q', q ≤ q' ∧ q' < q + j ∧ s (5 + q') = b) → Go K fX6_leaves 1 k n 20 [some (.ref m), some (.int (ii b)), some (.int (ii (plF s b j q))), none] [] M Q → Go K fX6_leaves 1 k n 2 [some (.ref m), some (.int (ii b)), some (.int (ii q)), none] [] M Q := by
  intro j
  induction j with
  | zero => intro q h0 h1 ⟨q', a, b, c⟩; omega
  | succ j ih =>
    intro q h0 h1 ⟨q', a, b, c⟩ hq
    unfold plF at hq
    refine g_aload0 3 (by first | exact rv_r | exact rv_n | assumption | exact rv_f) dX6_leaves_2 rfl ?_
    refine g_getf 6 dX6_leaves_3 rfl fl_X6_7 hT.t (hT.f0) ?_
    refine g_iconst 7 dX6_leaves_6 rfl ?_
    refine g_iload2 8 dX6_leaves_7 rfl ?_
    refine g_iadd 9 dX6_leaves_8 rfl ?_
    refine g_iald 10 dX6_leaves_9 rfl hT.a0 (by omega) (by omega) (by omega) (hT.e0 (by omega) (by omega)) ?_
    refine g_iload1 11 dX6_leaves_10 rfl ?_
    refine g_icmp_eq 20 14 dX6_leaves_11 rfl rfl (by first | exact hT.r _ | exact hT.rT _ _ | omega) (by first | exact hT.r _ | exact hT.rT _ _ | omega) (fun c11 => ?_) (fun c11 => ?_)
    · rw [if_pos c11] at hq
      exact hq
    · refine g_iinc2 17 (Nat.le_of_ble_eq_true rfl) (by first | exact c1_0 | exact c1_i | exact c1_r | exact c1_n | exact c1_v (by assumption) | exact c1_f) dX6_leaves_14 rfl ?_
      refine g_goto 2 dX6_leaves_17 rfl ?_
      rw [if_neg c11] at hq
      have hqq : q' ≠ q := fun z => c11 (z ▸ c)
      exact ih _ (by omega) (by omega) ⟨q', by omega, by omega, c⟩ hq
theorem l_leaves2 {b r : Int} : ∀ (j : Nat) (q : Int) (s : Int → Int) (M : Mem), Tw (kB K) M0 m s T M → 0 ≤ q → q + j = s 4 → s 4 ≤ 4 → (∀ M', Tw (kB K) M0 m (shiftF j q s) T M' → Q (.inl (some (.int (ii r)))) M') → Go K fX6_leaves 1 k n 32 [some (.ref m), some (.int (ii b)), some (.int (ii r)), some (.int (ii q))] [] M Q := by
  intro j
  induction j with
  | zero =>
    intro q s M hT h0 h1 h2 hq
    refine g_iload3 33 dX6_leaves_32 rfl ?_
    refine g_aload0 34 (by first | exact rv_r | exact rv_n | assumption | exact rv_f) dX6_leaves_33 rfl ?_
    refine g_getf 37 dX6_leaves_34 rfl fl_X6_7 hT.t (hT.f0) ?_
    refine g_iconst 38 dX6_leaves_37 rfl ?_
    refine g_iald 39 dX6_leaves_38 rfl hT.a0 (by omega) (by omega) (by omega) (hT.e0 (by omega) (by omega)) ?_
    refine g_icmp_ge 66 42 dX6_leaves_39 rfl rfl (by first | exact hT.r _ | exact hT.rT _ _ | omega) (by first | exact hT.r _ | exact hT.rT _ _ | omega) (fun c39 => ?_) (fun c39 => ?_)
    · refine g_iload2 67 dX6_leaves_66 rfl ?_
      refine g_iret dX6_leaves_67 rfl ?_
      exact hq _ hT
    · omega
  | succ j ih =>
    intro q s M hT h0 h1 h2 hq
    rw [shiftF] at hq
    refine g_iload3 33 dX6_leaves_32 rfl ?_
    refine g_aload0 34 (by first | exact rv_r | exact rv_n | assumption | exact rv_f) dX6_leaves_33 rfl ?_
    refine g_getf 37 dX6_leaves_34 rfl fl_X6_7 hT.t (hT.f0) ?_
    refine g_iconst 38 dX6_leaves_37 rfl ?_
    refine g_iald 39 dX6_leaves_38 rfl hT.a0 (by omega) (by omega) (by omega) (hT.e0 (by omega) (by omega)) ?_
    refine g_icmp_ge 66 42 dX6_leaves_39 rfl rfl (by first | exact hT.r _ | exact hT.rT _ _ | omega) (by first | exact hT.r _ | exact hT.rT _ _ | omega) (fun c39 => ?_) (fun c39 => ?_)
    · omega
    · refine g_aload0 43 (by first | exact rv_r | exact rv_n | assumption | exact rv_f) dX6_leaves_42 rfl ?_
      refine g_getf 46 dX6_leaves_43 rfl fl_X6_7 hT.t (hT.f0) ?_
      refine g_iconst 47 dX6_leaves_46 rfl ?_
      refine g_iload3 48 dX6_leaves_47 rfl ?_
      refine g_iadd 49 dX6_leaves_48 rfl ?_
      refine g_aload0 50 (by first | exact rv_r | exact rv_n | assumption | exact rv_f) dX6_leaves_49 rfl ?_
      refine g_getf 53 dX6_leaves_50 rfl fl_X6_7 hT.t (hT.f0) ?_
      refine g_iconst 54 dX6_leaves_53 rfl ?_
      refine g_iload3 55 dX6_leaves_54 rfl ?_
      refine g_iadd 56 dX6_leaves_55 rfl ?_
      refine g_iconst 57 dX6_leaves_56 rfl ?_
      refine g_iadd 58 dX6_leaves_57 rfl ?_
      refine g_iald 59 dX6_leaves_58 rfl hT.a0 (by omega) (by omega) (by omega) (hT.e0 (by omega) (by omega)) ?_
      refine w_ias0 60 dX6_leaves_59 rfl hT (by omega) (by omega) (fun M hT => ?_)
      refine g_iinc3 63 (Nat.le_of_ble_eq_true rfl) (by first | exact c1_0 | exact c1_i | exact c1_r | exact c1_n | exact c1_v (by assumption) | exact c1_f) dX6_leaves_60 rfl ?_
      refine g_goto 32 dX6_leaves_63 rfl ?_
      exact ih _ _ _ hT (by omega) (by rw [up_ne (by omega)]; omega) (by rw [up_ne (by omega)]; omega) hq
theorem c_X6_leaves (hT : Tw (kB K) M0 m s T M) {b : Int} (hb : R32 b) (h4 : s 4 ≤ 4) (hx : ∃ q, 0 ≤ q ∧ q < s 4 ∧ s (5 + q) = b) (hQ : ∀ M', Tw (kB K) M0 m (leavesP s b) (T) M' → Q (.inl (some (.int (ii (placeP s b))))) M') : Go K fX6_leaves 1 k n 0 [some (.ref m), some (.int (ii b)), none, none] [] M Q := by
  have hp := placeP_r hx
  obtain ⟨q, x1, x2, x3⟩ := hx
  refine g_iconst 1 dX6_leaves_0 rfl ?_
  refine g_istore2 2 (Nat.le_of_ble_eq_true rfl) (by first | exact c1_0 | exact c1_i | exact c1_r | exact c1_n | exact c1_v (by assumption) | exact c1_f) dX6_leaves_1 rfl ?_
  refine l_leaves1 hT hb (s 4).toNat 0 (by omega) (by omega) ⟨q, x1, by omega, x3⟩ ?_
  rw [show plF s b (s 4).toNat 0 = placeP s b from rfl]
  refine g_aload0 21 (by first | exact rv_r | exact rv_n | assumption | exact rv_f) dX6_leaves_20 rfl ?_
  refine g_getf 24 dX6_leaves_21 rfl fl_X6_7 hT.t (hT.f0) ?_
  refine g_iconst 25 dX6_leaves_24 rfl ?_
  refine g_dup2 26 (by first | rfl | exact rv_cat (by assumption) | exact rv_cat rv_f) (by first | rfl | exact rv_cat (by assumption) | exact rv_cat rv_f) dX6_leaves_25 rfl ?_
  refine g_iald 27 dX6_leaves_26 rfl hT.a0 (by omega) (by omega) (by omega) (hT.e0 (by omega) (by omega)) ?_
  refine g_iconst 28 dX6_leaves_27 rfl ?_
  refine g_isub 29 dX6_leaves_28 rfl ?_
  refine w_ias0 30 dX6_leaves_29 rfl hT (by omega) (by omega) (fun M hT => ?_)
  refine g_iload2 31 dX6_leaves_30 rfl ?_
  refine g_istore3 32 (Nat.le_of_ble_eq_true rfl) (by first | exact c1_0 | exact c1_i | exact c1_r | exact c1_n | exact c1_v (by assumption) | exact c1_f) dX6_leaves_31 rfl ?_
  refine l_leaves2 (s 4 - 1 - placeP s b).toNat _ _ _ hT hp.1 ?_ ?_ hQ
  · rw [up_at, wr_id (by omega)]; omega
  · rw [up_at, wr_id (by omega)]; omega
theorem c_X6_stands (hT : Tw (kB K) M0 m s T M) {b : Int} (h4 : 0 ≤ s 4 ∧ s 4 ≤ 4) (hb : 0 ≤ b ∧ b < 4) (hQ : ∀ M', Tw (kB K) M0 m (standsP s b) (T) M' → Q (.inl none) M') : Go K fX6_stands 2 k n 0 [some (.ref m), some (.int (ii b))] [] M Q := by
  refine g_aload0 1 (by first | exact rv_r | exact rv_n | assumption | exact rv_f) dX6_stands_0 rfl ?_
  refine g_getf 4 dX6_stands_1 rfl fl_X6_7 hT.t (hT.f0) ?_
  refine g_iconst 5 dX6_stands_4 rfl ?_
  refine g_aload0 6 (by first | exact rv_r | exact rv_n | assumption | exact rv_f) dX6_stands_5 rfl ?_
  refine g_getf 9 dX6_stands_6 rfl fl_X6_7 hT.t (hT.f0) ?_
  refine g_iconst 10 dX6_stands_9 rfl ?_
  refine g_iald 11 dX6_stands_10 rfl hT.a0 (by omega) (by omega) (by omega) (hT.e0 (by omega) (by omega)) ?_
  refine g_iadd 12 dX6_stands_11 rfl ?_
  refine g_iload1 13 dX6_stands_12 rfl ?_
  refine w_ias0 14 dX6_stands_13 rfl hT (by omega) (by omega) (fun M hT => ?_)
  refine g_aload0 15 (by first | exact rv_r | exact rv_n | assumption | exact rv_f) dX6_stands_14 rfl ?_
  refine g_getf 18 dX6_stands_15 rfl fl_X6_7 hT.t (hT.f0) ?_
  refine g_iconst 19 dX6_stands_18 rfl ?_
  refine g_dup2 20 (by first | rfl | exact rv_cat (by assumption) | exact rv_cat rv_f) (by first | rfl | exact rv_cat (by assumption) | exact rv_cat rv_f) dX6_stands_19 rfl ?_
  refine g_iald 21 dX6_stands_20 rfl hT.a0 (by omega) (by omega) (by omega) (hT.e0 (by omega) (by omega)) ?_
  refine g_iconst 22 dX6_stands_21 rfl ?_
  refine g_iadd 23 dX6_stands_22 rfl ?_
  refine w_ias0 24 dX6_stands_23 rfl hT (by omega) (by omega) (fun M hT => ?_)
  refine g_aload0 25 (by first | exact rv_r | exact rv_n | assumption | exact rv_f) dX6_stands_24 rfl ?_
  refine g_iload1 26 dX6_stands_25 rfl ?_
  refine g_iconst 27 dX6_stands_26 rfl ?_
  refine g_iconst 28 dX6_stands_27 rfl ?_
  refine k_V3z 31 dX6_stands_28 rfl lk_X6_60 hT.t rfl (by first | rfl | exact rv_cat (by assumption) | exact rv_cat rv_f) (by first | rfl | exact rv_cat (by assumption) | exact rv_cat rv_f) (by first | rfl | exact rv_cat (by assumption) | exact rv_cat rv_f) (Nat.le_of_ble_eq_true rfl) (by first | exact Nat.le_of_ble_eq_true rfl | omega) (c_X6_layBoy hT (by first | assumption | omega) (by first | assumption | omega) (fun M hT => ?_))
  refine g_vret dX6_stands_31 rfl ?_
  exact hQ _ hT
end TWB
