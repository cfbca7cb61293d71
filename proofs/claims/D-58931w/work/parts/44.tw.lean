/-! ===== the twin's methods: places, forecasts, means, undo, snapshot, the buffer ===== -/
theorem rowAt_r {s : Int → Int} {b : Int} : ∀ (j : Nat) (k : Int), 0 ≤ k → rowAt s b j k = -1 ∨ (k ≤ rowAt s b j k ∧ rowAt s b j k < k + j)
  | 0, _, _ => Or.inl rfl
  | j + 1, k, h => by
    unfold rowAt
    split
    · right; omega
    · have := rowAt_r (s := s) (b := b) j (k + 1) (by omega); omega
theorem qtaF_r {g : Int} : ∀ (j : Nat) (s : Int → Int) (x : Int), x ≤ qtaF g j s x ∧ qtaF g j s x ≤ x + j
  | 0, _, _ => ⟨Int.le_refl _, by unfold qtaF; omega⟩
  | j + 1, s, x => by
    unfold qtaF
    split
    · omega
    · have := qtaF_r (g := g) j (passP s).1 (x + 1); omega
def sumW (s : Int → Int) : Nat → Int → Int
  | 0, _ => 0
  | j + 1, g => (if s (17 + 5 * g + 2) = 1 ∨ s (17 + 5 * g + 2) = 2 then s (17 + 5 * g + 4) else 0) + sumW s j (g + 1)
def cntW (s : Int → Int) : Nat → Int → Int
  | 0, _ => 0
  | j + 1, g => (if s (17 + 5 * g + 2) = 1 ∨ s (17 + 5 * g + 2) = 2 then 1 else 0) + cntW s j (g + 1)
theorem cntW_r {s : Int → Int} : ∀ (j : Nat) (g : Int), 0 ≤ cntW s j g ∧ cntW s j g ≤ j
  | 0, _ => ⟨Int.le_refl _, Int.le_refl _⟩
  | j + 1, g => by
    have := cntW_r (s := s) j (g + 1)
    unfold cntW; split <;> omega
def meanP (s : Int → Int) : UInt64 := if cntW s (s 3).toNat 0 = 0 then FP.dconst0 else FP.ddiv (FP.i2d (ii (sumW s (s 3).toNat 0))) (FP.i2d (ii (cntW s (s 3).toNat 0)))
theorem fp_c : FP.Core.b64.tails = 4503599627370496 ∧ FP.Core.b64.exps = 2048 ∧ FP.Core.b64.qmin = -1074 ∧ FP.Core.b64.qmax = 971 ∧ FP.Core.b64.p = 53 := by decide +kernel
/-- the bits of what is no NaN -/
def Nn (x : Nat) : Prop := x % 9223372036854775808 ≤ 9218868437227405312 ∧ x < 18446744073709551616
theorem fp_asm {s : Bool} {e t : Nat} (he : e < 2047 ∧ t < 4503599627370496 ∨ e = 2047 ∧ t = 0) : Nn (FP.Core.assemble FP.Core.b64 s e t) := by
  unfold Nn FP.Core.assemble
  rw [fp_c.1, fp_c.2.1]
  cases s <;> simp only [Bool.toNat_false, Bool.toNat_true] <;> omega
theorem fp_inf {s : Bool} : Nn (FP.Core.encode FP.Core.b64 (.inf s)) := by
  unfold FP.Core.encode
  refine fp_asm (Or.inr ⟨?_, rfl⟩)
  rw [fp_c.2.1]
theorem fp_fin {s : Bool} {c : Nat} {q : Int} (hc : c < 9007199254740992) (h0 : -1074 ≤ q) (h1 : q ≤ 971) : Nn (FP.Core.encode FP.Core.b64 (.fin s c q)) := by
  unfold FP.Core.encode
  dsimp only
  by_cases h : c < FP.Core.b64.tails
  · rw [if_pos h]
    rw [fp_c.1] at h
    exact fp_asm (Or.inl ⟨by omega, h⟩)
  · rw [if_neg h]
    rw [fp_c.1] at h
    refine fp_asm (Or.inl ⟨?_, ?_⟩)
    · rw [fp_c.2.2.1]; omega
    · rw [fp_c.1]; omega
theorem fp_bound {s : Bool} {c : Nat} {q : Int} (hc : c < 9007199254740992) (h0 : -1074 ≤ q) : Nn (FP.Core.encode FP.Core.b64 (FP.Core.bound FP.Core.b64 s c q)) := by
  unfold FP.Core.bound
  by_cases h : q ≤ FP.Core.b64.qmax
  · rw [if_pos h]
    rw [fp_c.2.2.2.1] at h
    exact fp_fin hc h0 h
  · rw [if_neg h]
    exact fp_inf
theorem fp_rr {s : Bool} {num den : Nat} {e : Int} : Nn (FP.Core.encode FP.Core.b64 (FP.Core.roundRatio FP.Core.b64 s num den e)) := by
  unfold FP.Core.roundRatio
  by_cases h : num = 0
  · rw [if_pos h]
    exact fp_fin (by decide) (by rw [fp_c.2.2.1]; decide) (by rw [fp_c.2.2.1]; decide)
  · rw [if_neg h]
    unfold FP.Core.roundAt FP.Core.settle
    have hq : -1074 ≤ FP.Core.quantum FP.Core.b64 num den e := by
      unfold FP.Core.quantum
      rw [fp_c.2.2.1]
      omega
    rw [fp_c.2.2.2.2, fp_c.1]
    generalize FP.Core.nearest _ _ = c
    by_cases h2 : c < 2 ^ 53
    · rw [if_pos h2]; exact fp_bound (by simpa using h2) hq
    · rw [if_neg h2]; exact fp_bound (by decide) (by omega)
theorem fp_nn {x : Nat} (h : Nn x) : FP.Core.decode FP.Core.b64 x ≠ .nan := by
  unfold FP.Core.decode FP.Core.fieldE FP.Core.fieldT
  rw [fp_c.1, fp_c.2.1]
  unfold Nn at h
  by_cases a : x / 4503599627370496 % 2048 = 2048 - 1
  · rw [if_pos a, if_pos (by omega)]
    exact fun z => by cases z
  · rw [if_neg a]
    split <;> exact fun z => by cases z
theorem fp_i2d (a : Int32) : Nn (FP.i2d a).toNat := by
  show Nn (UInt64.ofNat (FP.Core.fromInt FP.Core.b64 a.toInt)).toNat
  have h : Nn (FP.Core.fromInt FP.Core.b64 a.toInt) := fp_rr
  rw [UInt64.toNat_ofNat_of_lt' (by exact h.2)]
  exact h
theorem fp_ddiv {x y : UInt64} (hx : Nn x.toNat) (hy : ∃ s c q, c ≠ 0 ∧ FP.Core.decode FP.Core.b64 y.toNat = .fin s c q) : Nn (FP.ddiv x y).toNat := by
  have key : Nn (FP.Core.div FP.Core.b64 x.toNat y.toNat) := by
    obtain ⟨s, c, q, hc, e⟩ := hy
    have hn := fp_nn hx
    unfold FP.Core.div
    rw [e]
    cases ex : FP.Core.decode FP.Core.b64 x.toNat with
    | nan => exact absurd ex hn
    | inf s => exact fp_inf
    | fin s' c' q' =>
      unfold FP.Core.quotient
      dsimp only
      rw [if_neg hc]
      exact fp_rr
  show Nn (UInt64.ofNat (FP.Core.div FP.Core.b64 x.toNat y.toNat)).toNat
  rw [UInt64.toNat_ofNat_of_lt' (by exact key.2)]
  exact key
theorem n64_of {v : UInt64} (h : Nn v.toNat) : vf_n64 v := by
  unfold vf_n64
  rw [UInt64.le_iff_toNat_le, UInt64.toNat_and]
  have e : (0x7fffffffffffffff : UInt64).toNat = 2 ^ 63 - 1 := by decide
  have e2 : (0x7ff0000000000000 : UInt64).toNat = 9218868437227405312 := by decide
  rw [e, e2, Nat.and_two_pow_sub_one_eq_mod]
  exact h.1
def finB : FP.Core.Datum → Bool
  | .fin _ c _ => decide (c ≠ 0)
  | _ => false
theorem fp_small : ∀ b : Fin 41, 0 < b.val → ∃ s c q, c ≠ 0 ∧ FP.Core.decode FP.Core.b64 (FP.i2d (ii (b.val : Int))).toNat = .fin s c q := by
  have h : ∀ b : Fin 41, 0 < b.val → finB (FP.Core.decode FP.Core.b64 (FP.i2d (ii (b.val : Int))).toNat) = true := by decide +kernel
  intro b hb
  have := h b hb
  cases e : FP.Core.decode FP.Core.b64 (FP.i2d (ii (b.val : Int))).toNat with
  | nan => rw [e] at this; cases this
  | inf s => rw [e] at this; cases this
  | fin s c q => rw [e] at this; exact ⟨s, c, q, of_decide_eq_true this, rfl⟩
theorem mean_ok {a b : Int} (hb : 0 < b ∧ b ≤ 40) : Nn (FP.ddiv (FP.i2d (ii a)) (FP.i2d (ii b))).toNat := by
  have := fp_small ⟨b.toNat, by omega⟩ (by simp; omega)
  simp only [show ((b.toNat : Nat) : Int) = b by omega] at this
  exact fp_ddiv (fp_i2d _) this
theorem dcmp_self {v : UInt64} (h : Nn v.toNat) : FP.dcmp v v = some .eq := by
  have := fp_nn h
  show FP.Core.order (FP.Core.decode FP.Core.b64 v.toNat) (FP.Core.decode FP.Core.b64 v.toNat) = some .eq
  cases e : FP.Core.decode FP.Core.b64 v.toNat with
  | nan => exact absurd e this
  | inf s => unfold FP.Core.order; simp
  | fin s c q => unfold FP.Core.order; simp
theorem meanP_nn {s : Int → Int} (h3 : 0 ≤ s 3 ∧ s 3 ≤ 40) : Nn (meanP s).toNat := by
  have hc := cntW_r (s := s) (s 3).toNat 0
  unfold meanP
  split
  · exact ⟨by decide +kernel, by decide +kernel⟩
  · exact mean_ok (by omega)
section TWH
variable {K : KT} {k n m : Nat} {M M0 : Mem} {Q : Res → Mem → Prop} {a : AS} {s : Int → Int} {T : Nat → Int → Int}
theorem c_X6_placeOf {th : Int} (hP : TP (kB K) M0 m th a M) (hV : AV a) {b : Int} (hb : R32 b) (hQ : ∀ M', TP (kB K) M0 m (if inP b 0 3 = 0 then 1 else if rowAt a.1 b (a.1 4).toNat 0 = -1 then 2 else 0) (a) M' → Q (.inl (some (.int (ii (if inP b 0 3 = 0 then 0 else if rowAt a.1 b (a.1 4).toNat 0 = -1 then 0 else rowAt a.1 b (a.1 4).toNat 0))))) M') : Go K fX6_placeOf 3 k n 0 [some (.ref m), some (.int (ii b)), none] [] M Q := by
  obtain ⟨T, hT, hA, hth⟩ := hP
  have hW := hV.1.1
  have w1 := hW.2.1
  unfold W1 at w1
  have loop : ∀ (j : Nat) (x : Int) (T : Nat → Int → Int) M, Tw (kB K) M0 m a.1 T M → Ta a T → T 5 8 = 0 → x + j = a.1 4 → 0 ≤ x → (∀ M', TP (kB K) M0 m (if rowAt a.1 b j x = -1 then 2 else 0) a M' → Q (.inl (some (.int (ii (if rowAt a.1 b j x = -1 then 0 else rowAt a.1 b j x))))) M') → Go K fX6_placeOf 3 k n 20 [some (.ref m), some (.int (ii b)), some (.int (ii x))] [] M Q := by
    intro j
    induction j with
    | zero =>
      intro x T M hT hA hth e h0 hQ
      rw [show rowAt a.1 b 0 x = -1 from rfl, if_pos rfl, if_pos rfl] at hQ
      refine g_iload2 21 dX6_placeOf_20 rfl ?_
      refine g_aload0 22 (by first | exact rv_r | exact rv_n | assumption | exact rv_f) dX6_placeOf_21 rfl ?_
      refine g_getf 25 dX6_placeOf_22 rfl fl_X6_7 hT.t (hT.f0) ?_
      refine g_iconst 26 dX6_placeOf_25 rfl ?_
      refine g_iald 27 dX6_placeOf_26 rfl hT.a0 (by omega) (by omega) (by omega) (hT.e0 (by omega) (by omega)) ?_
      refine g_icmp_ge 50 30 dX6_placeOf_27 rfl rfl (by first | exact hT.r _ | exact hT.rT _ _ | exact inP_r | omega) (by first | exact hT.r _ | exact hT.rT _ _ | exact inP_r | omega) (fun c27 => ?_) (fun c27 => ?_)
      · refine g_aload0 51 (by first | exact rv_r | exact rv_n | assumption | exact rv_f) dX6_placeOf_50 rfl ?_
        refine g_iconst 52 dX6_placeOf_51 rfl ?_
        refine k_V1z 55 dX6_placeOf_52 rfl lk_X6_104 hT.t rfl (by first | rfl | exact rv_cat (by assumption) | exact rv_cat rv_f) (Nat.le_of_ble_eq_true rfl) (by first | exact Nat.le_of_ble_eq_true rfl | omega) (c_X6_throwing hT (fun M hT => ?_))
        refine g_iret dX6_placeOf_55 rfl ?_
        exact tq hQ hT hA.th rfl (by simp only [uT_at, wr2]) rfl
      · omega
    | succ j ih =>
      intro x T M hT hA hth e h0 hQ
      by_cases q : a.1 (5 + x) = b
      · rw [show rowAt a.1 b (j + 1) x = x by rw [rowAt, if_pos q], if_neg (by omega), if_neg (by omega)] at hQ
        refine g_iload2 21 dX6_placeOf_20 rfl ?_
        refine g_aload0 22 (by first | exact rv_r | exact rv_n | assumption | exact rv_f) dX6_placeOf_21 rfl ?_
        refine g_getf 25 dX6_placeOf_22 rfl fl_X6_7 hT.t (hT.f0) ?_
        refine g_iconst 26 dX6_placeOf_25 rfl ?_
        refine g_iald 27 dX6_placeOf_26 rfl hT.a0 (by omega) (by omega) (by omega) (hT.e0 (by omega) (by omega)) ?_
        refine g_icmp_ge 50 30 dX6_placeOf_27 rfl rfl (by first | exact hT.r _ | exact hT.rT _ _ | exact inP_r | omega) (by first | exact hT.r _ | exact hT.rT _ _ | exact inP_r | omega) (fun c27 => ?_) (fun c27 => ?_)
        · omega
        · refine g_aload0 31 (by first | exact rv_r | exact rv_n | assumption | exact rv_f) dX6_placeOf_30 rfl ?_
          refine g_getf 34 dX6_placeOf_31 rfl fl_X6_7 hT.t (hT.f0) ?_
          refine g_iconst 35 dX6_placeOf_34 rfl ?_
          refine g_iload2 36 dX6_placeOf_35 rfl ?_
          refine g_iadd 37 dX6_placeOf_36 rfl ?_
          refine g_iald 38 dX6_placeOf_37 rfl hT.a0 (by omega) (by omega) (by omega) (hT.e0 (by omega) (by omega)) ?_
          refine g_iload1 39 dX6_placeOf_38 rfl ?_
          refine g_icmp_ne 44 42 dX6_placeOf_39 rfl rfl (by first | exact hT.r _ | exact hT.rT _ _ | exact inP_r | omega) (by first | exact hT.r _ | exact hT.rT _ _ | exact inP_r | omega) (fun c39 => ?_) (fun c39 => ?_)
          · omega
          · refine g_iload2 43 dX6_placeOf_42 rfl ?_
            refine g_iret dX6_placeOf_43 rfl ?_
            exact tq hQ hT hA rfl hth rfl
      · rw [show rowAt a.1 b (j + 1) x = rowAt a.1 b j (x + 1) by rw [rowAt, if_neg q]] at hQ
        refine g_iload2 21 dX6_placeOf_20 rfl ?_
        refine g_aload0 22 (by first | exact rv_r | exact rv_n | assumption | exact rv_f) dX6_placeOf_21 rfl ?_
        refine g_getf 25 dX6_placeOf_22 rfl fl_X6_7 hT.t (hT.f0) ?_
        refine g_iconst 26 dX6_placeOf_25 rfl ?_
        refine g_iald 27 dX6_placeOf_26 rfl hT.a0 (by omega) (by omega) (by omega) (hT.e0 (by omega) (by omega)) ?_
        refine g_icmp_ge 50 30 dX6_placeOf_27 rfl rfl (by first | exact hT.r _ | exact hT.rT _ _ | exact inP_r | omega) (by first | exact hT.r _ | exact hT.rT _ _ | exact inP_r | omega) (fun c27 => ?_) (fun c27 => ?_)
        · omega
        · refine g_aload0 31 (by first | exact rv_r | exact rv_n | assumption | exact rv_f) dX6_placeOf_30 rfl ?_
          refine g_getf 34 dX6_placeOf_31 rfl fl_X6_7 hT.t (hT.f0) ?_
          refine g_iconst 35 dX6_placeOf_34 rfl ?_
          refine g_iload2 36 dX6_placeOf_35 rfl ?_
          refine g_iadd 37 dX6_placeOf_36 rfl ?_
          refine g_iald 38 dX6_placeOf_37 rfl hT.a0 (by omega) (by omega) (by omega) (hT.e0 (by omega) (by omega)) ?_
          refine g_iload1 39 dX6_placeOf_38 rfl ?_
          refine g_icmp_ne 44 42 dX6_placeOf_39 rfl rfl (by first | exact hT.r _ | exact hT.rT _ _ | exact inP_r | omega) (by first | exact hT.r _ | exact hT.rT _ _ | exact inP_r | omega) (fun c39 => ?_) (fun c39 => ?_)
          · refine g_iinc2 47 (Nat.le_of_ble_eq_true rfl) (by first | exact c1_0 | exact c1_i | exact c1_r | exact c1_n | exact c1_v (by assumption) | exact c1_f) dX6_placeOf_44 rfl ?_
            refine g_goto 20 dX6_placeOf_47 rfl ?_
            exact ih _ _ _ hT hA hth (by omega) (by omega) hQ
          · refine g_iload2 43 dX6_placeOf_42 rfl ?_
            refine g_iret dX6_placeOf_43 rfl ?_
            omega
  by_cases q : inP b 0 3 = 0
  · rw [if_pos q, if_pos q] at hQ
    refine g_aload0 1 (by first | exact rv_r | exact rv_n | assumption | exact rv_f) dX6_placeOf_0 rfl ?_
    refine g_iconst 2 dX6_placeOf_1 rfl ?_
    refine w_put8 5 dX6_placeOf_2 rfl fl_X6_25 hT (fun M hT => ?_)
    refine g_iload1 6 dX6_placeOf_5 rfl ?_
    refine k_S1z 9 dX6_placeOf_6 rfl lk_X6_123 rfl (by first | rfl | exact rv_cat (by assumption) | exact rv_cat rv_f) (Nat.le_of_ble_eq_true rfl) (by first | exact Nat.le_of_ble_eq_true rfl | omega) (c_X6_isBoy (by first | assumption | omega) ?_)
    refine g_if_ne 18 12 dX6_placeOf_9 rfl rfl (by first | exact hT.r _ | exact hT.rT _ _ | exact inP_r | omega) (fun c9 => ?_) (fun c9 => ?_)
    · omega
    · refine g_aload0 13 (by first | exact rv_r | exact rv_n | assumption | exact rv_f) dX6_placeOf_12 rfl ?_
      refine g_iconst 14 dX6_placeOf_13 rfl ?_
      refine k_V1z 17 dX6_placeOf_14 rfl lk_X6_104 hT.t rfl (by first | rfl | exact rv_cat (by assumption) | exact rv_cat rv_f) (Nat.le_of_ble_eq_true rfl) (by first | exact Nat.le_of_ble_eq_true rfl | omega) (c_X6_throwing hT (fun M hT => ?_))
      refine g_iret dX6_placeOf_17 rfl ?_
      exact tq hQ hT hA.th.th rfl (by simp only [uT_at, wr1]) rfl
  · rw [if_neg q, if_neg q] at hQ
    refine g_aload0 1 (by first | exact rv_r | exact rv_n | assumption | exact rv_f) dX6_placeOf_0 rfl ?_
    refine g_iconst 2 dX6_placeOf_1 rfl ?_
    refine w_put8 5 dX6_placeOf_2 rfl fl_X6_25 hT (fun M hT => ?_)
    refine g_iload1 6 dX6_placeOf_5 rfl ?_
    refine k_S1z 9 dX6_placeOf_6 rfl lk_X6_123 rfl (by first | rfl | exact rv_cat (by assumption) | exact rv_cat rv_f) (Nat.le_of_ble_eq_true rfl) (by first | exact Nat.le_of_ble_eq_true rfl | omega) (c_X6_isBoy (by first | assumption | omega) ?_)
    refine g_if_ne 18 12 dX6_placeOf_9 rfl rfl (by first | exact hT.r _ | exact hT.rT _ _ | exact inP_r | omega) (fun c9 => ?_) (fun c9 => ?_)
    · refine g_iconst 19 dX6_placeOf_18 rfl ?_
      refine g_istore2 20 (Nat.le_of_ble_eq_true rfl) (by first | exact c1_0 | exact c1_i | exact c1_r | exact c1_n | exact c1_v (by assumption) | exact c1_f) dX6_placeOf_19 rfl ?_
      exact loop (a.1 4).toNat 0 _ _ hT hA.th (by simp only [uT_at, wr0]) (by omega) (by omega) hQ
    · refine g_aload0 13 (by first | exact rv_r | exact rv_n | assumption | exact rv_f) dX6_placeOf_12 rfl ?_
      refine g_iconst 14 dX6_placeOf_13 rfl ?_
      refine k_V1z 17 dX6_placeOf_14 rfl lk_X6_104 hT.t rfl (by first | rfl | exact rv_cat (by assumption) | exact rv_cat rv_f) (Nat.le_of_ble_eq_true rfl) (by first | exact Nat.le_of_ble_eq_true rfl | omega) (c_X6_throwing hT (fun M hT => ?_))
      refine g_iret dX6_placeOf_17 rfl ?_
      omega
theorem l_qta {g : Int} (hg : 0 ≤ g ∧ g < 40) : ∀ (j : Nat) (x : Int) (s : Int → Int) (M : Mem) (y : Option Value), Tw (kB K) M0 m s T M → WW s → s 0 + j ≤ 100000 → x + j = 301 → 0 ≤ x → (∀ s' M' y, Tw (kB K) M0 m s' T M' → (∀ i, R32 (s' i)) → Go K fX6_quartersToArrival 5 k n 53 [some (.ref m), some (.int (ii g)), some (.int (ii (qtaF g j s x))), y] [] M' Q) → Go K fX6_quartersToArrival 5 k n 25 [some (.ref m), some (.int (ii g)), some (.int (ii x)), y] [] M Q := by
  intro j
  induction j with
  | zero =>
    intro x s M y hT hW ht e h0 h
    refine g_iload2 26 dX6_quartersToArrival_25 rfl ?_
    refine g_sipush 29 (by rfl) dX6_quartersToArrival_26 rfl ?_
    refine g_icmp_gt 53 32 dX6_quartersToArrival_29 rfl rfl (by first | exact hT.r _ | exact hT.rT _ _ | exact inP_r | omega) (by first | exact hT.r _ | exact hT.rT _ _ | exact inP_r | omega) (fun c29 => ?_) (fun c29 => ?_)
    · exact h s M _ hT hW.1
    · omega
  | succ j ih =>
    intro x s M y hT hW ht e h0 h
    unfold qtaF at h
    have e0 := passP_lo hW (by omega) 0 (by omega) (by omega)
    rw [if_pos rfl] at e0
    by_cases q : s (17 + 5 * g + 2) = 2
    · rw [if_pos q] at h
      refine g_iload2 26 dX6_quartersToArrival_25 rfl ?_
      refine g_sipush 29 (by rfl) dX6_quartersToArrival_26 rfl ?_
      refine g_icmp_gt 53 32 dX6_quartersToArrival_29 rfl rfl (by first | exact hT.r _ | exact hT.rT _ _ | exact inP_r | omega) (by first | exact hT.r _ | exact hT.rT _ _ | exact inP_r | omega) (fun c29 => ?_) (fun c29 => ?_)
      · first | omega | exact h s M _ hT hW.1
      · refine g_aload0 33 (by first | exact rv_r | exact rv_n | assumption | exact rv_f) dX6_quartersToArrival_32 rfl ?_
        refine g_iload1 34 dX6_quartersToArrival_33 rfl ?_
        refine g_iconst 35 dX6_quartersToArrival_34 rfl ?_
        refine k_V2z 38 dX6_quartersToArrival_35 rfl lk_X6_36 hT.t rfl (by first | rfl | exact rv_cat (by assumption) | exact rv_cat rv_f) (by first | rfl | exact rv_cat (by assumption) | exact rv_cat rv_f) (Nat.le_of_ble_eq_true rfl) (by first | exact Nat.le_of_ble_eq_true rfl | omega) (c_X6_guest hT (by first | assumption | omega) (by first | assumption | omega) ?_)
        refine g_iconst 39 dX6_quartersToArrival_38 rfl ?_
        refine g_icmp_eq 53 42 dX6_quartersToArrival_39 rfl rfl (by first | exact hT.r _ | exact hT.rT _ _ | exact inP_r | omega) (by first | exact hT.r _ | exact hT.rT _ _ | exact inP_r | omega) (fun c39 => ?_) (fun c39 => ?_)
        · first | omega | exact h s M _ hT hW.1
        · omega
    · rw [if_neg q] at h
      refine g_iload2 26 dX6_quartersToArrival_25 rfl ?_
      refine g_sipush 29 (by rfl) dX6_quartersToArrival_26 rfl ?_
      refine g_icmp_gt 53 32 dX6_quartersToArrival_29 rfl rfl (by first | exact hT.r _ | exact hT.rT _ _ | exact inP_r | omega) (by first | exact hT.r _ | exact hT.rT _ _ | exact inP_r | omega) (fun c29 => ?_) (fun c29 => ?_)
      · omega
      · refine g_aload0 33 (by first | exact rv_r | exact rv_n | assumption | exact rv_f) dX6_quartersToArrival_32 rfl ?_
        refine g_iload1 34 dX6_quartersToArrival_33 rfl ?_
        refine g_iconst 35 dX6_quartersToArrival_34 rfl ?_
        refine k_V2z 38 dX6_quartersToArrival_35 rfl lk_X6_36 hT.t rfl (by first | rfl | exact rv_cat (by assumption) | exact rv_cat rv_f) (by first | rfl | exact rv_cat (by assumption) | exact rv_cat rv_f) (Nat.le_of_ble_eq_true rfl) (by first | exact Nat.le_of_ble_eq_true rfl | omega) (c_X6_guest hT (by first | assumption | omega) (by first | assumption | omega) ?_)
        refine g_iconst 39 dX6_quartersToArrival_38 rfl ?_
        refine g_icmp_eq 53 42 dX6_quartersToArrival_39 rfl rfl (by first | exact hT.r _ | exact hT.rT _ _ | exact inP_r | omega) (by first | exact hT.r _ | exact hT.rT _ _ | exact inP_r | omega) (fun c39 => ?_) (fun c39 => ?_)
        · omega
        · refine g_aload0 43 (by first | exact rv_r | exact rv_n | assumption | exact rv_f) dX6_quartersToArrival_42 rfl ?_
          refine k_V0z 46 dX6_quartersToArrival_43 rfl lk_X6_101 hT.t rfl  (Nat.le_of_ble_eq_true rfl) (by first | exact Nat.le_of_ble_eq_true rfl | omega) (c_X6_passes hT hW (by omega) (fun M hT => ?_))
          refine g_istore3 47 (Nat.le_of_ble_eq_true rfl) (by first | exact c1_0 | exact c1_i | exact c1_r | exact c1_n | exact c1_v (by assumption) | exact c1_f) dX6_quartersToArrival_46 rfl ?_
          refine g_iinc2 50 (Nat.le_of_ble_eq_true rfl) (by first | exact c1_0 | exact c1_i | exact c1_r | exact c1_n | exact c1_v (by assumption) | exact c1_f) dX6_quartersToArrival_47 rfl ?_
          refine g_goto 25 dX6_quartersToArrival_50 rfl ?_
          exact ih _ _ _ _ hT (ww_pass hW (by omega)) (by omega) (by omega) (by omega) h
theorem Ta.cg {a : AS} {T T' : Nat → Int → Int} (h : Ta a T) (e : ∀ p i, p ≠ 3 → ¬ (p = 5 ∧ (i = 8 ∨ i = 9 ∨ i = 10)) → T' p i = T p i) : Ta a T' := by
  obtain ⟨⟨a1, a2, a3⟩, ⟨b1, b2⟩, c1, c2, c3⟩ := h
  refine ⟨⟨by rw [e _ _ (by omega) (by omega)]; exact a1, a2, fun j f hj i i0 i1 => by rw [e _ _ (by omega) (by omega)]; exact a3 j f hj i i0 i1⟩, ⟨by rw [e _ _ (by omega) (by omega)]; exact b1, fun f hf i i0 i1 => by rw [e _ _ (by omega) (by omega)]; exact b2 f hf i i0 i1⟩, by rw [e _ _ (by omega) (by omega)]; exact c1, c2, fun j c hj => by rw [e _ _ (by omega) (by omega)]; exact c3 j c hj⟩
theorem c_X6_quartersToArrival {th : Int} (hP : TP (kB K) M0 m th a M) (hV : AV a) {g : Int} (hg : R32 g) (hQ : ∀ M', TP (kB K) M0 m (if inP g 0 (a.1 3 - 1) = 0 then 1 else if qtaF g 301 a.1 0 ≤ 300 then 0 else 2) (a) M' → Q (.inl (some (.int (ii (if inP g 0 (a.1 3 - 1) = 0 then 0 else if qtaF g 301 a.1 0 ≤ 300 then qtaF g 301 a.1 0 else 0))))) M') : Go K fX6_quartersToArrival 6 k n 0 [some (.ref m), some (.int (ii g)), none, none] [] M Q := by
  obtain ⟨T, hT, hA, hth⟩ := hP
  have hW := hV.1.1
  have w1 := hW.2.1
  unfold W1 at w1
  have hi : inP g 0 (a.1 3 - 1) ≠ 0 → 0 ≤ g ∧ g ≤ a.1 3 - 1 := inP_ne
  have ht := hV.1.2
  have hq := qtaF_r (g := g) 301 a.1 0
  by_cases q : inP g 0 (a.1 3 - 1) = 0
  · rw [if_pos q, if_pos q] at hQ
    refine g_aload0 1 (by first | exact rv_r | exact rv_n | assumption | exact rv_f) dX6_quartersToArrival_0 rfl ?_
    refine g_iconst 2 dX6_quartersToArrival_1 rfl ?_
    refine w_put8 5 dX6_quartersToArrival_2 rfl fl_X6_25 hT (fun M hT => ?_)
    refine g_aload0 6 (by first | exact rv_r | exact rv_n | assumption | exact rv_f) dX6_quartersToArrival_5 rfl ?_
    refine g_iload1 7 dX6_quartersToArrival_6 rfl ?_
    refine k_V1z 10 dX6_quartersToArrival_7 rfl lk_X6_113 hT.t rfl (by first | rfl | exact rv_cat (by assumption) | exact rv_cat rv_f) (Nat.le_of_ble_eq_true rfl) (by first | exact Nat.le_of_ble_eq_true rfl | omega) (c_X6_isGuest hT (by first | assumption | omega) (by first | assumption | omega) ?_)
    refine g_if_ne 19 13 dX6_quartersToArrival_10 rfl rfl (by first | exact hT.r _ | exact hT.rT _ _ | exact inP_r | omega) (fun c10 => ?_) (fun c10 => ?_)
    · omega
    · refine g_aload0 14 (by first | exact rv_r | exact rv_n | assumption | exact rv_f) dX6_quartersToArrival_13 rfl ?_
      refine g_iconst 15 dX6_quartersToArrival_14 rfl ?_
      refine k_V1z 18 dX6_quartersToArrival_15 rfl lk_X6_104 hT.t rfl (by first | rfl | exact rv_cat (by assumption) | exact rv_cat rv_f) (Nat.le_of_ble_eq_true rfl) (by first | exact Nat.le_of_ble_eq_true rfl | omega) (c_X6_throwing hT (fun M hT => ?_))
      refine g_iret dX6_quartersToArrival_18 rfl ?_
      exact tq hQ hT hA.th.th rfl (by simp only [uT_at, wr1]) rfl
  · rw [if_neg q, if_neg q] at hQ
    refine g_aload0 1 (by first | exact rv_r | exact rv_n | assumption | exact rv_f) dX6_quartersToArrival_0 rfl ?_
    refine g_iconst 2 dX6_quartersToArrival_1 rfl ?_
    refine w_put8 5 dX6_quartersToArrival_2 rfl fl_X6_25 hT (fun M hT => ?_)
    refine g_aload0 6 (by first | exact rv_r | exact rv_n | assumption | exact rv_f) dX6_quartersToArrival_5 rfl ?_
    refine g_iload1 7 dX6_quartersToArrival_6 rfl ?_
    refine k_V1z 10 dX6_quartersToArrival_7 rfl lk_X6_113 hT.t rfl (by first | rfl | exact rv_cat (by assumption) | exact rv_cat rv_f) (Nat.le_of_ble_eq_true rfl) (by first | exact Nat.le_of_ble_eq_true rfl | omega) (c_X6_isGuest hT (by first | assumption | omega) (by first | assumption | omega) ?_)
    refine g_if_ne 19 13 dX6_quartersToArrival_10 rfl rfl (by first | exact hT.r _ | exact hT.rT _ _ | exact inP_r | omega) (fun c10 => ?_) (fun c10 => ?_)
    · refine g_aload0 20 (by first | exact rv_r | exact rv_n | assumption | exact rv_f) dX6_quartersToArrival_19 rfl ?_
      refine k_V0z 23 dX6_quartersToArrival_20 rfl lk_X6_164 hT.t rfl  (Nat.le_of_ble_eq_true rfl) (by first | exact Nat.le_of_ble_eq_true rfl | omega) (c_X6_keepsAside hT (fun T' M hT h1 h2 => ?_))
      refine g_iconst 24 dX6_quartersToArrival_23 rfl ?_
      refine g_istore2 25 (Nat.le_of_ble_eq_true rfl) (by first | exact c1_0 | exact c1_i | exact c1_r | exact c1_n | exact c1_v (by assumption) | exact c1_f) dX6_quartersToArrival_24 rfl ?_
      refine Go.up (l_qta (by omega) 301 0 _ _ _ hT hW (by omega) (by omega) (by omega) fun s' M y hT hr => ?_) (Nat.le_of_ble_eq_true rfl) (Nat.le_refl _) (Nat.le_refl _)
      have hA' : Ta a T' := hA.th.cg (fun p i a b => h2 p i a)
      have h8 : T' 5 8 = 0 := by rw [h2 5 8 (by omega), uT_at, wr0]
      refine g_aload0 54 (by first | exact rv_r | exact rv_n | assumption | exact rv_f) dX6_quartersToArrival_53 rfl ?_
      refine k_V0z 57 dX6_quartersToArrival_54 rfl lk_X6_167 hT.t rfl  (Nat.le_of_ble_eq_true rfl) (by first | exact Nat.le_of_ble_eq_true rfl | omega) (c_X6_putsBack hT (fun s2 M hT h3 => ?_))
      have hT := hT.cgs (s' := a.1) (fun i i0 i1 => by rw [h3 i i0 i1, h1 i i0 i1]) hW.1
      refine g_iload2 58 dX6_quartersToArrival_57 rfl ?_
      refine g_sipush 61 (by rfl) dX6_quartersToArrival_58 rfl ?_
      refine g_icmp_gt 68 64 dX6_quartersToArrival_61 rfl rfl (by first | exact hT.r _ | exact hT.rT _ _ | exact inP_r | omega) (by first | exact hT.r _ | exact hT.rT _ _ | exact inP_r | omega) (fun c61 => ?_) (fun c61 => ?_)
      · refine g_aload0 69 (by first | exact rv_r | exact rv_n | assumption | exact rv_f) dX6_quartersToArrival_68 rfl ?_
        refine g_iconst 70 dX6_quartersToArrival_69 rfl ?_
        refine k_V1z 73 dX6_quartersToArrival_70 rfl lk_X6_104 hT.t rfl (by first | rfl | exact rv_cat (by assumption) | exact rv_cat rv_f) (Nat.le_of_ble_eq_true rfl) (by first | exact Nat.le_of_ble_eq_true rfl | omega) (c_X6_throwing hT (fun M hT => ?_))
        refine g_iret dX6_quartersToArrival_73 rfl ?_
        refine tq hQ hT (by first | exact hA' | exact hA'.th) rfl ?_ ?_
        · first | (rw [if_pos (by omega)]; exact h8) | (rw [if_neg (by omega)]; simp only [uT_at, wr2])
        · first | rw [if_pos (by omega)] | rw [if_neg (by omega)]
      · refine g_iload2 65 dX6_quartersToArrival_64 rfl ?_
        refine g_goto 73 dX6_quartersToArrival_65 rfl ?_
        refine g_iret dX6_quartersToArrival_73 rfl ?_
        refine tq hQ hT (by first | exact hA' | exact hA'.th) rfl ?_ ?_
        · first | (rw [if_pos (by omega)]; exact h8) | (rw [if_neg (by omega)]; simp only [uT_at, wr2])
        · first | rw [if_pos (by omega)] | rw [if_neg (by omega)]
    · refine g_aload0 14 (by first | exact rv_r | exact rv_n | assumption | exact rv_f) dX6_quartersToArrival_13 rfl ?_
      refine g_iconst 15 dX6_quartersToArrival_14 rfl ?_
      refine k_V1z 18 dX6_quartersToArrival_15 rfl lk_X6_104 hT.t rfl (by first | rfl | exact rv_cat (by assumption) | exact rv_cat rv_f) (Nat.le_of_ble_eq_true rfl) (by first | exact Nat.le_of_ble_eq_true rfl | omega) (c_X6_throwing hT (fun M hT => ?_))
      refine g_iret dX6_quartersToArrival_18 rfl ?_
      omega
theorem c_X6_departuresIn {th : Int} (hP : TP (kB K) M0 m th a M) (hV : AV a) {q : Int} (hq : R32 q) (hQ : ∀ M', TP (kB K) M0 m (if inP q 1 99 = 0 then 1 else 0) (a) M' → Q (.inl (some (.int (ii (if inP q 1 99 = 0 then 0 else (passAllP q.toNat a.1 0).2))))) M') : Go K fX6_departuresIn 6 k n 0 [some (.ref m), some (.int (ii q)), none] [] M Q := by
  obtain ⟨T, hT, hA, hth⟩ := hP
  have hW := hV.1.1
  have w1 := hW.2.1
  unfold W1 at w1
  have hi : inP q 1 99 ≠ 0 → 1 ≤ q ∧ q ≤ 99 := inP_ne
  have ht := hV.1.2
  by_cases z : inP q 1 99 = 0
  · rw [if_pos z, if_pos z] at hQ
    refine g_aload0 1 (by first | exact rv_r | exact rv_n | assumption | exact rv_f) dX6_departuresIn_0 rfl ?_
    refine g_iconst 2 dX6_departuresIn_1 rfl ?_
    refine w_put8 5 dX6_departuresIn_2 rfl fl_X6_25 hT (fun M hT => ?_)
    refine g_iload1 6 dX6_departuresIn_5 rfl ?_
    refine g_iconst 7 dX6_departuresIn_6 rfl ?_
    refine g_bipush 9 (by rfl) dX6_departuresIn_7 rfl ?_
    refine k_S3z 12 dX6_departuresIn_9 rfl lk_X6_29 rfl (by first | rfl | exact rv_cat (by assumption) | exact rv_cat rv_f) (by first | rfl | exact rv_cat (by assumption) | exact rv_cat rv_f) (by first | rfl | exact rv_cat (by assumption) | exact rv_cat rv_f) (Nat.le_of_ble_eq_true rfl) (by first | exact Nat.le_of_ble_eq_true rfl | omega) (c_X6_in (by first | assumption | omega) (by first | assumption | omega) (by first | assumption | omega) ?_)
    refine g_if_ne 21 15 dX6_departuresIn_12 rfl rfl (by first | exact hT.r _ | exact hT.rT _ _ | exact inP_r | omega) (fun c12 => ?_) (fun c12 => ?_)
    · omega
    · refine g_aload0 16 (by first | exact rv_r | exact rv_n | assumption | exact rv_f) dX6_departuresIn_15 rfl ?_
      refine g_iconst 17 dX6_departuresIn_16 rfl ?_
      refine k_V1z 20 dX6_departuresIn_17 rfl lk_X6_104 hT.t rfl (by first | rfl | exact rv_cat (by assumption) | exact rv_cat rv_f) (Nat.le_of_ble_eq_true rfl) (by first | exact Nat.le_of_ble_eq_true rfl | omega) (c_X6_throwing hT (fun M hT => ?_))
      refine g_iret dX6_departuresIn_20 rfl ?_
      exact tq hQ hT hA.th.th rfl (by simp only [uT_at, wr1]) rfl
  · rw [if_neg z, if_neg z] at hQ
    refine g_aload0 1 (by first | exact rv_r | exact rv_n | assumption | exact rv_f) dX6_departuresIn_0 rfl ?_
    refine g_iconst 2 dX6_departuresIn_1 rfl ?_
    refine w_put8 5 dX6_departuresIn_2 rfl fl_X6_25 hT (fun M hT => ?_)
    refine g_iload1 6 dX6_departuresIn_5 rfl ?_
    refine g_iconst 7 dX6_departuresIn_6 rfl ?_
    refine g_bipush 9 (by rfl) dX6_departuresIn_7 rfl ?_
    refine k_S3z 12 dX6_departuresIn_9 rfl lk_X6_29 rfl (by first | rfl | exact rv_cat (by assumption) | exact rv_cat rv_f) (by first | rfl | exact rv_cat (by assumption) | exact rv_cat rv_f) (by first | rfl | exact rv_cat (by assumption) | exact rv_cat rv_f) (Nat.le_of_ble_eq_true rfl) (by first | exact Nat.le_of_ble_eq_true rfl | omega) (c_X6_in (by first | assumption | omega) (by first | assumption | omega) (by first | assumption | omega) ?_)
    refine g_if_ne 21 15 dX6_departuresIn_12 rfl rfl (by first | exact hT.r _ | exact hT.rT _ _ | exact inP_r | omega) (fun c12 => ?_) (fun c12 => ?_)
    · refine g_aload0 22 (by first | exact rv_r | exact rv_n | assumption | exact rv_f) dX6_departuresIn_21 rfl ?_
      refine k_V0z 25 dX6_departuresIn_22 rfl lk_X6_164 hT.t rfl  (Nat.le_of_ble_eq_true rfl) (by first | exact Nat.le_of_ble_eq_true rfl | omega) (c_X6_keepsAside hT (fun T' M hT h1 h2 => ?_))
      refine g_aload0 26 (by first | exact rv_r | exact rv_n | assumption | exact rv_f) dX6_departuresIn_25 rfl ?_
      refine g_iload1 27 dX6_departuresIn_26 rfl ?_
      refine k_V1z 30 dX6_departuresIn_27 rfl lk_X6_117 hT.t rfl (by first | rfl | exact rv_cat (by assumption) | exact rv_cat rv_f) (Nat.le_of_ble_eq_true rfl) (by first | exact Nat.le_of_ble_eq_true rfl | omega) (c_X6_passesAll hT hW (by omega) (by omega) (fun M hT => ?_))
      refine g_istore2 31 (Nat.le_of_ble_eq_true rfl) (by first | exact c1_0 | exact c1_i | exact c1_r | exact c1_n | exact c1_v (by assumption) | exact c1_f) dX6_departuresIn_30 rfl ?_
      refine g_aload0 32 (by first | exact rv_r | exact rv_n | assumption | exact rv_f) dX6_departuresIn_31 rfl ?_
      refine k_V0z 35 dX6_departuresIn_32 rfl lk_X6_167 hT.t rfl  (Nat.le_of_ble_eq_true rfl) (by first | exact Nat.le_of_ble_eq_true rfl | omega) (c_X6_putsBack hT (fun s2 M hT h3 => ?_))
      have hT := hT.cgs (s' := a.1) (fun i i0 i1 => by rw [h3 i i0 i1, h1 i i0 i1]) hW.1
      refine g_iload2 36 dX6_departuresIn_35 rfl ?_
      refine g_iret dX6_departuresIn_36 rfl ?_
      first | omega | exact tq hQ hT (hA.th.cg (fun p i a b => h2 p i a)) rfl (by rw [h2 5 8 (by omega), uT_at, wr0]) rfl
    · refine g_aload0 16 (by first | exact rv_r | exact rv_n | assumption | exact rv_f) dX6_departuresIn_15 rfl ?_
      refine g_iconst 17 dX6_departuresIn_16 rfl ?_
      refine k_V1z 20 dX6_departuresIn_17 rfl lk_X6_104 hT.t rfl (by first | rfl | exact rv_cat (by assumption) | exact rv_cat rv_f) (Nat.le_of_ble_eq_true rfl) (by first | exact Nat.le_of_ble_eq_true rfl | omega) (c_X6_throwing hT (fun M hT => ?_))
      refine g_iret dX6_departuresIn_20 rfl ?_
      first | omega | exact tq hQ hT (hA.th.cg (fun p i a b => h2 p i a)) rfl (by rw [h2 5 8 (by omega), uT_at, wr0]) rfl
theorem l_mean (hT : Tw (kB K) M0 m s T M) (h3 : 0 ≤ s 3 ∧ s 3 ≤ 40) : ∀ (j : Nat) (g x y : Int) (o : Option Value), g + j = s 3 → 0 ≤ g → Go K fX6_meanWait 2 k n 85 [some (.ref m), some (.int (ii (x + sumW s j g))), some (.int (ii (y + cntW s j g))), some (.int (ii (s 3))), o] [] M Q → (∀ o, Go K fX6_meanWait 2 k n 85 [some (.ref m), some (.int (ii (x + sumW s j g))), some (.int (ii (y + cntW s j g))), some (.int (ii (s 3))), o] [] M Q) → Go K fX6_meanWait 2 k n 11 [some (.ref m), some (.int (ii x)), some (.int (ii y)), some (.int (ii g)), o] [] M Q := by
  intro j
  induction j with
  | zero =>
    intro g x y o e h0 _ h
    obtain rfl : g = s 3 := by omega
    have h := h o
    rw [show sumW s 0 (s 3) = 0 from rfl, show cntW s 0 (s 3) = 0 from rfl, Int.add_zero, Int.add_zero] at h
    refine g_iload3 12 dX6_meanWait_11 rfl ?_
    refine g_aload0 13 (by first | exact rv_r | exact rv_n | assumption | exact rv_f) dX6_meanWait_12 rfl ?_
    refine g_getf 16 dX6_meanWait_13 rfl fl_X6_7 hT.t (hT.f0) ?_
    refine g_iconst 17 dX6_meanWait_16 rfl ?_
    refine g_iald 18 dX6_meanWait_17 rfl hT.a0 (by omega) (by omega) (by omega) (hT.e0 (by omega) (by omega)) ?_
    refine g_icmp_ge 85 21 dX6_meanWait_18 rfl rfl (by first | exact hT.r _ | exact hT.rT _ _ | exact inP_r | omega) (by first | exact hT.r _ | exact hT.rT _ _ | exact inP_r | omega) (fun c18 => ?_) (fun c18 => ?_)
    · exact h
    · omega
  | succ j ih =>
    intro g x y o e h0 _ h
    unfold sumW cntW at h
    by_cases q : s (17 + 5 * g + 2) = 1 ∨ s (17 + 5 * g + 2) = 2
    · rw [if_pos q, if_pos q, ← Int.add_assoc, ← Int.add_assoc] at h
      refine g_iload3 12 dX6_meanWait_11 rfl ?_
      refine g_aload0 13 (by first | exact rv_r | exact rv_n | assumption | exact rv_f) dX6_meanWait_12 rfl ?_
      refine g_getf 16 dX6_meanWait_13 rfl fl_X6_7 hT.t (hT.f0) ?_
      refine g_iconst 17 dX6_meanWait_16 rfl ?_
      refine g_iald 18 dX6_meanWait_17 rfl hT.a0 (by omega) (by omega) (by omega) (hT.e0 (by omega) (by omega)) ?_
      refine g_icmp_ge 85 21 dX6_meanWait_18 rfl rfl (by first | exact hT.r _ | exact hT.rT _ _ | exact inP_r | omega) (by first | exact hT.r _ | exact hT.rT _ _ | exact inP_r | omega) (fun c18 => ?_) (fun c18 => ?_)
      · omega
      · refine g_aload0 22 (by first | exact rv_r | exact rv_n | assumption | exact rv_f) dX6_meanWait_21 rfl ?_
        refine g_iload3 23 dX6_meanWait_22 rfl ?_
        refine g_iconst 24 dX6_meanWait_23 rfl ?_
        refine k_V2z 27 dX6_meanWait_24 rfl lk_X6_36 hT.t rfl (by first | rfl | exact rv_cat (by assumption) | exact rv_cat rv_f) (by first | rfl | exact rv_cat (by assumption) | exact rv_cat rv_f) (Nat.le_of_ble_eq_true rfl) (by first | exact Nat.le_of_ble_eq_true rfl | omega) (c_X6_guest hT (by first | assumption | omega) (by first | assumption | omega) ?_)
        refine g_iconst 28 dX6_meanWait_27 rfl ?_
        refine g_icmp_eq 41 31 dX6_meanWait_28 rfl rfl (by first | exact hT.r _ | exact hT.rT _ _ | exact inP_r | omega) (by first | exact hT.r _ | exact hT.rT _ _ | exact inP_r | omega) (fun c28 => ?_) (fun c28 => ?_)
        · refine g_iconst 42 dX6_meanWait_41 rfl ?_
          refine g_goto 46 dX6_meanWait_42 rfl ?_
          refine g_istore4 48 (Nat.le_of_ble_eq_true rfl) (by first | exact c1_0 | exact c1_i | exact c1_r | exact c1_n | exact c1_v (by assumption) | exact c1_f) dX6_meanWait_46 rfl ?_
          refine g_iload1 49 dX6_meanWait_48 rfl ?_
          refine g_iload4 51 dX6_meanWait_49 rfl ?_
          refine g_if_eq 63 54 dX6_meanWait_51 rfl rfl (by first | exact hT.r _ | exact hT.rT _ _ | exact inP_r | omega) (fun c51 => ?_) (fun c51 => ?_)
          · refine g_iconst 64 dX6_meanWait_63 rfl ?_
            refine g_iadd 65 dX6_meanWait_64 rfl ?_
            refine g_istore1 66 (Nat.le_of_ble_eq_true rfl) (by first | exact c1_0 | exact c1_i | exact c1_r | exact c1_n | exact c1_v (by assumption) | exact c1_f) dX6_meanWait_65 rfl ?_
            refine g_iload2 67 dX6_meanWait_66 rfl ?_
            refine g_iload4 69 dX6_meanWait_67 rfl ?_
            refine g_if_eq 76 72 dX6_meanWait_69 rfl rfl (by first | exact hT.r _ | exact hT.rT _ _ | exact inP_r | omega) (fun c69 => ?_) (fun c69 => ?_)
            · refine g_iconst 77 dX6_meanWait_76 rfl ?_
              refine g_iadd 78 dX6_meanWait_77 rfl ?_
              refine g_istore2 79 (Nat.le_of_ble_eq_true rfl) (by first | exact c1_0 | exact c1_i | exact c1_r | exact c1_n | exact c1_v (by assumption) | exact c1_f) dX6_meanWait_78 rfl ?_
              refine g_iinc3 82 (Nat.le_of_ble_eq_true rfl) (by first | exact c1_0 | exact c1_i | exact c1_r | exact c1_n | exact c1_v (by assumption) | exact c1_f) dX6_meanWait_79 rfl ?_
              refine g_goto 11 dX6_meanWait_82 rfl ?_
              first | omega | exact ih _ _ _ _ (by omega) (by omega) (h _) h
            · refine g_iconst 73 dX6_meanWait_72 rfl ?_
              refine g_goto 77 dX6_meanWait_73 rfl ?_
              refine g_iadd 78 dX6_meanWait_77 rfl ?_
              refine g_istore2 79 (Nat.le_of_ble_eq_true rfl) (by first | exact c1_0 | exact c1_i | exact c1_r | exact c1_n | exact c1_v (by assumption) | exact c1_f) dX6_meanWait_78 rfl ?_
              refine g_iinc3 82 (Nat.le_of_ble_eq_true rfl) (by first | exact c1_0 | exact c1_i | exact c1_r | exact c1_n | exact c1_v (by assumption) | exact c1_f) dX6_meanWait_79 rfl ?_
              refine g_goto 11 dX6_meanWait_82 rfl ?_
              first | omega | exact ih _ _ _ _ (by omega) (by omega) (h _) h
          · refine g_aload0 55 (by first | exact rv_r | exact rv_n | assumption | exact rv_f) dX6_meanWait_54 rfl ?_
            refine g_iload3 56 dX6_meanWait_55 rfl ?_
            refine g_iconst 57 dX6_meanWait_56 rfl ?_
            refine k_V2z 60 dX6_meanWait_57 rfl lk_X6_36 hT.t rfl (by first | rfl | exact rv_cat (by assumption) | exact rv_cat rv_f) (by first | rfl | exact rv_cat (by assumption) | exact rv_cat rv_f) (Nat.le_of_ble_eq_true rfl) (by first | exact Nat.le_of_ble_eq_true rfl | omega) (c_X6_guest hT (by first | assumption | omega) (by first | assumption | omega) ?_)
            refine g_goto 64 dX6_meanWait_60 rfl ?_
            refine g_iadd 65 dX6_meanWait_64 rfl ?_
            refine g_istore1 66 (Nat.le_of_ble_eq_true rfl) (by first | exact c1_0 | exact c1_i | exact c1_r | exact c1_n | exact c1_v (by assumption) | exact c1_f) dX6_meanWait_65 rfl ?_
            refine g_iload2 67 dX6_meanWait_66 rfl ?_
            refine g_iload4 69 dX6_meanWait_67 rfl ?_
            refine g_if_eq 76 72 dX6_meanWait_69 rfl rfl (by first | exact hT.r _ | exact hT.rT _ _ | exact inP_r | omega) (fun c69 => ?_) (fun c69 => ?_)
            · refine g_iconst 77 dX6_meanWait_76 rfl ?_
              refine g_iadd 78 dX6_meanWait_77 rfl ?_
              refine g_istore2 79 (Nat.le_of_ble_eq_true rfl) (by first | exact c1_0 | exact c1_i | exact c1_r | exact c1_n | exact c1_v (by assumption) | exact c1_f) dX6_meanWait_78 rfl ?_
              refine g_iinc3 82 (Nat.le_of_ble_eq_true rfl) (by first | exact c1_0 | exact c1_i | exact c1_r | exact c1_n | exact c1_v (by assumption) | exact c1_f) dX6_meanWait_79 rfl ?_
              refine g_goto 11 dX6_meanWait_82 rfl ?_
              first | omega | exact ih _ _ _ _ (by omega) (by omega) (h _) h
            · refine g_iconst 73 dX6_meanWait_72 rfl ?_
              refine g_goto 77 dX6_meanWait_73 rfl ?_
              refine g_iadd 78 dX6_meanWait_77 rfl ?_
              refine g_istore2 79 (Nat.le_of_ble_eq_true rfl) (by first | exact c1_0 | exact c1_i | exact c1_r | exact c1_n | exact c1_v (by assumption) | exact c1_f) dX6_meanWait_78 rfl ?_
              refine g_iinc3 82 (Nat.le_of_ble_eq_true rfl) (by first | exact c1_0 | exact c1_i | exact c1_r | exact c1_n | exact c1_v (by assumption) | exact c1_f) dX6_meanWait_79 rfl ?_
              refine g_goto 11 dX6_meanWait_82 rfl ?_
              first | omega | exact ih _ _ _ _ (by omega) (by omega) (h _) h
        · refine g_aload0 32 (by first | exact rv_r | exact rv_n | assumption | exact rv_f) dX6_meanWait_31 rfl ?_
          refine g_iload3 33 dX6_meanWait_32 rfl ?_
          refine g_iconst 34 dX6_meanWait_33 rfl ?_
          refine k_V2z 37 dX6_meanWait_34 rfl lk_X6_36 hT.t rfl (by first | rfl | exact rv_cat (by assumption) | exact rv_cat rv_f) (by first | rfl | exact rv_cat (by assumption) | exact rv_cat rv_f) (Nat.le_of_ble_eq_true rfl) (by first | exact Nat.le_of_ble_eq_true rfl | omega) (c_X6_guest hT (by first | assumption | omega) (by first | assumption | omega) ?_)
          refine g_iconst 38 dX6_meanWait_37 rfl ?_
          refine g_icmp_ne 45 41 dX6_meanWait_38 rfl rfl (by first | exact hT.r _ | exact hT.rT _ _ | exact inP_r | omega) (by first | exact hT.r _ | exact hT.rT _ _ | exact inP_r | omega) (fun c38 => ?_) (fun c38 => ?_)
          · refine g_iconst 46 dX6_meanWait_45 rfl ?_
            refine g_istore4 48 (Nat.le_of_ble_eq_true rfl) (by first | exact c1_0 | exact c1_i | exact c1_r | exact c1_n | exact c1_v (by assumption) | exact c1_f) dX6_meanWait_46 rfl ?_
            refine g_iload1 49 dX6_meanWait_48 rfl ?_
            refine g_iload4 51 dX6_meanWait_49 rfl ?_
            refine g_if_eq 63 54 dX6_meanWait_51 rfl rfl (by first | exact hT.r _ | exact hT.rT _ _ | exact inP_r | omega) (fun c51 => ?_) (fun c51 => ?_)
            · refine g_iconst 64 dX6_meanWait_63 rfl ?_
              refine g_iadd 65 dX6_meanWait_64 rfl ?_
              refine g_istore1 66 (Nat.le_of_ble_eq_true rfl) (by first | exact c1_0 | exact c1_i | exact c1_r | exact c1_n | exact c1_v (by assumption) | exact c1_f) dX6_meanWait_65 rfl ?_
              refine g_iload2 67 dX6_meanWait_66 rfl ?_
              refine g_iload4 69 dX6_meanWait_67 rfl ?_
              refine g_if_eq 76 72 dX6_meanWait_69 rfl rfl (by first | exact hT.r _ | exact hT.rT _ _ | exact inP_r | omega) (fun c69 => ?_) (fun c69 => ?_)
              · refine g_iconst 77 dX6_meanWait_76 rfl ?_
                refine g_iadd 78 dX6_meanWait_77 rfl ?_
                refine g_istore2 79 (Nat.le_of_ble_eq_true rfl) (by first | exact c1_0 | exact c1_i | exact c1_r | exact c1_n | exact c1_v (by assumption) | exact c1_f) dX6_meanWait_78 rfl ?_
                refine g_iinc3 82 (Nat.le_of_ble_eq_true rfl) (by first | exact c1_0 | exact c1_i | exact c1_r | exact c1_n | exact c1_v (by assumption) | exact c1_f) dX6_meanWait_79 rfl ?_
                refine g_goto 11 dX6_meanWait_82 rfl ?_
                first | omega | exact ih _ _ _ _ (by omega) (by omega) (h _) h
              · refine g_iconst 73 dX6_meanWait_72 rfl ?_
                refine g_goto 77 dX6_meanWait_73 rfl ?_
                refine g_iadd 78 dX6_meanWait_77 rfl ?_
                refine g_istore2 79 (Nat.le_of_ble_eq_true rfl) (by first | exact c1_0 | exact c1_i | exact c1_r | exact c1_n | exact c1_v (by assumption) | exact c1_f) dX6_meanWait_78 rfl ?_
                refine g_iinc3 82 (Nat.le_of_ble_eq_true rfl) (by first | exact c1_0 | exact c1_i | exact c1_r | exact c1_n | exact c1_v (by assumption) | exact c1_f) dX6_meanWait_79 rfl ?_
                refine g_goto 11 dX6_meanWait_82 rfl ?_
                first | omega | exact ih _ _ _ _ (by omega) (by omega) (h _) h
            · refine g_aload0 55 (by first | exact rv_r | exact rv_n | assumption | exact rv_f) dX6_meanWait_54 rfl ?_
              refine g_iload3 56 dX6_meanWait_55 rfl ?_
              refine g_iconst 57 dX6_meanWait_56 rfl ?_
              refine k_V2z 60 dX6_meanWait_57 rfl lk_X6_36 hT.t rfl (by first | rfl | exact rv_cat (by assumption) | exact rv_cat rv_f) (by first | rfl | exact rv_cat (by assumption) | exact rv_cat rv_f) (Nat.le_of_ble_eq_true rfl) (by first | exact Nat.le_of_ble_eq_true rfl | omega) (c_X6_guest hT (by first | assumption | omega) (by first | assumption | omega) ?_)
              refine g_goto 64 dX6_meanWait_60 rfl ?_
              refine g_iadd 65 dX6_meanWait_64 rfl ?_
              refine g_istore1 66 (Nat.le_of_ble_eq_true rfl) (by first | exact c1_0 | exact c1_i | exact c1_r | exact c1_n | exact c1_v (by assumption) | exact c1_f) dX6_meanWait_65 rfl ?_
              refine g_iload2 67 dX6_meanWait_66 rfl ?_
              refine g_iload4 69 dX6_meanWait_67 rfl ?_
              refine g_if_eq 76 72 dX6_meanWait_69 rfl rfl (by first | exact hT.r _ | exact hT.rT _ _ | exact inP_r | omega) (fun c69 => ?_) (fun c69 => ?_)
              · refine g_iconst 77 dX6_meanWait_76 rfl ?_
                refine g_iadd 78 dX6_meanWait_77 rfl ?_
                refine g_istore2 79 (Nat.le_of_ble_eq_true rfl) (by first | exact c1_0 | exact c1_i | exact c1_r | exact c1_n | exact c1_v (by assumption) | exact c1_f) dX6_meanWait_78 rfl ?_
                refine g_iinc3 82 (Nat.le_of_ble_eq_true rfl) (by first | exact c1_0 | exact c1_i | exact c1_r | exact c1_n | exact c1_v (by assumption) | exact c1_f) dX6_meanWait_79 rfl ?_
                refine g_goto 11 dX6_meanWait_82 rfl ?_
                first | omega | exact ih _ _ _ _ (by omega) (by omega) (h _) h
              · refine g_iconst 73 dX6_meanWait_72 rfl ?_
                refine g_goto 77 dX6_meanWait_73 rfl ?_
                refine g_iadd 78 dX6_meanWait_77 rfl ?_
                refine g_istore2 79 (Nat.le_of_ble_eq_true rfl) (by first | exact c1_0 | exact c1_i | exact c1_r | exact c1_n | exact c1_v (by assumption) | exact c1_f) dX6_meanWait_78 rfl ?_
                refine g_iinc3 82 (Nat.le_of_ble_eq_true rfl) (by first | exact c1_0 | exact c1_i | exact c1_r | exact c1_n | exact c1_v (by assumption) | exact c1_f) dX6_meanWait_79 rfl ?_
                refine g_goto 11 dX6_meanWait_82 rfl ?_
                first | omega | exact ih _ _ _ _ (by omega) (by omega) (h _) h
          · refine g_iconst 42 dX6_meanWait_41 rfl ?_
            refine g_goto 46 dX6_meanWait_42 rfl ?_
            refine g_istore4 48 (Nat.le_of_ble_eq_true rfl) (by first | exact c1_0 | exact c1_i | exact c1_r | exact c1_n | exact c1_v (by assumption) | exact c1_f) dX6_meanWait_46 rfl ?_
            refine g_iload1 49 dX6_meanWait_48 rfl ?_
            refine g_iload4 51 dX6_meanWait_49 rfl ?_
            refine g_if_eq 63 54 dX6_meanWait_51 rfl rfl (by first | exact hT.r _ | exact hT.rT _ _ | exact inP_r | omega) (fun c51 => ?_) (fun c51 => ?_)
            · refine g_iconst 64 dX6_meanWait_63 rfl ?_
              refine g_iadd 65 dX6_meanWait_64 rfl ?_
              refine g_istore1 66 (Nat.le_of_ble_eq_true rfl) (by first | exact c1_0 | exact c1_i | exact c1_r | exact c1_n | exact c1_v (by assumption) | exact c1_f) dX6_meanWait_65 rfl ?_
              refine g_iload2 67 dX6_meanWait_66 rfl ?_
              refine g_iload4 69 dX6_meanWait_67 rfl ?_
              refine g_if_eq 76 72 dX6_meanWait_69 rfl rfl (by first | exact hT.r _ | exact hT.rT _ _ | exact inP_r | omega) (fun c69 => ?_) (fun c69 => ?_)
              · refine g_iconst 77 dX6_meanWait_76 rfl ?_
                refine g_iadd 78 dX6_meanWait_77 rfl ?_
                refine g_istore2 79 (Nat.le_of_ble_eq_true rfl) (by first | exact c1_0 | exact c1_i | exact c1_r | exact c1_n | exact c1_v (by assumption) | exact c1_f) dX6_meanWait_78 rfl ?_
                refine g_iinc3 82 (Nat.le_of_ble_eq_true rfl) (by first | exact c1_0 | exact c1_i | exact c1_r | exact c1_n | exact c1_v (by assumption) | exact c1_f) dX6_meanWait_79 rfl ?_
                refine g_goto 11 dX6_meanWait_82 rfl ?_
                first | omega | exact ih _ _ _ _ (by omega) (by omega) (h _) h
              · refine g_iconst 73 dX6_meanWait_72 rfl ?_
                refine g_goto 77 dX6_meanWait_73 rfl ?_
                refine g_iadd 78 dX6_meanWait_77 rfl ?_
                refine g_istore2 79 (Nat.le_of_ble_eq_true rfl) (by first | exact c1_0 | exact c1_i | exact c1_r | exact c1_n | exact c1_v (by assumption) | exact c1_f) dX6_meanWait_78 rfl ?_
                refine g_iinc3 82 (Nat.le_of_ble_eq_true rfl) (by first | exact c1_0 | exact c1_i | exact c1_r | exact c1_n | exact c1_v (by assumption) | exact c1_f) dX6_meanWait_79 rfl ?_
                refine g_goto 11 dX6_meanWait_82 rfl ?_
                first | omega | exact ih _ _ _ _ (by omega) (by omega) (h _) h
            · refine g_aload0 55 (by first | exact rv_r | exact rv_n | assumption | exact rv_f) dX6_meanWait_54 rfl ?_
              refine g_iload3 56 dX6_meanWait_55 rfl ?_
              refine g_iconst 57 dX6_meanWait_56 rfl ?_
              refine k_V2z 60 dX6_meanWait_57 rfl lk_X6_36 hT.t rfl (by first | rfl | exact rv_cat (by assumption) | exact rv_cat rv_f) (by first | rfl | exact rv_cat (by assumption) | exact rv_cat rv_f) (Nat.le_of_ble_eq_true rfl) (by first | exact Nat.le_of_ble_eq_true rfl | omega) (c_X6_guest hT (by first | assumption | omega) (by first | assumption | omega) ?_)
              refine g_goto 64 dX6_meanWait_60 rfl ?_
              refine g_iadd 65 dX6_meanWait_64 rfl ?_
              refine g_istore1 66 (Nat.le_of_ble_eq_true rfl) (by first | exact c1_0 | exact c1_i | exact c1_r | exact c1_n | exact c1_v (by assumption) | exact c1_f) dX6_meanWait_65 rfl ?_
              refine g_iload2 67 dX6_meanWait_66 rfl ?_
              refine g_iload4 69 dX6_meanWait_67 rfl ?_
              refine g_if_eq 76 72 dX6_meanWait_69 rfl rfl (by first | exact hT.r _ | exact hT.rT _ _ | exact inP_r | omega) (fun c69 => ?_) (fun c69 => ?_)
              · refine g_iconst 77 dX6_meanWait_76 rfl ?_
                refine g_iadd 78 dX6_meanWait_77 rfl ?_
                refine g_istore2 79 (Nat.le_of_ble_eq_true rfl) (by first | exact c1_0 | exact c1_i | exact c1_r | exact c1_n | exact c1_v (by assumption) | exact c1_f) dX6_meanWait_78 rfl ?_
                refine g_iinc3 82 (Nat.le_of_ble_eq_true rfl) (by first | exact c1_0 | exact c1_i | exact c1_r | exact c1_n | exact c1_v (by assumption) | exact c1_f) dX6_meanWait_79 rfl ?_
                refine g_goto 11 dX6_meanWait_82 rfl ?_
                first | omega | exact ih _ _ _ _ (by omega) (by omega) (h _) h
              · refine g_iconst 73 dX6_meanWait_72 rfl ?_
                refine g_goto 77 dX6_meanWait_73 rfl ?_
                refine g_iadd 78 dX6_meanWait_77 rfl ?_
                refine g_istore2 79 (Nat.le_of_ble_eq_true rfl) (by first | exact c1_0 | exact c1_i | exact c1_r | exact c1_n | exact c1_v (by assumption) | exact c1_f) dX6_meanWait_78 rfl ?_
                refine g_iinc3 82 (Nat.le_of_ble_eq_true rfl) (by first | exact c1_0 | exact c1_i | exact c1_r | exact c1_n | exact c1_v (by assumption) | exact c1_f) dX6_meanWait_79 rfl ?_
                refine g_goto 11 dX6_meanWait_82 rfl ?_
                first | omega | exact ih _ _ _ _ (by omega) (by omega) (h _) h
    · rw [if_neg q, if_neg q, ← Int.add_assoc, ← Int.add_assoc] at h
      refine g_iload3 12 dX6_meanWait_11 rfl ?_
      refine g_aload0 13 (by first | exact rv_r | exact rv_n | assumption | exact rv_f) dX6_meanWait_12 rfl ?_
      refine g_getf 16 dX6_meanWait_13 rfl fl_X6_7 hT.t (hT.f0) ?_
      refine g_iconst 17 dX6_meanWait_16 rfl ?_
      refine g_iald 18 dX6_meanWait_17 rfl hT.a0 (by omega) (by omega) (by omega) (hT.e0 (by omega) (by omega)) ?_
      refine g_icmp_ge 85 21 dX6_meanWait_18 rfl rfl (by first | exact hT.r _ | exact hT.rT _ _ | exact inP_r | omega) (by first | exact hT.r _ | exact hT.rT _ _ | exact inP_r | omega) (fun c18 => ?_) (fun c18 => ?_)
      · omega
      · refine g_aload0 22 (by first | exact rv_r | exact rv_n | assumption | exact rv_f) dX6_meanWait_21 rfl ?_
        refine g_iload3 23 dX6_meanWait_22 rfl ?_
        refine g_iconst 24 dX6_meanWait_23 rfl ?_
        refine k_V2z 27 dX6_meanWait_24 rfl lk_X6_36 hT.t rfl (by first | rfl | exact rv_cat (by assumption) | exact rv_cat rv_f) (by first | rfl | exact rv_cat (by assumption) | exact rv_cat rv_f) (Nat.le_of_ble_eq_true rfl) (by first | exact Nat.le_of_ble_eq_true rfl | omega) (c_X6_guest hT (by first | assumption | omega) (by first | assumption | omega) ?_)
        refine g_iconst 28 dX6_meanWait_27 rfl ?_
        refine g_icmp_eq 41 31 dX6_meanWait_28 rfl rfl (by first | exact hT.r _ | exact hT.rT _ _ | exact inP_r | omega) (by first | exact hT.r _ | exact hT.rT _ _ | exact inP_r | omega) (fun c28 => ?_) (fun c28 => ?_)
        · refine g_iconst 42 dX6_meanWait_41 rfl ?_
          refine g_goto 46 dX6_meanWait_42 rfl ?_
          refine g_istore4 48 (Nat.le_of_ble_eq_true rfl) (by first | exact c1_0 | exact c1_i | exact c1_r | exact c1_n | exact c1_v (by assumption) | exact c1_f) dX6_meanWait_46 rfl ?_
          refine g_iload1 49 dX6_meanWait_48 rfl ?_
          refine g_iload4 51 dX6_meanWait_49 rfl ?_
          refine g_if_eq 63 54 dX6_meanWait_51 rfl rfl (by first | exact hT.r _ | exact hT.rT _ _ | exact inP_r | omega) (fun c51 => ?_) (fun c51 => ?_)
          · refine g_iconst 64 dX6_meanWait_63 rfl ?_
            refine g_iadd 65 dX6_meanWait_64 rfl ?_
            refine g_istore1 66 (Nat.le_of_ble_eq_true rfl) (by first | exact c1_0 | exact c1_i | exact c1_r | exact c1_n | exact c1_v (by assumption) | exact c1_f) dX6_meanWait_65 rfl ?_
            refine g_iload2 67 dX6_meanWait_66 rfl ?_
            refine g_iload4 69 dX6_meanWait_67 rfl ?_
            refine g_if_eq 76 72 dX6_meanWait_69 rfl rfl (by first | exact hT.r _ | exact hT.rT _ _ | exact inP_r | omega) (fun c69 => ?_) (fun c69 => ?_)
            · refine g_iconst 77 dX6_meanWait_76 rfl ?_
              refine g_iadd 78 dX6_meanWait_77 rfl ?_
              refine g_istore2 79 (Nat.le_of_ble_eq_true rfl) (by first | exact c1_0 | exact c1_i | exact c1_r | exact c1_n | exact c1_v (by assumption) | exact c1_f) dX6_meanWait_78 rfl ?_
              refine g_iinc3 82 (Nat.le_of_ble_eq_true rfl) (by first | exact c1_0 | exact c1_i | exact c1_r | exact c1_n | exact c1_v (by assumption) | exact c1_f) dX6_meanWait_79 rfl ?_
              refine g_goto 11 dX6_meanWait_82 rfl ?_
              first | omega | exact ih _ _ _ _ (by omega) (by omega) (h _) h
            · refine g_iconst 73 dX6_meanWait_72 rfl ?_
              refine g_goto 77 dX6_meanWait_73 rfl ?_
              refine g_iadd 78 dX6_meanWait_77 rfl ?_
              refine g_istore2 79 (Nat.le_of_ble_eq_true rfl) (by first | exact c1_0 | exact c1_i | exact c1_r | exact c1_n | exact c1_v (by assumption) | exact c1_f) dX6_meanWait_78 rfl ?_
              refine g_iinc3 82 (Nat.le_of_ble_eq_true rfl) (by first | exact c1_0 | exact c1_i | exact c1_r | exact c1_n | exact c1_v (by assumption) | exact c1_f) dX6_meanWait_79 rfl ?_
              refine g_goto 11 dX6_meanWait_82 rfl ?_
              first | omega | exact ih _ _ _ _ (by omega) (by omega) (h _) h
          · refine g_aload0 55 (by first | exact rv_r | exact rv_n | assumption | exact rv_f) dX6_meanWait_54 rfl ?_
            refine g_iload3 56 dX6_meanWait_55 rfl ?_
            refine g_iconst 57 dX6_meanWait_56 rfl ?_
            refine k_V2z 60 dX6_meanWait_57 rfl lk_X6_36 hT.t rfl (by first | rfl | exact rv_cat (by assumption) | exact rv_cat rv_f) (by first | rfl | exact rv_cat (by assumption) | exact rv_cat rv_f) (Nat.le_of_ble_eq_true rfl) (by first | exact Nat.le_of_ble_eq_true rfl | omega) (c_X6_guest hT (by first | assumption | omega) (by first | assumption | omega) ?_)
            refine g_goto 64 dX6_meanWait_60 rfl ?_
            refine g_iadd 65 dX6_meanWait_64 rfl ?_
            refine g_istore1 66 (Nat.le_of_ble_eq_true rfl) (by first | exact c1_0 | exact c1_i | exact c1_r | exact c1_n | exact c1_v (by assumption) | exact c1_f) dX6_meanWait_65 rfl ?_
            refine g_iload2 67 dX6_meanWait_66 rfl ?_
            refine g_iload4 69 dX6_meanWait_67 rfl ?_
            refine g_if_eq 76 72 dX6_meanWait_69 rfl rfl (by first | exact hT.r _ | exact hT.rT _ _ | exact inP_r | omega) (fun c69 => ?_) (fun c69 => ?_)
            · refine g_iconst 77 dX6_meanWait_76 rfl ?_
              refine g_iadd 78 dX6_meanWait_77 rfl ?_
              refine g_istore2 79 (Nat.le_of_ble_eq_true rfl) (by first | exact c1_0 | exact c1_i | exact c1_r | exact c1_n | exact c1_v (by assumption) | exact c1_f) dX6_meanWait_78 rfl ?_
              refine g_iinc3 82 (Nat.le_of_ble_eq_true rfl) (by first | exact c1_0 | exact c1_i | exact c1_r | exact c1_n | exact c1_v (by assumption) | exact c1_f) dX6_meanWait_79 rfl ?_
              refine g_goto 11 dX6_meanWait_82 rfl ?_
              first | omega | exact ih _ _ _ _ (by omega) (by omega) (h _) h
            · refine g_iconst 73 dX6_meanWait_72 rfl ?_
              refine g_goto 77 dX6_meanWait_73 rfl ?_
              refine g_iadd 78 dX6_meanWait_77 rfl ?_
              refine g_istore2 79 (Nat.le_of_ble_eq_true rfl) (by first | exact c1_0 | exact c1_i | exact c1_r | exact c1_n | exact c1_v (by assumption) | exact c1_f) dX6_meanWait_78 rfl ?_
              refine g_iinc3 82 (Nat.le_of_ble_eq_true rfl) (by first | exact c1_0 | exact c1_i | exact c1_r | exact c1_n | exact c1_v (by assumption) | exact c1_f) dX6_meanWait_79 rfl ?_
              refine g_goto 11 dX6_meanWait_82 rfl ?_
              first | omega | exact ih _ _ _ _ (by omega) (by omega) (h _) h
        · refine g_aload0 32 (by first | exact rv_r | exact rv_n | assumption | exact rv_f) dX6_meanWait_31 rfl ?_
          refine g_iload3 33 dX6_meanWait_32 rfl ?_
          refine g_iconst 34 dX6_meanWait_33 rfl ?_
          refine k_V2z 37 dX6_meanWait_34 rfl lk_X6_36 hT.t rfl (by first | rfl | exact rv_cat (by assumption) | exact rv_cat rv_f) (by first | rfl | exact rv_cat (by assumption) | exact rv_cat rv_f) (Nat.le_of_ble_eq_true rfl) (by first | exact Nat.le_of_ble_eq_true rfl | omega) (c_X6_guest hT (by first | assumption | omega) (by first | assumption | omega) ?_)
          refine g_iconst 38 dX6_meanWait_37 rfl ?_
          refine g_icmp_ne 45 41 dX6_meanWait_38 rfl rfl (by first | exact hT.r _ | exact hT.rT _ _ | exact inP_r | omega) (by first | exact hT.r _ | exact hT.rT _ _ | exact inP_r | omega) (fun c38 => ?_) (fun c38 => ?_)
          · refine g_iconst 46 dX6_meanWait_45 rfl ?_
            refine g_istore4 48 (Nat.le_of_ble_eq_true rfl) (by first | exact c1_0 | exact c1_i | exact c1_r | exact c1_n | exact c1_v (by assumption) | exact c1_f) dX6_meanWait_46 rfl ?_
            refine g_iload1 49 dX6_meanWait_48 rfl ?_
            refine g_iload4 51 dX6_meanWait_49 rfl ?_
            refine g_if_eq 63 54 dX6_meanWait_51 rfl rfl (by first | exact hT.r _ | exact hT.rT _ _ | exact inP_r | omega) (fun c51 => ?_) (fun c51 => ?_)
            · refine g_iconst 64 dX6_meanWait_63 rfl ?_
              refine g_iadd 65 dX6_meanWait_64 rfl ?_
              refine g_istore1 66 (Nat.le_of_ble_eq_true rfl) (by first | exact c1_0 | exact c1_i | exact c1_r | exact c1_n | exact c1_v (by assumption) | exact c1_f) dX6_meanWait_65 rfl ?_
              refine g_iload2 67 dX6_meanWait_66 rfl ?_
              refine g_iload4 69 dX6_meanWait_67 rfl ?_
              refine g_if_eq 76 72 dX6_meanWait_69 rfl rfl (by first | exact hT.r _ | exact hT.rT _ _ | exact inP_r | omega) (fun c69 => ?_) (fun c69 => ?_)
              · refine g_iconst 77 dX6_meanWait_76 rfl ?_
                refine g_iadd 78 dX6_meanWait_77 rfl ?_
                refine g_istore2 79 (Nat.le_of_ble_eq_true rfl) (by first | exact c1_0 | exact c1_i | exact c1_r | exact c1_n | exact c1_v (by assumption) | exact c1_f) dX6_meanWait_78 rfl ?_
                refine g_iinc3 82 (Nat.le_of_ble_eq_true rfl) (by first | exact c1_0 | exact c1_i | exact c1_r | exact c1_n | exact c1_v (by assumption) | exact c1_f) dX6_meanWait_79 rfl ?_
                refine g_goto 11 dX6_meanWait_82 rfl ?_
                first | omega | exact ih _ _ _ _ (by omega) (by omega) (h _) h
              · refine g_iconst 73 dX6_meanWait_72 rfl ?_
                refine g_goto 77 dX6_meanWait_73 rfl ?_
                refine g_iadd 78 dX6_meanWait_77 rfl ?_
                refine g_istore2 79 (Nat.le_of_ble_eq_true rfl) (by first | exact c1_0 | exact c1_i | exact c1_r | exact c1_n | exact c1_v (by assumption) | exact c1_f) dX6_meanWait_78 rfl ?_
                refine g_iinc3 82 (Nat.le_of_ble_eq_true rfl) (by first | exact c1_0 | exact c1_i | exact c1_r | exact c1_n | exact c1_v (by assumption) | exact c1_f) dX6_meanWait_79 rfl ?_
                refine g_goto 11 dX6_meanWait_82 rfl ?_
                first | omega | exact ih _ _ _ _ (by omega) (by omega) (h _) h
            · refine g_aload0 55 (by first | exact rv_r | exact rv_n | assumption | exact rv_f) dX6_meanWait_54 rfl ?_
              refine g_iload3 56 dX6_meanWait_55 rfl ?_
              refine g_iconst 57 dX6_meanWait_56 rfl ?_
              refine k_V2z 60 dX6_meanWait_57 rfl lk_X6_36 hT.t rfl (by first | rfl | exact rv_cat (by assumption) | exact rv_cat rv_f) (by first | rfl | exact rv_cat (by assumption) | exact rv_cat rv_f) (Nat.le_of_ble_eq_true rfl) (by first | exact Nat.le_of_ble_eq_true rfl | omega) (c_X6_guest hT (by first | assumption | omega) (by first | assumption | omega) ?_)
              refine g_goto 64 dX6_meanWait_60 rfl ?_
              refine g_iadd 65 dX6_meanWait_64 rfl ?_
              refine g_istore1 66 (Nat.le_of_ble_eq_true rfl) (by first | exact c1_0 | exact c1_i | exact c1_r | exact c1_n | exact c1_v (by assumption) | exact c1_f) dX6_meanWait_65 rfl ?_
              refine g_iload2 67 dX6_meanWait_66 rfl ?_
              refine g_iload4 69 dX6_meanWait_67 rfl ?_
              refine g_if_eq 76 72 dX6_meanWait_69 rfl rfl (by first | exact hT.r _ | exact hT.rT _ _ | exact inP_r | omega) (fun c69 => ?_) (fun c69 => ?_)
              · refine g_iconst 77 dX6_meanWait_76 rfl ?_
                refine g_iadd 78 dX6_meanWait_77 rfl ?_
                refine g_istore2 79 (Nat.le_of_ble_eq_true rfl) (by first | exact c1_0 | exact c1_i | exact c1_r | exact c1_n | exact c1_v (by assumption) | exact c1_f) dX6_meanWait_78 rfl ?_
                refine g_iinc3 82 (Nat.le_of_ble_eq_true rfl) (by first | exact c1_0 | exact c1_i | exact c1_r | exact c1_n | exact c1_v (by assumption) | exact c1_f) dX6_meanWait_79 rfl ?_
                refine g_goto 11 dX6_meanWait_82 rfl ?_
                first | omega | exact ih _ _ _ _ (by omega) (by omega) (h _) h
              · refine g_iconst 73 dX6_meanWait_72 rfl ?_
                refine g_goto 77 dX6_meanWait_73 rfl ?_
                refine g_iadd 78 dX6_meanWait_77 rfl ?_
                refine g_istore2 79 (Nat.le_of_ble_eq_true rfl) (by first | exact c1_0 | exact c1_i | exact c1_r | exact c1_n | exact c1_v (by assumption) | exact c1_f) dX6_meanWait_78 rfl ?_
                refine g_iinc3 82 (Nat.le_of_ble_eq_true rfl) (by first | exact c1_0 | exact c1_i | exact c1_r | exact c1_n | exact c1_v (by assumption) | exact c1_f) dX6_meanWait_79 rfl ?_
                refine g_goto 11 dX6_meanWait_82 rfl ?_
                first | omega | exact ih _ _ _ _ (by omega) (by omega) (h _) h
          · refine g_iconst 42 dX6_meanWait_41 rfl ?_
            refine g_goto 46 dX6_meanWait_42 rfl ?_
            refine g_istore4 48 (Nat.le_of_ble_eq_true rfl) (by first | exact c1_0 | exact c1_i | exact c1_r | exact c1_n | exact c1_v (by assumption) | exact c1_f) dX6_meanWait_46 rfl ?_
            refine g_iload1 49 dX6_meanWait_48 rfl ?_
            refine g_iload4 51 dX6_meanWait_49 rfl ?_
            refine g_if_eq 63 54 dX6_meanWait_51 rfl rfl (by first | exact hT.r _ | exact hT.rT _ _ | exact inP_r | omega) (fun c51 => ?_) (fun c51 => ?_)
            · refine g_iconst 64 dX6_meanWait_63 rfl ?_
              refine g_iadd 65 dX6_meanWait_64 rfl ?_
              refine g_istore1 66 (Nat.le_of_ble_eq_true rfl) (by first | exact c1_0 | exact c1_i | exact c1_r | exact c1_n | exact c1_v (by assumption) | exact c1_f) dX6_meanWait_65 rfl ?_
              refine g_iload2 67 dX6_meanWait_66 rfl ?_
              refine g_iload4 69 dX6_meanWait_67 rfl ?_
              refine g_if_eq 76 72 dX6_meanWait_69 rfl rfl (by first | exact hT.r _ | exact hT.rT _ _ | exact inP_r | omega) (fun c69 => ?_) (fun c69 => ?_)
              · refine g_iconst 77 dX6_meanWait_76 rfl ?_
                refine g_iadd 78 dX6_meanWait_77 rfl ?_
                refine g_istore2 79 (Nat.le_of_ble_eq_true rfl) (by first | exact c1_0 | exact c1_i | exact c1_r | exact c1_n | exact c1_v (by assumption) | exact c1_f) dX6_meanWait_78 rfl ?_
                refine g_iinc3 82 (Nat.le_of_ble_eq_true rfl) (by first | exact c1_0 | exact c1_i | exact c1_r | exact c1_n | exact c1_v (by assumption) | exact c1_f) dX6_meanWait_79 rfl ?_
                refine g_goto 11 dX6_meanWait_82 rfl ?_
                first | omega | exact ih _ _ _ _ (by omega) (by omega) (h _) h
              · refine g_iconst 73 dX6_meanWait_72 rfl ?_
                refine g_goto 77 dX6_meanWait_73 rfl ?_
                refine g_iadd 78 dX6_meanWait_77 rfl ?_
                refine g_istore2 79 (Nat.le_of_ble_eq_true rfl) (by first | exact c1_0 | exact c1_i | exact c1_r | exact c1_n | exact c1_v (by assumption) | exact c1_f) dX6_meanWait_78 rfl ?_
                refine g_iinc3 82 (Nat.le_of_ble_eq_true rfl) (by first | exact c1_0 | exact c1_i | exact c1_r | exact c1_n | exact c1_v (by assumption) | exact c1_f) dX6_meanWait_79 rfl ?_
                refine g_goto 11 dX6_meanWait_82 rfl ?_
                first | omega | exact ih _ _ _ _ (by omega) (by omega) (h _) h
            · refine g_aload0 55 (by first | exact rv_r | exact rv_n | assumption | exact rv_f) dX6_meanWait_54 rfl ?_
              refine g_iload3 56 dX6_meanWait_55 rfl ?_
              refine g_iconst 57 dX6_meanWait_56 rfl ?_
              refine k_V2z 60 dX6_meanWait_57 rfl lk_X6_36 hT.t rfl (by first | rfl | exact rv_cat (by assumption) | exact rv_cat rv_f) (by first | rfl | exact rv_cat (by assumption) | exact rv_cat rv_f) (Nat.le_of_ble_eq_true rfl) (by first | exact Nat.le_of_ble_eq_true rfl | omega) (c_X6_guest hT (by first | assumption | omega) (by first | assumption | omega) ?_)
              refine g_goto 64 dX6_meanWait_60 rfl ?_
              refine g_iadd 65 dX6_meanWait_64 rfl ?_
              refine g_istore1 66 (Nat.le_of_ble_eq_true rfl) (by first | exact c1_0 | exact c1_i | exact c1_r | exact c1_n | exact c1_v (by assumption) | exact c1_f) dX6_meanWait_65 rfl ?_
              refine g_iload2 67 dX6_meanWait_66 rfl ?_
              refine g_iload4 69 dX6_meanWait_67 rfl ?_
              refine g_if_eq 76 72 dX6_meanWait_69 rfl rfl (by first | exact hT.r _ | exact hT.rT _ _ | exact inP_r | omega) (fun c69 => ?_) (fun c69 => ?_)
              · refine g_iconst 77 dX6_meanWait_76 rfl ?_
                refine g_iadd 78 dX6_meanWait_77 rfl ?_
                refine g_istore2 79 (Nat.le_of_ble_eq_true rfl) (by first | exact c1_0 | exact c1_i | exact c1_r | exact c1_n | exact c1_v (by assumption) | exact c1_f) dX6_meanWait_78 rfl ?_
                refine g_iinc3 82 (Nat.le_of_ble_eq_true rfl) (by first | exact c1_0 | exact c1_i | exact c1_r | exact c1_n | exact c1_v (by assumption) | exact c1_f) dX6_meanWait_79 rfl ?_
                refine g_goto 11 dX6_meanWait_82 rfl ?_
                first | omega | exact ih _ _ _ _ (by omega) (by omega) (h _) h
              · refine g_iconst 73 dX6_meanWait_72 rfl ?_
                refine g_goto 77 dX6_meanWait_73 rfl ?_
                refine g_iadd 78 dX6_meanWait_77 rfl ?_
                refine g_istore2 79 (Nat.le_of_ble_eq_true rfl) (by first | exact c1_0 | exact c1_i | exact c1_r | exact c1_n | exact c1_v (by assumption) | exact c1_f) dX6_meanWait_78 rfl ?_
                refine g_iinc3 82 (Nat.le_of_ble_eq_true rfl) (by first | exact c1_0 | exact c1_i | exact c1_r | exact c1_n | exact c1_v (by assumption) | exact c1_f) dX6_meanWait_79 rfl ?_
                refine g_goto 11 dX6_meanWait_82 rfl ?_
                first | omega | exact ih _ _ _ _ (by omega) (by omega) (h _) h
theorem c_X6_meanWait {th : Int} (hP : TP (kB K) M0 m th a M) (hV : AV a) (hQ : ∀ M', TP (kB K) M0 m 0 a M' → Q (.inl (some (.double (meanP a.1)))) M') : Go K fX6_meanWait 2 k n 0 [some (.ref m), none, none, none, none] [] M Q := by
  obtain ⟨T, hT, hA, hth⟩ := hP
  have w1 := hV.1.1.2.1
  unfold W1 at w1
  have hc := cntW_r (s := a.1) (a.1 3).toNat 0
  unfold meanP at hQ
  refine g_aload0 1 (by first | exact rv_r | exact rv_n | assumption | exact rv_f) dX6_meanWait_0 rfl ?_
  refine g_iconst 2 dX6_meanWait_1 rfl ?_
  refine w_put8 5 dX6_meanWait_2 rfl fl_X6_25 hT (fun M hT => ?_)
  refine g_iconst 6 dX6_meanWait_5 rfl ?_
  refine g_istore1 7 (Nat.le_of_ble_eq_true rfl) (by first | exact c1_0 | exact c1_i | exact c1_r | exact c1_n | exact c1_v (by assumption) | exact c1_f) dX6_meanWait_6 rfl ?_
  refine g_iconst 8 dX6_meanWait_7 rfl ?_
  refine g_istore2 9 (Nat.le_of_ble_eq_true rfl) (by first | exact c1_0 | exact c1_i | exact c1_r | exact c1_n | exact c1_v (by assumption) | exact c1_f) dX6_meanWait_8 rfl ?_
  refine g_iconst 10 dX6_meanWait_9 rfl ?_
  refine g_istore3 11 (Nat.le_of_ble_eq_true rfl) (by first | exact c1_0 | exact c1_i | exact c1_r | exact c1_n | exact c1_v (by assumption) | exact c1_f) dX6_meanWait_10 rfl ?_
  have key : ∀ o, Go K fX6_meanWait 2 k n 85 [some (.ref m), some (.int (ii (0 + sumW a.1 (a.1 3).toNat 0))), some (.int (ii (0 + cntW a.1 (a.1 3).toNat 0))), some (.int (ii (a.1 3))), o] [] M Q := fun o => by
    rw [Int.zero_add, Int.zero_add]
    refine g_iload2 86 dX6_meanWait_85 rfl ?_
    refine g_if_ne 93 89 dX6_meanWait_86 rfl rfl (by first | exact hT.r _ | exact hT.rT _ _ | exact inP_r | omega) (fun c86 => ?_) (fun c86 => ?_)
    · refine g_iload1 94 dX6_meanWait_93 rfl ?_
      refine g_i2d 95 dX6_meanWait_94 rfl ?_
      refine g_iload2 96 dX6_meanWait_95 rfl ?_
      refine g_i2d 97 dX6_meanWait_96 rfl ?_
      refine g_ddiv 98 (n64_of (mean_ok (by omega))) dX6_meanWait_97 rfl ?_
      refine g_dret dX6_meanWait_98 rfl ?_
      first | (rw [if_neg (by omega)] at hQ; exact hQ _ ⟨_, hT, hA.th, by simp only [uT_at, wr0]⟩) | (rw [if_pos (by omega)] at hQ; exact hQ _ ⟨_, hT, hA.th, by simp only [uT_at, wr0]⟩)
    · refine g_dconst0 90 dX6_meanWait_89 rfl ?_
      refine g_goto 98 dX6_meanWait_90 rfl ?_
      refine g_dret dX6_meanWait_98 rfl ?_
      first | (rw [if_neg (by omega)] at hQ; exact hQ _ ⟨_, hT, hA.th, by simp only [uT_at, wr0]⟩) | (rw [if_pos (by omega)] at hQ; exact hQ _ ⟨_, hT, hA.th, by simp only [uT_at, wr0]⟩)
  exact l_mean hT (by omega) (a.1 3).toNat 0 0 0 _ (by omega) (by omega) (key _) key
end TWH
