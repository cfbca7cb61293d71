/-! ===== the twin's methods: an order; the whole text ===== -/
def canP (s : Int → Int) (k v : Int) : Int := if k < 3 then (if s 3 < 40 then 1 else 0) else if k = 3 then (if s 0 + v ≤ 9999 then 1 else 0) else if k = 4 then (if s (232 + 2 * v + 0) = 0 then 1 else 0) else if k = 5 then (if s (232 + 2 * v + 0) = 1 then 1 else 0) else (if s (240 + 10 * v + 0) = 0 then 1 else 0)
def execP (s : Int → Int) (k v : Int) : Int → Int := if k < 3 then arrivesP s k v else if k = 3 then (passAllP v.toNat s 0).1 else if k = 4 then bedsP s v else if k = 5 then standsP s v else polesP s v
/-- reading alone: place and wrong after the whole text -/
def goF (tx : List Int) : Nat → (Int × Int) → (Int × Int)
  | 0, ps => ps
  | j + 1, ps =>
    if (parseP tx ps).2.2 = 0 ∧ (parseP tx ps).2.1 < tx.length then
      (if (signP tx 59 59 (parseP tx ps).2).2.2 = 0 then goF tx j (signP tx 59 59 (parseP tx ps).2).2 else (signP tx 59 59 (parseP tx ps).2).2)
    else (parseP tx ps).2
def readP (tx : List Int) : Int × Int := goF tx 61 (0, 0)
/-- carrying out: the yard, and how many are carried out -/
def runF (tx : List Int) : Nat → (Int × Int) → (Int → Int) → Int → (Int → Int) × Int
  | 0, _, s, x => (s, x)
  | j + 1, ps, s, x =>
    if canP s (parseP tx ps).1.1 (parseP tx ps).1.2 = 0 then (s, x)
    else if (parseP tx ps).2.1 < tx.length then runF tx j (signP tx 59 59 (parseP tx ps).2).2 (execP s (parseP tx ps).1.1 (parseP tx ps).1.2) (x + 1)
    else (execP s (parseP tx ps).1.1 (parseP tx ps).1.2, x + 1)
theorem signP_lt {tx : List Int} {lo hi : Int} {ps : Int × Int} (hlo : 1 ≤ lo) : ps.1 ≤ (signP tx lo hi ps).2.1 ∧ ((signP tx lo hi ps).2.2 = 0 → (signP tx lo hi ps).2.1 = ps.1 + 1 ∧ ps.2 = 0) ∧ (ps.2 ≠ 0 → (signP tx lo hi ps).2.2 ≠ 0) := by
  by_cases q : ps.1 < tx.length ∧ ps.2 = 0
  · by_cases q2 : inP (chrP tx ps.1) lo hi = 0
    · rw [signP_b q q2]; dsimp only; omega
    · rw [signP_c q q2]; dsimp only; omega
  · rw [signP_a hlo q]; dsimp only; omega
theorem wordP_lt {tx : List Int} : ∀ (l : List Int) (ps : Int × Int), (∀ x ∈ l, 0 ≤ x) → ps.1 ≤ (wordP tx l ps).1
  | [], _, _ => Int.le_refl _
  | x :: l, ps, hx => by
    unfold wordP
    rw [List.foldl_cons]
    have a := wordP_lt (tx := tx) l (stepW tx ps x) (fun y hy => hx y (List.mem_cons_of_mem _ hy))
    unfold wordP at a
    have b : ps.1 ≤ (stepW tx ps x).1 := by
      unfold stepW
      by_cases q : x = 0
      · rw [if_pos q]; exact Int.le_refl _
      · rw [if_neg q]
        have := hx x List.mem_cons_self
        exact (signP_lt (by omega)).1
    omega
theorem kindP_lt {tx : List Int} {ps : Int × Int} (hz : (kindP tx ps).2.2 = 0) : ps.1 < (kindP tx ps).2.1 := by
  unfold kindP at hz ⊢
  dsimp only at hz ⊢
  have hi := @signP_i tx 98 119 ps (by decide)
  by_cases q : (signP tx 98 119 ps).2.2 = 0 ∧ ((signP tx 98 119 ps).1 = 101 ∨ (signP tx 98 119 ps).1 = 110 ∨ (signP tx 98 119 ps).1 = 112 ∨ (signP tx 98 119 ps).1 = 119 ∨ (signP tx 98 119 ps).1 = 98 ∨ (signP tx 98 119 ps).1 = 99)
  · rw [if_pos q] at hz ⊢
    have a := hi q.1
    have : (signP tx 98 119 ps).2.1 ≤ (kindB tx (signP tx 98 119 ps).1 (signP tx 98 119 ps).2).2.1 := by
      unfold kindB
      (repeat' split) <;> (dsimp only; exact wordP_lt _ _ (by decide))
    omega
  · rw [if_neg q] at hz
    cases hz
/-- what is wrong stays wrong -/
theorem kindP_wrong {tx : List Int} {ps : Int × Int} (h : ps.2 ≠ 0) : (kindP tx ps).2.2 ≠ 0 := by
  unfold kindP
  dsimp only
  have := (@signP_lt tx 98 119 ps (by decide)).2.2 h
  rw [if_neg (fun z => this z.1)]
  exact (by decide : (1 : Int) ≠ 0)
theorem parseP_lt {tx : List Int} {ps : Int × Int} (hz : (parseP tx ps).2.2 = 0) : ps.1 + 2 < (parseP tx ps).2.1 := by
  unfold parseP at hz ⊢
  dsimp only at hz ⊢
  have a := @kindP_lt tx ps
  generalize kindP tx ps = x at *
  have b := @signP_lt tx 32 32 x.2 (by decide)
  generalize signP tx 32 32 x.2 = y at *
  have c := @signP_lt tx (if x.1 = 3 then 49 else 48) (if x.1 = 3 then 57 else if x.1 = 6 then 50 else 51) y.2 (by split <;> omega)
  generalize signP tx (if x.1 = 3 then 49 else 48) (if x.1 = 3 then 57 else if x.1 = 6 then 50 else 51) y.2 = z at *
  have e := @signP_lt tx 48 57 z.2 (by decide)
  by_cases q : x.1 = 3 ∧ z.2.2 = 0 ∧ z.2.1 < tx.length ∧ inP (chrP tx z.2.1) 48 57 ≠ 0
  · rw [if_pos q] at hz ⊢
    dsimp only at hz ⊢
    have := e.2.1 hz
    have := c.2.1 this.2
    have := b.2.1 this.2
    have := a this.2
    omega
  · rw [if_neg q] at hz ⊢
    dsimp only at hz ⊢
    have := c.2.1 hz
    have := b.2.1 this.2
    have := a this.2
    omega
theorem parseP_k {tx : List Int} {ps : Int × Int} : (parseP tx ps).1.1 = (kindP tx ps).1 := by
  unfold parseP
  dsimp only
  generalize signP tx (if (kindP tx ps).1 = 3 then 49 else 48) (if (kindP tx ps).1 = 3 then 57 else if (kindP tx ps).1 = 6 then 50 else 51) (signP tx 32 32 (kindP tx ps).2).2 = dd
  split <;> rfl
section TWL
variable {K : KT} {k n m : Nat} {M M0 : Mem} {Q : Res → Mem → Prop} {s : Int → Int} {T T0 : Nat → Int → Int} {tx : List Int} {ps : Int × Int}
theorem l_order (hT : Tw (kB K) M0 m s T M) (hX : TXt tx T0) (hP : TX T0 ps T) (hv : PSv tx ps) {dn : Int} (h : ∀ v z T M, Tw (kB K) M0 m s T M → TX T0 (parseP tx ps).2 T → v = (parseP tx ps).1.2 → Go K fX6_order 6 k n 119 [some (.ref m), some (.int (ii dn)), some (.int (ii (parseP tx ps).1.1)), some (.int z), some (.int (ii v)), none, none] [] M Q) : Go K fX6_order 6 k n 0 [some (.ref m), some (.int (ii dn)), none, none, none, none, none] [] M Q := by
  have h60 := hX.2.1
  have k1 := kindP_v hv
  have hk := @parseP_k tx ps
  rw [hk] at h
  have b1 := signP_v (lo := 32) (hi := 32) (by decide) k1.1
  have d1 : PSv tx (signP tx (if (kindP tx ps).1 = 3 then 49 else 48) (if (kindP tx ps).1 = 3 then 57 else if (kindP tx ps).1 = 6 then 50 else 51) (signP tx 32 32 (kindP tx ps).2).2).2 := signP_v (by split <;> omega) b1
  have di := @signP_i tx (if (kindP tx ps).1 = 3 then 49 else 48) (if (kindP tx ps).1 = 3 then 57 else if (kindP tx ps).1 = 6 then 50 else 51) (signP tx 32 32 (kindP tx ps).2).2 (by split <;> omega)
  have t58 : ∀ T M, Tw (kB K) M0 m s T M → TX T0 (signP tx (if (kindP tx ps).1 = 3 then 49 else 48) (if (kindP tx ps).1 = 3 then 57 else if (kindP tx ps).1 = 6 then 50 else 51) (signP tx 32 32 (kindP tx ps).2).2).2 T → Go K fX6_order 6 k n 58 [some (.ref m), some (.int (ii dn)), some (.int (ii (kindP tx ps).1)), some (.int (ii (signP tx 32 32 (kindP tx ps).2).1)), some (.int (ii ((signP tx (if (kindP tx ps).1 = 3 then 49 else 48) (if (kindP tx ps).1 = 3 then 57 else if (kindP tx ps).1 = 6 then 50 else 51) (signP tx 32 32 (kindP tx ps).2).2).1 - 48))), none, none] [] M Q := by
    intro T M hT hP
    unfold parseP at h
    dsimp only at h
    generalize signP tx (if (kindP tx ps).1 = 3 then 49 else 48) (if (kindP tx ps).1 = 3 then 57 else if (kindP tx ps).1 = 6 then 50 else 51) (signP tx 32 32 (kindP tx ps).2).2 = d at *
    generalize (kindP tx ps).1 = kd at *
    have e7 : T 5 7 = tx.length := by rw [hP.1 _ _ (by omega)]; exact hX.1
    have e9 := hP.2.1
    have e10 := hP.2.2
    obtain ⟨v0, v1, v2⟩ := id d1
    have e4 : ∀ i : Int, 0 ≤ i → i < tx.length → T 4 i = chrP tx i := fun i h0 h1 => by rw [hP.1 _ _ (by omega)]; exact hX.at h0 h1
    have e4' : d.2.1 < tx.length → T 4 (T 5 9) = chrP tx d.2.1 := fun z => by rw [e9]; exact e4 _ v0 z
    by_cases q : kd = 3 ∧ d.2.2 = 0 ∧ d.2.1 < tx.length ∧ inP (chrP tx d.2.1) 48 57 ≠ 0
    · rw [if_pos q] at h
      have ee := e4' q.2.2.1
      have hrc : R32 (chrP tx d.2.1) := ee ▸ hT.rT _ _
      refine g_iload2 59 dX6_order_58 rfl ?_
      refine g_iconst 60 dX6_order_59 rfl ?_
      refine g_icmp_ne 119 63 dX6_order_60 rfl rfl (by first | exact hT.r _ | exact hT.rT _ _ | exact inP_r | omega) (by first | exact hT.r _ | exact hT.rT _ _ | exact inP_r | omega) (fun c60 => ?_) (fun c60 => ?_)
      · first | omega | exact h _ _ _ _ hT hP rfl
      · refine g_aload0 64 (by first | exact rv_r | exact rv_n | assumption | exact rv_f) dX6_order_63 rfl ?_
        refine g_getf 67 dX6_order_64 rfl fl_X6_182 hT.t (hT.f10) ?_
        refine g_if_ne 119 70 dX6_order_67 rfl rfl (by first | exact hT.r _ | exact hT.rT _ _ | exact inP_r | omega) (fun c67 => ?_) (fun c67 => ?_)
        · first | omega | exact h _ _ _ _ hT hP rfl
        · refine g_aload0 71 (by first | exact rv_r | exact rv_n | assumption | exact rv_f) dX6_order_70 rfl ?_
          refine g_getf 74 dX6_order_71 rfl fl_X6_179 hT.t (hT.f9) ?_
          refine g_aload0 75 (by first | exact rv_r | exact rv_n | assumption | exact rv_f) dX6_order_74 rfl ?_
          refine g_getf 78 dX6_order_75 rfl fl_X6_176 hT.t (hT.f7) ?_
          refine g_icmp_ge 119 81 dX6_order_78 rfl rfl (by first | exact hT.r _ | exact hT.rT _ _ | exact inP_r | omega) (by first | exact hT.r _ | exact hT.rT _ _ | exact inP_r | omega) (fun c78 => ?_) (fun c78 => ?_)
          · first | omega | exact h _ _ _ _ hT hP rfl
          · refine g_aload0 82 (by first | exact rv_r | exact rv_n | assumption | exact rv_f) dX6_order_81 rfl ?_
            refine g_getf 85 dX6_order_82 rfl fl_X6_22 hT.t (hT.f6) ?_
            refine g_aload0 86 (by first | exact rv_r | exact rv_n | assumption | exact rv_f) dX6_order_85 rfl ?_
            refine g_getf 89 dX6_order_86 rfl fl_X6_179 hT.t (hT.f9) ?_
            refine g_iald 90 dX6_order_89 rfl hT.a4 (by omega) (by omega) (by omega) (hT.e4 (by omega) (by omega)) ?_
            refine g_bipush 92 (by rfl) dX6_order_90 rfl ?_
            refine g_bipush 94 (by rfl) dX6_order_92 rfl ?_
            refine k_S3z 97 dX6_order_94 rfl lk_X6_29 rfl (by first | rfl | exact rv_cat (by assumption) | exact rv_cat rv_f) (by first | rfl | exact rv_cat (by assumption) | exact rv_cat rv_f) (by first | rfl | exact rv_cat (by assumption) | exact rv_cat rv_f) (Nat.le_of_ble_eq_true rfl) (by first | exact Nat.le_of_ble_eq_true rfl | omega) (c_X6_in (hT.rT _ _) (by decide) (by decide) ?_)
            rw [ee]
            refine g_if_eq 119 100 dX6_order_97 rfl rfl (by first | exact hT.r _ | exact hT.rT _ _ | exact inP_r | omega) (fun c97 => ?_) (fun c97 => ?_)
            · first | omega | exact h _ _ _ _ hT hP rfl
            · refine g_bipush 102 (by rfl) dX6_order_100 rfl ?_
              refine g_iload4 104 dX6_order_102 rfl ?_
              refine g_imul 105 dX6_order_104 rfl ?_
              refine g_aload0 106 (by first | exact rv_r | exact rv_n | assumption | exact rv_f) dX6_order_105 rfl ?_
              refine g_bipush 108 (by rfl) dX6_order_106 rfl ?_
              refine g_bipush 110 (by rfl) dX6_order_108 rfl ?_
              refine k_V2z 113 dX6_order_110 rfl lk_X6_186 hT.t rfl (by first | rfl | exact rv_cat (by assumption) | exact rv_cat rv_f) (by first | rfl | exact rv_cat (by assumption) | exact rv_cat rv_f) (Nat.le_of_ble_eq_true rfl) (by first | exact Nat.le_of_ble_eq_true rfl | omega) (c_X6_sign hT hX hP d1 (by decide) (fun T M hT hP => ?_))
              refine g_iadd 114 dX6_order_113 rfl ?_
              refine g_bipush 116 (by rfl) dX6_order_114 rfl ?_
              refine g_isub 117 dX6_order_116 rfl ?_
              refine g_istore4 119 (Nat.le_of_ble_eq_true rfl) (by first | exact c1_0 | exact c1_i | exact c1_r | exact c1_n | exact c1_v (by assumption) | exact c1_f) dX6_order_117 rfl ?_
              first | omega | exact h _ _ _ _ hT hP rfl
    · rw [if_neg q] at h
      refine g_iload2 59 dX6_order_58 rfl ?_
      refine g_iconst 60 dX6_order_59 rfl ?_
      refine g_icmp_ne 119 63 dX6_order_60 rfl rfl (by first | exact hT.r _ | exact hT.rT _ _ | exact inP_r | omega) (by first | exact hT.r _ | exact hT.rT _ _ | exact inP_r | omega) (fun c60 => ?_) (fun c60 => ?_)
      · first | omega | exact h _ _ _ _ hT hP rfl
      · refine g_aload0 64 (by first | exact rv_r | exact rv_n | assumption | exact rv_f) dX6_order_63 rfl ?_
        refine g_getf 67 dX6_order_64 rfl fl_X6_182 hT.t (hT.f10) ?_
        refine g_if_ne 119 70 dX6_order_67 rfl rfl (by first | exact hT.r _ | exact hT.rT _ _ | exact inP_r | omega) (fun c67 => ?_) (fun c67 => ?_)
        · first | omega | exact h _ _ _ _ hT hP rfl
        · refine g_aload0 71 (by first | exact rv_r | exact rv_n | assumption | exact rv_f) dX6_order_70 rfl ?_
          refine g_getf 74 dX6_order_71 rfl fl_X6_179 hT.t (hT.f9) ?_
          refine g_aload0 75 (by first | exact rv_r | exact rv_n | assumption | exact rv_f) dX6_order_74 rfl ?_
          refine g_getf 78 dX6_order_75 rfl fl_X6_176 hT.t (hT.f7) ?_
          refine g_icmp_ge 119 81 dX6_order_78 rfl rfl (by first | exact hT.r _ | exact hT.rT _ _ | exact inP_r | omega) (by first | exact hT.r _ | exact hT.rT _ _ | exact inP_r | omega) (fun c78 => ?_) (fun c78 => ?_)
          · first | omega | exact h _ _ _ _ hT hP rfl
          · refine g_aload0 82 (by first | exact rv_r | exact rv_n | assumption | exact rv_f) dX6_order_81 rfl ?_
            refine g_getf 85 dX6_order_82 rfl fl_X6_22 hT.t (hT.f6) ?_
            refine g_aload0 86 (by first | exact rv_r | exact rv_n | assumption | exact rv_f) dX6_order_85 rfl ?_
            refine g_getf 89 dX6_order_86 rfl fl_X6_179 hT.t (hT.f9) ?_
            refine g_iald 90 dX6_order_89 rfl hT.a4 (by omega) (by omega) (by omega) (hT.e4 (by omega) (by omega)) ?_
            refine g_bipush 92 (by rfl) dX6_order_90 rfl ?_
            refine g_bipush 94 (by rfl) dX6_order_92 rfl ?_
            refine k_S3z 97 dX6_order_94 rfl lk_X6_29 rfl (by first | rfl | exact rv_cat (by assumption) | exact rv_cat rv_f) (by first | rfl | exact rv_cat (by assumption) | exact rv_cat rv_f) (by first | rfl | exact rv_cat (by assumption) | exact rv_cat rv_f) (Nat.le_of_ble_eq_true rfl) (by first | exact Nat.le_of_ble_eq_true rfl | omega) (c_X6_in (hT.rT _ _) (by decide) (by decide) ?_)
            rw [e4' (by omega)]
            refine g_if_eq 119 100 dX6_order_97 rfl rfl (by first | exact hT.r _ | exact hT.rT _ _ | exact inP_r | omega) (fun c97 => ?_) (fun c97 => ?_)
            · first | omega | exact h _ _ _ _ hT hP rfl
            · omega
  have t50 : ∀ lo hi T M, lo = (if (kindP tx ps).1 = 3 then 49 else 48) → hi = (if (kindP tx ps).1 = 3 then 57 else if (kindP tx ps).1 = 6 then 50 else 51) → Tw (kB K) M0 m s T M → TX T0 (signP tx 32 32 (kindP tx ps).2).2 T → Go K fX6_order 6 k n 50 [some (.ref m), some (.int (ii dn)), some (.int (ii (kindP tx ps).1)), some (.int (ii (signP tx 32 32 (kindP tx ps).2).1)), none, none, none] [.int (ii hi), .int (ii lo), .ref m] M Q := by
    intro lo hi T M hlo hhi hT hP
    subst hlo
    subst hhi
    refine k_V2z 53 dX6_order_50 rfl lk_X6_186 hT.t rfl (by first | rfl | exact rv_cat (by assumption) | exact rv_cat rv_f) (by first | rfl | exact rv_cat (by assumption) | exact rv_cat rv_f) (Nat.le_of_ble_eq_true rfl) (by first | exact Nat.le_of_ble_eq_true rfl | omega) (c_X6_sign hT hX hP b1 ⟨by split <;> omega, by split <;> omega, by (repeat' split) <;> decide⟩ (fun T M hT hP => ?_))
    refine g_bipush 55 (by rfl) dX6_order_53 rfl ?_
    refine g_isub 56 dX6_order_55 rfl ?_
    refine g_istore4 58 (Nat.le_of_ble_eq_true rfl) (by first | exact c1_0 | exact c1_i | exact c1_r | exact c1_n | exact c1_v (by assumption) | exact c1_f) dX6_order_56 rfl ?_
    exact t58 _ _ hT hP
  refine g_aload0 1 (by first | exact rv_r | exact rv_n | assumption | exact rv_f) dX6_order_0 rfl ?_
  refine k_V0z 4 dX6_order_1 rfl lk_X6_193 hT.t rfl  (Nat.le_of_ble_eq_true rfl) (by first | exact Nat.le_of_ble_eq_true rfl | omega) (c_X6_kind hT hX hP hv (fun T M hT hP => ?_))
  refine g_istore2 5 (Nat.le_of_ble_eq_true rfl) (by first | exact c1_0 | exact c1_i | exact c1_r | exact c1_n | exact c1_v (by assumption) | exact c1_f) dX6_order_4 rfl ?_
  refine g_aload0 6 (by first | exact rv_r | exact rv_n | assumption | exact rv_f) dX6_order_5 rfl ?_
  refine g_bipush 8 (by rfl) dX6_order_6 rfl ?_
  refine g_bipush 10 (by rfl) dX6_order_8 rfl ?_
  refine k_V2z 13 dX6_order_10 rfl lk_X6_186 hT.t rfl (by first | rfl | exact rv_cat (by assumption) | exact rv_cat rv_f) (by first | rfl | exact rv_cat (by assumption) | exact rv_cat rv_f) (Nat.le_of_ble_eq_true rfl) (by first | exact Nat.le_of_ble_eq_true rfl | omega) (c_X6_sign hT hX hP k1.1 (by decide) (fun T M hT hP => ?_))
  refine g_istore3 14 (Nat.le_of_ble_eq_true rfl) (by first | exact c1_0 | exact c1_i | exact c1_r | exact c1_n | exact c1_v (by assumption) | exact c1_f) dX6_order_13 rfl ?_
  refine g_aload0 15 (by first | exact rv_r | exact rv_n | assumption | exact rv_f) dX6_order_14 rfl ?_
  refine g_iload2 16 dX6_order_15 rfl ?_
  refine g_iconst 17 dX6_order_16 rfl ?_
  refine g_icmp_ne 25 20 dX6_order_17 rfl rfl (by first | exact hT.r _ | exact hT.rT _ _ | exact inP_r | omega) (by first | exact hT.r _ | exact hT.rT _ _ | exact inP_r | omega) (fun c17 => ?_) (fun c17 => ?_)
  · refine g_bipush 27 (by rfl) dX6_order_25 rfl ?_
    refine g_iload2 28 dX6_order_27 rfl ?_
    refine g_iconst 29 dX6_order_28 rfl ?_
    refine g_icmp_ne 37 32 dX6_order_29 rfl rfl (by first | exact hT.r _ | exact hT.rT _ _ | exact inP_r | omega) (by first | exact hT.r _ | exact hT.rT _ _ | exact inP_r | omega) (fun c29 => ?_) (fun c29 => ?_)
    · refine g_iload2 38 dX6_order_37 rfl ?_
      refine g_bipush 40 (by rfl) dX6_order_38 rfl ?_
      refine g_icmp_ne 48 43 dX6_order_40 rfl rfl (by first | exact hT.r _ | exact hT.rT _ _ | exact inP_r | omega) (by first | exact hT.r _ | exact hT.rT _ _ | exact inP_r | omega) (fun c40 => ?_) (fun c40 => ?_)
      · refine g_bipush 50 (by rfl) dX6_order_48 rfl ?_
        first | omega | exact t50 _ _ _ _ (by first | rw [if_pos (by omega)] | rw [if_neg (by omega)]) (by (repeat (first | rw [if_pos (by omega)] | rw [if_neg (by omega)]))) hT hP
      · refine g_bipush 45 (by rfl) dX6_order_43 rfl ?_
        refine g_goto 50 dX6_order_45 rfl ?_
        first | omega | exact t50 _ _ _ _ (by first | rw [if_pos (by omega)] | rw [if_neg (by omega)]) (by (repeat (first | rw [if_pos (by omega)] | rw [if_neg (by omega)]))) hT hP
    · refine g_bipush 34 (by rfl) dX6_order_32 rfl ?_
      refine g_goto 50 dX6_order_34 rfl ?_
      first | omega | exact t50 _ _ _ _ (by first | rw [if_pos (by omega)] | rw [if_neg (by omega)]) (by (repeat (first | rw [if_pos (by omega)] | rw [if_neg (by omega)]))) hT hP
  · refine g_bipush 22 (by rfl) dX6_order_20 rfl ?_
    refine g_goto 27 dX6_order_22 rfl ?_
    refine g_iload2 28 dX6_order_27 rfl ?_
    refine g_iconst 29 dX6_order_28 rfl ?_
    refine g_icmp_ne 37 32 dX6_order_29 rfl rfl (by first | exact hT.r _ | exact hT.rT _ _ | exact inP_r | omega) (by first | exact hT.r _ | exact hT.rT _ _ | exact inP_r | omega) (fun c29 => ?_) (fun c29 => ?_)
    · refine g_iload2 38 dX6_order_37 rfl ?_
      refine g_bipush 40 (by rfl) dX6_order_38 rfl ?_
      refine g_icmp_ne 48 43 dX6_order_40 rfl rfl (by first | exact hT.r _ | exact hT.rT _ _ | exact inP_r | omega) (by first | exact hT.r _ | exact hT.rT _ _ | exact inP_r | omega) (fun c40 => ?_) (fun c40 => ?_)
      · refine g_bipush 50 (by rfl) dX6_order_48 rfl ?_
        first | omega | exact t50 _ _ _ _ (by first | rw [if_pos (by omega)] | rw [if_neg (by omega)]) (by (repeat (first | rw [if_pos (by omega)] | rw [if_neg (by omega)]))) hT hP
      · refine g_bipush 45 (by rfl) dX6_order_43 rfl ?_
        refine g_goto 50 dX6_order_45 rfl ?_
        first | omega | exact t50 _ _ _ _ (by first | rw [if_pos (by omega)] | rw [if_neg (by omega)]) (by (repeat (first | rw [if_pos (by omega)] | rw [if_neg (by omega)]))) hT hP
    · refine g_bipush 34 (by rfl) dX6_order_32 rfl ?_
      refine g_goto 50 dX6_order_34 rfl ?_
      first | omega | exact t50 _ _ _ _ (by first | rw [if_pos (by omega)] | rw [if_neg (by omega)]) (by (repeat (first | rw [if_pos (by omega)] | rw [if_neg (by omega)]))) hT hP
theorem c_X6_order0 (hT : Tw (kB K) M0 m s T M) (hX : TXt tx T0) (hP : TX T0 ps T) (hv : PSv tx ps) (hQ : ∀ T' M', Tw (kB K) M0 m s T' M' → TX T0 (parseP tx ps).2 T' → Q (.inl (some (.int (ii 1)))) M') : Go K fX6_order 6 k n 0 [some (.ref m), some (.int (ii 0)), none, none, none, none, none] [] M Q := by
  refine l_order hT hX hP hv fun v z T M hT hP hv => ?_
  refine g_iload1 120 dX6_order_119 rfl ?_
  refine g_if_ne 125 123 dX6_order_120 rfl rfl (by first | exact hT.r _ | exact hT.rT _ _ | exact inP_r | omega) (fun c120 => ?_) (fun c120 => ?_)
  · omega
  · refine g_iconst 124 dX6_order_123 rfl ?_
    refine g_zret dX6_order_124 rfl (by first | rfl | exact zr inP_01 | exact zr (by omega) | exact zr (by assumption)) ?_
    exact hQ _ _ hT hP
end TWL
