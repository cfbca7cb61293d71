/-! ===== the twin's methods: changes ===== -/
def arrivesP (s : Int → Int) (rk rd : Int) : Int → Int :=
  let g := s 3
  let s1 := up s 3 (s 3 + 1)
  let s2 := up s1 (17 + 5 * g + 0) rk
  let s3 := up s2 (17 + 5 * g + 1) rd
  let s4 := up s3 (17 + 5 * g + 2) 0
  let s5 := up s4 (17 + 5 * g + 3) (s4 0)
  up s5 (17 + 5 * g + 4) 0
def giveUpP (s : Int → Int) (g : Int) : Int → Int := up (up s (17 + 5 * g + 4) (waitedP s g)) (17 + 5 * g + 2) 3
def bedsP (s : Int → Int) (b : Int) : Int → Int := up (leavesP s b) (232 + 2 * b + 0) 1
def polesP (s : Int → Int) (c : Int) : Int → Int :=
  let s1 := up s (240 + 10 * c + 1) 0
  let s2 := up s1 (240 + 10 * c + 2) 0
  let s3 := up s2 15 (s2 15 + 90)
  if s3 9 = c then up (up s3 9 (-1)) 10 0 else s3
theorem tq2 {B m : Nat} {M M0 : Mem} {Q : Res → Mem → Prop} {s : Int → Int} {T : Nat → Int → Int} {a1 a' : AS} {c v v' : Int} (hQ : ∀ M', TP B M0 m c a' M' → Q (.inl (some (.int (ii v)))) M') (hT : Tw B M0 m s T M) (hA : Ta a1 T) (e : (s, a1.2) = a') (hc : T 5 8 = c) (hv : v' = v) : Q (.inl (some (.int (ii v')))) M := by
  subst hv
  subst e
  exact hQ M ⟨T, hT, hA, hc⟩
section TWG
variable {K : KT} {k n m : Nat} {M M0 : Mem} {Q : Res → Mem → Prop} {a : AS} {s : Int → Int} {T : Nat → Int → Int}
theorem c_X6_arrives (hT : Tw (kB K) M0 m s T M) {rk rd : Int} (h3 : 0 ≤ s 3 ∧ s 3 < 40) (hQ : ∀ M', Tw (kB K) M0 m (arrivesP s rk rd) (T) M' → Q (.inl (some (.int (ii (s 3))))) M') : Go K fX6_arrives 2 k n 0 [some (.ref m), some (.int (ii rk)), some (.int (ii rd)), none] [] M Q := by
  refine g_aload0 1 (by first | exact rv_r | exact rv_n | assumption | exact rv_f) dX6_arrives_0 rfl ?_
  refine g_getf 4 dX6_arrives_1 rfl fl_X6_7 hT.t (hT.f0) ?_
  refine g_iconst 5 dX6_arrives_4 rfl ?_
  refine g_iald 6 dX6_arrives_5 rfl hT.a0 (by omega) (by omega) (by omega) (hT.e0 (by omega) (by omega)) ?_
  refine g_istore3 7 (Nat.le_of_ble_eq_true rfl) (by first | exact c1_0 | exact c1_i | exact c1_r | exact c1_n | exact c1_v (by assumption) | exact c1_f) dX6_arrives_6 rfl ?_
  refine g_aload0 8 (by first | exact rv_r | exact rv_n | assumption | exact rv_f) dX6_arrives_7 rfl ?_
  refine g_getf 11 dX6_arrives_8 rfl fl_X6_7 hT.t (hT.f0) ?_
  refine g_iconst 12 dX6_arrives_11 rfl ?_
  refine g_dup2 13 (by first | rfl | exact rv_cat (by assumption) | exact rv_cat rv_f) (by first | rfl | exact rv_cat (by assumption) | exact rv_cat rv_f) dX6_arrives_12 rfl ?_
  refine g_iald 14 dX6_arrives_13 rfl hT.a0 (by omega) (by omega) (by omega) (hT.e0 (by omega) (by omega)) ?_
  refine g_iconst 15 dX6_arrives_14 rfl ?_
  refine g_iadd 16 dX6_arrives_15 rfl ?_
  refine w_ias0 17 dX6_arrives_16 rfl hT (by omega) (by omega) (fun M hT => ?_)
  refine g_aload0 18 (by first | exact rv_r | exact rv_n | assumption | exact rv_f) dX6_arrives_17 rfl ?_
  refine g_iload3 19 dX6_arrives_18 rfl ?_
  refine g_iconst 20 dX6_arrives_19 rfl ?_
  refine g_iload1 21 dX6_arrives_20 rfl ?_
  refine k_V3z 24 dX6_arrives_21 rfl lk_X6_67 hT.t rfl (by first | rfl | exact rv_cat (by assumption) | exact rv_cat rv_f) (by first | rfl | exact rv_cat (by assumption) | exact rv_cat rv_f) (by first | rfl | exact rv_cat (by assumption) | exact rv_cat rv_f) (Nat.le_of_ble_eq_true rfl) (by first | exact Nat.le_of_ble_eq_true rfl | omega) (c_X6_layGuest hT (by first | assumption | omega) (by first | assumption | omega) (fun M hT => ?_))
  refine g_aload0 25 (by first | exact rv_r | exact rv_n | assumption | exact rv_f) dX6_arrives_24 rfl ?_
  refine g_iload3 26 dX6_arrives_25 rfl ?_
  refine g_iconst 27 dX6_arrives_26 rfl ?_
  refine g_iload2 28 dX6_arrives_27 rfl ?_
  refine k_V3z 31 dX6_arrives_28 rfl lk_X6_67 hT.t rfl (by first | rfl | exact rv_cat (by assumption) | exact rv_cat rv_f) (by first | rfl | exact rv_cat (by assumption) | exact rv_cat rv_f) (by first | rfl | exact rv_cat (by assumption) | exact rv_cat rv_f) (Nat.le_of_ble_eq_true rfl) (by first | exact Nat.le_of_ble_eq_true rfl | omega) (c_X6_layGuest hT (by first | assumption | omega) (by first | assumption | omega) (fun M hT => ?_))
  refine g_aload0 32 (by first | exact rv_r | exact rv_n | assumption | exact rv_f) dX6_arrives_31 rfl ?_
  refine g_iload3 33 dX6_arrives_32 rfl ?_
  refine g_iconst 34 dX6_arrives_33 rfl ?_
  refine g_iconst 35 dX6_arrives_34 rfl ?_
  refine k_V3z 38 dX6_arrives_35 rfl lk_X6_67 hT.t rfl (by first | rfl | exact rv_cat (by assumption) | exact rv_cat rv_f) (by first | rfl | exact rv_cat (by assumption) | exact rv_cat rv_f) (by first | rfl | exact rv_cat (by assumption) | exact rv_cat rv_f) (Nat.le_of_ble_eq_true rfl) (by first | exact Nat.le_of_ble_eq_true rfl | omega) (c_X6_layGuest hT (by first | assumption | omega) (by first | assumption | omega) (fun M hT => ?_))
  refine g_aload0 39 (by first | exact rv_r | exact rv_n | assumption | exact rv_f) dX6_arrives_38 rfl ?_
  refine g_iload3 40 dX6_arrives_39 rfl ?_
  refine g_iconst 41 dX6_arrives_40 rfl ?_
  refine g_aload0 42 (by first | exact rv_r | exact rv_n | assumption | exact rv_f) dX6_arrives_41 rfl ?_
  refine g_getf 45 dX6_arrives_42 rfl fl_X6_7 hT.t (hT.f0) ?_
  refine g_iconst 46 dX6_arrives_45 rfl ?_
  refine g_iald 47 dX6_arrives_46 rfl hT.a0 (by omega) (by omega) (by omega) (hT.e0 (by omega) (by omega)) ?_
  refine k_V3z 50 dX6_arrives_47 rfl lk_X6_67 hT.t rfl (by first | rfl | exact rv_cat (by assumption) | exact rv_cat rv_f) (by first | rfl | exact rv_cat (by assumption) | exact rv_cat rv_f) (by first | rfl | exact rv_cat (by assumption) | exact rv_cat rv_f) (Nat.le_of_ble_eq_true rfl) (by first | exact Nat.le_of_ble_eq_true rfl | omega) (c_X6_layGuest hT (by first | assumption | omega) (by first | assumption | omega) (fun M hT => ?_))
  refine g_aload0 51 (by first | exact rv_r | exact rv_n | assumption | exact rv_f) dX6_arrives_50 rfl ?_
  refine g_iload3 52 dX6_arrives_51 rfl ?_
  refine g_iconst 53 dX6_arrives_52 rfl ?_
  refine g_iconst 54 dX6_arrives_53 rfl ?_
  refine k_V3z 57 dX6_arrives_54 rfl lk_X6_67 hT.t rfl (by first | rfl | exact rv_cat (by assumption) | exact rv_cat rv_f) (by first | rfl | exact rv_cat (by assumption) | exact rv_cat rv_f) (by first | rfl | exact rv_cat (by assumption) | exact rv_cat rv_f) (Nat.le_of_ble_eq_true rfl) (by first | exact Nat.le_of_ble_eq_true rfl | omega) (c_X6_layGuest hT (by first | assumption | omega) (by first | assumption | omega) (fun M hT => ?_))
  refine g_iload3 58 dX6_arrives_57 rfl ?_
  refine g_iret dX6_arrives_58 rfl ?_
  exact hQ _ hT
theorem c_X6_beds (hT : Tw (kB K) M0 m s T M) {b : Int} (hW : WW s) (hb : 0 ≤ b ∧ b < 4) (hw : s (232 + 2 * b + 0) = 0) (hQ : ∀ M', Tw (kB K) M0 m (bedsP s b) (T) M' → Q (.inl (some (.int (ii (placeP s b))))) M') : Go K fX6_beds 2 k n 0 [some (.ref m), some (.int (ii b)), none] [] M Q := by
  have w1 := hW.2.1
  unfold W1 at w1
  refine g_aload0 1 (by first | exact rv_r | exact rv_n | assumption | exact rv_f) dX6_beds_0 rfl ?_
  refine g_iload1 2 dX6_beds_1 rfl ?_
  refine k_V1z 5 dX6_beds_2 rfl lk_X6_76 hT.t rfl (by first | rfl | exact rv_cat (by assumption) | exact rv_cat rv_f) (Nat.le_of_ble_eq_true rfl) (by first | exact Nat.le_of_ble_eq_true rfl | omega) (c_X6_leaves hT (by omega) (by omega) ((hW.2.2.1.2.2 b hb.1 hb.2).2.2 hw) (fun M hT => ?_))
  refine g_istore2 6 (Nat.le_of_ble_eq_true rfl) (by first | exact c1_0 | exact c1_i | exact c1_r | exact c1_n | exact c1_v (by assumption) | exact c1_f) dX6_beds_5 rfl ?_
  refine g_aload0 7 (by first | exact rv_r | exact rv_n | assumption | exact rv_f) dX6_beds_6 rfl ?_
  refine g_iload1 8 dX6_beds_7 rfl ?_
  refine g_iconst 9 dX6_beds_8 rfl ?_
  refine g_iconst 10 dX6_beds_9 rfl ?_
  refine k_V3z 13 dX6_beds_10 rfl lk_X6_60 hT.t rfl (by first | rfl | exact rv_cat (by assumption) | exact rv_cat rv_f) (by first | rfl | exact rv_cat (by assumption) | exact rv_cat rv_f) (by first | rfl | exact rv_cat (by assumption) | exact rv_cat rv_f) (Nat.le_of_ble_eq_true rfl) (by first | exact Nat.le_of_ble_eq_true rfl | omega) (c_X6_layBoy hT (by first | assumption | omega) (by first | assumption | omega) (fun M hT => ?_))
  refine g_iload2 14 dX6_beds_13 rfl ?_
  refine g_iret dX6_beds_14 rfl ?_
  exact hQ _ hT
theorem c_X6_calls (hT : Tw (kB K) M0 m s T M) {b : Int} (h4 : 0 ≤ s 4 ∧ s 4 ≤ 4) (hb : 0 ≤ b ∧ b < 4) (hQ : ∀ M', Tw (kB K) M0 m (standsP s b) (T) M' → Q (.inl (some (.int (ii (standsP s b 4))))) M') : Go K fX6_calls 3 k n 0 [some (.ref m), some (.int (ii b))] [] M Q := by
  refine g_aload0 1 (by first | exact rv_r | exact rv_n | assumption | exact rv_f) dX6_calls_0 rfl ?_
  refine g_iload1 2 dX6_calls_1 rfl ?_
  refine k_V1z 5 dX6_calls_2 rfl lk_X6_85 hT.t rfl (by first | rfl | exact rv_cat (by assumption) | exact rv_cat rv_f) (Nat.le_of_ble_eq_true rfl) (by first | exact Nat.le_of_ble_eq_true rfl | omega) (c_X6_stands hT (by first | assumption | omega) (by first | assumption | omega) (fun M hT => ?_))
  refine g_aload0 6 (by first | exact rv_r | exact rv_n | assumption | exact rv_f) dX6_calls_5 rfl ?_
  refine g_getf 9 dX6_calls_6 rfl fl_X6_7 hT.t (hT.f0) ?_
  refine g_iconst 10 dX6_calls_9 rfl ?_
  refine g_iald 11 dX6_calls_10 rfl hT.a0 (by omega) (by omega) (by omega) (hT.e0 (by omega) (by omega)) ?_
  refine g_iret dX6_calls_11 rfl ?_
  exact hQ _ hT
theorem c_X6_poles (hT : Tw (kB K) M0 m s T M) {c : Int} (hc : 0 ≤ c ∧ c < 3) (hQ : ∀ M', Tw (kB K) M0 m (polesP s c) (T) M' → Q (.inl (some (.int (ii (s (240 + 10 * c + 1)))))) M') : Go K fX6_poles 2 k n 0 [some (.ref m), some (.int (ii c)), none] [] M Q := by
  refine g_aload0 1 (by first | exact rv_r | exact rv_n | assumption | exact rv_f) dX6_poles_0 rfl ?_
  refine g_iload1 2 dX6_poles_1 rfl ?_
  refine g_iconst 3 dX6_poles_2 rfl ?_
  refine k_V2z 6 dX6_poles_3 rfl lk_X6_47 hT.t rfl (by first | rfl | exact rv_cat (by assumption) | exact rv_cat rv_f) (by first | rfl | exact rv_cat (by assumption) | exact rv_cat rv_f) (Nat.le_of_ble_eq_true rfl) (by first | exact Nat.le_of_ble_eq_true rfl | omega) (c_X6_chaise hT (by first | assumption | omega) (by first | assumption | omega) ?_)
  refine g_istore2 7 (Nat.le_of_ble_eq_true rfl) (by first | exact c1_0 | exact c1_i | exact c1_r | exact c1_n | exact c1_v (by assumption) | exact c1_f) dX6_poles_6 rfl ?_
  refine g_aload0 8 (by first | exact rv_r | exact rv_n | assumption | exact rv_f) dX6_poles_7 rfl ?_
  refine g_iload1 9 dX6_poles_8 rfl ?_
  refine g_iconst 10 dX6_poles_9 rfl ?_
  refine g_iconst 11 dX6_poles_10 rfl ?_
  refine k_V3z 14 dX6_poles_11 rfl lk_X6_82 hT.t rfl (by first | rfl | exact rv_cat (by assumption) | exact rv_cat rv_f) (by first | rfl | exact rv_cat (by assumption) | exact rv_cat rv_f) (by first | rfl | exact rv_cat (by assumption) | exact rv_cat rv_f) (Nat.le_of_ble_eq_true rfl) (by first | exact Nat.le_of_ble_eq_true rfl | omega) (c_X6_layChaise hT (by first | assumption | omega) (by first | assumption | omega) (fun M hT => ?_))
  refine g_aload0 15 (by first | exact rv_r | exact rv_n | assumption | exact rv_f) dX6_poles_14 rfl ?_
  refine g_iload1 16 dX6_poles_15 rfl ?_
  refine g_iconst 17 dX6_poles_16 rfl ?_
  refine g_iconst 18 dX6_poles_17 rfl ?_
  refine k_V3z 21 dX6_poles_18 rfl lk_X6_82 hT.t rfl (by first | rfl | exact rv_cat (by assumption) | exact rv_cat rv_f) (by first | rfl | exact rv_cat (by assumption) | exact rv_cat rv_f) (by first | rfl | exact rv_cat (by assumption) | exact rv_cat rv_f) (Nat.le_of_ble_eq_true rfl) (by first | exact Nat.le_of_ble_eq_true rfl | omega) (c_X6_layChaise hT (by first | assumption | omega) (by first | assumption | omega) (fun M hT => ?_))
  refine g_aload0 22 (by first | exact rv_r | exact rv_n | assumption | exact rv_f) dX6_poles_21 rfl ?_
  refine g_getf 25 dX6_poles_22 rfl fl_X6_7 hT.t (hT.f0) ?_
  refine g_bipush 27 (by rfl) dX6_poles_25 rfl ?_
  refine g_dup2 28 (by first | rfl | exact rv_cat (by assumption) | exact rv_cat rv_f) (by first | rfl | exact rv_cat (by assumption) | exact rv_cat rv_f) dX6_poles_27 rfl ?_
  refine g_iald 29 dX6_poles_28 rfl hT.a0 (by omega) (by omega) (by omega) (hT.e0 (by omega) (by omega)) ?_
  refine g_bipush 31 (by rfl) dX6_poles_29 rfl ?_
  refine g_iadd 32 dX6_poles_31 rfl ?_
  refine w_ias0 33 dX6_poles_32 rfl hT (by omega) (by omega) (fun M hT => ?_)
  refine g_aload0 34 (by first | exact rv_r | exact rv_n | assumption | exact rv_f) dX6_poles_33 rfl ?_
  refine g_getf 37 dX6_poles_34 rfl fl_X6_7 hT.t (hT.f0) ?_
  refine g_bipush 39 (by rfl) dX6_poles_37 rfl ?_
  refine g_iald 40 dX6_poles_39 rfl hT.a0 (by omega) (by omega) (by omega) (hT.e0 (by omega) (by omega)) ?_
  refine g_iload1 41 dX6_poles_40 rfl ?_
  refine g_icmp_ne 60 44 dX6_poles_41 rfl rfl (by first | exact hT.r _ | exact hT.rT _ _ | exact inP_r | omega) (by first | exact hT.r _ | exact hT.rT _ _ | exact inP_r | omega) (fun c41 => ?_) (fun c41 => ?_)
  · refine g_iload2 61 dX6_poles_60 rfl ?_
    refine g_iret dX6_poles_61 rfl ?_
    first | exact hQ _ (hT.casts (by unfold polesP; rw [if_pos c41])) | exact hQ _ (hT.casts (by unfold polesP; rw [if_neg c41]))
  · refine g_aload0 45 (by first | exact rv_r | exact rv_n | assumption | exact rv_f) dX6_poles_44 rfl ?_
    refine g_getf 48 dX6_poles_45 rfl fl_X6_7 hT.t (hT.f0) ?_
    refine g_bipush 50 (by rfl) dX6_poles_48 rfl ?_
    refine g_iconst 51 dX6_poles_50 rfl ?_
    refine w_ias0 52 dX6_poles_51 rfl hT (by omega) (by omega) (fun M hT => ?_)
    refine g_aload0 53 (by first | exact rv_r | exact rv_n | assumption | exact rv_f) dX6_poles_52 rfl ?_
    refine g_getf 56 dX6_poles_53 rfl fl_X6_7 hT.t (hT.f0) ?_
    refine g_bipush 58 (by rfl) dX6_poles_56 rfl ?_
    refine g_iconst 59 dX6_poles_58 rfl ?_
    refine w_ias0 60 dX6_poles_59 rfl hT (by omega) (by omega) (fun M hT => ?_)
    refine g_iload2 61 dX6_poles_60 rfl ?_
    refine g_iret dX6_poles_61 rfl ?_
    first | exact hQ _ (hT.casts (by unfold polesP; rw [if_pos c41])) | exact hQ _ (hT.casts (by unfold polesP; rw [if_neg c41]))
theorem c_X6_arrive {th : Int} (hP : TP (kB K) M0 m th a M) (hV : AV a) {rk rd : Int} (hrk : R32 rk) (hrd : R32 rd) (hQ : ∀ M', TP (kB K) M0 m (if inP rk 0 2 = 0 then 1 else if inP rd 0 3 = 0 then 2 else if a.1 3 = 40 then 3 else 0) (if inP rk 0 2 = 0 then a else if inP rd 0 3 = 0 then a else if a.1 3 = 40 then a else (arrivesP a.1 rk rd, (saveA a).2)) M' → Q (.inl (some (.int (ii (if inP rk 0 2 = 0 then 0 else if inP rd 0 3 = 0 then 0 else if a.1 3 = 40 then 0 else a.1 3))))) M') : Go K fX6_arrive 3 k n 0 [some (.ref m), some (.int (ii rk)), some (.int (ii rd))] [] M Q := by
  obtain ⟨T, hT, hA, hth⟩ := hP
  have hW := hV.1.1
  have w1 := hW.2.1
  unfold W1 at w1
  refine g_aload0 1 (by first | exact rv_r | exact rv_n | assumption | exact rv_f) dX6_arrive_0 rfl ?_
  refine g_iconst 2 dX6_arrive_1 rfl ?_
  refine w_put8 5 dX6_arrive_2 rfl fl_X6_25 hT (fun M hT => ?_)
  refine g_iload1 6 dX6_arrive_5 rfl ?_
  refine g_iconst 7 dX6_arrive_6 rfl ?_
  refine g_iconst 8 dX6_arrive_7 rfl ?_
  refine k_S3z 11 dX6_arrive_8 rfl lk_X6_29 rfl (by first | rfl | exact rv_cat (by assumption) | exact rv_cat rv_f) (by first | rfl | exact rv_cat (by assumption) | exact rv_cat rv_f) (by first | rfl | exact rv_cat (by assumption) | exact rv_cat rv_f) (Nat.le_of_ble_eq_true rfl) (by first | exact Nat.le_of_ble_eq_true rfl | omega) (c_X6_in (by first | assumption | omega) (by first | assumption | omega) (by first | assumption | omega) ?_)
  refine g_if_ne 20 14 dX6_arrive_11 rfl rfl (by first | exact hT.r _ | exact hT.rT _ _ | exact inP_r | omega) (fun c11 => ?_) (fun c11 => ?_)
  · refine g_iload2 21 dX6_arrive_20 rfl ?_
    refine g_iconst 22 dX6_arrive_21 rfl ?_
    refine g_iconst 23 dX6_arrive_22 rfl ?_
    refine k_S3z 26 dX6_arrive_23 rfl lk_X6_29 rfl (by first | rfl | exact rv_cat (by assumption) | exact rv_cat rv_f) (by first | rfl | exact rv_cat (by assumption) | exact rv_cat rv_f) (by first | rfl | exact rv_cat (by assumption) | exact rv_cat rv_f) (Nat.le_of_ble_eq_true rfl) (by first | exact Nat.le_of_ble_eq_true rfl | omega) (c_X6_in (by first | assumption | omega) (by first | assumption | omega) (by first | assumption | omega) ?_)
    refine g_if_ne 35 29 dX6_arrive_26 rfl rfl (by first | exact hT.r _ | exact hT.rT _ _ | exact inP_r | omega) (fun c26 => ?_) (fun c26 => ?_)
    · refine g_aload0 36 (by first | exact rv_r | exact rv_n | assumption | exact rv_f) dX6_arrive_35 rfl ?_
      refine g_getf 39 dX6_arrive_36 rfl fl_X6_7 hT.t (hT.f0) ?_
      refine g_iconst 40 dX6_arrive_39 rfl ?_
      refine g_iald 41 dX6_arrive_40 rfl hT.a0 (by omega) (by omega) (by omega) (hT.e0 (by omega) (by omega)) ?_
      refine g_bipush 43 (by rfl) dX6_arrive_41 rfl ?_
      refine g_icmp_ne 52 46 dX6_arrive_43 rfl rfl (by first | exact hT.r _ | exact hT.rT _ _ | exact inP_r | omega) (by first | exact hT.r _ | exact hT.rT _ _ | exact inP_r | omega) (fun c43 => ?_) (fun c43 => ?_)
      · refine g_aload0 53 (by first | exact rv_r | exact rv_n | assumption | exact rv_f) dX6_arrive_52 rfl ?_
        refine k_V0z 56 dX6_arrive_53 rfl lk_X6_107 hT.t rfl  (Nat.le_of_ble_eq_true rfl) (by first | exact Nat.le_of_ble_eq_true rfl | omega) (c_X6_save hT (by have hk := hA.1; rw [uT_ne (by omega)]; omega) (fun T M hT hS => ?_))
        have hA := hA.th.save hS
        have hth := (hS.1 5 8 (by omega) (by omega)).trans uT_at
        rw [wr0] at hth
        refine g_aload0 57 (by first | exact rv_r | exact rv_n | assumption | exact rv_f) dX6_arrive_56 rfl ?_
        refine g_iload1 58 dX6_arrive_57 rfl ?_
        refine g_iload2 59 dX6_arrive_58 rfl ?_
        refine k_V2z 62 dX6_arrive_59 rfl lk_X6_110 hT.t rfl (by first | rfl | exact rv_cat (by assumption) | exact rv_cat rv_f) (by first | rfl | exact rv_cat (by assumption) | exact rv_cat rv_f) (Nat.le_of_ble_eq_true rfl) (by first | exact Nat.le_of_ble_eq_true rfl | omega) (c_X6_arrives hT (by first | assumption | omega) (fun M hT => ?_))
        refine g_iret dX6_arrive_62 rfl ?_
        refine tq2 hQ hT (by first | exact hA | exact hA.th | exact hA.th.th) ?_ ?_ ?_
        · (repeat' split) <;> first | rfl | omega
        · first | exact hth | (rw [hth]; (repeat' split) <;> omega) | (simp only [uT_at, wr0, wr1, wr2, wr3]; first | done | ((repeat' split) <;> omega))
        · first | rfl | ((repeat' split) <;> omega)
      · refine g_aload0 47 (by first | exact rv_r | exact rv_n | assumption | exact rv_f) dX6_arrive_46 rfl ?_
        refine g_iconst 48 dX6_arrive_47 rfl ?_
        refine k_V1z 51 dX6_arrive_48 rfl lk_X6_104 hT.t rfl (by first | rfl | exact rv_cat (by assumption) | exact rv_cat rv_f) (Nat.le_of_ble_eq_true rfl) (by first | exact Nat.le_of_ble_eq_true rfl | omega) (c_X6_throwing hT (fun M hT => ?_))
        refine g_iret dX6_arrive_51 rfl ?_
        refine tq2 hQ hT (by first | exact hA | exact hA.th | exact hA.th.th) ?_ ?_ ?_
        · (repeat' split) <;> first | rfl | omega
        · first | exact hth | (rw [hth]; (repeat' split) <;> omega) | (simp only [uT_at, wr0, wr1, wr2, wr3]; first | done | ((repeat' split) <;> omega))
        · first | rfl | ((repeat' split) <;> omega)
    · refine g_aload0 30 (by first | exact rv_r | exact rv_n | assumption | exact rv_f) dX6_arrive_29 rfl ?_
      refine g_iconst 31 dX6_arrive_30 rfl ?_
      refine k_V1z 34 dX6_arrive_31 rfl lk_X6_104 hT.t rfl (by first | rfl | exact rv_cat (by assumption) | exact rv_cat rv_f) (Nat.le_of_ble_eq_true rfl) (by first | exact Nat.le_of_ble_eq_true rfl | omega) (c_X6_throwing hT (fun M hT => ?_))
      refine g_iret dX6_arrive_34 rfl ?_
      refine tq2 hQ hT (by first | exact hA | exact hA.th | exact hA.th.th) ?_ ?_ ?_
      · (repeat' split) <;> first | rfl | omega
      · first | exact hth | (rw [hth]; (repeat' split) <;> omega) | (simp only [uT_at, wr0, wr1, wr2, wr3]; first | done | ((repeat' split) <;> omega))
      · first | rfl | ((repeat' split) <;> omega)
  · refine g_aload0 15 (by first | exact rv_r | exact rv_n | assumption | exact rv_f) dX6_arrive_14 rfl ?_
    refine g_iconst 16 dX6_arrive_15 rfl ?_
    refine k_V1z 19 dX6_arrive_16 rfl lk_X6_104 hT.t rfl (by first | rfl | exact rv_cat (by assumption) | exact rv_cat rv_f) (Nat.le_of_ble_eq_true rfl) (by first | exact Nat.le_of_ble_eq_true rfl | omega) (c_X6_throwing hT (fun M hT => ?_))
    refine g_iret dX6_arrive_19 rfl ?_
    refine tq2 hQ hT (by first | exact hA | exact hA.th | exact hA.th.th) ?_ ?_ ?_
    · (repeat' split) <;> first | rfl | omega
    · first | exact hth | (rw [hth]; (repeat' split) <;> omega) | (simp only [uT_at, wr0, wr1, wr2, wr3]; first | done | ((repeat' split) <;> omega))
    · first | rfl | ((repeat' split) <;> omega)
theorem c_X6_giveUp {th : Int} (hP : TP (kB K) M0 m th a M) (hV : AV a) {g : Int} (hg : R32 g) (hQ : ∀ M', TP (kB K) M0 m (if inP g 0 (a.1 3 - 1) = 0 then 1 else if a.1 (17 + 5 * g + 2) = 0 then 0 else 2) (if inP g 0 (a.1 3 - 1) = 0 then a else if a.1 (17 + 5 * g + 2) = 0 then (giveUpP a.1 g, (saveA a).2) else a) M' → Q (.inl (some (.int (ii (if inP g 0 (a.1 3 - 1) = 0 then 0 else if a.1 (17 + 5 * g + 2) = 0 then giveUpP a.1 g (17 + 5 * g + 4) else 0))))) M') : Go K fX6_giveUp 3 k n 0 [some (.ref m), some (.int (ii g))] [] M Q := by
  obtain ⟨T, hT, hA, hth⟩ := hP
  have hW := hV.1.1
  have w1 := hW.2.1
  unfold W1 at w1
  have hi : inP g 0 (a.1 3 - 1) ≠ 0 → 0 ≤ g ∧ g ≤ a.1 3 - 1 := inP_ne
  refine g_aload0 1 (by first | exact rv_r | exact rv_n | assumption | exact rv_f) dX6_giveUp_0 rfl ?_
  refine g_iconst 2 dX6_giveUp_1 rfl ?_
  refine w_put8 5 dX6_giveUp_2 rfl fl_X6_25 hT (fun M hT => ?_)
  refine g_aload0 6 (by first | exact rv_r | exact rv_n | assumption | exact rv_f) dX6_giveUp_5 rfl ?_
  refine g_iload1 7 dX6_giveUp_6 rfl ?_
  refine k_V1z 10 dX6_giveUp_7 rfl lk_X6_113 hT.t rfl (by first | rfl | exact rv_cat (by assumption) | exact rv_cat rv_f) (Nat.le_of_ble_eq_true rfl) (by first | exact Nat.le_of_ble_eq_true rfl | omega) (c_X6_isGuest hT (by first | assumption | omega) (by first | assumption | omega) ?_)
  refine g_if_ne 19 13 dX6_giveUp_10 rfl rfl (by first | exact hT.r _ | exact hT.rT _ _ | exact inP_r | omega) (fun c10 => ?_) (fun c10 => ?_)
  · refine g_aload0 20 (by first | exact rv_r | exact rv_n | assumption | exact rv_f) dX6_giveUp_19 rfl ?_
    refine g_iload1 21 dX6_giveUp_20 rfl ?_
    refine g_iconst 22 dX6_giveUp_21 rfl ?_
    refine k_V2z 25 dX6_giveUp_22 rfl lk_X6_36 hT.t rfl (by first | rfl | exact rv_cat (by assumption) | exact rv_cat rv_f) (by first | rfl | exact rv_cat (by assumption) | exact rv_cat rv_f) (Nat.le_of_ble_eq_true rfl) (by first | exact Nat.le_of_ble_eq_true rfl | omega) (c_X6_guest hT (by first | assumption | omega) (by first | assumption | omega) ?_)
    refine g_if_eq 34 28 dX6_giveUp_25 rfl rfl (by first | exact hT.r _ | exact hT.rT _ _ | exact inP_r | omega) (fun c25 => ?_) (fun c25 => ?_)
    · refine g_aload0 35 (by first | exact rv_r | exact rv_n | assumption | exact rv_f) dX6_giveUp_34 rfl ?_
      refine k_V0z 38 dX6_giveUp_35 rfl lk_X6_107 hT.t rfl  (Nat.le_of_ble_eq_true rfl) (by first | exact Nat.le_of_ble_eq_true rfl | omega) (c_X6_save hT (by have hk := hA.1; rw [uT_ne (by omega)]; omega) (fun T M hT hS => ?_))
      have hA := hA.th.save hS
      have hth := (hS.1 5 8 (by omega) (by omega)).trans uT_at
      rw [wr0] at hth
      refine g_aload0 39 (by first | exact rv_r | exact rv_n | assumption | exact rv_f) dX6_giveUp_38 rfl ?_
      refine g_iload1 40 dX6_giveUp_39 rfl ?_
      refine g_iconst 41 dX6_giveUp_40 rfl ?_
      refine g_aload0 42 (by first | exact rv_r | exact rv_n | assumption | exact rv_f) dX6_giveUp_41 rfl ?_
      refine g_iload1 43 dX6_giveUp_42 rfl ?_
      refine k_V1z 46 dX6_giveUp_43 rfl lk_X6_64 hT.t rfl (by first | rfl | exact rv_cat (by assumption) | exact rv_cat rv_f) (Nat.le_of_ble_eq_true rfl) (by first | exact Nat.le_of_ble_eq_true rfl | omega) (c_X6_waited hT (by first | assumption | omega) (by first | assumption | omega) ?_)
      refine k_V3z 49 dX6_giveUp_46 rfl lk_X6_67 hT.t rfl (by first | rfl | exact rv_cat (by assumption) | exact rv_cat rv_f) (by first | rfl | exact rv_cat (by assumption) | exact rv_cat rv_f) (by first | rfl | exact rv_cat (by assumption) | exact rv_cat rv_f) (Nat.le_of_ble_eq_true rfl) (by first | exact Nat.le_of_ble_eq_true rfl | omega) (c_X6_layGuest hT (by first | assumption | omega) (by first | assumption | omega) (fun M hT => ?_))
      refine g_aload0 50 (by first | exact rv_r | exact rv_n | assumption | exact rv_f) dX6_giveUp_49 rfl ?_
      refine g_iload1 51 dX6_giveUp_50 rfl ?_
      refine g_iconst 52 dX6_giveUp_51 rfl ?_
      refine g_iconst 53 dX6_giveUp_52 rfl ?_
      refine k_V3z 56 dX6_giveUp_53 rfl lk_X6_67 hT.t rfl (by first | rfl | exact rv_cat (by assumption) | exact rv_cat rv_f) (by first | rfl | exact rv_cat (by assumption) | exact rv_cat rv_f) (by first | rfl | exact rv_cat (by assumption) | exact rv_cat rv_f) (Nat.le_of_ble_eq_true rfl) (by first | exact Nat.le_of_ble_eq_true rfl | omega) (c_X6_layGuest hT (by first | assumption | omega) (by first | assumption | omega) (fun M hT => ?_))
      refine g_aload0 57 (by first | exact rv_r | exact rv_n | assumption | exact rv_f) dX6_giveUp_56 rfl ?_
      refine g_iload1 58 dX6_giveUp_57 rfl ?_
      refine g_iconst 59 dX6_giveUp_58 rfl ?_
      refine k_V2z 62 dX6_giveUp_59 rfl lk_X6_36 hT.t rfl (by first | rfl | exact rv_cat (by assumption) | exact rv_cat rv_f) (by first | rfl | exact rv_cat (by assumption) | exact rv_cat rv_f) (Nat.le_of_ble_eq_true rfl) (by first | exact Nat.le_of_ble_eq_true rfl | omega) (c_X6_guest hT (by first | assumption | omega) (by first | assumption | omega) ?_)
      refine g_iret dX6_giveUp_62 rfl ?_
      refine tq2 hQ hT (by first | exact hA | exact hA.th | exact hA.th.th) ?_ ?_ ?_
      · (repeat' split) <;> first | rfl | omega
      · first | exact hth | (rw [hth]; (repeat' split) <;> omega) | (simp only [uT_at, wr0, wr1, wr2, wr3]; first | done | ((repeat' split) <;> omega))
      · (repeat' split) <;> first | omega | rfl
    · refine g_aload0 29 (by first | exact rv_r | exact rv_n | assumption | exact rv_f) dX6_giveUp_28 rfl ?_
      refine g_iconst 30 dX6_giveUp_29 rfl ?_
      refine k_V1z 33 dX6_giveUp_30 rfl lk_X6_104 hT.t rfl (by first | rfl | exact rv_cat (by assumption) | exact rv_cat rv_f) (Nat.le_of_ble_eq_true rfl) (by first | exact Nat.le_of_ble_eq_true rfl | omega) (c_X6_throwing hT (fun M hT => ?_))
      refine g_iret dX6_giveUp_33 rfl ?_
      refine tq2 hQ hT (by first | exact hA | exact hA.th | exact hA.th.th) ?_ ?_ ?_
      · (repeat' split) <;> first | rfl | omega
      · first | exact hth | (rw [hth]; (repeat' split) <;> omega) | (simp only [uT_at, wr0, wr1, wr2, wr3]; first | done | ((repeat' split) <;> omega))
      · (repeat' split) <;> first | omega | rfl
  · refine g_aload0 14 (by first | exact rv_r | exact rv_n | assumption | exact rv_f) dX6_giveUp_13 rfl ?_
    refine g_iconst 15 dX6_giveUp_14 rfl ?_
    refine k_V1z 18 dX6_giveUp_15 rfl lk_X6_104 hT.t rfl (by first | rfl | exact rv_cat (by assumption) | exact rv_cat rv_f) (Nat.le_of_ble_eq_true rfl) (by first | exact Nat.le_of_ble_eq_true rfl | omega) (c_X6_throwing hT (fun M hT => ?_))
    refine g_iret dX6_giveUp_18 rfl ?_
    refine tq2 hQ hT (by first | exact hA | exact hA.th | exact hA.th.th) ?_ ?_ ?_
    · (repeat' split) <;> first | rfl | omega
    · first | exact hth | (rw [hth]; (repeat' split) <;> omega) | (simp only [uT_at, wr0, wr1, wr2, wr3]; first | done | ((repeat' split) <;> omega))
    · (repeat' split) <;> first | omega | rfl
theorem c_X6_pass {th : Int} (hP : TP (kB K) M0 m th a M) (hV : AV a) {q : Int} (hq : R32 q) (hQ : ∀ M', TP (kB K) M0 m (if inP q 1 99 = 0 then 1 else if a.1 0 + q ≤ 9999 then 0 else 2) (if inP q 1 99 = 0 then a else if a.1 0 + q ≤ 9999 then ((passAllP q.toNat a.1 0).1, (saveA a).2) else a) M' → Q (.inl (some (.int (ii (if inP q 1 99 = 0 then 0 else if a.1 0 + q ≤ 9999 then (passAllP q.toNat a.1 0).2 else 0))))) M') : Go K fX6_pass 6 k n 0 [some (.ref m), some (.int (ii q))] [] M Q := by
  obtain ⟨T, hT, hA, hth⟩ := hP
  have hW := hV.1.1
  have w1 := hW.2.1
  unfold W1 at w1
  have hi : inP q 1 99 ≠ 0 → 1 ≤ q ∧ q ≤ 99 := inP_ne
  have ht := hV.1.2
  refine g_aload0 1 (by first | exact rv_r | exact rv_n | assumption | exact rv_f) dX6_pass_0 rfl ?_
  refine g_iconst 2 dX6_pass_1 rfl ?_
  refine w_put8 5 dX6_pass_2 rfl fl_X6_25 hT (fun M hT => ?_)
  refine g_iload1 6 dX6_pass_5 rfl ?_
  refine g_iconst 7 dX6_pass_6 rfl ?_
  refine g_bipush 9 (by rfl) dX6_pass_7 rfl ?_
  refine k_S3z 12 dX6_pass_9 rfl lk_X6_29 rfl (by first | rfl | exact rv_cat (by assumption) | exact rv_cat rv_f) (by first | rfl | exact rv_cat (by assumption) | exact rv_cat rv_f) (by first | rfl | exact rv_cat (by assumption) | exact rv_cat rv_f) (Nat.le_of_ble_eq_true rfl) (by first | exact Nat.le_of_ble_eq_true rfl | omega) (c_X6_in (by first | assumption | omega) (by first | assumption | omega) (by first | assumption | omega) ?_)
  refine g_if_ne 21 15 dX6_pass_12 rfl rfl (by first | exact hT.r _ | exact hT.rT _ _ | exact inP_r | omega) (fun c12 => ?_) (fun c12 => ?_)
  · refine g_aload0 22 (by first | exact rv_r | exact rv_n | assumption | exact rv_f) dX6_pass_21 rfl ?_
    refine g_getf 25 dX6_pass_22 rfl fl_X6_7 hT.t (hT.f0) ?_
    refine g_iconst 26 dX6_pass_25 rfl ?_
    refine g_iald 27 dX6_pass_26 rfl hT.a0 (by omega) (by omega) (by omega) (hT.e0 (by omega) (by omega)) ?_
    refine g_iload1 28 dX6_pass_27 rfl ?_
    refine g_iadd 29 dX6_pass_28 rfl ?_
    refine g_sipush 32 (by rfl) dX6_pass_29 rfl ?_
    refine g_icmp_le 41 35 dX6_pass_32 rfl rfl (by first | exact hT.r _ | exact hT.rT _ _ | exact inP_r | omega) (by first | exact hT.r _ | exact hT.rT _ _ | exact inP_r | omega) (fun c32 => ?_) (fun c32 => ?_)
    · refine g_aload0 42 (by first | exact rv_r | exact rv_n | assumption | exact rv_f) dX6_pass_41 rfl ?_
      refine k_V0z 45 dX6_pass_42 rfl lk_X6_107 hT.t rfl  (Nat.le_of_ble_eq_true rfl) (by first | exact Nat.le_of_ble_eq_true rfl | omega) (c_X6_save hT (by have hk := hA.1; rw [uT_ne (by omega)]; omega) (fun T M hT hS => ?_))
      have hA := hA.th.save hS
      have hth := (hS.1 5 8 (by omega) (by omega)).trans uT_at
      rw [wr0] at hth
      refine g_aload0 46 (by first | exact rv_r | exact rv_n | assumption | exact rv_f) dX6_pass_45 rfl ?_
      refine g_iload1 47 dX6_pass_46 rfl ?_
      refine k_V1z 50 dX6_pass_47 rfl lk_X6_117 hT.t rfl (by first | rfl | exact rv_cat (by assumption) | exact rv_cat rv_f) (Nat.le_of_ble_eq_true rfl) (by first | exact Nat.le_of_ble_eq_true rfl | omega) (c_X6_passesAll hT (by first | assumption | omega) (by first | assumption | omega) (by first | assumption | omega) (fun M hT => ?_))
      refine g_iret dX6_pass_50 rfl ?_
      refine tq2 hQ hT (by first | exact hA | exact hA.th | exact hA.th.th) ?_ ?_ ?_
      · (repeat' split) <;> first | rfl | omega
      · first | exact hth | (rw [hth]; (repeat' split) <;> omega) | (simp only [uT_at, wr0, wr1, wr2, wr3]; first | done | ((repeat' split) <;> omega))
      · first | rfl | ((repeat' split) <;> omega)
    · refine g_aload0 36 (by first | exact rv_r | exact rv_n | assumption | exact rv_f) dX6_pass_35 rfl ?_
      refine g_iconst 37 dX6_pass_36 rfl ?_
      refine k_V1z 40 dX6_pass_37 rfl lk_X6_104 hT.t rfl (by first | rfl | exact rv_cat (by assumption) | exact rv_cat rv_f) (Nat.le_of_ble_eq_true rfl) (by first | exact Nat.le_of_ble_eq_true rfl | omega) (c_X6_throwing hT (fun M hT => ?_))
      refine g_iret dX6_pass_40 rfl ?_
      refine tq2 hQ hT (by first | exact hA | exact hA.th | exact hA.th.th) ?_ ?_ ?_
      · (repeat' split) <;> first | rfl | omega
      · first | exact hth | (rw [hth]; (repeat' split) <;> omega) | (simp only [uT_at, wr0, wr1, wr2, wr3]; first | done | ((repeat' split) <;> omega))
      · first | rfl | ((repeat' split) <;> omega)
  · refine g_aload0 16 (by first | exact rv_r | exact rv_n | assumption | exact rv_f) dX6_pass_15 rfl ?_
    refine g_iconst 17 dX6_pass_16 rfl ?_
    refine k_V1z 20 dX6_pass_17 rfl lk_X6_104 hT.t rfl (by first | rfl | exact rv_cat (by assumption) | exact rv_cat rv_f) (Nat.le_of_ble_eq_true rfl) (by first | exact Nat.le_of_ble_eq_true rfl | omega) (c_X6_throwing hT (fun M hT => ?_))
    refine g_iret dX6_pass_20 rfl ?_
    refine tq2 hQ hT (by first | exact hA | exact hA.th | exact hA.th.th) ?_ ?_ ?_
    · (repeat' split) <;> first | rfl | omega
    · first | exact hth | (rw [hth]; (repeat' split) <;> omega) | (simp only [uT_at, wr0, wr1, wr2, wr3]; first | done | ((repeat' split) <;> omega))
    · first | rfl | ((repeat' split) <;> omega)
theorem c_X6_addRest {th : Int} (hP : TP (kB K) M0 m th a M) (hV : AV a) {p q : Int} (hp : R32 p) (hq : R32 q) (hQ : ∀ M', TP (kB K) M0 m (if inP p 0 4 = 0 then 1 else if inP q 1 99 = 0 then 2 else if a.1 (217 + 3 * p + 0) = 1 then 3 else if a.1 (217 + 3 * p + 1) + q ≤ 200 then 0 else 3) (if inP p 0 4 = 0 then a else if inP q 1 99 = 0 then a else if a.1 (217 + 3 * p + 0) = 1 then a else if a.1 (217 + 3 * p + 1) + q ≤ 200 then (up a.1 (217 + 3 * p + 1) (a.1 (217 + 3 * p + 1) + q), (saveA a).2) else a) M' → Q (.inl (some (.int (ii (if inP p 0 4 = 0 then 0 else if inP q 1 99 = 0 then 0 else if a.1 (217 + 3 * p + 0) = 1 then 0 else if a.1 (217 + 3 * p + 1) + q ≤ 200 then a.1 (217 + 3 * p + 1) + q else 0))))) M') : Go K fX6_addRest 3 k n 0 [some (.ref m), some (.int (ii p)), some (.int (ii q))] [] M Q := by
  obtain ⟨T, hT, hA, hth⟩ := hP
  have hW := hV.1.1
  have w1 := hW.2.1
  unfold W1 at w1
  have hi : inP q 1 99 ≠ 0 → 1 ≤ q ∧ q ≤ 99 := inP_ne
  have hj : inP p 0 4 ≠ 0 → 0 ≤ p ∧ p ≤ 4 := inP_ne
  have h5 : inP p 0 4 ≠ 0 → 0 ≤ a.1 (217 + 3 * p + 1) ∧ a.1 (217 + 3 * p + 1) ≤ 200 := fun z => by have := hW.2.2.2.2.2.1 p (hj z).1 (by have := hj z; omega); omega
  refine g_aload0 1 (by first | exact rv_r | exact rv_n | assumption | exact rv_f) dX6_addRest_0 rfl ?_
  refine g_iconst 2 dX6_addRest_1 rfl ?_
  refine w_put8 5 dX6_addRest_2 rfl fl_X6_25 hT (fun M hT => ?_)
  refine g_iload1 6 dX6_addRest_5 rfl ?_
  refine k_S1z 9 dX6_addRest_6 rfl lk_X6_120 rfl (by first | rfl | exact rv_cat (by assumption) | exact rv_cat rv_f) (Nat.le_of_ble_eq_true rfl) (by first | exact Nat.le_of_ble_eq_true rfl | omega) (c_X6_isPair (by first | assumption | omega) ?_)
  refine g_if_ne 18 12 dX6_addRest_9 rfl rfl (by first | exact hT.r _ | exact hT.rT _ _ | exact inP_r | omega) (fun c9 => ?_) (fun c9 => ?_)
  · refine g_iload2 19 dX6_addRest_18 rfl ?_
    refine g_iconst 20 dX6_addRest_19 rfl ?_
    refine g_bipush 22 (by rfl) dX6_addRest_20 rfl ?_
    refine k_S3z 25 dX6_addRest_22 rfl lk_X6_29 rfl (by first | rfl | exact rv_cat (by assumption) | exact rv_cat rv_f) (by first | rfl | exact rv_cat (by assumption) | exact rv_cat rv_f) (by first | rfl | exact rv_cat (by assumption) | exact rv_cat rv_f) (Nat.le_of_ble_eq_true rfl) (by first | exact Nat.le_of_ble_eq_true rfl | omega) (c_X6_in (by first | assumption | omega) (by first | assumption | omega) (by first | assumption | omega) ?_)
    refine g_if_ne 34 28 dX6_addRest_25 rfl rfl (by first | exact hT.r _ | exact hT.rT _ _ | exact inP_r | omega) (fun c25 => ?_) (fun c25 => ?_)
    · refine g_aload0 35 (by first | exact rv_r | exact rv_n | assumption | exact rv_f) dX6_addRest_34 rfl ?_
      refine g_iload1 36 dX6_addRest_35 rfl ?_
      refine g_iconst 37 dX6_addRest_36 rfl ?_
      refine k_V2z 40 dX6_addRest_37 rfl lk_X6_44 hT.t rfl (by first | rfl | exact rv_cat (by assumption) | exact rv_cat rv_f) (by first | rfl | exact rv_cat (by assumption) | exact rv_cat rv_f) (Nat.le_of_ble_eq_true rfl) (by first | exact Nat.le_of_ble_eq_true rfl | omega) (c_X6_pair hT (by first | assumption | omega) (by first | assumption | omega) ?_)
      refine g_iconst 41 dX6_addRest_40 rfl ?_
      refine g_icmp_eq 58 44 dX6_addRest_41 rfl rfl (by first | exact hT.r _ | exact hT.rT _ _ | exact inP_r | omega) (by first | exact hT.r _ | exact hT.rT _ _ | exact inP_r | omega) (fun c41 => ?_) (fun c41 => ?_)
      · refine g_aload0 59 (by first | exact rv_r | exact rv_n | assumption | exact rv_f) dX6_addRest_58 rfl ?_
        refine g_iconst 60 dX6_addRest_59 rfl ?_
        refine k_V1z 63 dX6_addRest_60 rfl lk_X6_104 hT.t rfl (by first | rfl | exact rv_cat (by assumption) | exact rv_cat rv_f) (Nat.le_of_ble_eq_true rfl) (by first | exact Nat.le_of_ble_eq_true rfl | omega) (c_X6_throwing hT (fun M hT => ?_))
        refine g_iret dX6_addRest_63 rfl ?_
        refine tq2 hQ hT (by first | exact hA | exact hA.th | exact hA.th.th) ?_ ?_ ?_
        · (repeat' split) <;> first | rfl | omega
        · first | exact hth | (rw [hth]; (repeat' split) <;> omega) | (simp only [uT_at, wr0, wr1, wr2, wr3]; first | done | ((repeat' split) <;> omega))
        · first | (simp (disch := omega) only [up_at, wr_id]; (repeat' split) <;> omega) | ((repeat' split) <;> omega)
      · refine g_aload0 45 (by first | exact rv_r | exact rv_n | assumption | exact rv_f) dX6_addRest_44 rfl ?_
        refine g_iload1 46 dX6_addRest_45 rfl ?_
        refine g_iconst 47 dX6_addRest_46 rfl ?_
        refine k_V2z 50 dX6_addRest_47 rfl lk_X6_44 hT.t rfl (by first | rfl | exact rv_cat (by assumption) | exact rv_cat rv_f) (by first | rfl | exact rv_cat (by assumption) | exact rv_cat rv_f) (Nat.le_of_ble_eq_true rfl) (by first | exact Nat.le_of_ble_eq_true rfl | omega) (c_X6_pair hT (by first | assumption | omega) (by first | assumption | omega) ?_)
        refine g_iload2 51 dX6_addRest_50 rfl ?_
        refine g_iadd 52 dX6_addRest_51 rfl ?_
        refine g_sipush 55 (by rfl) dX6_addRest_52 rfl ?_
        refine g_icmp_le 64 58 dX6_addRest_55 rfl rfl (by first | exact hT.r _ | exact hT.rT _ _ | exact inP_r | omega) (by first | exact hT.r _ | exact hT.rT _ _ | exact inP_r | omega) (fun c55 => ?_) (fun c55 => ?_)
        · refine g_aload0 65 (by first | exact rv_r | exact rv_n | assumption | exact rv_f) dX6_addRest_64 rfl ?_
          refine k_V0z 68 dX6_addRest_65 rfl lk_X6_107 hT.t rfl  (Nat.le_of_ble_eq_true rfl) (by first | exact Nat.le_of_ble_eq_true rfl | omega) (c_X6_save hT (by have hk := hA.1; rw [uT_ne (by omega)]; omega) (fun T M hT hS => ?_))
          have hA := hA.th.save hS
          have hth := (hS.1 5 8 (by omega) (by omega)).trans uT_at
          rw [wr0] at hth
          refine g_aload0 69 (by first | exact rv_r | exact rv_n | assumption | exact rv_f) dX6_addRest_68 rfl ?_
          refine g_iload1 70 dX6_addRest_69 rfl ?_
          refine g_iconst 71 dX6_addRest_70 rfl ?_
          refine g_aload0 72 (by first | exact rv_r | exact rv_n | assumption | exact rv_f) dX6_addRest_71 rfl ?_
          refine g_iload1 73 dX6_addRest_72 rfl ?_
          refine g_iconst 74 dX6_addRest_73 rfl ?_
          refine k_V2z 77 dX6_addRest_74 rfl lk_X6_44 hT.t rfl (by first | rfl | exact rv_cat (by assumption) | exact rv_cat rv_f) (by first | rfl | exact rv_cat (by assumption) | exact rv_cat rv_f) (Nat.le_of_ble_eq_true rfl) (by first | exact Nat.le_of_ble_eq_true rfl | omega) (c_X6_pair hT (by first | assumption | omega) (by first | assumption | omega) ?_)
          refine g_iload2 78 dX6_addRest_77 rfl ?_
          refine g_iadd 79 dX6_addRest_78 rfl ?_
          refine k_V3z 82 dX6_addRest_79 rfl lk_X6_73 hT.t rfl (by first | rfl | exact rv_cat (by assumption) | exact rv_cat rv_f) (by first | rfl | exact rv_cat (by assumption) | exact rv_cat rv_f) (by first | rfl | exact rv_cat (by assumption) | exact rv_cat rv_f) (Nat.le_of_ble_eq_true rfl) (by first | exact Nat.le_of_ble_eq_true rfl | omega) (c_X6_layPair hT (by first | assumption | omega) (by first | assumption | omega) (fun M hT => ?_))
          refine g_aload0 83 (by first | exact rv_r | exact rv_n | assumption | exact rv_f) dX6_addRest_82 rfl ?_
          refine g_iload1 84 dX6_addRest_83 rfl ?_
          refine g_iconst 85 dX6_addRest_84 rfl ?_
          refine k_V2z 88 dX6_addRest_85 rfl lk_X6_44 hT.t rfl (by first | rfl | exact rv_cat (by assumption) | exact rv_cat rv_f) (by first | rfl | exact rv_cat (by assumption) | exact rv_cat rv_f) (Nat.le_of_ble_eq_true rfl) (by first | exact Nat.le_of_ble_eq_true rfl | omega) (c_X6_pair hT (by first | assumption | omega) (by first | assumption | omega) ?_)
          refine g_iret dX6_addRest_88 rfl ?_
          refine tq2 hQ hT (by first | exact hA | exact hA.th | exact hA.th.th) ?_ ?_ ?_
          · (repeat' split) <;> first | rfl | omega
          · first | exact hth | (rw [hth]; (repeat' split) <;> omega) | (simp only [uT_at, wr0, wr1, wr2, wr3]; first | done | ((repeat' split) <;> omega))
          · first | (simp (disch := omega) only [up_at, wr_id]; (repeat' split) <;> omega) | ((repeat' split) <;> omega)
        · refine g_aload0 59 (by first | exact rv_r | exact rv_n | assumption | exact rv_f) dX6_addRest_58 rfl ?_
          refine g_iconst 60 dX6_addRest_59 rfl ?_
          refine k_V1z 63 dX6_addRest_60 rfl lk_X6_104 hT.t rfl (by first | rfl | exact rv_cat (by assumption) | exact rv_cat rv_f) (Nat.le_of_ble_eq_true rfl) (by first | exact Nat.le_of_ble_eq_true rfl | omega) (c_X6_throwing hT (fun M hT => ?_))
          refine g_iret dX6_addRest_63 rfl ?_
          refine tq2 hQ hT (by first | exact hA | exact hA.th | exact hA.th.th) ?_ ?_ ?_
          · (repeat' split) <;> first | rfl | omega
          · first | exact hth | (rw [hth]; (repeat' split) <;> omega) | (simp only [uT_at, wr0, wr1, wr2, wr3]; first | done | ((repeat' split) <;> omega))
          · first | (simp (disch := omega) only [up_at, wr_id]; (repeat' split) <;> omega) | ((repeat' split) <;> omega)
    · refine g_aload0 29 (by first | exact rv_r | exact rv_n | assumption | exact rv_f) dX6_addRest_28 rfl ?_
      refine g_iconst 30 dX6_addRest_29 rfl ?_
      refine k_V1z 33 dX6_addRest_30 rfl lk_X6_104 hT.t rfl (by first | rfl | exact rv_cat (by assumption) | exact rv_cat rv_f) (Nat.le_of_ble_eq_true rfl) (by first | exact Nat.le_of_ble_eq_true rfl | omega) (c_X6_throwing hT (fun M hT => ?_))
      refine g_iret dX6_addRest_33 rfl ?_
      refine tq2 hQ hT (by first | exact hA | exact hA.th | exact hA.th.th) ?_ ?_ ?_
      · (repeat' split) <;> first | rfl | omega
      · first | exact hth | (rw [hth]; (repeat' split) <;> omega) | (simp only [uT_at, wr0, wr1, wr2, wr3]; first | done | ((repeat' split) <;> omega))
      · first | (simp (disch := omega) only [up_at, wr_id]; (repeat' split) <;> omega) | ((repeat' split) <;> omega)
  · refine g_aload0 13 (by first | exact rv_r | exact rv_n | assumption | exact rv_f) dX6_addRest_12 rfl ?_
    refine g_iconst 14 dX6_addRest_13 rfl ?_
    refine k_V1z 17 dX6_addRest_14 rfl lk_X6_104 hT.t rfl (by first | rfl | exact rv_cat (by assumption) | exact rv_cat rv_f) (Nat.le_of_ble_eq_true rfl) (by first | exact Nat.le_of_ble_eq_true rfl | omega) (c_X6_throwing hT (fun M hT => ?_))
    refine g_iret dX6_addRest_17 rfl ?_
    refine tq2 hQ hT (by first | exact hA | exact hA.th | exact hA.th.th) ?_ ?_ ?_
    · (repeat' split) <;> first | rfl | omega
    · first | exact hth | (rw [hth]; (repeat' split) <;> omega) | (simp only [uT_at, wr0, wr1, wr2, wr3]; first | done | ((repeat' split) <;> omega))
    · first | (simp (disch := omega) only [up_at, wr_id]; (repeat' split) <;> omega) | ((repeat' split) <;> omega)
theorem c_X6_sendToBed {th : Int} (hP : TP (kB K) M0 m th a M) (hV : AV a) {b : Int} (hb : R32 b) (hQ : ∀ M', TP (kB K) M0 m (if inP b 0 3 = 0 then 1 else if a.1 (232 + 2 * b + 0) = 0 then 0 else 2) (if inP b 0 3 = 0 then a else if a.1 (232 + 2 * b + 0) = 0 then (bedsP a.1 b, (saveA a).2) else a) M' → Q (.inl (some (.int (ii (if inP b 0 3 = 0 then 0 else if a.1 (232 + 2 * b + 0) = 0 then placeP a.1 b else 0))))) M') : Go K fX6_sendToBed 3 k n 0 [some (.ref m), some (.int (ii b))] [] M Q := by
  obtain ⟨T, hT, hA, hth⟩ := hP
  have hW := hV.1.1
  have w1 := hW.2.1
  unfold W1 at w1
  have hj : inP b 0 3 ≠ 0 → 0 ≤ b ∧ b ≤ 3 := inP_ne
  refine g_aload0 1 (by first | exact rv_r | exact rv_n | assumption | exact rv_f) dX6_sendToBed_0 rfl ?_
  refine g_iconst 2 dX6_sendToBed_1 rfl ?_
  refine w_put8 5 dX6_sendToBed_2 rfl fl_X6_25 hT (fun M hT => ?_)
  refine g_iload1 6 dX6_sendToBed_5 rfl ?_
  refine k_S1z 9 dX6_sendToBed_6 rfl lk_X6_123 rfl (by first | rfl | exact rv_cat (by assumption) | exact rv_cat rv_f) (Nat.le_of_ble_eq_true rfl) (by first | exact Nat.le_of_ble_eq_true rfl | omega) (c_X6_isBoy (by first | assumption | omega) ?_)
  refine g_if_ne 18 12 dX6_sendToBed_9 rfl rfl (by first | exact hT.r _ | exact hT.rT _ _ | exact inP_r | omega) (fun c9 => ?_) (fun c9 => ?_)
  · refine g_aload0 19 (by first | exact rv_r | exact rv_n | assumption | exact rv_f) dX6_sendToBed_18 rfl ?_
    refine g_iload1 20 dX6_sendToBed_19 rfl ?_
    refine g_iconst 21 dX6_sendToBed_20 rfl ?_
    refine k_V2z 24 dX6_sendToBed_21 rfl lk_X6_79 hT.t rfl (by first | rfl | exact rv_cat (by assumption) | exact rv_cat rv_f) (by first | rfl | exact rv_cat (by assumption) | exact rv_cat rv_f) (Nat.le_of_ble_eq_true rfl) (by first | exact Nat.le_of_ble_eq_true rfl | omega) (c_X6_boy hT (by first | assumption | omega) (by first | assumption | omega) ?_)
    refine g_if_eq 33 27 dX6_sendToBed_24 rfl rfl (by first | exact hT.r _ | exact hT.rT _ _ | exact inP_r | omega) (fun c24 => ?_) (fun c24 => ?_)
    · refine g_aload0 34 (by first | exact rv_r | exact rv_n | assumption | exact rv_f) dX6_sendToBed_33 rfl ?_
      refine k_V0z 37 dX6_sendToBed_34 rfl lk_X6_107 hT.t rfl  (Nat.le_of_ble_eq_true rfl) (by first | exact Nat.le_of_ble_eq_true rfl | omega) (c_X6_save hT (by have hk := hA.1; rw [uT_ne (by omega)]; omega) (fun T M hT hS => ?_))
      have hA := hA.th.save hS
      have hth := (hS.1 5 8 (by omega) (by omega)).trans uT_at
      rw [wr0] at hth
      refine g_aload0 38 (by first | exact rv_r | exact rv_n | assumption | exact rv_f) dX6_sendToBed_37 rfl ?_
      refine g_iload1 39 dX6_sendToBed_38 rfl ?_
      refine k_V1z 42 dX6_sendToBed_39 rfl lk_X6_126 hT.t rfl (by first | rfl | exact rv_cat (by assumption) | exact rv_cat rv_f) (Nat.le_of_ble_eq_true rfl) (by first | exact Nat.le_of_ble_eq_true rfl | omega) (c_X6_beds hT (by first | assumption | omega) (by first | assumption | omega) (by first | assumption | omega) (fun M hT => ?_))
      refine g_iret dX6_sendToBed_42 rfl ?_
      refine tq2 hQ hT (by first | exact hA | exact hA.th | exact hA.th.th) ?_ ?_ ?_
      · (repeat' split) <;> first | rfl | omega
      · first | exact hth | (rw [hth]; (repeat' split) <;> omega) | (simp only [uT_at, wr0, wr1, wr2, wr3]; first | done | ((repeat' split) <;> omega))
      · first | rfl | ((repeat' split) <;> omega)
    · refine g_aload0 28 (by first | exact rv_r | exact rv_n | assumption | exact rv_f) dX6_sendToBed_27 rfl ?_
      refine g_iconst 29 dX6_sendToBed_28 rfl ?_
      refine k_V1z 32 dX6_sendToBed_29 rfl lk_X6_104 hT.t rfl (by first | rfl | exact rv_cat (by assumption) | exact rv_cat rv_f) (Nat.le_of_ble_eq_true rfl) (by first | exact Nat.le_of_ble_eq_true rfl | omega) (c_X6_throwing hT (fun M hT => ?_))
      refine g_iret dX6_sendToBed_32 rfl ?_
      refine tq2 hQ hT (by first | exact hA | exact hA.th | exact hA.th.th) ?_ ?_ ?_
      · (repeat' split) <;> first | rfl | omega
      · first | exact hth | (rw [hth]; (repeat' split) <;> omega) | (simp only [uT_at, wr0, wr1, wr2, wr3]; first | done | ((repeat' split) <;> omega))
      · first | rfl | ((repeat' split) <;> omega)
  · refine g_aload0 13 (by first | exact rv_r | exact rv_n | assumption | exact rv_f) dX6_sendToBed_12 rfl ?_
    refine g_iconst 14 dX6_sendToBed_13 rfl ?_
    refine k_V1z 17 dX6_sendToBed_14 rfl lk_X6_104 hT.t rfl (by first | rfl | exact rv_cat (by assumption) | exact rv_cat rv_f) (Nat.le_of_ble_eq_true rfl) (by first | exact Nat.le_of_ble_eq_true rfl | omega) (c_X6_throwing hT (fun M hT => ?_))
    refine g_iret dX6_sendToBed_17 rfl ?_
    refine tq2 hQ hT (by first | exact hA | exact hA.th | exact hA.th.th) ?_ ?_ ?_
    · (repeat' split) <;> first | rfl | omega
    · first | exact hth | (rw [hth]; (repeat' split) <;> omega) | (simp only [uT_at, wr0, wr1, wr2, wr3]; first | done | ((repeat' split) <;> omega))
    · first | rfl | ((repeat' split) <;> omega)
theorem c_X6_callBoy {th : Int} (hP : TP (kB K) M0 m th a M) (hV : AV a) {b : Int} (hb : R32 b) (hQ : ∀ M', TP (kB K) M0 m (if inP b 0 3 = 0 then 1 else if a.1 (232 + 2 * b + 0) = 1 then 0 else 2) (if inP b 0 3 = 0 then a else if a.1 (232 + 2 * b + 0) = 1 then (standsP a.1 b, (saveA a).2) else a) M' → Q (.inl (some (.int (ii (if inP b 0 3 = 0 then 0 else if a.1 (232 + 2 * b + 0) = 1 then standsP a.1 b 4 else 0))))) M') : Go K fX6_callBoy 4 k n 0 [some (.ref m), some (.int (ii b))] [] M Q := by
  obtain ⟨T, hT, hA, hth⟩ := hP
  have hW := hV.1.1
  have w1 := hW.2.1
  unfold W1 at w1
  have hj : inP b 0 3 ≠ 0 → 0 ≤ b ∧ b ≤ 3 := inP_ne
  refine g_aload0 1 (by first | exact rv_r | exact rv_n | assumption | exact rv_f) dX6_callBoy_0 rfl ?_
  refine g_iconst 2 dX6_callBoy_1 rfl ?_
  refine w_put8 5 dX6_callBoy_2 rfl fl_X6_25 hT (fun M hT => ?_)
  refine g_iload1 6 dX6_callBoy_5 rfl ?_
  refine k_S1z 9 dX6_callBoy_6 rfl lk_X6_123 rfl (by first | rfl | exact rv_cat (by assumption) | exact rv_cat rv_f) (Nat.le_of_ble_eq_true rfl) (by first | exact Nat.le_of_ble_eq_true rfl | omega) (c_X6_isBoy (by first | assumption | omega) ?_)
  refine g_if_ne 18 12 dX6_callBoy_9 rfl rfl (by first | exact hT.r _ | exact hT.rT _ _ | exact inP_r | omega) (fun c9 => ?_) (fun c9 => ?_)
  · refine g_aload0 19 (by first | exact rv_r | exact rv_n | assumption | exact rv_f) dX6_callBoy_18 rfl ?_
    refine g_iload1 20 dX6_callBoy_19 rfl ?_
    refine g_iconst 21 dX6_callBoy_20 rfl ?_
    refine k_V2z 24 dX6_callBoy_21 rfl lk_X6_79 hT.t rfl (by first | rfl | exact rv_cat (by assumption) | exact rv_cat rv_f) (by first | rfl | exact rv_cat (by assumption) | exact rv_cat rv_f) (Nat.le_of_ble_eq_true rfl) (by first | exact Nat.le_of_ble_eq_true rfl | omega) (c_X6_boy hT (by first | assumption | omega) (by first | assumption | omega) ?_)
    refine g_iconst 25 dX6_callBoy_24 rfl ?_
    refine g_icmp_eq 34 28 dX6_callBoy_25 rfl rfl (by first | exact hT.r _ | exact hT.rT _ _ | exact inP_r | omega) (by first | exact hT.r _ | exact hT.rT _ _ | exact inP_r | omega) (fun c25 => ?_) (fun c25 => ?_)
    · refine g_aload0 35 (by first | exact rv_r | exact rv_n | assumption | exact rv_f) dX6_callBoy_34 rfl ?_
      refine k_V0z 38 dX6_callBoy_35 rfl lk_X6_107 hT.t rfl  (Nat.le_of_ble_eq_true rfl) (by first | exact Nat.le_of_ble_eq_true rfl | omega) (c_X6_save hT (by have hk := hA.1; rw [uT_ne (by omega)]; omega) (fun T M hT hS => ?_))
      have hA := hA.th.save hS
      have hth := (hS.1 5 8 (by omega) (by omega)).trans uT_at
      rw [wr0] at hth
      refine g_aload0 39 (by first | exact rv_r | exact rv_n | assumption | exact rv_f) dX6_callBoy_38 rfl ?_
      refine g_iload1 40 dX6_callBoy_39 rfl ?_
      refine k_V1z 43 dX6_callBoy_40 rfl lk_X6_129 hT.t rfl (by first | rfl | exact rv_cat (by assumption) | exact rv_cat rv_f) (Nat.le_of_ble_eq_true rfl) (by first | exact Nat.le_of_ble_eq_true rfl | omega) (c_X6_calls hT (by first | assumption | omega) (by first | assumption | omega) (fun M hT => ?_))
      refine g_iret dX6_callBoy_43 rfl ?_
      refine tq2 hQ hT (by first | exact hA | exact hA.th | exact hA.th.th) ?_ ?_ ?_
      · (repeat' split) <;> first | rfl | omega
      · first | exact hth | (rw [hth]; (repeat' split) <;> omega) | (simp only [uT_at, wr0, wr1, wr2, wr3]; first | done | ((repeat' split) <;> omega))
      · first | rfl | ((repeat' split) <;> omega)
    · refine g_aload0 29 (by first | exact rv_r | exact rv_n | assumption | exact rv_f) dX6_callBoy_28 rfl ?_
      refine g_iconst 30 dX6_callBoy_29 rfl ?_
      refine k_V1z 33 dX6_callBoy_30 rfl lk_X6_104 hT.t rfl (by first | rfl | exact rv_cat (by assumption) | exact rv_cat rv_f) (Nat.le_of_ble_eq_true rfl) (by first | exact Nat.le_of_ble_eq_true rfl | omega) (c_X6_throwing hT (fun M hT => ?_))
      refine g_iret dX6_callBoy_33 rfl ?_
      refine tq2 hQ hT (by first | exact hA | exact hA.th | exact hA.th.th) ?_ ?_ ?_
      · (repeat' split) <;> first | rfl | omega
      · first | exact hth | (rw [hth]; (repeat' split) <;> omega) | (simp only [uT_at, wr0, wr1, wr2, wr3]; first | done | ((repeat' split) <;> omega))
      · first | rfl | ((repeat' split) <;> omega)
  · refine g_aload0 13 (by first | exact rv_r | exact rv_n | assumption | exact rv_f) dX6_callBoy_12 rfl ?_
    refine g_iconst 14 dX6_callBoy_13 rfl ?_
    refine k_V1z 17 dX6_callBoy_14 rfl lk_X6_104 hT.t rfl (by first | rfl | exact rv_cat (by assumption) | exact rv_cat rv_f) (Nat.le_of_ble_eq_true rfl) (by first | exact Nat.le_of_ble_eq_true rfl | omega) (c_X6_throwing hT (fun M hT => ?_))
    refine g_iret dX6_callBoy_17 rfl ?_
    refine tq2 hQ hT (by first | exact hA | exact hA.th | exact hA.th.th) ?_ ?_ ?_
    · (repeat' split) <;> first | rfl | omega
    · first | exact hth | (rw [hth]; (repeat' split) <;> omega) | (simp only [uT_at, wr0, wr1, wr2, wr3]; first | done | ((repeat' split) <;> omega))
    · first | rfl | ((repeat' split) <;> omega)
theorem c_X6_putOnPole {th : Int} (hP : TP (kB K) M0 m th a M) (hV : AV a) {c : Int} (hc : R32 c) (hQ : ∀ M', TP (kB K) M0 m (if inP c 0 2 = 0 then 1 else if a.1 (240 + 10 * c + 0) = 1 then 2 else 0) (if inP c 0 2 = 0 then a else if a.1 (240 + 10 * c + 0) = 1 then a else (polesP a.1 c, (saveA a).2)) M' → Q (.inl (some (.int (ii (if inP c 0 2 = 0 then 0 else if a.1 (240 + 10 * c + 0) = 1 then 0 else a.1 (240 + 10 * c + 1)))))) M') : Go K fX6_putOnPole 3 k n 0 [some (.ref m), some (.int (ii c))] [] M Q := by
  obtain ⟨T, hT, hA, hth⟩ := hP
  have hW := hV.1.1
  have w1 := hW.2.1
  unfold W1 at w1
  have hj : inP c 0 2 ≠ 0 → 0 ≤ c ∧ c ≤ 2 := inP_ne
  refine g_aload0 1 (by first | exact rv_r | exact rv_n | assumption | exact rv_f) dX6_putOnPole_0 rfl ?_
  refine g_iconst 2 dX6_putOnPole_1 rfl ?_
  refine w_put8 5 dX6_putOnPole_2 rfl fl_X6_25 hT (fun M hT => ?_)
  refine g_iload1 6 dX6_putOnPole_5 rfl ?_
  refine k_S1z 9 dX6_putOnPole_6 rfl lk_X6_132 rfl (by first | rfl | exact rv_cat (by assumption) | exact rv_cat rv_f) (Nat.le_of_ble_eq_true rfl) (by first | exact Nat.le_of_ble_eq_true rfl | omega) (c_X6_isChaise (by first | assumption | omega) ?_)
  refine g_if_ne 18 12 dX6_putOnPole_9 rfl rfl (by first | exact hT.r _ | exact hT.rT _ _ | exact inP_r | omega) (fun c9 => ?_) (fun c9 => ?_)
  · refine g_aload0 19 (by first | exact rv_r | exact rv_n | assumption | exact rv_f) dX6_putOnPole_18 rfl ?_
    refine g_iload1 20 dX6_putOnPole_19 rfl ?_
    refine g_iconst 21 dX6_putOnPole_20 rfl ?_
    refine k_V2z 24 dX6_putOnPole_21 rfl lk_X6_47 hT.t rfl (by first | rfl | exact rv_cat (by assumption) | exact rv_cat rv_f) (by first | rfl | exact rv_cat (by assumption) | exact rv_cat rv_f) (Nat.le_of_ble_eq_true rfl) (by first | exact Nat.le_of_ble_eq_true rfl | omega) (c_X6_chaise hT (by first | assumption | omega) (by first | assumption | omega) ?_)
    refine g_iconst 25 dX6_putOnPole_24 rfl ?_
    refine g_icmp_ne 34 28 dX6_putOnPole_25 rfl rfl (by first | exact hT.r _ | exact hT.rT _ _ | exact inP_r | omega) (by first | exact hT.r _ | exact hT.rT _ _ | exact inP_r | omega) (fun c25 => ?_) (fun c25 => ?_)
    · refine g_aload0 35 (by first | exact rv_r | exact rv_n | assumption | exact rv_f) dX6_putOnPole_34 rfl ?_
      refine k_V0z 38 dX6_putOnPole_35 rfl lk_X6_107 hT.t rfl  (Nat.le_of_ble_eq_true rfl) (by first | exact Nat.le_of_ble_eq_true rfl | omega) (c_X6_save hT (by have hk := hA.1; rw [uT_ne (by omega)]; omega) (fun T M hT hS => ?_))
      have hA := hA.th.save hS
      have hth := (hS.1 5 8 (by omega) (by omega)).trans uT_at
      rw [wr0] at hth
      refine g_aload0 39 (by first | exact rv_r | exact rv_n | assumption | exact rv_f) dX6_putOnPole_38 rfl ?_
      refine g_iload1 40 dX6_putOnPole_39 rfl ?_
      refine k_V1z 43 dX6_putOnPole_40 rfl lk_X6_135 hT.t rfl (by first | rfl | exact rv_cat (by assumption) | exact rv_cat rv_f) (Nat.le_of_ble_eq_true rfl) (by first | exact Nat.le_of_ble_eq_true rfl | omega) (c_X6_poles hT (by first | assumption | omega) (fun M hT => ?_))
      refine g_iret dX6_putOnPole_43 rfl ?_
      refine tq2 hQ hT (by first | exact hA | exact hA.th | exact hA.th.th) ?_ ?_ ?_
      · (repeat' split) <;> first | rfl | omega
      · first | exact hth | (rw [hth]; (repeat' split) <;> omega) | (simp only [uT_at, wr0, wr1, wr2, wr3]; first | done | ((repeat' split) <;> omega))
      · first | rfl | ((repeat' split) <;> omega)
    · refine g_aload0 29 (by first | exact rv_r | exact rv_n | assumption | exact rv_f) dX6_putOnPole_28 rfl ?_
      refine g_iconst 30 dX6_putOnPole_29 rfl ?_
      refine k_V1z 33 dX6_putOnPole_30 rfl lk_X6_104 hT.t rfl (by first | rfl | exact rv_cat (by assumption) | exact rv_cat rv_f) (Nat.le_of_ble_eq_true rfl) (by first | exact Nat.le_of_ble_eq_true rfl | omega) (c_X6_throwing hT (fun M hT => ?_))
      refine g_iret dX6_putOnPole_33 rfl ?_
      refine tq2 hQ hT (by first | exact hA | exact hA.th | exact hA.th.th) ?_ ?_ ?_
      · (repeat' split) <;> first | rfl | omega
      · first | exact hth | (rw [hth]; (repeat' split) <;> omega) | (simp only [uT_at, wr0, wr1, wr2, wr3]; first | done | ((repeat' split) <;> omega))
      · first | rfl | ((repeat' split) <;> omega)
  · refine g_aload0 13 (by first | exact rv_r | exact rv_n | assumption | exact rv_f) dX6_putOnPole_12 rfl ?_
    refine g_iconst 14 dX6_putOnPole_13 rfl ?_
    refine k_V1z 17 dX6_putOnPole_14 rfl lk_X6_104 hT.t rfl (by first | rfl | exact rv_cat (by assumption) | exact rv_cat rv_f) (Nat.le_of_ble_eq_true rfl) (by first | exact Nat.le_of_ble_eq_true rfl | omega) (c_X6_throwing hT (fun M hT => ?_))
    refine g_iret dX6_putOnPole_17 rfl ?_
    refine tq2 hQ hT (by first | exact hA | exact hA.th | exact hA.th.th) ?_ ?_ ?_
    · (repeat' split) <;> first | rfl | omega
    · first | exact hth | (rw [hth]; (repeat' split) <;> omega) | (simp only [uT_at, wr0, wr1, wr2, wr3]; first | done | ((repeat' split) <;> omega))
    · first | rfl | ((repeat' split) <;> omega)
theorem c_X6_sets {th : Int} (hP : TP (kB K) M0 m th a M) (hV : AV a) {w v lo hi : Int} (hw : 0 ≤ w ∧ w < 270) (hv : R32 v) (hlo : R32 lo) (hhi : R32 hi) (hQ : ∀ M', TP (kB K) M0 m (if inP v lo hi = 0 then 1 else 0) (if inP v lo hi = 0 then a else (up a.1 w v, (saveA a).2)) M' → Q (.inl (some (.int (ii (if inP v lo hi = 0 then 0 else a.1 w))))) M') : Go K fX6_sets 3 k n 0 [some (.ref m), some (.int (ii w)), some (.int (ii v)), some (.int (ii lo)), some (.int (ii hi)), none] [] M Q := by
  obtain ⟨T, hT, hA, hth⟩ := hP
  have hW := hV.1.1
  have w1 := hW.2.1
  unfold W1 at w1
  refine g_aload0 1 (by first | exact rv_r | exact rv_n | assumption | exact rv_f) dX6_sets_0 rfl ?_
  refine g_iconst 2 dX6_sets_1 rfl ?_
  refine w_put8 5 dX6_sets_2 rfl fl_X6_25 hT (fun M hT => ?_)
  refine g_iload2 6 dX6_sets_5 rfl ?_
  refine g_iload3 7 dX6_sets_6 rfl ?_
  refine g_iload4 9 dX6_sets_7 rfl ?_
  refine k_S3z 12 dX6_sets_9 rfl lk_X6_29 rfl (by first | rfl | exact rv_cat (by assumption) | exact rv_cat rv_f) (by first | rfl | exact rv_cat (by assumption) | exact rv_cat rv_f) (by first | rfl | exact rv_cat (by assumption) | exact rv_cat rv_f) (Nat.le_of_ble_eq_true rfl) (by first | exact Nat.le_of_ble_eq_true rfl | omega) (c_X6_in (by first | assumption | omega) (by first | assumption | omega) (by first | assumption | omega) ?_)
  refine g_if_ne 21 15 dX6_sets_12 rfl rfl (by first | exact hT.r _ | exact hT.rT _ _ | exact inP_r | omega) (fun c12 => ?_) (fun c12 => ?_)
  · refine g_aload0 22 (by first | exact rv_r | exact rv_n | assumption | exact rv_f) dX6_sets_21 rfl ?_
    refine k_V0z 25 dX6_sets_22 rfl lk_X6_107 hT.t rfl  (Nat.le_of_ble_eq_true rfl) (by first | exact Nat.le_of_ble_eq_true rfl | omega) (c_X6_save hT (by have hk := hA.1; rw [uT_ne (by omega)]; omega) (fun T M hT hS => ?_))
    have hA := hA.th.save hS
    have hth := (hS.1 5 8 (by omega) (by omega)).trans uT_at
    rw [wr0] at hth
    refine g_aload0 26 (by first | exact rv_r | exact rv_n | assumption | exact rv_f) dX6_sets_25 rfl ?_
    refine g_getf 29 dX6_sets_26 rfl fl_X6_7 hT.t (hT.f0) ?_
    refine g_iload1 30 dX6_sets_29 rfl ?_
    refine g_iald 31 dX6_sets_30 rfl hT.a0 (by omega) (by omega) (by omega) (hT.e0 (by omega) (by omega)) ?_
    refine g_istore5 33 (Nat.le_of_ble_eq_true rfl) (by first | exact c1_0 | exact c1_i | exact c1_r | exact c1_n | exact c1_v (by assumption) | exact c1_f) dX6_sets_31 rfl ?_
    refine g_aload0 34 (by first | exact rv_r | exact rv_n | assumption | exact rv_f) dX6_sets_33 rfl ?_
    refine g_getf 37 dX6_sets_34 rfl fl_X6_7 hT.t (hT.f0) ?_
    refine g_iload1 38 dX6_sets_37 rfl ?_
    refine g_iload2 39 dX6_sets_38 rfl ?_
    refine w_ias0 40 dX6_sets_39 rfl hT (by omega) (by omega) (fun M hT => ?_)
    refine g_iload5 42 dX6_sets_40 rfl ?_
    refine g_iret dX6_sets_42 rfl ?_
    refine tq2 hQ hT (by first | exact hA | exact hA.th | exact hA.th.th) ?_ ?_ ?_
    · (repeat' split) <;> first | rfl | omega
    · first | exact hth | (rw [hth]; (repeat' split) <;> omega) | (simp only [uT_at, wr0, wr1, wr2, wr3]; first | done | ((repeat' split) <;> omega))
    · first | rfl | ((repeat' split) <;> omega)
  · refine g_aload0 16 (by first | exact rv_r | exact rv_n | assumption | exact rv_f) dX6_sets_15 rfl ?_
    refine g_iconst 17 dX6_sets_16 rfl ?_
    refine k_V1z 20 dX6_sets_17 rfl lk_X6_104 hT.t rfl (by first | rfl | exact rv_cat (by assumption) | exact rv_cat rv_f) (Nat.le_of_ble_eq_true rfl) (by first | exact Nat.le_of_ble_eq_true rfl | omega) (c_X6_throwing hT (fun M hT => ?_))
    refine g_iret dX6_sets_20 rfl ?_
    refine tq2 hQ hT (by first | exact hA | exact hA.th | exact hA.th.th) ?_ ?_ ?_
    · (repeat' split) <;> first | rfl | omega
    · first | exact hth | (rw [hth]; (repeat' split) <;> omega) | (simp only [uT_at, wr0, wr1, wr2, wr3]; first | done | ((repeat' split) <;> omega))
    · first | rfl | ((repeat' split) <;> omega)
theorem c_X6_setPace {th : Int} (hP : TP (kB K) M0 m th a M) (hV : AV a) {v : Int} (hv : R32 v) (hQ : ∀ M', TP (kB K) M0 m (if inP v 2 5 = 0 then 1 else 0) (if inP v 2 5 = 0 then a else (up a.1 1 v, (saveA a).2)) M' → Q (.inl (some (.int (ii (if inP v 2 5 = 0 then 0 else a.1 1))))) M') : Go K fX6_setPace 4 k n 0 [some (.ref m), some (.int (ii v))] [] M Q := by
  obtain ⟨T, hT, hA, hth⟩ := hP
  have hW := hV.1.1
  have w1 := hW.2.1
  unfold W1 at w1
  refine g_aload0 1 (by first | exact rv_r | exact rv_n | assumption | exact rv_f) dX6_setPace_0 rfl ?_
  refine g_iconst 2 dX6_setPace_1 rfl ?_
  refine g_iload1 3 dX6_setPace_2 rfl ?_
  refine g_iconst 4 dX6_setPace_3 rfl ?_
  refine g_iconst 5 dX6_setPace_4 rfl ?_
  refine k_V4z 8 dX6_setPace_5 rfl lk_X6_138 hT.t rfl (by first | rfl | exact rv_cat (by assumption) | exact rv_cat rv_f) (by first | rfl | exact rv_cat (by assumption) | exact rv_cat rv_f) (by first | rfl | exact rv_cat (by assumption) | exact rv_cat rv_f) (by first | rfl | exact rv_cat (by assumption) | exact rv_cat rv_f) (Nat.le_of_ble_eq_true rfl) (by first | exact Nat.le_of_ble_eq_true rfl | omega) (c_X6_sets ⟨_, hT, hA, rfl⟩ hV (by omega) hv (by decide) (by decide) (fun M hP => ?_))
  refine g_iret dX6_setPace_8 rfl ?_
  exact hQ _ hP
theorem c_X6_setPoleLimit {th : Int} (hP : TP (kB K) M0 m th a M) (hV : AV a) {v : Int} (hv : R32 v) (hQ : ∀ M', TP (kB K) M0 m (if inP v 20 200 = 0 then 1 else 0) (if inP v 20 200 = 0 then a else (up a.1 2 v, (saveA a).2)) M' → Q (.inl (some (.int (ii (if inP v 20 200 = 0 then 0 else a.1 2))))) M') : Go K fX6_setPoleLimit 4 k n 0 [some (.ref m), some (.int (ii v))] [] M Q := by
  obtain ⟨T, hT, hA, hth⟩ := hP
  have hW := hV.1.1
  have w1 := hW.2.1
  unfold W1 at w1
  refine g_aload0 1 (by first | exact rv_r | exact rv_n | assumption | exact rv_f) dX6_setPoleLimit_0 rfl ?_
  refine g_iconst 2 dX6_setPoleLimit_1 rfl ?_
  refine g_iload1 3 dX6_setPoleLimit_2 rfl ?_
  refine g_bipush 5 (by rfl) dX6_setPoleLimit_3 rfl ?_
  refine g_sipush 8 (by rfl) dX6_setPoleLimit_5 rfl ?_
  refine k_V4z 11 dX6_setPoleLimit_8 rfl lk_X6_138 hT.t rfl (by first | rfl | exact rv_cat (by assumption) | exact rv_cat rv_f) (by first | rfl | exact rv_cat (by assumption) | exact rv_cat rv_f) (by first | rfl | exact rv_cat (by assumption) | exact rv_cat rv_f) (by first | rfl | exact rv_cat (by assumption) | exact rv_cat rv_f) (Nat.le_of_ble_eq_true rfl) (by first | exact Nat.le_of_ble_eq_true rfl | omega) (c_X6_sets ⟨_, hT, hA, rfl⟩ hV (by omega) hv (by decide) (by decide) (fun M hP => ?_))
  refine g_iret dX6_setPoleLimit_11 rfl ?_
  exact hQ _ hP
end TWG
