/-! ===== the twin's methods: a quarter ===== -/
section TWC
variable {K : KT} {k n m : Nat} {M M0 : Mem} {Q : Res → Mem → Prop} {s : Int → Int} {T : Nat → Int → Int}
theorem l_rides3 {c g mi p : Int} (hc : 0 ≤ c ∧ c < 3) (hT : Tw (kB K) M0 m s T M) (h4 : 0 ≤ s 4 ∧ s 4 < 4) (hb : 0 ≤ s (240 + 10 * c + 6) ∧ s (240 + 10 * c + 6) < 4) (hQ : ∀ M', Tw (kB K) M0 m (rideC (standsP s (s (240 + 10 * c + 6))) c) T M' → Q (.inl none) M') : Go K fX6_rides 3 k n 150 [some (.ref m), some (.int (ii c)), some (.int (ii g)), some (.int (ii mi)), some (.int (ii p))] [] M Q := by
  refine g_aload0 151 (by first | exact rv_r | exact rv_n | assumption | exact rv_f) dX6_rides_150 rfl ?_
  refine g_aload0 152 (by first | exact rv_r | exact rv_n | assumption | exact rv_f) dX6_rides_151 rfl ?_
  refine g_iload1 153 dX6_rides_152 rfl ?_
  refine g_bipush 155 (by rfl) dX6_rides_153 rfl ?_
  refine k_V2z 158 dX6_rides_155 rfl lk_X6_47 hT.t rfl (by first | rfl | exact rv_cat (by assumption) | exact rv_cat rv_f) (by first | rfl | exact rv_cat (by assumption) | exact rv_cat rv_f) (Nat.le_of_ble_eq_true rfl) (by first | exact Nat.le_of_ble_eq_true rfl | omega) (c_X6_chaise hT (by first | assumption | omega) (by first | assumption | omega) ?_)
  refine k_V1z 161 dX6_rides_158 rfl lk_X6_85 hT.t rfl (by first | rfl | exact rv_cat (by assumption) | exact rv_cat rv_f) (Nat.le_of_ble_eq_true rfl) (by first | exact Nat.le_of_ble_eq_true rfl | omega) (c_X6_stands hT (by first | assumption | omega) (by first | assumption | omega) (fun M hT => ?_))
  refine g_aload0 162 (by first | exact rv_r | exact rv_n | assumption | exact rv_f) dX6_rides_161 rfl ?_
  refine g_iload1 163 dX6_rides_162 rfl ?_
  refine g_iconst 164 dX6_rides_163 rfl ?_
  refine k_V2z 167 dX6_rides_164 rfl lk_X6_47 hT.t rfl (by first | rfl | exact rv_cat (by assumption) | exact rv_cat rv_f) (by first | rfl | exact rv_cat (by assumption) | exact rv_cat rv_f) (Nat.le_of_ble_eq_true rfl) (by first | exact Nat.le_of_ble_eq_true rfl | omega) (c_X6_chaise hT (by first | assumption | omega) (by first | assumption | omega) ?_)
  refine g_aload0 168 (by first | exact rv_r | exact rv_n | assumption | exact rv_f) dX6_rides_167 rfl ?_
  refine g_getf 171 dX6_rides_168 rfl fl_X6_7 hT.t (hT.f0) ?_
  refine g_iconst 172 dX6_rides_171 rfl ?_
  refine g_iald 173 dX6_rides_172 rfl hT.a0 (by omega) (by omega) (by omega) (hT.e0 (by omega) (by omega)) ?_
  refine g_icmp_lt 194 176 dX6_rides_173 rfl rfl (by first | exact hT.r _ | exact hT.rT _ _ | omega) (by first | exact hT.r _ | exact hT.rT _ _ | omega) (fun c173 => ?_) (fun c173 => ?_)
  · refine g_vret dX6_rides_194 rfl ?_
    first | exact hQ _ (hT.casts (by unfold rideC; rw [if_pos c173])) | exact hQ _ (hT.casts (by unfold rideC; rw [if_neg (by omega)]))
  · refine g_aload0 177 (by first | exact rv_r | exact rv_n | assumption | exact rv_f) dX6_rides_176 rfl ?_
    refine g_iload1 178 dX6_rides_177 rfl ?_
    refine g_iconst 179 dX6_rides_178 rfl ?_
    refine g_iconst 180 dX6_rides_179 rfl ?_
    refine k_V3z 183 dX6_rides_180 rfl lk_X6_82 hT.t rfl (by first | rfl | exact rv_cat (by assumption) | exact rv_cat rv_f) (by first | rfl | exact rv_cat (by assumption) | exact rv_cat rv_f) (by first | rfl | exact rv_cat (by assumption) | exact rv_cat rv_f) (Nat.le_of_ble_eq_true rfl) (by first | exact Nat.le_of_ble_eq_true rfl | omega) (c_X6_layChaise hT (by first | assumption | omega) (by first | assumption | omega) (fun M hT => ?_))
    refine g_aload0 184 (by first | exact rv_r | exact rv_n | assumption | exact rv_f) dX6_rides_183 rfl ?_
    refine g_getf 187 dX6_rides_184 rfl fl_X6_7 hT.t (hT.f0) ?_
    refine g_bipush 189 (by rfl) dX6_rides_187 rfl ?_
    refine g_dup2 190 (by first | rfl | exact rv_cat (by assumption) | exact rv_cat rv_f) (by first | rfl | exact rv_cat (by assumption) | exact rv_cat rv_f) dX6_rides_189 rfl ?_
    refine g_iald 191 dX6_rides_190 rfl hT.a0 (by omega) (by omega) (by omega) (hT.e0 (by omega) (by omega)) ?_
    refine g_iconst 192 dX6_rides_191 rfl ?_
    refine g_iadd 193 dX6_rides_192 rfl ?_
    refine w_ias0 194 dX6_rides_193 rfl hT (by omega) (by omega) (fun M hT => ?_)
    refine g_vret dX6_rides_194 rfl ?_
    first | exact hQ _ (hT.casts (by unfold rideC; rw [if_pos c173])) | exact hQ _ (hT.casts (by unfold rideC; rw [if_neg (by omega)]))
theorem l_rides2 {c g : Int} (hc : 0 ≤ c ∧ c < 3) (hg : 0 ≤ g ∧ g < 40) (hT : Tw (kB K) M0 m s T M) (h4 : 0 ≤ s 4 ∧ s 4 < 4) (hp : 0 ≤ s (240 + 10 * c + 5) ∧ s (240 + 10 * c + 5) < 5) (hb : 0 ≤ s (240 + 10 * c + 6) ∧ s (240 + 10 * c + 6) < 4) (hQ : ∀ M', Tw (kB K) M0 m (rideC (rideB s c g) c) T M' → Q (.inl none) M') : Go K fX6_rides 3 k n 57 [some (.ref m), some (.int (ii c)), some (.int (ii g)), none, none] [] M Q := by
  refine g_iconst 58 dX6_rides_57 rfl ?_
  refine g_aload0 59 (by first | exact rv_r | exact rv_n | assumption | exact rv_f) dX6_rides_58 rfl ?_
  refine g_iload2 60 dX6_rides_59 rfl ?_
  refine g_iconst 61 dX6_rides_60 rfl ?_
  refine k_V2z 64 dX6_rides_61 rfl lk_X6_36 hT.t rfl (by first | rfl | exact rv_cat (by assumption) | exact rv_cat rv_f) (by first | rfl | exact rv_cat (by assumption) | exact rv_cat rv_f) (Nat.le_of_ble_eq_true rfl) (by first | exact Nat.le_of_ble_eq_true rfl | omega) (c_X6_guest hT (by first | assumption | omega) (by first | assumption | omega) ?_)
  refine k_S1z 67 dX6_rides_64 rfl lk_X6_40 rfl (by first | rfl | exact rv_cat (by assumption) | exact rv_cat rv_f) (Nat.le_of_ble_eq_true rfl) (by first | exact Nat.le_of_ble_eq_true rfl | omega) (c_X6_milesOf (hT.r _) ?_)
  refine g_imul 68 dX6_rides_67 rfl ?_
  refine g_istore3 69 (Nat.le_of_ble_eq_true rfl) (by first | exact c1_0 | exact c1_i | exact c1_r | exact c1_n | exact c1_v (by assumption) | exact c1_f) dX6_rides_68 rfl ?_
  refine g_aload0 70 (by first | exact rv_r | exact rv_n | assumption | exact rv_f) dX6_rides_69 rfl ?_
  refine g_iload1 71 dX6_rides_70 rfl ?_
  refine g_iconst 72 dX6_rides_71 rfl ?_
  refine k_V2z 75 dX6_rides_72 rfl lk_X6_47 hT.t rfl (by first | rfl | exact rv_cat (by assumption) | exact rv_cat rv_f) (by first | rfl | exact rv_cat (by assumption) | exact rv_cat rv_f) (Nat.le_of_ble_eq_true rfl) (by first | exact Nat.le_of_ble_eq_true rfl | omega) (c_X6_chaise hT (by first | assumption | omega) (by first | assumption | omega) ?_)
  refine g_istore4 77 (Nat.le_of_ble_eq_true rfl) (by first | exact c1_0 | exact c1_i | exact c1_r | exact c1_n | exact c1_v (by assumption) | exact c1_f) dX6_rides_75 rfl ?_
  refine g_aload0 78 (by first | exact rv_r | exact rv_n | assumption | exact rv_f) dX6_rides_77 rfl ?_
  refine g_iload1 79 dX6_rides_78 rfl ?_
  refine g_iconst 80 dX6_rides_79 rfl ?_
  refine g_iconst 81 dX6_rides_80 rfl ?_
  refine k_V3z 84 dX6_rides_81 rfl lk_X6_82 hT.t rfl (by first | rfl | exact rv_cat (by assumption) | exact rv_cat rv_f) (by first | rfl | exact rv_cat (by assumption) | exact rv_cat rv_f) (by first | rfl | exact rv_cat (by assumption) | exact rv_cat rv_f) (Nat.le_of_ble_eq_true rfl) (by first | exact Nat.le_of_ble_eq_true rfl | omega) (c_X6_layChaise hT (by first | assumption | omega) (by first | assumption | omega) (fun M hT => ?_))
  refine g_aload0 85 (by first | exact rv_r | exact rv_n | assumption | exact rv_f) dX6_rides_84 rfl ?_
  refine g_iload1 86 dX6_rides_85 rfl ?_
  refine g_iconst 87 dX6_rides_86 rfl ?_
  refine g_aload0 88 (by first | exact rv_r | exact rv_n | assumption | exact rv_f) dX6_rides_87 rfl ?_
  refine g_iload1 89 dX6_rides_88 rfl ?_
  refine g_iconst 90 dX6_rides_89 rfl ?_
  refine k_V2z 93 dX6_rides_90 rfl lk_X6_47 hT.t rfl (by first | rfl | exact rv_cat (by assumption) | exact rv_cat rv_f) (by first | rfl | exact rv_cat (by assumption) | exact rv_cat rv_f) (Nat.le_of_ble_eq_true rfl) (by first | exact Nat.le_of_ble_eq_true rfl | omega) (c_X6_chaise hT (by first | assumption | omega) (by first | assumption | omega) ?_)
  refine g_iload3 94 dX6_rides_93 rfl ?_
  refine g_iadd 95 dX6_rides_94 rfl ?_
  refine k_V3z 98 dX6_rides_95 rfl lk_X6_82 hT.t rfl (by first | rfl | exact rv_cat (by assumption) | exact rv_cat rv_f) (by first | rfl | exact rv_cat (by assumption) | exact rv_cat rv_f) (by first | rfl | exact rv_cat (by assumption) | exact rv_cat rv_f) (Nat.le_of_ble_eq_true rfl) (by first | exact Nat.le_of_ble_eq_true rfl | omega) (c_X6_layChaise hT (by first | assumption | omega) (by first | assumption | omega) (fun M hT => ?_))
  refine g_aload0 99 (by first | exact rv_r | exact rv_n | assumption | exact rv_f) dX6_rides_98 rfl ?_
  refine g_iload1 100 dX6_rides_99 rfl ?_
  refine g_iconst 101 dX6_rides_100 rfl ?_
  refine g_aload0 102 (by first | exact rv_r | exact rv_n | assumption | exact rv_f) dX6_rides_101 rfl ?_
  refine g_iload1 103 dX6_rides_102 rfl ?_
  refine g_iconst 104 dX6_rides_103 rfl ?_
  refine k_V2z 107 dX6_rides_104 rfl lk_X6_47 hT.t rfl (by first | rfl | exact rv_cat (by assumption) | exact rv_cat rv_f) (by first | rfl | exact rv_cat (by assumption) | exact rv_cat rv_f) (Nat.le_of_ble_eq_true rfl) (by first | exact Nat.le_of_ble_eq_true rfl | omega) (c_X6_chaise hT (by first | assumption | omega) (by first | assumption | omega) ?_)
  refine g_iload3 108 dX6_rides_107 rfl ?_
  refine g_iadd 109 dX6_rides_108 rfl ?_
  refine k_V3z 112 dX6_rides_109 rfl lk_X6_82 hT.t rfl (by first | rfl | exact rv_cat (by assumption) | exact rv_cat rv_f) (by first | rfl | exact rv_cat (by assumption) | exact rv_cat rv_f) (by first | rfl | exact rv_cat (by assumption) | exact rv_cat rv_f) (Nat.le_of_ble_eq_true rfl) (by first | exact Nat.le_of_ble_eq_true rfl | omega) (c_X6_layChaise hT (by first | assumption | omega) (by first | assumption | omega) (fun M hT => ?_))
  refine g_aload0 113 (by first | exact rv_r | exact rv_n | assumption | exact rv_f) dX6_rides_112 rfl ?_
  refine g_iload4 115 dX6_rides_113 rfl ?_
  refine g_iconst 116 dX6_rides_115 rfl ?_
  refine g_iconst 117 dX6_rides_116 rfl ?_
  refine k_V3z 120 dX6_rides_117 rfl lk_X6_73 hT.t rfl (by first | rfl | exact rv_cat (by assumption) | exact rv_cat rv_f) (by first | rfl | exact rv_cat (by assumption) | exact rv_cat rv_f) (by first | rfl | exact rv_cat (by assumption) | exact rv_cat rv_f) (Nat.le_of_ble_eq_true rfl) (by first | exact Nat.le_of_ble_eq_true rfl | omega) (c_X6_layPair hT (by first | assumption | omega) (by first | assumption | omega) (fun M hT => ?_))
  refine g_aload0 121 (by first | exact rv_r | exact rv_n | assumption | exact rv_f) dX6_rides_120 rfl ?_
  refine g_iload4 123 dX6_rides_121 rfl ?_
  refine g_iconst 124 dX6_rides_123 rfl ?_
  refine g_aload0 125 (by first | exact rv_r | exact rv_n | assumption | exact rv_f) dX6_rides_124 rfl ?_
  refine g_iload4 127 dX6_rides_125 rfl ?_
  refine g_iconst 128 dX6_rides_127 rfl ?_
  refine k_V2z 131 dX6_rides_128 rfl lk_X6_44 hT.t rfl (by first | rfl | exact rv_cat (by assumption) | exact rv_cat rv_f) (by first | rfl | exact rv_cat (by assumption) | exact rv_cat rv_f) (Nat.le_of_ble_eq_true rfl) (by first | exact Nat.le_of_ble_eq_true rfl | omega) (c_X6_pair hT (by first | assumption | omega) (by first | assumption | omega) ?_)
  refine g_iload3 132 dX6_rides_131 rfl ?_
  refine g_iadd 133 dX6_rides_132 rfl ?_
  refine k_V3z 136 dX6_rides_133 rfl lk_X6_73 hT.t rfl (by first | rfl | exact rv_cat (by assumption) | exact rv_cat rv_f) (by first | rfl | exact rv_cat (by assumption) | exact rv_cat rv_f) (by first | rfl | exact rv_cat (by assumption) | exact rv_cat rv_f) (Nat.le_of_ble_eq_true rfl) (by first | exact Nat.le_of_ble_eq_true rfl | omega) (c_X6_layPair hT (by first | assumption | omega) (by first | assumption | omega) (fun M hT => ?_))
  refine g_aload0 137 (by first | exact rv_r | exact rv_n | assumption | exact rv_f) dX6_rides_136 rfl ?_
  refine g_iload4 139 dX6_rides_137 rfl ?_
  refine g_iconst 140 dX6_rides_139 rfl ?_
  refine g_aload0 141 (by first | exact rv_r | exact rv_n | assumption | exact rv_f) dX6_rides_140 rfl ?_
  refine g_iload1 142 dX6_rides_141 rfl ?_
  refine g_bipush 144 (by rfl) dX6_rides_142 rfl ?_
  refine k_V2z 147 dX6_rides_144 rfl lk_X6_47 hT.t rfl (by first | rfl | exact rv_cat (by assumption) | exact rv_cat rv_f) (by first | rfl | exact rv_cat (by assumption) | exact rv_cat rv_f) (Nat.le_of_ble_eq_true rfl) (by first | exact Nat.le_of_ble_eq_true rfl | omega) (c_X6_chaise hT (by first | assumption | omega) (by first | assumption | omega) ?_)
  refine k_V3z 150 dX6_rides_147 rfl lk_X6_73 hT.t rfl (by first | rfl | exact rv_cat (by assumption) | exact rv_cat rv_f) (by first | rfl | exact rv_cat (by assumption) | exact rv_cat rv_f) (by first | rfl | exact rv_cat (by assumption) | exact rv_cat rv_f) (Nat.le_of_ble_eq_true rfl) (by first | exact Nat.le_of_ble_eq_true rfl | omega) (c_X6_layPair hT (by first | assumption | omega) (by first | assumption | omega) (fun M hT => ?_))
  refine l_rides3 hc hT (by simp (disch := omega) only [up_ne]; exact h4) (by simp (disch := omega) only [up_ne]; exact hb) hQ
theorem c_X6_rides (hT : Tw (kB K) M0 m s T M) {c : Int} (hW : WW s) (hc : 0 ≤ c ∧ c < 3) (ho : s (240 + 10 * c + 0) = 1) (hQ : ∀ M', Tw (kB K) M0 m (ridesP s c) (T) M' → Q (.inl none) M') : Go K fX6_rides 3 k n 0 [some (.ref m), some (.int (ii c)), none, none, none] [] M Q := by
  have a := (hW.2.2.2.2.2.2.1 c hc.1 hc.2).2.2.2.2 ho
  have eA := rideA_at hW.1 hc (show 1 ≤ s (240 + 10 * c + 7) by omega)
  have w1 := hW.2.1
  unfold W1 at w1
  have tail : ∀ (S : Int → Int) M, S = rideA s c → Tw (kB K) M0 m S T M → Go K fX6_rides 3 k n 47 [some (.ref m), some (.int (ii c)), some (.int (ii (s (240 + 10 * c + 4)))), none, none] [] M Q := by
    intro S M hS hT
    have hq : (if S (240 + 10 * c + 7) = 0 then rideC (rideB S c (s (240 + 10 * c + 4))) c else S) = ridesP s c := by rw [hS]; rfl
    rw [← hq] at hQ
    by_cases q : s (240 + 10 * c + 7) = 1
    · have e7 : S (240 + 10 * c + 7) = 0 := by rw [hS, eA, if_neg (by omega), if_pos rfl]; omega
      have k5 : S (240 + 10 * c + 5) = s (240 + 10 * c + 5) := by rw [hS, eA, if_neg (by omega), if_neg (by omega)]
      have k6 : S (240 + 10 * c + 6) = s (240 + 10 * c + 6) := by rw [hS, eA, if_neg (by omega), if_neg (by omega)]
      have k4 : S 4 = s 4 := by rw [hS, eA, if_neg (by omega), if_neg (by omega)]
      have hlt := row_lt hW.2.1 hW.2.2.1 (b := s (240 + 10 * c + 6)) (by omega) (by omega)
      rw [if_pos e7] at hQ
      refine g_aload0 48 (by first | exact rv_r | exact rv_n | assumption | exact rv_f) dX6_rides_47 rfl ?_
      refine g_iload1 49 dX6_rides_48 rfl ?_
      refine g_bipush 51 (by rfl) dX6_rides_49 rfl ?_
      refine k_V2z 54 dX6_rides_51 rfl lk_X6_47 hT.t rfl (by first | rfl | exact rv_cat (by assumption) | exact rv_cat rv_f) (by first | rfl | exact rv_cat (by assumption) | exact rv_cat rv_f) (Nat.le_of_ble_eq_true rfl) (by first | exact Nat.le_of_ble_eq_true rfl | omega) (c_X6_chaise hT (by first | assumption | omega) (by first | assumption | omega) ?_)
      refine g_if_ne 194 57 dX6_rides_54 rfl rfl (by first | exact hT.r _ | exact hT.rT _ _ | omega) (fun c54 => ?_) (fun c54 => ?_)
      · omega
      · exact l_rides2 hc (by omega) hT (by omega) (by omega) (by omega) hQ
    · have e7 : S (240 + 10 * c + 7) ≠ 0 := by rw [hS, eA]; (repeat' split) <;> omega
      rw [if_neg e7] at hQ
      refine g_aload0 48 (by first | exact rv_r | exact rv_n | assumption | exact rv_f) dX6_rides_47 rfl ?_
      refine g_iload1 49 dX6_rides_48 rfl ?_
      refine g_bipush 51 (by rfl) dX6_rides_49 rfl ?_
      refine k_V2z 54 dX6_rides_51 rfl lk_X6_47 hT.t rfl (by first | rfl | exact rv_cat (by assumption) | exact rv_cat rv_f) (by first | rfl | exact rv_cat (by assumption) | exact rv_cat rv_f) (Nat.le_of_ble_eq_true rfl) (by first | exact Nat.le_of_ble_eq_true rfl | omega) (c_X6_chaise hT (by first | assumption | omega) (by first | assumption | omega) ?_)
      refine g_if_ne 194 57 dX6_rides_54 rfl rfl (by first | exact hT.r _ | exact hT.rT _ _ | omega) (fun c54 => ?_) (fun c54 => ?_)
      · refine g_vret dX6_rides_194 rfl ?_
        exact hQ _ hT
      · omega
  have e4 : up s (240 + 10 * c + 7) (s (240 + 10 * c + 7) - 1) (240 + 10 * c + 4) = s (240 + 10 * c + 4) := up_ne (by omega)
  refine g_aload0 1 (by first | exact rv_r | exact rv_n | assumption | exact rv_f) dX6_rides_0 rfl ?_
  refine g_iload1 2 dX6_rides_1 rfl ?_
  refine g_bipush 4 (by rfl) dX6_rides_2 rfl ?_
  refine g_aload0 5 (by first | exact rv_r | exact rv_n | assumption | exact rv_f) dX6_rides_4 rfl ?_
  refine g_iload1 6 dX6_rides_5 rfl ?_
  refine g_bipush 8 (by rfl) dX6_rides_6 rfl ?_
  refine k_V2z 11 dX6_rides_8 rfl lk_X6_47 hT.t rfl (by first | rfl | exact rv_cat (by assumption) | exact rv_cat rv_f) (by first | rfl | exact rv_cat (by assumption) | exact rv_cat rv_f) (Nat.le_of_ble_eq_true rfl) (by first | exact Nat.le_of_ble_eq_true rfl | omega) (c_X6_chaise hT (by first | assumption | omega) (by first | assumption | omega) ?_)
  refine g_iconst 12 dX6_rides_11 rfl ?_
  refine g_isub 13 dX6_rides_12 rfl ?_
  refine k_V3z 16 dX6_rides_13 rfl lk_X6_82 hT.t rfl (by first | rfl | exact rv_cat (by assumption) | exact rv_cat rv_f) (by first | rfl | exact rv_cat (by assumption) | exact rv_cat rv_f) (by first | rfl | exact rv_cat (by assumption) | exact rv_cat rv_f) (Nat.le_of_ble_eq_true rfl) (by first | exact Nat.le_of_ble_eq_true rfl | omega) (c_X6_layChaise hT (by first | assumption | omega) (by first | assumption | omega) (fun M hT => ?_))
  refine g_aload0 17 (by first | exact rv_r | exact rv_n | assumption | exact rv_f) dX6_rides_16 rfl ?_
  refine g_iload1 18 dX6_rides_17 rfl ?_
  refine g_iconst 19 dX6_rides_18 rfl ?_
  refine k_V2z 22 dX6_rides_19 rfl lk_X6_47 hT.t rfl (by first | rfl | exact rv_cat (by assumption) | exact rv_cat rv_f) (by first | rfl | exact rv_cat (by assumption) | exact rv_cat rv_f) (Nat.le_of_ble_eq_true rfl) (by first | exact Nat.le_of_ble_eq_true rfl | omega) (c_X6_chaise hT (by first | assumption | omega) (by first | assumption | omega) ?_)
  refine g_istore2 23 (Nat.le_of_ble_eq_true rfl) (by first | exact c1_0 | exact c1_i | exact c1_r | exact c1_n | exact c1_v (by assumption) | exact c1_f) dX6_rides_22 rfl ?_
  rw [e4]
  refine g_aload0 24 (by first | exact rv_r | exact rv_n | assumption | exact rv_f) dX6_rides_23 rfl ?_
  refine g_iload1 25 dX6_rides_24 rfl ?_
  refine g_bipush 27 (by rfl) dX6_rides_25 rfl ?_
  refine k_V2z 30 dX6_rides_27 rfl lk_X6_47 hT.t rfl (by first | rfl | exact rv_cat (by assumption) | exact rv_cat rv_f) (by first | rfl | exact rv_cat (by assumption) | exact rv_cat rv_f) (Nat.le_of_ble_eq_true rfl) (by first | exact Nat.le_of_ble_eq_true rfl | omega) (c_X6_chaise hT (by first | assumption | omega) (by first | assumption | omega) ?_)
  refine g_aload0 31 (by first | exact rv_r | exact rv_n | assumption | exact rv_f) dX6_rides_30 rfl ?_
  refine g_iload1 32 dX6_rides_31 rfl ?_
  refine g_bipush 34 (by rfl) dX6_rides_32 rfl ?_
  refine k_V2z 37 dX6_rides_34 rfl lk_X6_47 hT.t rfl (by first | rfl | exact rv_cat (by assumption) | exact rv_cat rv_f) (by first | rfl | exact rv_cat (by assumption) | exact rv_cat rv_f) (Nat.le_of_ble_eq_true rfl) (by first | exact Nat.le_of_ble_eq_true rfl | omega) (c_X6_chaise hT (by first | assumption | omega) (by first | assumption | omega) ?_)
  refine g_icmp_ne 47 40 dX6_rides_37 rfl rfl (by first | exact hT.r _ | exact hT.rT _ _ | omega) (by first | exact hT.r _ | exact hT.rT _ _ | omega) (fun c37 => ?_) (fun c37 => ?_)
  · first | exact tail _ _ (by unfold rideA; rw [if_pos c37, e4]) hT | exact tail _ _ (by unfold rideA; rw [if_neg c37]) hT
  · refine g_aload0 41 (by first | exact rv_r | exact rv_n | assumption | exact rv_f) dX6_rides_40 rfl ?_
    refine g_iload2 42 dX6_rides_41 rfl ?_
    refine g_iconst 43 dX6_rides_42 rfl ?_
    refine g_iconst 44 dX6_rides_43 rfl ?_
    refine k_V3z 47 dX6_rides_44 rfl lk_X6_67 hT.t rfl (by first | rfl | exact rv_cat (by assumption) | exact rv_cat rv_f) (by first | rfl | exact rv_cat (by assumption) | exact rv_cat rv_f) (by first | rfl | exact rv_cat (by assumption) | exact rv_cat rv_f) (Nat.le_of_ble_eq_true rfl) (by first | exact Nat.le_of_ble_eq_true rfl | omega) (c_X6_layGuest hT (by first | assumption | omega) (by first | assumption | omega) (fun M hT => ?_))
    first | exact tail _ _ (by unfold rideA; rw [if_pos c37, e4]) hT | exact tail _ _ (by unfold rideA; rw [if_neg c37]) hT
theorem l_repairs2 (hT : Tw (kB K) M0 m s T M) {c : Int} (h9 : -1 ≤ s 9 ∧ s 9 < 3) (hQ : ∀ M', Tw (kB K) M0 m (repB s) T M' → Q (.inl none) M') : Go K fX6_repairs 2 k n 59 [some (.ref m), some (.int (ii c))] [] M Q := by
  unfold repB at hQ
  by_cases q : s 9 = -1
  · rw [if_pos q] at hQ
    refine g_aload0 60 (by first | exact rv_r | exact rv_n | assumption | exact rv_f) dX6_repairs_59 rfl ?_
    refine g_getf 63 dX6_repairs_60 rfl fl_X6_7 hT.t (hT.f0) ?_
    refine g_bipush 65 (by rfl) dX6_repairs_63 rfl ?_
    refine g_iald 66 dX6_repairs_65 rfl hT.a0 (by omega) (by omega) (by omega) (hT.e0 (by omega) (by omega)) ?_
    refine g_iconst 67 dX6_repairs_66 rfl ?_
    refine g_icmp_eq 144 70 dX6_repairs_67 rfl rfl (by first | exact hT.r _ | exact hT.rT _ _ | omega) (by first | exact hT.r _ | exact hT.rT _ _ | omega) (fun c67 => ?_) (fun c67 => ?_)
    · refine g_vret dX6_repairs_144 rfl ?_
      exact hQ _ hT
    · omega
  · rw [if_neg q] at hQ
    have tail : ∀ (S : Int → Int) M, S = up s 10 ((if s 10 = 0 then 4 else s 10) - 1) → Tw (kB K) M0 m S T M → Go K fX6_repairs 2 k n 100 [some (.ref m), some (.int (ii c))] [] M Q := by
      intro S M hS hT
      have e9 : S 9 = s 9 := by rw [hS, up_ne (by omega)]
      rw [← hS] at hQ
      have e9' : up S (240 + 10 * S 9 + 2) 0 9 = S 9 := up_ne (by omega)
      refine g_aload0 101 (by first | exact rv_r | exact rv_n | assumption | exact rv_f) dX6_repairs_100 rfl ?_
      refine g_getf 104 dX6_repairs_101 rfl fl_X6_7 hT.t (hT.f0) ?_
      refine g_bipush 106 (by rfl) dX6_repairs_104 rfl ?_
      refine g_iald 107 dX6_repairs_106 rfl hT.a0 (by omega) (by omega) (by omega) (hT.e0 (by omega) (by omega)) ?_
      refine g_if_ne 144 110 dX6_repairs_107 rfl rfl (by first | exact hT.r _ | exact hT.rT _ _ | omega) (fun c107 => ?_) (fun c107 => ?_)
      · refine g_vret dX6_repairs_144 rfl ?_
        first | exact hQ _ (hT.casts (by rw [if_neg c107])) | exact hQ _ (hT.casts (by rw [if_pos c107]))
      · refine g_aload0 111 (by first | exact rv_r | exact rv_n | assumption | exact rv_f) dX6_repairs_110 rfl ?_
        refine g_aload0 112 (by first | exact rv_r | exact rv_n | assumption | exact rv_f) dX6_repairs_111 rfl ?_
        refine g_getf 115 dX6_repairs_112 rfl fl_X6_7 hT.t (hT.f0) ?_
        refine g_bipush 117 (by rfl) dX6_repairs_115 rfl ?_
        refine g_iald 118 dX6_repairs_117 rfl hT.a0 (by omega) (by omega) (by omega) (hT.e0 (by omega) (by omega)) ?_
        refine g_iconst 119 dX6_repairs_118 rfl ?_
        refine g_iconst 120 dX6_repairs_119 rfl ?_
        refine k_V3z 123 dX6_repairs_120 rfl lk_X6_82 hT.t rfl (by first | rfl | exact rv_cat (by assumption) | exact rv_cat rv_f) (by first | rfl | exact rv_cat (by assumption) | exact rv_cat rv_f) (by first | rfl | exact rv_cat (by assumption) | exact rv_cat rv_f) (Nat.le_of_ble_eq_true rfl) (by first | exact Nat.le_of_ble_eq_true rfl | omega) (c_X6_layChaise hT (by first | assumption | omega) (by first | assumption | omega) (fun M hT => ?_))
        refine g_aload0 124 (by first | exact rv_r | exact rv_n | assumption | exact rv_f) dX6_repairs_123 rfl ?_
        refine g_aload0 125 (by first | exact rv_r | exact rv_n | assumption | exact rv_f) dX6_repairs_124 rfl ?_
        refine g_getf 128 dX6_repairs_125 rfl fl_X6_7 hT.t (hT.f0) ?_
        refine g_bipush 130 (by rfl) dX6_repairs_128 rfl ?_
        refine g_iald 131 dX6_repairs_130 rfl hT.a0 (by omega) (by omega) (by omega) (hT.e0 (by omega) (by omega)) ?_
        refine g_iconst 132 dX6_repairs_131 rfl ?_
        refine g_iconst 133 dX6_repairs_132 rfl ?_
        refine k_V3z 136 dX6_repairs_133 rfl lk_X6_82 hT.t rfl (by first | rfl | exact rv_cat (by assumption) | exact rv_cat rv_f) (by first | rfl | exact rv_cat (by assumption) | exact rv_cat rv_f) (by first | rfl | exact rv_cat (by assumption) | exact rv_cat rv_f) (Nat.le_of_ble_eq_true rfl) (by first | exact Nat.le_of_ble_eq_true rfl | omega) (c_X6_layChaise hT (by first | assumption | omega) (by first | assumption | omega) (fun M hT => ?_))
        refine g_aload0 137 (by first | exact rv_r | exact rv_n | assumption | exact rv_f) dX6_repairs_136 rfl ?_
        refine g_getf 140 dX6_repairs_137 rfl fl_X6_7 hT.t (hT.f0) ?_
        refine g_bipush 142 (by rfl) dX6_repairs_140 rfl ?_
        refine g_iconst 143 dX6_repairs_142 rfl ?_
        refine w_ias0 144 dX6_repairs_143 rfl hT (by omega) (by omega) (fun M hT => ?_)
        refine g_vret dX6_repairs_144 rfl ?_
        first | exact hQ _ (hT.casts (by rw [if_neg c107])) | exact hQ _ (hT.casts (by rw [if_pos c107]))
    refine g_aload0 60 (by first | exact rv_r | exact rv_n | assumption | exact rv_f) dX6_repairs_59 rfl ?_
    refine g_getf 63 dX6_repairs_60 rfl fl_X6_7 hT.t (hT.f0) ?_
    refine g_bipush 65 (by rfl) dX6_repairs_63 rfl ?_
    refine g_iald 66 dX6_repairs_65 rfl hT.a0 (by omega) (by omega) (by omega) (hT.e0 (by omega) (by omega)) ?_
    refine g_iconst 67 dX6_repairs_66 rfl ?_
    refine g_icmp_eq 144 70 dX6_repairs_67 rfl rfl (by first | exact hT.r _ | exact hT.rT _ _ | omega) (by first | exact hT.r _ | exact hT.rT _ _ | omega) (fun c67 => ?_) (fun c67 => ?_)
    · refine g_vret dX6_repairs_144 rfl ?_
      omega
    · refine g_aload0 71 (by first | exact rv_r | exact rv_n | assumption | exact rv_f) dX6_repairs_70 rfl ?_
      refine g_getf 74 dX6_repairs_71 rfl fl_X6_7 hT.t (hT.f0) ?_
      refine g_bipush 76 (by rfl) dX6_repairs_74 rfl ?_
      refine g_aload0 77 (by first | exact rv_r | exact rv_n | assumption | exact rv_f) dX6_repairs_76 rfl ?_
      refine g_getf 80 dX6_repairs_77 rfl fl_X6_7 hT.t (hT.f0) ?_
      refine g_bipush 82 (by rfl) dX6_repairs_80 rfl ?_
      refine g_iald 83 dX6_repairs_82 rfl hT.a0 (by omega) (by omega) (by omega) (hT.e0 (by omega) (by omega)) ?_
      refine g_if_ne 90 86 dX6_repairs_83 rfl rfl (by first | exact hT.r _ | exact hT.rT _ _ | omega) (fun c83 => ?_) (fun c83 => ?_)
      · refine g_aload0 91 (by first | exact rv_r | exact rv_n | assumption | exact rv_f) dX6_repairs_90 rfl ?_
        refine g_getf 94 dX6_repairs_91 rfl fl_X6_7 hT.t (hT.f0) ?_
        refine g_bipush 96 (by rfl) dX6_repairs_94 rfl ?_
        refine g_iald 97 dX6_repairs_96 rfl hT.a0 (by omega) (by omega) (by omega) (hT.e0 (by omega) (by omega)) ?_
        refine g_iconst 98 dX6_repairs_97 rfl ?_
        refine g_isub 99 dX6_repairs_98 rfl ?_
        refine w_ias0 100 dX6_repairs_99 rfl hT (by omega) (by omega) (fun M hT => ?_)
        first | exact tail _ _ (by rw [if_neg c83]) hT | exact tail _ _ (by rw [if_pos c83]) hT
      · refine g_iconst 87 dX6_repairs_86 rfl ?_
        refine g_goto 97 dX6_repairs_87 rfl ?_
        refine g_iconst 98 dX6_repairs_97 rfl ?_
        refine g_isub 99 dX6_repairs_98 rfl ?_
        refine w_ias0 100 dX6_repairs_99 rfl hT (by omega) (by omega) (fun M hT => ?_)
        first | exact tail _ _ (by rw [if_neg c83]) hT | exact tail _ _ (by rw [if_pos c83]) hT
theorem l_repairs1 (hT : Tw (kB K) M0 m s T M) {c : Int} (h10 : s 10 = 0) (hc : 0 ≤ c ∧ c < 3) (h : ∀ M', Tw (kB K) M0 m (repStep c s) T M' → Go K fX6_repairs 2 k n 2 [some (.ref m), some (.int (ii (c + -1)))] [] M' Q) : Go K fX6_repairs 2 k n 2 [some (.ref m), some (.int (ii c))] [] M Q := by
  unfold repStep at h
  refine g_iload1 3 dX6_repairs_2 rfl ?_
  refine g_if_lt 59 6 dX6_repairs_3 rfl rfl (by first | exact hT.r _ | exact hT.rT _ _ | omega) (fun c3 => ?_) (fun c3 => ?_)
  · omega
  · refine g_aload0 7 (by first | exact rv_r | exact rv_n | assumption | exact rv_f) dX6_repairs_6 rfl ?_
    refine g_getf 10 dX6_repairs_7 rfl fl_X6_7 hT.t (hT.f0) ?_
    refine g_bipush 12 (by rfl) dX6_repairs_10 rfl ?_
    refine g_iald 13 dX6_repairs_12 rfl hT.a0 (by omega) (by omega) (by omega) (hT.e0 (by omega) (by omega)) ?_
    refine g_if_ne 59 16 dX6_repairs_13 rfl rfl (by first | exact hT.r _ | exact hT.rT _ _ | omega) (fun c13 => ?_) (fun c13 => ?_)
    · omega
    · refine g_aload0 17 (by first | exact rv_r | exact rv_n | assumption | exact rv_f) dX6_repairs_16 rfl ?_
      refine g_getf 20 dX6_repairs_17 rfl fl_X6_7 hT.t (hT.f0) ?_
      refine g_bipush 22 (by rfl) dX6_repairs_20 rfl ?_
      refine g_aload0 23 (by first | exact rv_r | exact rv_n | assumption | exact rv_f) dX6_repairs_22 rfl ?_
      refine g_iload1 24 dX6_repairs_23 rfl ?_
      refine g_iconst 25 dX6_repairs_24 rfl ?_
      refine k_V2z 28 dX6_repairs_25 rfl lk_X6_47 hT.t rfl (by first | rfl | exact rv_cat (by assumption) | exact rv_cat rv_f) (by first | rfl | exact rv_cat (by assumption) | exact rv_cat rv_f) (Nat.le_of_ble_eq_true rfl) (by first | exact Nat.le_of_ble_eq_true rfl | omega) (c_X6_chaise hT (by first | assumption | omega) (by first | assumption | omega) ?_)
      refine g_if_ne 45 31 dX6_repairs_28 rfl rfl (by first | exact hT.r _ | exact hT.rT _ _ | omega) (fun c28 => ?_) (fun c28 => ?_)
      · refine g_aload0 46 (by first | exact rv_r | exact rv_n | assumption | exact rv_f) dX6_repairs_45 rfl ?_
        refine g_getf 49 dX6_repairs_46 rfl fl_X6_7 hT.t (hT.f0) ?_
        refine g_bipush 51 (by rfl) dX6_repairs_49 rfl ?_
        refine g_iald 52 dX6_repairs_51 rfl hT.a0 (by omega) (by omega) (by omega) (hT.e0 (by omega) (by omega)) ?_
        refine w_ias0 53 dX6_repairs_52 rfl hT (by omega) (by omega) (fun M hT => ?_)
        refine g_iinc1 56 (Nat.le_of_ble_eq_true rfl) (by first | exact c1_0 | exact c1_i | exact c1_r | exact c1_n | exact c1_v (by assumption) | exact c1_f) dX6_repairs_53 rfl ?_
        refine g_goto 2 dX6_repairs_56 rfl ?_
        first | exact h _ (hT.casts (by rw [if_pos ⟨by assumption, by assumption⟩])) | exact h _ (hT.casts (by rw [if_neg (by omega)]))
      · refine g_aload0 32 (by first | exact rv_r | exact rv_n | assumption | exact rv_f) dX6_repairs_31 rfl ?_
        refine g_iload1 33 dX6_repairs_32 rfl ?_
        refine g_iconst 34 dX6_repairs_33 rfl ?_
        refine k_V2z 37 dX6_repairs_34 rfl lk_X6_47 hT.t rfl (by first | rfl | exact rv_cat (by assumption) | exact rv_cat rv_f) (by first | rfl | exact rv_cat (by assumption) | exact rv_cat rv_f) (Nat.le_of_ble_eq_true rfl) (by first | exact Nat.le_of_ble_eq_true rfl | omega) (c_X6_chaise hT (by first | assumption | omega) (by first | assumption | omega) ?_)
        refine g_iconst 38 dX6_repairs_37 rfl ?_
        refine g_icmp_ne 45 41 dX6_repairs_38 rfl rfl (by first | exact hT.r _ | exact hT.rT _ _ | omega) (by first | exact hT.r _ | exact hT.rT _ _ | omega) (fun c38 => ?_) (fun c38 => ?_)
        · refine g_aload0 46 (by first | exact rv_r | exact rv_n | assumption | exact rv_f) dX6_repairs_45 rfl ?_
          refine g_getf 49 dX6_repairs_46 rfl fl_X6_7 hT.t (hT.f0) ?_
          refine g_bipush 51 (by rfl) dX6_repairs_49 rfl ?_
          refine g_iald 52 dX6_repairs_51 rfl hT.a0 (by omega) (by omega) (by omega) (hT.e0 (by omega) (by omega)) ?_
          refine w_ias0 53 dX6_repairs_52 rfl hT (by omega) (by omega) (fun M hT => ?_)
          refine g_iinc1 56 (Nat.le_of_ble_eq_true rfl) (by first | exact c1_0 | exact c1_i | exact c1_r | exact c1_n | exact c1_v (by assumption) | exact c1_f) dX6_repairs_53 rfl ?_
          refine g_goto 2 dX6_repairs_56 rfl ?_
          first | exact h _ (hT.casts (by rw [if_pos ⟨by assumption, by assumption⟩])) | exact h _ (hT.casts (by rw [if_neg (by omega)]))
        · refine g_iload1 42 dX6_repairs_41 rfl ?_
          refine g_goto 52 dX6_repairs_42 rfl ?_
          refine w_ias0 53 dX6_repairs_52 rfl hT (by omega) (by omega) (fun M hT => ?_)
          refine g_iinc1 56 (Nat.le_of_ble_eq_true rfl) (by first | exact c1_0 | exact c1_i | exact c1_r | exact c1_n | exact c1_v (by assumption) | exact c1_f) dX6_repairs_53 rfl ?_
          refine g_goto 2 dX6_repairs_56 rfl ?_
          first | exact h _ (hT.casts (by rw [if_pos ⟨by assumption, by assumption⟩])) | exact h _ (hT.casts (by rw [if_neg (by omega)]))
theorem c_X6_repairs (hT : Tw (kB K) M0 m s T M) (hW : WW s) (hQ : ∀ M', Tw (kB K) M0 m (repairsP s) (T) M' → Q (.inl none) M') : Go K fX6_repairs 2 k n 0 [some (.ref m), none] [] M Q := by
  have h3 := hW.2.2.2.1
  have h6 := hW.2.2.2.2.2.2.1
  unfold W3 at h3
  by_cases q : s 10 = 0
  · have e9 := repA_at h6 q (by omega) 9
    have hf := @fbP_r s
    rw [if_pos rfl] at e9
    have eA : repA s = repStep 0 (repStep 1 (repStep 2 s)) := by unfold repA; rw [if_pos q]
    unfold repairsP at hQ
    rw [eA] at hQ e9
    refine g_iconst 1 dX6_repairs_0 rfl ?_
    refine g_istore1 2 (Nat.le_of_ble_eq_true rfl) (by first | exact c1_0 | exact c1_i | exact c1_r | exact c1_n | exact c1_v (by assumption) | exact c1_f) dX6_repairs_1 rfl ?_
    refine l_repairs1 hT q (by omega) fun M hT => ?_
    refine l_repairs1 hT (by rw [repStep_ne (by omega)]; exact q) (by omega) fun M hT => ?_
    refine l_repairs1 hT (by rw [repStep_ne (by omega), repStep_ne (by omega)]; exact q) (by omega) fun M hT => ?_
    refine g_iload1 3 dX6_repairs_2 rfl ?_
    refine g_if_lt 59 6 dX6_repairs_3 rfl rfl (by first | exact hT.r _ | exact hT.rT _ _ | omega) (fun c3 => ?_) (fun c3 => ?_)
    · have e9' : repStep (2 + -1 + -1) (repStep (2 + -1) (repStep 2 s)) 9 = fbP s := e9
      exact l_repairs2 hT (by omega) hQ
    · omega
  · have eA : repA s = s := by unfold repA; rw [if_neg q]
    unfold repairsP at hQ
    rw [eA] at hQ
    refine g_iconst 1 dX6_repairs_0 rfl ?_
    refine g_istore1 2 (Nat.le_of_ble_eq_true rfl) (by first | exact c1_0 | exact c1_i | exact c1_r | exact c1_n | exact c1_v (by assumption) | exact c1_f) dX6_repairs_1 rfl ?_
    refine g_iload1 3 dX6_repairs_2 rfl ?_
    refine g_if_lt 59 6 dX6_repairs_3 rfl rfl (by first | exact hT.r _ | exact hT.rT _ _ | omega) (fun c3 => ?_) (fun c3 => ?_)
    · first | omega | exact l_repairs2 hT (by omega) hQ
    · refine g_aload0 7 (by first | exact rv_r | exact rv_n | assumption | exact rv_f) dX6_repairs_6 rfl ?_
      refine g_getf 10 dX6_repairs_7 rfl fl_X6_7 hT.t (hT.f0) ?_
      refine g_bipush 12 (by rfl) dX6_repairs_10 rfl ?_
      refine g_iald 13 dX6_repairs_12 rfl hT.a0 (by omega) (by omega) (by omega) (hT.e0 (by omega) (by omega)) ?_
      refine g_if_ne 59 16 dX6_repairs_13 rfl rfl (by first | exact hT.r _ | exact hT.rT _ _ | omega) (fun c13 => ?_) (fun c13 => ?_)
      · first | omega | exact l_repairs2 hT (by omega) hQ
      · omega
end TWC
