/-! ===== the twin's methods: departures; quarters; what changes do ===== -/
section TWD
variable {K : KT} {k n m : Nat} {M M0 : Mem} {Q : Res → Mem → Prop} {s : Int → Int} {T : Nat → Int → Int}
theorem l_departsC {g p b c o w x y : Int} (hT : Tw (kB K) M0 m s T M) (hb : 0 ≤ b ∧ b < 4) (hc : 0 ≤ c ∧ c < 3) (h4 : 1 ≤ s 4 ∧ s 4 ≤ 4) (h5 : s 5 = b) (hQ : ∀ M', Tw (kB K) M0 m (depB (leavesP s b) g p b c o w) T M' → Q (.inl none) M') : Go K fX6_departs 3 k n 142 [some (.ref m), some (.int (ii g)), some (.int (ii p)), some (.int (ii b)), some (.int (ii c)), some (.int (ii x)), some (.int (ii y)), some (.int (ii o)), some (.int (ii w)), none] [] M Q := by
  refine g_aload0 143 (by first | exact rv_r | exact rv_n | assumption | exact rv_f) dX6_departs_142 rfl ?_
  refine g_iload3 144 dX6_departs_143 rfl ?_
  refine k_V1z 147 dX6_departs_144 rfl lk_X6_76 hT.t rfl (by first | rfl | exact rv_cat (by assumption) | exact rv_cat rv_f) (Nat.le_of_ble_eq_true rfl) (by first | exact Nat.le_of_ble_eq_true rfl | omega) (c_X6_leaves hT (by omega) (by omega) ⟨0, by omega, by omega, h5⟩ (fun M hT => ?_))
  refine g_istore9 149 (Nat.le_of_ble_eq_true rfl) (by first | exact c1_0 | exact c1_i | exact c1_r | exact c1_n | exact c1_v (by assumption) | exact c1_f) dX6_departs_147 rfl ?_
  refine g_aload0 150 (by first | exact rv_r | exact rv_n | assumption | exact rv_f) dX6_departs_149 rfl ?_
  refine g_iload3 151 dX6_departs_150 rfl ?_
  refine g_iconst 152 dX6_departs_151 rfl ?_
  refine g_iconst 153 dX6_departs_152 rfl ?_
  refine k_V3z 156 dX6_departs_153 rfl lk_X6_60 hT.t rfl (by first | rfl | exact rv_cat (by assumption) | exact rv_cat rv_f) (by first | rfl | exact rv_cat (by assumption) | exact rv_cat rv_f) (by first | rfl | exact rv_cat (by assumption) | exact rv_cat rv_f) (Nat.le_of_ble_eq_true rfl) (by first | exact Nat.le_of_ble_eq_true rfl | omega) (c_X6_layBoy hT (by first | assumption | omega) (by first | assumption | omega) (fun M hT => ?_))
  refine g_aload0 157 (by first | exact rv_r | exact rv_n | assumption | exact rv_f) dX6_departs_156 rfl ?_
  refine g_iload3 158 dX6_departs_157 rfl ?_
  refine g_iconst 159 dX6_departs_158 rfl ?_
  refine g_aload0 160 (by first | exact rv_r | exact rv_n | assumption | exact rv_f) dX6_departs_159 rfl ?_
  refine g_iload3 161 dX6_departs_160 rfl ?_
  refine g_iconst 162 dX6_departs_161 rfl ?_
  refine k_V2z 165 dX6_departs_162 rfl lk_X6_79 hT.t rfl (by first | rfl | exact rv_cat (by assumption) | exact rv_cat rv_f) (by first | rfl | exact rv_cat (by assumption) | exact rv_cat rv_f) (Nat.le_of_ble_eq_true rfl) (by first | exact Nat.le_of_ble_eq_true rfl | omega) (c_X6_boy hT (by first | assumption | omega) (by first | assumption | omega) ?_)
  refine g_iconst 166 dX6_departs_165 rfl ?_
  refine g_iadd 167 dX6_departs_166 rfl ?_
  refine k_V3z 170 dX6_departs_167 rfl lk_X6_60 hT.t rfl (by first | rfl | exact rv_cat (by assumption) | exact rv_cat rv_f) (by first | rfl | exact rv_cat (by assumption) | exact rv_cat rv_f) (by first | rfl | exact rv_cat (by assumption) | exact rv_cat rv_f) (Nat.le_of_ble_eq_true rfl) (by first | exact Nat.le_of_ble_eq_true rfl | omega) (c_X6_layBoy hT (by first | assumption | omega) (by first | assumption | omega) (fun M hT => ?_))
  refine g_aload0 171 (by first | exact rv_r | exact rv_n | assumption | exact rv_f) dX6_departs_170 rfl ?_
  refine g_iload4 173 dX6_departs_171 rfl ?_
  refine g_iconst 174 dX6_departs_173 rfl ?_
  refine g_iconst 175 dX6_departs_174 rfl ?_
  refine k_V3z 178 dX6_departs_175 rfl lk_X6_82 hT.t rfl (by first | rfl | exact rv_cat (by assumption) | exact rv_cat rv_f) (by first | rfl | exact rv_cat (by assumption) | exact rv_cat rv_f) (by first | rfl | exact rv_cat (by assumption) | exact rv_cat rv_f) (Nat.le_of_ble_eq_true rfl) (by first | exact Nat.le_of_ble_eq_true rfl | omega) (c_X6_layChaise hT (by first | assumption | omega) (by first | assumption | omega) (fun M hT => ?_))
  refine g_aload0 179 (by first | exact rv_r | exact rv_n | assumption | exact rv_f) dX6_departs_178 rfl ?_
  refine g_iload4 181 dX6_departs_179 rfl ?_
  refine g_iconst 182 dX6_departs_181 rfl ?_
  refine g_iload1 183 dX6_departs_182 rfl ?_
  refine k_V3z 186 dX6_departs_183 rfl lk_X6_82 hT.t rfl (by first | rfl | exact rv_cat (by assumption) | exact rv_cat rv_f) (by first | rfl | exact rv_cat (by assumption) | exact rv_cat rv_f) (by first | rfl | exact rv_cat (by assumption) | exact rv_cat rv_f) (Nat.le_of_ble_eq_true rfl) (by first | exact Nat.le_of_ble_eq_true rfl | omega) (c_X6_layChaise hT (by first | assumption | omega) (by first | assumption | omega) (fun M hT => ?_))
  refine g_aload0 187 (by first | exact rv_r | exact rv_n | assumption | exact rv_f) dX6_departs_186 rfl ?_
  refine g_iload4 189 dX6_departs_187 rfl ?_
  refine g_iconst 190 dX6_departs_189 rfl ?_
  refine g_iload2 191 dX6_departs_190 rfl ?_
  refine k_V3z 194 dX6_departs_191 rfl lk_X6_82 hT.t rfl (by first | rfl | exact rv_cat (by assumption) | exact rv_cat rv_f) (by first | rfl | exact rv_cat (by assumption) | exact rv_cat rv_f) (by first | rfl | exact rv_cat (by assumption) | exact rv_cat rv_f) (Nat.le_of_ble_eq_true rfl) (by first | exact Nat.le_of_ble_eq_true rfl | omega) (c_X6_layChaise hT (by first | assumption | omega) (by first | assumption | omega) (fun M hT => ?_))
  refine g_aload0 195 (by first | exact rv_r | exact rv_n | assumption | exact rv_f) dX6_departs_194 rfl ?_
  refine g_iload4 197 dX6_departs_195 rfl ?_
  refine g_bipush 199 (by rfl) dX6_departs_197 rfl ?_
  refine g_iload3 200 dX6_departs_199 rfl ?_
  refine k_V3z 203 dX6_departs_200 rfl lk_X6_82 hT.t rfl (by first | rfl | exact rv_cat (by assumption) | exact rv_cat rv_f) (by first | rfl | exact rv_cat (by assumption) | exact rv_cat rv_f) (by first | rfl | exact rv_cat (by assumption) | exact rv_cat rv_f) (Nat.le_of_ble_eq_true rfl) (by first | exact Nat.le_of_ble_eq_true rfl | omega) (c_X6_layChaise hT (by first | assumption | omega) (by first | assumption | omega) (fun M hT => ?_))
  refine g_aload0 204 (by first | exact rv_r | exact rv_n | assumption | exact rv_f) dX6_departs_203 rfl ?_
  refine g_iload4 206 dX6_departs_204 rfl ?_
  refine g_bipush 208 (by rfl) dX6_departs_206 rfl ?_
  refine g_iload7 210 dX6_departs_208 rfl ?_
  refine g_iload8 212 dX6_departs_210 rfl ?_
  refine g_iadd 213 dX6_departs_212 rfl ?_
  refine k_V3z 216 dX6_departs_213 rfl lk_X6_82 hT.t rfl (by first | rfl | exact rv_cat (by assumption) | exact rv_cat rv_f) (by first | rfl | exact rv_cat (by assumption) | exact rv_cat rv_f) (by first | rfl | exact rv_cat (by assumption) | exact rv_cat rv_f) (Nat.le_of_ble_eq_true rfl) (by first | exact Nat.le_of_ble_eq_true rfl | omega) (c_X6_layChaise hT (by first | assumption | omega) (by first | assumption | omega) (fun M hT => ?_))
  refine g_aload0 217 (by first | exact rv_r | exact rv_n | assumption | exact rv_f) dX6_departs_216 rfl ?_
  refine g_iload4 219 dX6_departs_217 rfl ?_
  refine g_bipush 221 (by rfl) dX6_departs_219 rfl ?_
  refine g_iload7 223 dX6_departs_221 rfl ?_
  refine g_iload8 225 dX6_departs_223 rfl ?_
  refine g_iadd 226 dX6_departs_225 rfl ?_
  refine k_V3z 229 dX6_departs_226 rfl lk_X6_82 hT.t rfl (by first | rfl | exact rv_cat (by assumption) | exact rv_cat rv_f) (by first | rfl | exact rv_cat (by assumption) | exact rv_cat rv_f) (by first | rfl | exact rv_cat (by assumption) | exact rv_cat rv_f) (Nat.le_of_ble_eq_true rfl) (by first | exact Nat.le_of_ble_eq_true rfl | omega) (c_X6_layChaise hT (by first | assumption | omega) (by first | assumption | omega) (fun M hT => ?_))
  refine g_aload0 230 (by first | exact rv_r | exact rv_n | assumption | exact rv_f) dX6_departs_229 rfl ?_
  refine g_iload4 232 dX6_departs_230 rfl ?_
  refine g_bipush 234 (by rfl) dX6_departs_232 rfl ?_
  refine g_iload8 236 dX6_departs_234 rfl ?_
  refine k_V3z 239 dX6_departs_236 rfl lk_X6_82 hT.t rfl (by first | rfl | exact rv_cat (by assumption) | exact rv_cat rv_f) (by first | rfl | exact rv_cat (by assumption) | exact rv_cat rv_f) (by first | rfl | exact rv_cat (by assumption) | exact rv_cat rv_f) (Nat.le_of_ble_eq_true rfl) (by first | exact Nat.le_of_ble_eq_true rfl | omega) (c_X6_layChaise hT (by first | assumption | omega) (by first | assumption | omega) (fun M hT => ?_))
  refine g_vret dX6_departs_239 rfl ?_
  exact hQ _ hT
theorem l_departsB {g p b c o w x y : Int} (hT : Tw (kB K) M0 m s T M) (hg : 0 ≤ g ∧ g < 40) (hp : 0 ≤ p ∧ p < 5) (hr : 0 ≤ s (17 + 5 * g + 1) ∧ s (17 + 5 * g + 1) ≤ 3) (hb : 0 ≤ b ∧ b < 4) (hc : 0 ≤ c ∧ c < 3) (h4 : 1 ≤ s 4 ∧ s 4 ≤ 4) (h5 : s 5 = b) (hQ : ∀ M', Tw (kB K) M0 m (depB (leavesP (depA s g p) b) g p b c o w) T M' → Q (.inl none) M') : Go K fX6_departs 3 k n 95 [some (.ref m), some (.int (ii g)), some (.int (ii p)), some (.int (ii b)), some (.int (ii c)), some (.int (ii x)), some (.int (ii y)), some (.int (ii o)), some (.int (ii w)), none] [] M Q := by
  have e1 : up (up s (17 + 5 * g + 4) (waitedP s g)) (17 + 5 * g + 2) 1 (17 + 5 * g + 1) = s (17 + 5 * g + 1) := by simp (disch := omega) only [up_ne]
  refine g_aload0 96 (by first | exact rv_r | exact rv_n | assumption | exact rv_f) dX6_departs_95 rfl ?_
  refine g_iload1 97 dX6_departs_96 rfl ?_
  refine g_iconst 98 dX6_departs_97 rfl ?_
  refine g_aload0 99 (by first | exact rv_r | exact rv_n | assumption | exact rv_f) dX6_departs_98 rfl ?_
  refine g_iload1 100 dX6_departs_99 rfl ?_
  refine k_V1z 103 dX6_departs_100 rfl lk_X6_64 hT.t rfl (by first | rfl | exact rv_cat (by assumption) | exact rv_cat rv_f) (Nat.le_of_ble_eq_true rfl) (by first | exact Nat.le_of_ble_eq_true rfl | omega) (c_X6_waited hT (by first | assumption | omega) (by first | assumption | omega) ?_)
  refine k_V3z 106 dX6_departs_103 rfl lk_X6_67 hT.t rfl (by first | rfl | exact rv_cat (by assumption) | exact rv_cat rv_f) (by first | rfl | exact rv_cat (by assumption) | exact rv_cat rv_f) (by first | rfl | exact rv_cat (by assumption) | exact rv_cat rv_f) (Nat.le_of_ble_eq_true rfl) (by first | exact Nat.le_of_ble_eq_true rfl | omega) (c_X6_layGuest hT (by first | assumption | omega) (by first | assumption | omega) (fun M hT => ?_))
  refine g_aload0 107 (by first | exact rv_r | exact rv_n | assumption | exact rv_f) dX6_departs_106 rfl ?_
  refine g_iload1 108 dX6_departs_107 rfl ?_
  refine g_iconst 109 dX6_departs_108 rfl ?_
  refine g_iconst 110 dX6_departs_109 rfl ?_
  refine k_V3z 113 dX6_departs_110 rfl lk_X6_67 hT.t rfl (by first | rfl | exact rv_cat (by assumption) | exact rv_cat rv_f) (by first | rfl | exact rv_cat (by assumption) | exact rv_cat rv_f) (by first | rfl | exact rv_cat (by assumption) | exact rv_cat rv_f) (Nat.le_of_ble_eq_true rfl) (by first | exact Nat.le_of_ble_eq_true rfl | omega) (c_X6_layGuest hT (by first | assumption | omega) (by first | assumption | omega) (fun M hT => ?_))
  refine g_aload0 114 (by first | exact rv_r | exact rv_n | assumption | exact rv_f) dX6_departs_113 rfl ?_
  refine g_getf 117 dX6_departs_114 rfl fl_X6_7 hT.t (hT.f0) ?_
  refine g_bipush 119 (by rfl) dX6_departs_117 rfl ?_
  refine g_aload0 120 (by first | exact rv_r | exact rv_n | assumption | exact rv_f) dX6_departs_119 rfl ?_
  refine g_iload1 121 dX6_departs_120 rfl ?_
  refine g_iconst 122 dX6_departs_121 rfl ?_
  refine k_V2z 125 dX6_departs_122 rfl lk_X6_36 hT.t rfl (by first | rfl | exact rv_cat (by assumption) | exact rv_cat rv_f) (by first | rfl | exact rv_cat (by assumption) | exact rv_cat rv_f) (Nat.le_of_ble_eq_true rfl) (by first | exact Nat.le_of_ble_eq_true rfl | omega) (c_X6_guest hT (by first | assumption | omega) (by first | assumption | omega) ?_)
  refine g_iadd 126 dX6_departs_125 rfl ?_
  refine g_dup2 127 (by first | rfl | exact rv_cat (by assumption) | exact rv_cat rv_f) (by first | rfl | exact rv_cat (by assumption) | exact rv_cat rv_f) dX6_departs_126 rfl ?_
  refine g_iald 128 dX6_departs_127 rfl hT.a0 (by omega) (by omega) (by omega) (hT.e0 (by omega) (by omega)) ?_
  refine g_aload0 129 (by first | exact rv_r | exact rv_n | assumption | exact rv_f) dX6_departs_128 rfl ?_
  refine g_iload1 130 dX6_departs_129 rfl ?_
  refine k_V1z 133 dX6_departs_130 rfl lk_X6_70 hT.t rfl (by first | rfl | exact rv_cat (by assumption) | exact rv_cat rv_f) (Nat.le_of_ble_eq_true rfl) (by first | exact Nat.le_of_ble_eq_true rfl | omega) (c_X6_fare hT (by first | assumption | omega) (by first | assumption | omega) ?_)
  refine g_iadd 134 dX6_departs_133 rfl ?_
  refine w_ias0 135 dX6_departs_134 rfl hT (by omega) (by omega) (fun M hT => ?_)
  refine g_aload0 136 (by first | exact rv_r | exact rv_n | assumption | exact rv_f) dX6_departs_135 rfl ?_
  refine g_iload2 137 dX6_departs_136 rfl ?_
  refine g_iconst 138 dX6_departs_137 rfl ?_
  refine g_iconst 139 dX6_departs_138 rfl ?_
  refine k_V3z 142 dX6_departs_139 rfl lk_X6_73 hT.t rfl (by first | rfl | exact rv_cat (by assumption) | exact rv_cat rv_f) (by first | rfl | exact rv_cat (by assumption) | exact rv_cat rv_f) (by first | rfl | exact rv_cat (by assumption) | exact rv_cat rv_f) (Nat.le_of_ble_eq_true rfl) (by first | exact Nat.le_of_ble_eq_true rfl | omega) (c_X6_layPair hT (by first | assumption | omega) (by first | assumption | omega) (fun M hT => ?_))
  exact l_departsC hT hb hc (by simp (disch := omega) only [up_ne]; exact h4) (by simp (disch := omega) only [up_ne]; exact h5) hQ
theorem c_X6_departs (hT : Tw (kB K) M0 m s T M) (hW : WW s) (hw : whyP s = 0) (hQ : ∀ M', Tw (kB K) M0 m (departP s) (T) M' → Q (.inl none) M') : Go K fX6_departs 3 k n 0 [some (.ref m), none, none, none, none, none, none, none, none, none] [] M Q := by
  obtain ⟨⟨g0, g1, g2⟩, ⟨p0, p1, p2, p3⟩, ⟨c0, c1, c2, c3⟩, h4⟩ := why_DP hW.2.1 hw
  have w1 := hW.2.1
  unfold W1 at w1
  have hg := hW.2.2.2.2.1 _ g0 g1
  have hb := hW.2.2.1.1 0 (by omega) (by omega)
  rw [show (5 : Int) + 0 = 5 from rfl] at hb
  have hm := milesP_r (s (17 + 5 * inLineP s 0 + 1))
  have tail : ∀ y, y = (if s (17 + 5 * inLineP s 0 + 0) = 0 then s 1 + 1 else s 1) → Go K fX6_departs 3 k n 61 [some (.ref m), some (.int (ii (inLineP s 0))), some (.int (ii (restedP s))), some (.int (ii (s 5))), some (.int (ii (readyP s))), some (.int (ii (milesP (s (17 + 5 * inLineP s 0 + 1))))), none, none, none, none] [.int (ii y)] M Q := by
    intro y hy
    have hyr : 2 ≤ y ∧ y ≤ 6 := by rw [hy]; split <;> omega
    have ho : (milesP (s (17 + 5 * inLineP s 0 + 1)) + y - 1) / y = outP s (inLineP s 0) := by rw [hy]; rfl
    refine g_istore6 63 (Nat.le_of_ble_eq_true rfl) (by first | exact c1_0 | exact c1_i | exact c1_r | exact c1_n | exact c1_v (by assumption) | exact c1_f) dX6_departs_61 rfl ?_
    refine g_iload5 65 dX6_departs_63 rfl ?_
    refine g_iload6 67 dX6_departs_65 rfl ?_
    refine g_iadd 68 dX6_departs_67 rfl ?_
    refine g_iconst 69 dX6_departs_68 rfl ?_
    refine g_isub 70 dX6_departs_69 rfl ?_
    refine g_iload6 72 dX6_departs_70 rfl ?_
    refine g_idivG 73 (ii_ne0 (by omega)) (ii_div (by omega) (by omega)) dX6_departs_72 rfl ?_
    refine g_istore7 75 (Nat.le_of_ble_eq_true rfl) (by first | exact c1_0 | exact c1_i | exact c1_r | exact c1_n | exact c1_v (by assumption) | exact c1_f) dX6_departs_73 rfl ?_
    refine g_iload5 77 dX6_departs_75 rfl ?_
    refine g_aload0 78 (by first | exact rv_r | exact rv_n | assumption | exact rv_f) dX6_departs_77 rfl ?_
    refine g_getf 81 dX6_departs_78 rfl fl_X6_7 hT.t (hT.f0) ?_
    refine g_iconst 82 dX6_departs_81 rfl ?_
    refine g_iald 83 dX6_departs_82 rfl hT.a0 (by omega) (by omega) (by omega) (hT.e0 (by omega) (by omega)) ?_
    refine g_iadd 84 dX6_departs_83 rfl ?_
    refine g_iconst 85 dX6_departs_84 rfl ?_
    refine g_isub 86 dX6_departs_85 rfl ?_
    refine g_aload0 87 (by first | exact rv_r | exact rv_n | assumption | exact rv_f) dX6_departs_86 rfl ?_
    refine g_getf 90 dX6_departs_87 rfl fl_X6_7 hT.t (hT.f0) ?_
    refine g_iconst 91 dX6_departs_90 rfl ?_
    refine g_iald 92 dX6_departs_91 rfl hT.a0 (by omega) (by omega) (by omega) (hT.e0 (by omega) (by omega)) ?_
    refine g_idivG 93 (ii_ne0 (by omega)) (ii_div (by omega) (by omega)) dX6_departs_92 rfl ?_
    refine g_istore8 95 (Nat.le_of_ble_eq_true rfl) (by first | exact c1_0 | exact c1_i | exact c1_r | exact c1_n | exact c1_v (by assumption) | exact c1_f) dX6_departs_93 rfl ?_
    rw [ho]
    exact l_departsB hT (by omega) (by omega) (by omega) (by omega) (by omega) (by omega) rfl hQ
  refine g_aload0 1 (by first | exact rv_r | exact rv_n | assumption | exact rv_f) dX6_departs_0 rfl ?_
  refine g_iconst 2 dX6_departs_1 rfl ?_
  refine k_V1z 5 dX6_departs_2 rfl lk_X6_50 hT.t rfl (by first | rfl | exact rv_cat (by assumption) | exact rv_cat rv_f) (Nat.le_of_ble_eq_true rfl) (by first | exact Nat.le_of_ble_eq_true rfl | omega) (c_X6_inLine hT (by first | assumption | omega) (by first | assumption | omega) ?_)
  refine g_istore1 6 (Nat.le_of_ble_eq_true rfl) (by first | exact c1_0 | exact c1_i | exact c1_r | exact c1_n | exact c1_v (by assumption) | exact c1_f) dX6_departs_5 rfl ?_
  refine g_aload0 7 (by first | exact rv_r | exact rv_n | assumption | exact rv_f) dX6_departs_6 rfl ?_
  refine k_V0z 10 dX6_departs_7 rfl lk_X6_53 hT.t rfl  (Nat.le_of_ble_eq_true rfl) (by first | exact Nat.le_of_ble_eq_true rfl | omega) (c_X6_rested hT ?_)
  refine g_istore2 11 (Nat.le_of_ble_eq_true rfl) (by first | exact c1_0 | exact c1_i | exact c1_r | exact c1_n | exact c1_v (by assumption) | exact c1_f) dX6_departs_10 rfl ?_
  refine g_aload0 12 (by first | exact rv_r | exact rv_n | assumption | exact rv_f) dX6_departs_11 rfl ?_
  refine g_getf 15 dX6_departs_12 rfl fl_X6_7 hT.t (hT.f0) ?_
  refine g_iconst 16 dX6_departs_15 rfl ?_
  refine g_iald 17 dX6_departs_16 rfl hT.a0 (by omega) (by omega) (by omega) (hT.e0 (by omega) (by omega)) ?_
  refine g_istore3 18 (Nat.le_of_ble_eq_true rfl) (by first | exact c1_0 | exact c1_i | exact c1_r | exact c1_n | exact c1_v (by assumption) | exact c1_f) dX6_departs_17 rfl ?_
  refine g_aload0 19 (by first | exact rv_r | exact rv_n | assumption | exact rv_f) dX6_departs_18 rfl ?_
  refine k_V0z 22 dX6_departs_19 rfl lk_X6_57 hT.t rfl  (Nat.le_of_ble_eq_true rfl) (by first | exact Nat.le_of_ble_eq_true rfl | omega) (c_X6_ready hT ?_)
  refine g_istore4 24 (Nat.le_of_ble_eq_true rfl) (by first | exact c1_0 | exact c1_i | exact c1_r | exact c1_n | exact c1_v (by assumption) | exact c1_f) dX6_departs_22 rfl ?_
  refine g_aload0 25 (by first | exact rv_r | exact rv_n | assumption | exact rv_f) dX6_departs_24 rfl ?_
  refine g_iload1 26 dX6_departs_25 rfl ?_
  refine g_iconst 27 dX6_departs_26 rfl ?_
  refine k_V2z 30 dX6_departs_27 rfl lk_X6_36 hT.t rfl (by first | rfl | exact rv_cat (by assumption) | exact rv_cat rv_f) (by first | rfl | exact rv_cat (by assumption) | exact rv_cat rv_f) (Nat.le_of_ble_eq_true rfl) (by first | exact Nat.le_of_ble_eq_true rfl | omega) (c_X6_guest hT (by first | assumption | omega) (by first | assumption | omega) ?_)
  refine k_S1z 33 dX6_departs_30 rfl lk_X6_40 rfl (by first | rfl | exact rv_cat (by assumption) | exact rv_cat rv_f) (Nat.le_of_ble_eq_true rfl) (by first | exact Nat.le_of_ble_eq_true rfl | omega) (c_X6_milesOf (hT.r _) ?_)
  refine g_istore5 35 (Nat.le_of_ble_eq_true rfl) (by first | exact c1_0 | exact c1_i | exact c1_r | exact c1_n | exact c1_v (by assumption) | exact c1_f) dX6_departs_33 rfl ?_
  refine g_aload0 36 (by first | exact rv_r | exact rv_n | assumption | exact rv_f) dX6_departs_35 rfl ?_
  refine g_iload1 37 dX6_departs_36 rfl ?_
  refine g_iconst 38 dX6_departs_37 rfl ?_
  refine k_V2z 41 dX6_departs_38 rfl lk_X6_36 hT.t rfl (by first | rfl | exact rv_cat (by assumption) | exact rv_cat rv_f) (by first | rfl | exact rv_cat (by assumption) | exact rv_cat rv_f) (Nat.le_of_ble_eq_true rfl) (by first | exact Nat.le_of_ble_eq_true rfl | omega) (c_X6_guest hT (by first | assumption | omega) (by first | assumption | omega) ?_)
  refine g_if_ne 55 44 dX6_departs_41 rfl rfl (by first | exact hT.r _ | exact hT.rT _ _ | omega) (fun c41 => ?_) (fun c41 => ?_)
  · refine g_aload0 56 (by first | exact rv_r | exact rv_n | assumption | exact rv_f) dX6_departs_55 rfl ?_
    refine g_getf 59 dX6_departs_56 rfl fl_X6_7 hT.t (hT.f0) ?_
    refine g_iconst 60 dX6_departs_59 rfl ?_
    refine g_iald 61 dX6_departs_60 rfl hT.a0 (by omega) (by omega) (by omega) (hT.e0 (by omega) (by omega)) ?_
    first | exact tail _ (by rw [if_neg c41]) | exact tail _ (by rw [if_pos c41])
  · refine g_aload0 45 (by first | exact rv_r | exact rv_n | assumption | exact rv_f) dX6_departs_44 rfl ?_
    refine g_getf 48 dX6_departs_45 rfl fl_X6_7 hT.t (hT.f0) ?_
    refine g_iconst 49 dX6_departs_48 rfl ?_
    refine g_iald 50 dX6_departs_49 rfl hT.a0 (by omega) (by omega) (by omega) (hT.e0 (by omega) (by omega)) ?_
    refine g_iconst 51 dX6_departs_50 rfl ?_
    refine g_iadd 52 dX6_departs_51 rfl ?_
    refine g_goto 61 dX6_departs_52 rfl ?_
    first | exact tail _ (by rw [if_neg c41]) | exact tail _ (by rw [if_pos c41])
theorem l_pass1 : ∀ (j : Nat) (p : Int) (s : Int → Int) (M : Mem), Tw (kB K) M0 m s T M → p + j = 5 → 0 ≤ p → (∀ M', Tw (kB K) M0 m (restsF j p s) T M' → Go K fX6_passes 4 k n 64 [some (.ref m), some (.int (ii 5))] [] M' Q) → Go K fX6_passes 4 k n 12 [some (.ref m), some (.int (ii p))] [] M Q := by
  intro j
  induction j with
  | zero =>
    intro p s M hT e h0 h
    obtain rfl : p = 5 := by omega
    refine g_iload1 13 dX6_passes_12 rfl ?_
    refine g_iconst 14 dX6_passes_13 rfl ?_
    refine g_icmp_ge 64 17 dX6_passes_14 rfl rfl (by first | exact hT.r _ | exact hT.rT _ _ | omega) (by first | exact hT.r _ | exact hT.rT _ _ | omega) (fun c14 => ?_) (fun c14 => ?_)
    · exact h _ hT
    · omega
  | succ j ih =>
    intro p s M hT e h0 h
    unfold restsF at h
    refine g_iload1 13 dX6_passes_12 rfl ?_
    refine g_iconst 14 dX6_passes_13 rfl ?_
    refine g_icmp_ge 64 17 dX6_passes_14 rfl rfl (by first | exact hT.r _ | exact hT.rT _ _ | omega) (by first | exact hT.r _ | exact hT.rT _ _ | omega) (fun c14 => ?_) (fun c14 => ?_)
    · omega
    · refine g_aload0 18 (by first | exact rv_r | exact rv_n | assumption | exact rv_f) dX6_passes_17 rfl ?_
      refine g_iload1 19 dX6_passes_18 rfl ?_
      refine g_iconst 20 dX6_passes_19 rfl ?_
      refine g_aload0 21 (by first | exact rv_r | exact rv_n | assumption | exact rv_f) dX6_passes_20 rfl ?_
      refine g_iload1 22 dX6_passes_21 rfl ?_
      refine g_iconst 23 dX6_passes_22 rfl ?_
      refine k_V2z 26 dX6_passes_23 rfl lk_X6_44 hT.t rfl (by first | rfl | exact rv_cat (by assumption) | exact rv_cat rv_f) (by first | rfl | exact rv_cat (by assumption) | exact rv_cat rv_f) (Nat.le_of_ble_eq_true rfl) (by first | exact Nat.le_of_ble_eq_true rfl | omega) (c_X6_pair hT (by first | assumption | omega) (by first | assumption | omega) ?_)
      refine g_if_ne 49 29 dX6_passes_26 rfl rfl (by first | exact hT.r _ | exact hT.rT _ _ | omega) (fun c26 => ?_) (fun c26 => ?_)
      · refine g_aload0 50 (by first | exact rv_r | exact rv_n | assumption | exact rv_f) dX6_passes_49 rfl ?_
        refine g_iload1 51 dX6_passes_50 rfl ?_
        refine g_iconst 52 dX6_passes_51 rfl ?_
        refine k_V2z 55 dX6_passes_52 rfl lk_X6_44 hT.t rfl (by first | rfl | exact rv_cat (by assumption) | exact rv_cat rv_f) (by first | rfl | exact rv_cat (by assumption) | exact rv_cat rv_f) (Nat.le_of_ble_eq_true rfl) (by first | exact Nat.le_of_ble_eq_true rfl | omega) (c_X6_pair hT (by first | assumption | omega) (by first | assumption | omega) ?_)
        refine k_V3z 58 dX6_passes_55 rfl lk_X6_73 hT.t rfl (by first | rfl | exact rv_cat (by assumption) | exact rv_cat rv_f) (by first | rfl | exact rv_cat (by assumption) | exact rv_cat rv_f) (by first | rfl | exact rv_cat (by assumption) | exact rv_cat rv_f) (Nat.le_of_ble_eq_true rfl) (by first | exact Nat.le_of_ble_eq_true rfl | omega) (c_X6_layPair hT (by first | assumption | omega) (by first | assumption | omega) (fun M hT => ?_))
        refine g_iinc1 61 (Nat.le_of_ble_eq_true rfl) (by first | exact c1_0 | exact c1_i | exact c1_r | exact c1_n | exact c1_v (by assumption) | exact c1_f) dX6_passes_58 rfl ?_
        refine g_goto 12 dX6_passes_61 rfl ?_
        refine ih _ _ _ (hT.casts ?_) (by omega) (by omega) h
        first | rw [if_pos (by omega)] | rw [if_neg (by omega)]
      · refine g_aload0 30 (by first | exact rv_r | exact rv_n | assumption | exact rv_f) dX6_passes_29 rfl ?_
        refine g_iload1 31 dX6_passes_30 rfl ?_
        refine g_iconst 32 dX6_passes_31 rfl ?_
        refine k_V2z 35 dX6_passes_32 rfl lk_X6_44 hT.t rfl (by first | rfl | exact rv_cat (by assumption) | exact rv_cat rv_f) (by first | rfl | exact rv_cat (by assumption) | exact rv_cat rv_f) (Nat.le_of_ble_eq_true rfl) (by first | exact Nat.le_of_ble_eq_true rfl | omega) (c_X6_pair hT (by first | assumption | omega) (by first | assumption | omega) ?_)
        refine g_if_le 49 38 dX6_passes_35 rfl rfl (by first | exact hT.r _ | exact hT.rT _ _ | omega) (fun c35 => ?_) (fun c35 => ?_)
        · refine g_aload0 50 (by first | exact rv_r | exact rv_n | assumption | exact rv_f) dX6_passes_49 rfl ?_
          refine g_iload1 51 dX6_passes_50 rfl ?_
          refine g_iconst 52 dX6_passes_51 rfl ?_
          refine k_V2z 55 dX6_passes_52 rfl lk_X6_44 hT.t rfl (by first | rfl | exact rv_cat (by assumption) | exact rv_cat rv_f) (by first | rfl | exact rv_cat (by assumption) | exact rv_cat rv_f) (Nat.le_of_ble_eq_true rfl) (by first | exact Nat.le_of_ble_eq_true rfl | omega) (c_X6_pair hT (by first | assumption | omega) (by first | assumption | omega) ?_)
          refine k_V3z 58 dX6_passes_55 rfl lk_X6_73 hT.t rfl (by first | rfl | exact rv_cat (by assumption) | exact rv_cat rv_f) (by first | rfl | exact rv_cat (by assumption) | exact rv_cat rv_f) (by first | rfl | exact rv_cat (by assumption) | exact rv_cat rv_f) (Nat.le_of_ble_eq_true rfl) (by first | exact Nat.le_of_ble_eq_true rfl | omega) (c_X6_layPair hT (by first | assumption | omega) (by first | assumption | omega) (fun M hT => ?_))
          refine g_iinc1 61 (Nat.le_of_ble_eq_true rfl) (by first | exact c1_0 | exact c1_i | exact c1_r | exact c1_n | exact c1_v (by assumption) | exact c1_f) dX6_passes_58 rfl ?_
          refine g_goto 12 dX6_passes_61 rfl ?_
          refine ih _ _ _ (hT.casts ?_) (by omega) (by omega) h
          first | rw [if_pos (by omega)] | rw [if_neg (by omega)]
        · refine g_aload0 39 (by first | exact rv_r | exact rv_n | assumption | exact rv_f) dX6_passes_38 rfl ?_
          refine g_iload1 40 dX6_passes_39 rfl ?_
          refine g_iconst 41 dX6_passes_40 rfl ?_
          refine k_V2z 44 dX6_passes_41 rfl lk_X6_44 hT.t rfl (by first | rfl | exact rv_cat (by assumption) | exact rv_cat rv_f) (by first | rfl | exact rv_cat (by assumption) | exact rv_cat rv_f) (Nat.le_of_ble_eq_true rfl) (by first | exact Nat.le_of_ble_eq_true rfl | omega) (c_X6_pair hT (by first | assumption | omega) (by first | assumption | omega) ?_)
          refine g_iconst 45 dX6_passes_44 rfl ?_
          refine g_isub 46 dX6_passes_45 rfl ?_
          refine g_goto 55 dX6_passes_46 rfl ?_
          refine k_V3z 58 dX6_passes_55 rfl lk_X6_73 hT.t rfl (by first | rfl | exact rv_cat (by assumption) | exact rv_cat rv_f) (by first | rfl | exact rv_cat (by assumption) | exact rv_cat rv_f) (by first | rfl | exact rv_cat (by assumption) | exact rv_cat rv_f) (Nat.le_of_ble_eq_true rfl) (by first | exact Nat.le_of_ble_eq_true rfl | omega) (c_X6_layPair hT (by first | assumption | omega) (by first | assumption | omega) (fun M hT => ?_))
          refine g_iinc1 61 (Nat.le_of_ble_eq_true rfl) (by first | exact c1_0 | exact c1_i | exact c1_r | exact c1_n | exact c1_v (by assumption) | exact c1_f) dX6_passes_58 rfl ?_
          refine g_goto 12 dX6_passes_61 rfl ?_
          refine ih _ _ _ (hT.casts ?_) (by omega) (by omega) h
          first | rw [if_pos (by omega)] | rw [if_neg (by omega)]
theorem l_pass2 : ∀ (j : Nat) (c : Int) (s : Int → Int) (M : Mem), Tw (kB K) M0 m s T M → WW s → c + j = 3 → 0 ≤ c → (∀ M', Tw (kB K) M0 m (ridesF j c s) T M' → Go K fX6_passes 4 k n 96 [some (.ref m), some (.int (ii 3))] [] M' Q) → Go K fX6_passes 4 k n 70 [some (.ref m), some (.int (ii c))] [] M Q := by
  intro j
  induction j with
  | zero =>
    intro c s M hT hW e h0 h
    obtain rfl : c = 3 := by omega
    refine g_iload1 71 dX6_passes_70 rfl ?_
    refine g_iconst 72 dX6_passes_71 rfl ?_
    refine g_icmp_ge 96 75 dX6_passes_72 rfl rfl (by first | exact hT.r _ | exact hT.rT _ _ | omega) (by first | exact hT.r _ | exact hT.rT _ _ | omega) (fun c72 => ?_) (fun c72 => ?_)
    · exact h _ hT
    · omega
  | succ j ih =>
    intro c s M hT hW e h0 h
    unfold ridesF at h
    by_cases q : s (240 + 10 * c + 0) = 1
    · rw [if_pos q] at h
      refine g_iload1 71 dX6_passes_70 rfl ?_
      refine g_iconst 72 dX6_passes_71 rfl ?_
      refine g_icmp_ge 96 75 dX6_passes_72 rfl rfl (by first | exact hT.r _ | exact hT.rT _ _ | omega) (by first | exact hT.r _ | exact hT.rT _ _ | omega) (fun c72 => ?_) (fun c72 => ?_)
      · omega
      · refine g_aload0 76 (by first | exact rv_r | exact rv_n | assumption | exact rv_f) dX6_passes_75 rfl ?_
        refine g_iload1 77 dX6_passes_76 rfl ?_
        refine g_iconst 78 dX6_passes_77 rfl ?_
        refine k_V2z 81 dX6_passes_78 rfl lk_X6_47 hT.t rfl (by first | rfl | exact rv_cat (by assumption) | exact rv_cat rv_f) (by first | rfl | exact rv_cat (by assumption) | exact rv_cat rv_f) (Nat.le_of_ble_eq_true rfl) (by first | exact Nat.le_of_ble_eq_true rfl | omega) (c_X6_chaise hT (by first | assumption | omega) (by first | assumption | omega) ?_)
        refine g_iconst 82 dX6_passes_81 rfl ?_
        refine g_icmp_ne 90 85 dX6_passes_82 rfl rfl (by first | exact hT.r _ | exact hT.rT _ _ | omega) (by first | exact hT.r _ | exact hT.rT _ _ | omega) (fun c82 => ?_) (fun c82 => ?_)
        · refine g_iinc1 93 (Nat.le_of_ble_eq_true rfl) (by first | exact c1_0 | exact c1_i | exact c1_r | exact c1_n | exact c1_v (by assumption) | exact c1_f) dX6_passes_90 rfl ?_
          refine g_goto 70 dX6_passes_93 rfl ?_
          first | omega | exact ih _ _ _ hT (ww_rides hW ⟨by omega, by omega⟩ q) (by omega) (by omega) h
        · refine g_aload0 86 (by first | exact rv_r | exact rv_n | assumption | exact rv_f) dX6_passes_85 rfl ?_
          refine g_iload1 87 dX6_passes_86 rfl ?_
          refine k_V1z 90 dX6_passes_87 rfl lk_X6_92 hT.t rfl (by first | rfl | exact rv_cat (by assumption) | exact rv_cat rv_f) (Nat.le_of_ble_eq_true rfl) (by first | exact Nat.le_of_ble_eq_true rfl | omega) (c_X6_rides hT hW ⟨by omega, by omega⟩ q (fun M hT => ?_))
          refine g_iinc1 93 (Nat.le_of_ble_eq_true rfl) (by first | exact c1_0 | exact c1_i | exact c1_r | exact c1_n | exact c1_v (by assumption) | exact c1_f) dX6_passes_90 rfl ?_
          refine g_goto 70 dX6_passes_93 rfl ?_
          first | omega | exact ih _ _ _ hT (ww_rides hW ⟨by omega, by omega⟩ q) (by omega) (by omega) h
    · rw [if_neg q] at h
      refine g_iload1 71 dX6_passes_70 rfl ?_
      refine g_iconst 72 dX6_passes_71 rfl ?_
      refine g_icmp_ge 96 75 dX6_passes_72 rfl rfl (by first | exact hT.r _ | exact hT.rT _ _ | omega) (by first | exact hT.r _ | exact hT.rT _ _ | omega) (fun c72 => ?_) (fun c72 => ?_)
      · omega
      · refine g_aload0 76 (by first | exact rv_r | exact rv_n | assumption | exact rv_f) dX6_passes_75 rfl ?_
        refine g_iload1 77 dX6_passes_76 rfl ?_
        refine g_iconst 78 dX6_passes_77 rfl ?_
        refine k_V2z 81 dX6_passes_78 rfl lk_X6_47 hT.t rfl (by first | rfl | exact rv_cat (by assumption) | exact rv_cat rv_f) (by first | rfl | exact rv_cat (by assumption) | exact rv_cat rv_f) (Nat.le_of_ble_eq_true rfl) (by first | exact Nat.le_of_ble_eq_true rfl | omega) (c_X6_chaise hT (by first | assumption | omega) (by first | assumption | omega) ?_)
        refine g_iconst 82 dX6_passes_81 rfl ?_
        refine g_icmp_ne 90 85 dX6_passes_82 rfl rfl (by first | exact hT.r _ | exact hT.rT _ _ | omega) (by first | exact hT.r _ | exact hT.rT _ _ | omega) (fun c82 => ?_) (fun c82 => ?_)
        · refine g_iinc1 93 (Nat.le_of_ble_eq_true rfl) (by first | exact c1_0 | exact c1_i | exact c1_r | exact c1_n | exact c1_v (by assumption) | exact c1_f) dX6_passes_90 rfl ?_
          refine g_goto 70 dX6_passes_93 rfl ?_
          exact ih _ _ _ hT hW (by omega) (by omega) h
        · omega
theorem l_pass3 : ∀ (j : Nat) (x : Int) (s : Int → Int) (M : Mem), Tw (kB K) M0 m s T M → WW s → rdyN s ≤ j → (∀ M', Tw (kB K) M0 m (depF j s x).1 T M' → Q (.inl (some (.int (ii (depF j s x).2)))) M') → Go K fX6_passes 4 k n 98 [some (.ref m), some (.int (ii x))] [] M Q := by
  intro j
  induction j with
  | zero =>
    intro x s M hT hW hr hQ
    have w1 := hW.2.1
    unfold W1 at w1
    have hy : whyP s ≠ 0 := fun z => by have := rdyN_dep hW z; omega
    have hyr : R32 (whyP s) := by unfold whyP; (repeat' split) <;> decide
    refine g_aload0 99 (by first | exact rv_r | exact rv_n | assumption | exact rv_f) dX6_passes_98 rfl ?_
    refine k_V0z 102 dX6_passes_99 rfl lk_X6_95 hT.t rfl  (Nat.le_of_ble_eq_true rfl) (by first | exact Nat.le_of_ble_eq_true rfl | omega) (c_X6_why hT ⟨by omega, by omega⟩ ?_)
    refine g_if_ne 115 105 dX6_passes_102 rfl rfl (by first | exact hT.r _ | exact hT.rT _ _ | omega) (fun c102 => ?_) (fun c102 => ?_)
    · refine g_iload1 116 dX6_passes_115 rfl ?_
      refine g_iret dX6_passes_116 rfl ?_
      exact hQ _ hT
    · omega
  | succ j ih =>
    intro x s M hT hW hr hQ
    have w1 := hW.2.1
    unfold W1 at w1
    have hyr : R32 (whyP s) := by unfold whyP; (repeat' split) <;> decide
    unfold depF at hQ
    by_cases q : whyP s = 0
    · have := rdyN_dep hW q
      rw [if_pos q] at hQ
      refine g_aload0 99 (by first | exact rv_r | exact rv_n | assumption | exact rv_f) dX6_passes_98 rfl ?_
      refine k_V0z 102 dX6_passes_99 rfl lk_X6_95 hT.t rfl  (Nat.le_of_ble_eq_true rfl) (by first | exact Nat.le_of_ble_eq_true rfl | omega) (c_X6_why hT ⟨by omega, by omega⟩ ?_)
      refine g_if_ne 115 105 dX6_passes_102 rfl rfl (by first | exact hT.r _ | exact hT.rT _ _ | omega) (fun c102 => ?_) (fun c102 => ?_)
      · refine g_iload1 116 dX6_passes_115 rfl ?_
        refine g_iret dX6_passes_116 rfl ?_
        omega
      · refine g_aload0 106 (by first | exact rv_r | exact rv_n | assumption | exact rv_f) dX6_passes_105 rfl ?_
        refine k_V0z 109 dX6_passes_106 rfl lk_X6_98 hT.t rfl  (Nat.le_of_ble_eq_true rfl) (by first | exact Nat.le_of_ble_eq_true rfl | omega) (c_X6_departs hT hW q (fun M hT => ?_))
        refine g_iinc1 112 (Nat.le_of_ble_eq_true rfl) (by first | exact c1_0 | exact c1_i | exact c1_r | exact c1_n | exact c1_v (by assumption) | exact c1_f) dX6_passes_109 rfl ?_
        refine g_goto 98 dX6_passes_112 rfl ?_
        exact ih _ _ _ hT (ww_depart hW q) (by omega) hQ
    · rw [if_neg q] at hQ
      refine g_aload0 99 (by first | exact rv_r | exact rv_n | assumption | exact rv_f) dX6_passes_98 rfl ?_
      refine k_V0z 102 dX6_passes_99 rfl lk_X6_95 hT.t rfl  (Nat.le_of_ble_eq_true rfl) (by first | exact Nat.le_of_ble_eq_true rfl | omega) (c_X6_why hT ⟨by omega, by omega⟩ ?_)
      refine g_if_ne 115 105 dX6_passes_102 rfl rfl (by first | exact hT.r _ | exact hT.rT _ _ | omega) (fun c102 => ?_) (fun c102 => ?_)
      · refine g_iload1 116 dX6_passes_115 rfl ?_
        refine g_iret dX6_passes_116 rfl ?_
        exact hQ _ hT
      · omega
theorem c_X6_passes (hT : Tw (kB K) M0 m s T M) (hW : WW s) (ht : s 0 ≤ 100000) (hQ : ∀ M', Tw (kB K) M0 m ((passP s).1) (T) M' → Q (.inl (some (.int (ii ((passP s).2))))) M') : Go K fX6_passes 4 k n 0 [some (.ref m), none] [] M Q := by
  have wt := hW.tick ht
  have wr1 := WW.rests (s := s) 5 0 _ wt (by omega) (by omega)
  refine g_aload0 1 (by first | exact rv_r | exact rv_n | assumption | exact rv_f) dX6_passes_0 rfl ?_
  refine g_getf 4 dX6_passes_1 rfl fl_X6_7 hT.t (hT.f0) ?_
  refine g_iconst 5 dX6_passes_4 rfl ?_
  refine g_dup2 6 (by first | rfl | exact rv_cat (by assumption) | exact rv_cat rv_f) (by first | rfl | exact rv_cat (by assumption) | exact rv_cat rv_f) dX6_passes_5 rfl ?_
  refine g_iald 7 dX6_passes_6 rfl hT.a0 (by omega) (by omega) (by omega) (hT.e0 (by omega) (by omega)) ?_
  refine g_iconst 8 dX6_passes_7 rfl ?_
  refine g_iadd 9 dX6_passes_8 rfl ?_
  refine w_ias0 10 dX6_passes_9 rfl hT (by omega) (by omega) (fun M hT => ?_)
  refine g_iconst 11 dX6_passes_10 rfl ?_
  refine g_istore1 12 (Nat.le_of_ble_eq_true rfl) (by first | exact c1_0 | exact c1_i | exact c1_r | exact c1_n | exact c1_v (by assumption) | exact c1_f) dX6_passes_11 rfl ?_
  refine l_pass1 5 _ _ _ hT (by omega) (by omega) (fun M hT => ?_)
  refine g_aload0 65 (by first | exact rv_r | exact rv_n | assumption | exact rv_f) dX6_passes_64 rfl ?_
  refine k_V0z 68 dX6_passes_65 rfl lk_X6_89 hT.t rfl  (Nat.le_of_ble_eq_true rfl) (by first | exact Nat.le_of_ble_eq_true rfl | omega) (c_X6_repairs hT wr1 (fun M hT => ?_))
  refine g_iconst 69 dX6_passes_68 rfl ?_
  refine g_istore1 70 (Nat.le_of_ble_eq_true rfl) (by first | exact c1_0 | exact c1_i | exact c1_r | exact c1_n | exact c1_v (by assumption) | exact c1_f) dX6_passes_69 rfl ?_
  refine l_pass2 3 _ _ _ hT wr1.repairs (by omega) (by omega) (fun M hT => ?_)
  refine g_iconst 97 dX6_passes_96 rfl ?_
  refine g_istore1 98 (Nat.le_of_ble_eq_true rfl) (by first | exact c1_0 | exact c1_i | exact c1_r | exact c1_n | exact c1_v (by assumption) | exact c1_f) dX6_passes_97 rfl ?_
  exact l_pass3 3 _ _ _ hT (ww_pre hW ht) (rdyN_le _) hQ
theorem l_passAll : ∀ (j : Nat) (q x i : Int) (s : Int → Int) (M : Mem), Tw (kB K) M0 m s T M → WW s → s 0 + j ≤ 100000 → i + j = q → 0 ≤ i → q < 10000 → (∀ M', Tw (kB K) M0 m (passAllP j s x).1 T M' → Q (.inl (some (.int (ii (passAllP j s x).2)))) M') → Go K fX6_passesAll 5 k n 4 [some (.ref m), some (.int (ii q)), some (.int (ii x)), some (.int (ii i))] [] M Q := by
  intro j
  induction j with
  | zero =>
    intro q x i s M hT hW ht e h0 hq hQ
    refine g_iload3 5 dX6_passesAll_4 rfl ?_
    refine g_iload1 6 dX6_passesAll_5 rfl ?_
    refine g_icmp_ge 22 9 dX6_passesAll_6 rfl rfl (by first | exact hT.r _ | exact hT.rT _ _ | omega) (by first | exact hT.r _ | exact hT.rT _ _ | omega) (fun c6 => ?_) (fun c6 => ?_)
    · refine g_iload2 23 dX6_passesAll_22 rfl ?_
      refine g_iret dX6_passesAll_23 rfl ?_
      exact hQ _ hT
    · omega
  | succ j ih =>
    intro q x i s M hT hW ht e h0 hq hQ
    unfold passAllP at hQ
    have e0 := passP_lo hW (by omega) 0 (by omega) (by omega)
    rw [if_pos rfl] at e0
    refine g_iload3 5 dX6_passesAll_4 rfl ?_
    refine g_iload1 6 dX6_passesAll_5 rfl ?_
    refine g_icmp_ge 22 9 dX6_passesAll_6 rfl rfl (by first | exact hT.r _ | exact hT.rT _ _ | omega) (by first | exact hT.r _ | exact hT.rT _ _ | omega) (fun c6 => ?_) (fun c6 => ?_)
    · omega
    · refine g_iload2 10 dX6_passesAll_9 rfl ?_
      refine g_aload0 11 (by first | exact rv_r | exact rv_n | assumption | exact rv_f) dX6_passesAll_10 rfl ?_
      refine k_V0z 14 dX6_passesAll_11 rfl lk_X6_101 hT.t rfl  (Nat.le_of_ble_eq_true rfl) (by first | exact Nat.le_of_ble_eq_true rfl | omega) (c_X6_passes hT hW (by omega) (fun M hT => ?_))
      refine g_iadd 15 dX6_passesAll_14 rfl ?_
      refine g_istore2 16 (Nat.le_of_ble_eq_true rfl) (by first | exact c1_0 | exact c1_i | exact c1_r | exact c1_n | exact c1_v (by assumption) | exact c1_f) dX6_passesAll_15 rfl ?_
      refine g_iinc3 19 (Nat.le_of_ble_eq_true rfl) (by first | exact c1_0 | exact c1_i | exact c1_r | exact c1_n | exact c1_v (by assumption) | exact c1_f) dX6_passesAll_16 rfl ?_
      refine g_goto 4 dX6_passesAll_19 rfl ?_
      exact ih _ _ _ _ _ hT (ww_pass hW (by omega)) (by omega) (by omega) (by omega) hq hQ
theorem c_X6_passesAll (hT : Tw (kB K) M0 m s T M) {q : Int} (hW : WW s) (ht : s 0 ≤ 20000) (hq : 0 ≤ q ∧ q < 10000) (hQ : ∀ M', Tw (kB K) M0 m ((passAllP q.toNat s 0).1) (T) M' → Q (.inl (some (.int (ii ((passAllP q.toNat s 0).2))))) M') : Go K fX6_passesAll 5 k n 0 [some (.ref m), some (.int (ii q)), none, none] [] M Q := by
  refine g_iconst 1 dX6_passesAll_0 rfl ?_
  refine g_istore2 2 (Nat.le_of_ble_eq_true rfl) (by first | exact c1_0 | exact c1_i | exact c1_r | exact c1_n | exact c1_v (by assumption) | exact c1_f) dX6_passesAll_1 rfl ?_
  refine g_iconst 3 dX6_passesAll_2 rfl ?_
  refine g_istore3 4 (Nat.le_of_ble_eq_true rfl) (by first | exact c1_0 | exact c1_i | exact c1_r | exact c1_n | exact c1_v (by assumption) | exact c1_f) dX6_passesAll_3 rfl ?_
  exact l_passAll q.toNat q 0 0 _ _ hT hW (by omega) (by omega) (by omega) hq.2 hQ
end TWD
