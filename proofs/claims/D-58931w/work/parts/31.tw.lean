/-! ===== the twin's methods: the small ones ===== -/
def inP (v lo hi : Int) : Int := if lo ≤ v ∧ v ≤ hi then 1 else 0
theorem inP_01 {v lo hi : Int} : inP v lo hi = 0 ∨ inP v lo hi = 1 := by unfold inP; split <;> omega
theorem zr {z : Int} (h : z = 0 ∨ z = 1) : narrow .boolean (.int (ii z)) = .int (ii z) := by rcases h with rfl | rfl <;> decide
/-- who waits, of one rank: from g on, j of them; who it is, or -1, and how many are left -/
def inG (s : Int → Int) (r : Int) : Nat → Int → Int → Int × Int
  | 0, _, l => (-1, l)
  | j + 1, g, l => if s (17 + 5 * g + 2) = 0 ∧ s (17 + 5 * g + 0) = r then (if l = 0 then (g, l) else inG s r j (g + 1) (l + -1)) else inG s r j (g + 1) l
def inR (s : Int → Int) : Nat → Int → Int → Int
  | 0, _, _ => -1
  | j + 1, r, l => if (inG s r (s 3).toNat 0 l).1 = -1 then inR s j (r + 1) (inG s r (s 3).toNat 0 l).2 else (inG s r (s 3).toNat 0 l).1
def inLineP (s : Int → Int) (p : Int) : Int := inR s 3 0 p
def restStep (s : Int → Int) (p x : Int) : Int := if (s (217 + 3 * p + 0) = 0 ∧ s (217 + 3 * p + 1) = 0) ∧ (x = -1 ∨ s (217 + 3 * p + 2) < s (217 + 3 * x + 2)) then p else x
def restF (s : Int → Int) : Nat → Int → Int → Int
  | 0, _, x => x
  | j + 1, p, x => restF s j (p + 1) (restStep s p x)
def restedP (s : Int → Int) : Int := restF s 5 0 (-1)
def readyStep (s : Int → Int) (p x : Int) : Int := if (s (240 + 10 * p + 0) = 0 ∧ s (240 + 10 * p + 2) = 0) ∧ (x = -1 ∨ s (240 + 10 * p + 1) < s (240 + 10 * x + 1)) then p else x
def readyF (s : Int → Int) : Nat → Int → Int → Int
  | 0, _, x => x
  | j + 1, p, x => readyF s j (p + 1) (readyStep s p x)
def readyP (s : Int → Int) : Int := readyF s 3 0 (-1)
def whyP (s : Int → Int) : Int := if inLineP s 0 = -1 then 1 else if restedP s = -1 then 2 else if s 4 = 0 then 3 else if readyP s = -1 then 4 else 0
def waitedP (s : Int → Int) (g : Int) : Int := if s (17 + 5 * g + 2) = 0 then s 0 - s (17 + 5 * g + 3) else s (17 + 5 * g + 4)
theorem restStep_r {s : Int → Int} {p x : Int} (h : x = -1 ∨ (0 ≤ x ∧ x < 5)) (hp : 0 ≤ p ∧ p < 5) : restStep s p x = -1 ∨ (0 ≤ restStep s p x ∧ restStep s p x < 5) := by
  unfold restStep; split <;> omega
theorem restF_r {s : Int → Int} : ∀ (j : Nat) (p x : Int), p + j = 5 → 0 ≤ p → (x = -1 ∨ (0 ≤ x ∧ x < 5)) → (restF s j p x = -1 ∨ (0 ≤ restF s j p x ∧ restF s j p x < 5))
  | 0, _, _, _, _, h => h
  | j + 1, p, x, e, h0, h => restF_r j (p + 1) _ (by omega) (by omega) (restStep_r h (by omega))
theorem restedP_r (s : Int → Int) : restedP s = -1 ∨ (0 ≤ restedP s ∧ restedP s < 5) := restF_r 5 0 (-1) (by omega) (by omega) (Or.inl rfl)
theorem readyStep_r {s : Int → Int} {p x : Int} (h : x = -1 ∨ (0 ≤ x ∧ x < 3)) (hp : 0 ≤ p ∧ p < 3) : readyStep s p x = -1 ∨ (0 ≤ readyStep s p x ∧ readyStep s p x < 3) := by
  unfold readyStep; split <;> omega
theorem readyF_r {s : Int → Int} : ∀ (j : Nat) (p x : Int), p + j = 3 → 0 ≤ p → (x = -1 ∨ (0 ≤ x ∧ x < 3)) → (readyF s j p x = -1 ∨ (0 ≤ readyF s j p x ∧ readyF s j p x < 3))
  | 0, _, _, _, _, h => h
  | j + 1, p, x, e, h0, h => readyF_r j (p + 1) _ (by omega) (by omega) (readyStep_r h (by omega))
theorem readyP_r (s : Int → Int) : readyP s = -1 ∨ (0 ≤ readyP s ∧ readyP s < 3) := readyF_r 3 0 (-1) (by omega) (by omega) (Or.inl rfl)
theorem inG_r {s : Int → Int} {r : Int} : ∀ (j : Nat) (g l : Int), 0 ≤ g → 0 ≤ l → ((inG s r j g l).1 = -1 ∨ (g ≤ (inG s r j g l).1 ∧ (inG s r j g l).1 < g + j)) ∧ 0 ≤ (inG s r j g l).2 ∧ (inG s r j g l).2 ≤ l
  | 0, g, l, h0, hl => ⟨Or.inl rfl, hl, Int.le_refl _⟩
  | j + 1, g, l, h0, hl => by
    unfold inG
    split
    · split
      · simp; omega
      · have := inG_r (s := s) (r := r) j (g + 1) (l + -1) (by omega) (by omega)
        omega
    · have := inG_r (s := s) (r := r) j (g + 1) l (by omega) hl
      omega
theorem inR_r {s : Int → Int} (h3 : 0 ≤ s 3) : ∀ (j : Nat) (r l : Int), 0 ≤ l → (inR s j r l = -1 ∨ (0 ≤ inR s j r l ∧ inR s j r l < s 3))
  | 0, r, l, hl => Or.inl rfl
  | j + 1, r, l, hl => by
    have := inG_r (s := s) (r := r) (s 3).toNat 0 l (by omega) hl
    unfold inR
    split
    · exact inR_r h3 j (r + 1) _ this.2.1
    · omega
theorem inLineP_r {s : Int → Int} {p : Int} (h3 : 0 ≤ s 3) (hp : 0 ≤ p) : inLineP s p = -1 ∨ (0 ≤ inLineP s p ∧ inLineP s p < s 3) := inR_r h3 3 0 p hp
section TWA
variable {K : KT} {k n m : Nat} {M M0 : Mem} {Q : Res → Mem → Prop} {s : Int → Int} {T : Nat → Int → Int}
theorem c_X6_in {v lo hi : Int} (h1 : R32 v) (h2 : R32 lo) (h3 : R32 hi) (hQ : Q (.inl (some (.int (ii (inP v lo hi))))) M) : Go K fX6_in 1 k n 0 [some (.int (ii v)), some (.int (ii lo)), some (.int (ii hi))] [] M Q := by
  refine g_iload0 1 dX6_in_0 rfl ?_
  refine g_iload1 2 dX6_in_1 rfl ?_
  refine g_icmp_lt 14 5 dX6_in_2 rfl rfl (by first | exact hT.r _ | exact hT.rT _ _ | omega) (by first | exact hT.r _ | exact hT.rT _ _ | omega) (fun c2 => ?_) (fun c2 => ?_)
  · refine g_iconst 15 dX6_in_14 rfl ?_
    refine g_zret dX6_in_15 rfl (by first | rfl | exact zr inP_01 | exact zr (by omega) | exact zr (by assumption)) ?_
    refine lq hQ ?_
    (unfold inP; split <;> omega)
  · refine g_iload0 6 dX6_in_5 rfl ?_
    refine g_iload2 7 dX6_in_6 rfl ?_
    refine g_icmp_gt 14 10 dX6_in_7 rfl rfl (by first | exact hT.r _ | exact hT.rT _ _ | omega) (by first | exact hT.r _ | exact hT.rT _ _ | omega) (fun c7 => ?_) (fun c7 => ?_)
    · refine g_iconst 15 dX6_in_14 rfl ?_
      refine g_zret dX6_in_15 rfl (by first | rfl | exact zr inP_01 | exact zr (by omega) | exact zr (by assumption)) ?_
      refine lq hQ ?_
      (unfold inP; split <;> omega)
    · refine g_iconst 11 dX6_in_10 rfl ?_
      refine g_goto 15 dX6_in_11 rfl ?_
      refine g_zret dX6_in_15 rfl (by first | rfl | exact zr inP_01 | exact zr (by omega) | exact zr (by assumption)) ?_
      refine lq hQ ?_
      (unfold inP; split <;> omega)
theorem c_X6_throwing (hT : Tw (kB K) M0 m s T M) {v : Int} (hQ : ∀ M', Tw (kB K) M0 m (s) (uT T 5 8 v) M' → Q (.inl (some (.int (ii (0))))) M') : Go K fX6_throwing 1 k n 0 [some (.ref m), some (.int (ii v))] [] M Q := by
  refine g_aload0 1 (by first | exact rv_r | exact rv_n | assumption | exact rv_f) dX6_throwing_0 rfl ?_
  refine g_iload1 2 dX6_throwing_1 rfl ?_
  refine w_put8 5 dX6_throwing_2 rfl fl_X6_25 hT (fun M hT => ?_)
  refine g_iconst 6 dX6_throwing_5 rfl ?_
  refine g_iret dX6_throwing_6 rfl ?_
  exact hQ _ hT
theorem c_X6_thrown (hT : Tw (kB K) M0 m s T M) (hQ : Q (.inl (some (.int (ii (T 5 8))))) M) : Go K fX6_thrown 1 k n 0 [some (.ref m)] [] M Q := by
  refine g_aload0 1 (by first | exact rv_r | exact rv_n | assumption | exact rv_f) dX6_thrown_0 rfl ?_
  refine g_getf 4 dX6_thrown_1 rfl fl_X6_25 hT.t (hT.f8) ?_
  refine g_iret dX6_thrown_4 rfl ?_
  exact hQ
theorem c_X6_guest (hT : Tw (kB K) M0 m s T M) {g w : Int} (h0 : 0 ≤ 17 + 5 * g + w) (h1 : 17 + 5 * g + w < 270) (hQ : Q (.inl (some (.int (ii (s (17 + 5 * g + w)))))) M) : Go K fX6_guest 1 k n 0 [some (.ref m), some (.int (ii g)), some (.int (ii w))] [] M Q := by
  refine g_aload0 1 (by first | exact rv_r | exact rv_n | assumption | exact rv_f) dX6_guest_0 rfl ?_
  refine g_getf 4 dX6_guest_1 rfl fl_X6_7 hT.t (hT.f0) ?_
  refine g_bipush 6 (by rfl) dX6_guest_4 rfl ?_
  refine g_iconst 7 dX6_guest_6 rfl ?_
  refine g_iload1 8 dX6_guest_7 rfl ?_
  refine g_imul 9 dX6_guest_8 rfl ?_
  refine g_iadd 10 dX6_guest_9 rfl ?_
  refine g_iload2 11 dX6_guest_10 rfl ?_
  refine g_iadd 12 dX6_guest_11 rfl ?_
  refine g_iald 13 dX6_guest_12 rfl hT.a0 (by omega) (by omega) (by omega) (hT.e0 (by omega) (by omega)) ?_
  refine g_iret dX6_guest_13 rfl ?_
  exact hQ
theorem c_X6_layGuest (hT : Tw (kB K) M0 m s T M) {g w v : Int} (h0 : 0 ≤ 17 + 5 * g + w) (h1 : 17 + 5 * g + w < 270) (hQ : ∀ M', Tw (kB K) M0 m (up s (17 + 5 * g + w) v) (T) M' → Q (.inl none) M') : Go K fX6_layGuest 1 k n 0 [some (.ref m), some (.int (ii g)), some (.int (ii w)), some (.int (ii v))] [] M Q := by
  refine g_aload0 1 (by first | exact rv_r | exact rv_n | assumption | exact rv_f) dX6_layGuest_0 rfl ?_
  refine g_getf 4 dX6_layGuest_1 rfl fl_X6_7 hT.t (hT.f0) ?_
  refine g_bipush 6 (by rfl) dX6_layGuest_4 rfl ?_
  refine g_iconst 7 dX6_layGuest_6 rfl ?_
  refine g_iload1 8 dX6_layGuest_7 rfl ?_
  refine g_imul 9 dX6_layGuest_8 rfl ?_
  refine g_iadd 10 dX6_layGuest_9 rfl ?_
  refine g_iload2 11 dX6_layGuest_10 rfl ?_
  refine g_iadd 12 dX6_layGuest_11 rfl ?_
  refine g_iload3 13 dX6_layGuest_12 rfl ?_
  refine w_ias0 14 dX6_layGuest_13 rfl hT (by omega) (by omega) (fun M hT => ?_)
  refine g_vret dX6_layGuest_14 rfl ?_
  exact hQ _ hT
theorem c_X6_pair (hT : Tw (kB K) M0 m s T M) {g w : Int} (h0 : 0 ≤ 217 + 3 * g + w) (h1 : 217 + 3 * g + w < 270) (hQ : Q (.inl (some (.int (ii (s (217 + 3 * g + w)))))) M) : Go K fX6_pair 1 k n 0 [some (.ref m), some (.int (ii g)), some (.int (ii w))] [] M Q := by
  refine g_aload0 1 (by first | exact rv_r | exact rv_n | assumption | exact rv_f) dX6_pair_0 rfl ?_
  refine g_getf 4 dX6_pair_1 rfl fl_X6_7 hT.t (hT.f0) ?_
  refine g_sipush 7 (by rfl) dX6_pair_4 rfl ?_
  refine g_iconst 8 dX6_pair_7 rfl ?_
  refine g_iload1 9 dX6_pair_8 rfl ?_
  refine g_imul 10 dX6_pair_9 rfl ?_
  refine g_iadd 11 dX6_pair_10 rfl ?_
  refine g_iload2 12 dX6_pair_11 rfl ?_
  refine g_iadd 13 dX6_pair_12 rfl ?_
  refine g_iald 14 dX6_pair_13 rfl hT.a0 (by omega) (by omega) (by omega) (hT.e0 (by omega) (by omega)) ?_
  refine g_iret dX6_pair_14 rfl ?_
  exact hQ
theorem c_X6_layPair (hT : Tw (kB K) M0 m s T M) {g w v : Int} (h0 : 0 ≤ 217 + 3 * g + w) (h1 : 217 + 3 * g + w < 270) (hQ : ∀ M', Tw (kB K) M0 m (up s (217 + 3 * g + w) v) (T) M' → Q (.inl none) M') : Go K fX6_layPair 1 k n 0 [some (.ref m), some (.int (ii g)), some (.int (ii w)), some (.int (ii v))] [] M Q := by
  refine g_aload0 1 (by first | exact rv_r | exact rv_n | assumption | exact rv_f) dX6_layPair_0 rfl ?_
  refine g_getf 4 dX6_layPair_1 rfl fl_X6_7 hT.t (hT.f0) ?_
  refine g_sipush 7 (by rfl) dX6_layPair_4 rfl ?_
  refine g_iconst 8 dX6_layPair_7 rfl ?_
  refine g_iload1 9 dX6_layPair_8 rfl ?_
  refine g_imul 10 dX6_layPair_9 rfl ?_
  refine g_iadd 11 dX6_layPair_10 rfl ?_
  refine g_iload2 12 dX6_layPair_11 rfl ?_
  refine g_iadd 13 dX6_layPair_12 rfl ?_
  refine g_iload3 14 dX6_layPair_13 rfl ?_
  refine w_ias0 15 dX6_layPair_14 rfl hT (by omega) (by omega) (fun M hT => ?_)
  refine g_vret dX6_layPair_15 rfl ?_
  exact hQ _ hT
theorem c_X6_boy (hT : Tw (kB K) M0 m s T M) {g w : Int} (h0 : 0 ≤ 232 + 2 * g + w) (h1 : 232 + 2 * g + w < 270) (hQ : Q (.inl (some (.int (ii (s (232 + 2 * g + w)))))) M) : Go K fX6_boy 1 k n 0 [some (.ref m), some (.int (ii g)), some (.int (ii w))] [] M Q := by
  refine g_aload0 1 (by first | exact rv_r | exact rv_n | assumption | exact rv_f) dX6_boy_0 rfl ?_
  refine g_getf 4 dX6_boy_1 rfl fl_X6_7 hT.t (hT.f0) ?_
  refine g_sipush 7 (by rfl) dX6_boy_4 rfl ?_
  refine g_iconst 8 dX6_boy_7 rfl ?_
  refine g_iload1 9 dX6_boy_8 rfl ?_
  refine g_imul 10 dX6_boy_9 rfl ?_
  refine g_iadd 11 dX6_boy_10 rfl ?_
  refine g_iload2 12 dX6_boy_11 rfl ?_
  refine g_iadd 13 dX6_boy_12 rfl ?_
  refine g_iald 14 dX6_boy_13 rfl hT.a0 (by omega) (by omega) (by omega) (hT.e0 (by omega) (by omega)) ?_
  refine g_iret dX6_boy_14 rfl ?_
  exact hQ
theorem c_X6_layBoy (hT : Tw (kB K) M0 m s T M) {g w v : Int} (h0 : 0 ≤ 232 + 2 * g + w) (h1 : 232 + 2 * g + w < 270) (hQ : ∀ M', Tw (kB K) M0 m (up s (232 + 2 * g + w) v) (T) M' → Q (.inl none) M') : Go K fX6_layBoy 1 k n 0 [some (.ref m), some (.int (ii g)), some (.int (ii w)), some (.int (ii v))] [] M Q := by
  refine g_aload0 1 (by first | exact rv_r | exact rv_n | assumption | exact rv_f) dX6_layBoy_0 rfl ?_
  refine g_getf 4 dX6_layBoy_1 rfl fl_X6_7 hT.t (hT.f0) ?_
  refine g_sipush 7 (by rfl) dX6_layBoy_4 rfl ?_
  refine g_iconst 8 dX6_layBoy_7 rfl ?_
  refine g_iload1 9 dX6_layBoy_8 rfl ?_
  refine g_imul 10 dX6_layBoy_9 rfl ?_
  refine g_iadd 11 dX6_layBoy_10 rfl ?_
  refine g_iload2 12 dX6_layBoy_11 rfl ?_
  refine g_iadd 13 dX6_layBoy_12 rfl ?_
  refine g_iload3 14 dX6_layBoy_13 rfl ?_
  refine w_ias0 15 dX6_layBoy_14 rfl hT (by omega) (by omega) (fun M hT => ?_)
  refine g_vret dX6_layBoy_15 rfl ?_
  exact hQ _ hT
theorem c_X6_chaise (hT : Tw (kB K) M0 m s T M) {g w : Int} (h0 : 0 ≤ 240 + 10 * g + w) (h1 : 240 + 10 * g + w < 270) (hQ : Q (.inl (some (.int (ii (s (240 + 10 * g + w)))))) M) : Go K fX6_chaise 1 k n 0 [some (.ref m), some (.int (ii g)), some (.int (ii w))] [] M Q := by
  refine g_aload0 1 (by first | exact rv_r | exact rv_n | assumption | exact rv_f) dX6_chaise_0 rfl ?_
  refine g_getf 4 dX6_chaise_1 rfl fl_X6_7 hT.t (hT.f0) ?_
  refine g_sipush 7 (by rfl) dX6_chaise_4 rfl ?_
  refine g_bipush 9 (by rfl) dX6_chaise_7 rfl ?_
  refine g_iload1 10 dX6_chaise_9 rfl ?_
  refine g_imul 11 dX6_chaise_10 rfl ?_
  refine g_iadd 12 dX6_chaise_11 rfl ?_
  refine g_iload2 13 dX6_chaise_12 rfl ?_
  refine g_iadd 14 dX6_chaise_13 rfl ?_
  refine g_iald 15 dX6_chaise_14 rfl hT.a0 (by omega) (by omega) (by omega) (hT.e0 (by omega) (by omega)) ?_
  refine g_iret dX6_chaise_15 rfl ?_
  exact hQ
theorem c_X6_layChaise (hT : Tw (kB K) M0 m s T M) {g w v : Int} (h0 : 0 ≤ 240 + 10 * g + w) (h1 : 240 + 10 * g + w < 270) (hQ : ∀ M', Tw (kB K) M0 m (up s (240 + 10 * g + w) v) (T) M' → Q (.inl none) M') : Go K fX6_layChaise 1 k n 0 [some (.ref m), some (.int (ii g)), some (.int (ii w)), some (.int (ii v))] [] M Q := by
  refine g_aload0 1 (by first | exact rv_r | exact rv_n | assumption | exact rv_f) dX6_layChaise_0 rfl ?_
  refine g_getf 4 dX6_layChaise_1 rfl fl_X6_7 hT.t (hT.f0) ?_
  refine g_sipush 7 (by rfl) dX6_layChaise_4 rfl ?_
  refine g_bipush 9 (by rfl) dX6_layChaise_7 rfl ?_
  refine g_iload1 10 dX6_layChaise_9 rfl ?_
  refine g_imul 11 dX6_layChaise_10 rfl ?_
  refine g_iadd 12 dX6_layChaise_11 rfl ?_
  refine g_iload2 13 dX6_layChaise_12 rfl ?_
  refine g_iadd 14 dX6_layChaise_13 rfl ?_
  refine g_iload3 15 dX6_layChaise_14 rfl ?_
  refine w_ias0 16 dX6_layChaise_15 rfl hT (by omega) (by omega) (fun M hT => ?_)
  refine g_vret dX6_layChaise_16 rfl ?_
  exact hQ _ hT
theorem c_X6_isGuest (hT : Tw (kB K) M0 m s T M) {g : Int} (h1 : R32 g) (h3 : 0 ≤ s 3 ∧ s 3 ≤ 40) (hQ : Q (.inl (some (.int (ii (inP g 0 (s 3 - 1)))))) M) : Go K fX6_isGuest 2 k n 0 [some (.ref m), some (.int (ii g))] [] M Q := by
  refine g_iload1 1 dX6_isGuest_0 rfl ?_
  refine g_iconst 2 dX6_isGuest_1 rfl ?_
  refine g_aload0 3 (by first | exact rv_r | exact rv_n | assumption | exact rv_f) dX6_isGuest_2 rfl ?_
  refine g_getf 6 dX6_isGuest_3 rfl fl_X6_7 hT.t (hT.f0) ?_
  refine g_iconst 7 dX6_isGuest_6 rfl ?_
  refine g_iald 8 dX6_isGuest_7 rfl hT.a0 (by omega) (by omega) (by omega) (hT.e0 (by omega) (by omega)) ?_
  refine g_iconst 9 dX6_isGuest_8 rfl ?_
  refine g_isub 10 dX6_isGuest_9 rfl ?_
  refine k_S3z 13 dX6_isGuest_10 rfl lk_X6_29 rfl (by first | rfl | exact rv_cat (by assumption) | exact rv_cat rv_f) (by first | rfl | exact rv_cat (by assumption) | exact rv_cat rv_f) (by first | rfl | exact rv_cat (by assumption) | exact rv_cat rv_f) (Nat.le_of_ble_eq_true rfl) (by first | exact Nat.le_of_ble_eq_true rfl | omega) (c_X6_in (by first | assumption | omega) (by first | assumption | omega) (by first | assumption | omega) ?_)
  refine g_zret dX6_isGuest_13 rfl (by first | rfl | exact zr inP_01 | exact zr (by omega) | exact zr (by assumption)) ?_
  exact hQ
theorem c_X6_isPair {g : Int} (h1 : R32 g) (hQ : Q (.inl (some (.int (ii (inP g 0 4))))) M) : Go K fX6_isPair 2 k n 0 [some (.int (ii g))] [] M Q := by
  refine g_iload0 1 dX6_isPair_0 rfl ?_
  refine g_iconst 2 dX6_isPair_1 rfl ?_
  refine g_iconst 3 dX6_isPair_2 rfl ?_
  refine k_S3z 6 dX6_isPair_3 rfl lk_X6_29 rfl (by first | rfl | exact rv_cat (by assumption) | exact rv_cat rv_f) (by first | rfl | exact rv_cat (by assumption) | exact rv_cat rv_f) (by first | rfl | exact rv_cat (by assumption) | exact rv_cat rv_f) (Nat.le_of_ble_eq_true rfl) (by first | exact Nat.le_of_ble_eq_true rfl | omega) (c_X6_in (by first | assumption | omega) (by first | assumption | omega) (by first | assumption | omega) ?_)
  refine g_zret dX6_isPair_6 rfl (by first | rfl | exact zr inP_01 | exact zr (by omega) | exact zr (by assumption)) ?_
  exact hQ
theorem c_X6_isBoy {g : Int} (h1 : R32 g) (hQ : Q (.inl (some (.int (ii (inP g 0 3))))) M) : Go K fX6_isBoy 2 k n 0 [some (.int (ii g))] [] M Q := by
  refine g_iload0 1 dX6_isBoy_0 rfl ?_
  refine g_iconst 2 dX6_isBoy_1 rfl ?_
  refine g_iconst 3 dX6_isBoy_2 rfl ?_
  refine k_S3z 6 dX6_isBoy_3 rfl lk_X6_29 rfl (by first | rfl | exact rv_cat (by assumption) | exact rv_cat rv_f) (by first | rfl | exact rv_cat (by assumption) | exact rv_cat rv_f) (by first | rfl | exact rv_cat (by assumption) | exact rv_cat rv_f) (Nat.le_of_ble_eq_true rfl) (by first | exact Nat.le_of_ble_eq_true rfl | omega) (c_X6_in (by first | assumption | omega) (by first | assumption | omega) (by first | assumption | omega) ?_)
  refine g_zret dX6_isBoy_6 rfl (by first | rfl | exact zr inP_01 | exact zr (by omega) | exact zr (by assumption)) ?_
  exact hQ
theorem c_X6_isChaise {g : Int} (h1 : R32 g) (hQ : Q (.inl (some (.int (ii (inP g 0 2))))) M) : Go K fX6_isChaise 2 k n 0 [some (.int (ii g))] [] M Q := by
  refine g_iload0 1 dX6_isChaise_0 rfl ?_
  refine g_iconst 2 dX6_isChaise_1 rfl ?_
  refine g_iconst 3 dX6_isChaise_2 rfl ?_
  refine k_S3z 6 dX6_isChaise_3 rfl lk_X6_29 rfl (by first | rfl | exact rv_cat (by assumption) | exact rv_cat rv_f) (by first | rfl | exact rv_cat (by assumption) | exact rv_cat rv_f) (by first | rfl | exact rv_cat (by assumption) | exact rv_cat rv_f) (Nat.le_of_ble_eq_true rfl) (by first | exact Nat.le_of_ble_eq_true rfl | omega) (c_X6_in (by first | assumption | omega) (by first | assumption | omega) (by first | assumption | omega) ?_)
  refine g_zret dX6_isChaise_6 rfl (by first | rfl | exact zr inP_01 | exact zr (by omega) | exact zr (by assumption)) ?_
  exact hQ
theorem c_X6_milesOf {r : Int} (h1 : R32 r) (hQ : Q (.inl (some (.int (ii (milesP r))))) M) : Go K fX6_milesOf 1 k n 0 [some (.int (ii r))] [] M Q := by
  refine g_iload0 1 dX6_milesOf_0 rfl ?_
  refine g_if_ne 9 4 dX6_milesOf_1 rfl rfl (by first | exact hT.r _ | exact hT.rT _ _ | omega) (fun c1 => ?_) (fun c1 => ?_)
  · refine g_iload0 10 dX6_milesOf_9 rfl ?_
    refine g_iconst 11 dX6_milesOf_10 rfl ?_
    refine g_icmp_ne 19 14 dX6_milesOf_11 rfl rfl (by first | exact hT.r _ | exact hT.rT _ _ | omega) (by first | exact hT.r _ | exact hT.rT _ _ | omega) (fun c11 => ?_) (fun c11 => ?_)
    · refine g_iload0 20 dX6_milesOf_19 rfl ?_
      refine g_iconst 21 dX6_milesOf_20 rfl ?_
      refine g_icmp_ne 29 24 dX6_milesOf_21 rfl rfl (by first | exact hT.r _ | exact hT.rT _ _ | omega) (by first | exact hT.r _ | exact hT.rT _ _ | omega) (fun c21 => ?_) (fun c21 => ?_)
      · refine g_bipush 31 (by rfl) dX6_milesOf_29 rfl ?_
        refine g_iret dX6_milesOf_31 rfl ?_
        refine lq hQ ?_
        (unfold milesP; (repeat' split) <;> omega)
      · refine g_bipush 26 (by rfl) dX6_milesOf_24 rfl ?_
        refine g_goto 31 dX6_milesOf_26 rfl ?_
        refine g_iret dX6_milesOf_31 rfl ?_
        refine lq hQ ?_
        (unfold milesP; (repeat' split) <;> omega)
    · refine g_bipush 16 (by rfl) dX6_milesOf_14 rfl ?_
      refine g_goto 31 dX6_milesOf_16 rfl ?_
      refine g_iret dX6_milesOf_31 rfl ?_
      refine lq hQ ?_
      (unfold milesP; (repeat' split) <;> omega)
  · refine g_bipush 6 (by rfl) dX6_milesOf_4 rfl ?_
    refine g_goto 31 dX6_milesOf_6 rfl ?_
    refine g_iret dX6_milesOf_31 rfl ?_
    refine lq hQ ?_
    (unfold milesP; (repeat' split) <;> omega)
theorem c_X6_fare (hT : Tw (kB K) M0 m s T M) {g : Int} (h0 : 0 ≤ g) (h1 : g < 40) (hQ : Q (.inl (some (.int (ii (fareP (s (17 + 5 * g + 0)) (s (17 + 5 * g + 1))))))) M) : Go K fX6_fare 2 k n 0 [some (.ref m), some (.int (ii g))] [] M Q := by
  refine g_aload0 1 (by first | exact rv_r | exact rv_n | assumption | exact rv_f) dX6_fare_0 rfl ?_
  refine g_iload1 2 dX6_fare_1 rfl ?_
  refine g_iconst 3 dX6_fare_2 rfl ?_
  refine k_V2z 6 dX6_fare_3 rfl lk_X6_36 hT.t rfl (by first | rfl | exact rv_cat (by assumption) | exact rv_cat rv_f) (by first | rfl | exact rv_cat (by assumption) | exact rv_cat rv_f) (Nat.le_of_ble_eq_true rfl) (by first | exact Nat.le_of_ble_eq_true rfl | omega) (c_X6_guest hT (by first | assumption | omega) (by first | assumption | omega) ?_)
  refine k_S1z 9 dX6_fare_6 rfl lk_X6_40 rfl (by first | rfl | exact rv_cat (by assumption) | exact rv_cat rv_f) (Nat.le_of_ble_eq_true rfl) (by first | exact Nat.le_of_ble_eq_true rfl | omega) (c_X6_milesOf (hT.r _) ?_)
  refine g_aload0 10 (by first | exact rv_r | exact rv_n | assumption | exact rv_f) dX6_fare_9 rfl ?_
  refine g_iload1 11 dX6_fare_10 rfl ?_
  refine g_iconst 12 dX6_fare_11 rfl ?_
  refine k_V2z 15 dX6_fare_12 rfl lk_X6_36 hT.t rfl (by first | rfl | exact rv_cat (by assumption) | exact rv_cat rv_f) (by first | rfl | exact rv_cat (by assumption) | exact rv_cat rv_f) (Nat.le_of_ble_eq_true rfl) (by first | exact Nat.le_of_ble_eq_true rfl | omega) (c_X6_guest hT (by first | assumption | omega) (by first | assumption | omega) ?_)
  refine g_if_ne 23 18 dX6_fare_15 rfl rfl (by first | exact hT.r _ | exact hT.rT _ _ | omega) (fun c15 => ?_) (fun c15 => ?_)
  · refine g_aload0 24 (by first | exact rv_r | exact rv_n | assumption | exact rv_f) dX6_fare_23 rfl ?_
    refine g_iload1 25 dX6_fare_24 rfl ?_
    refine g_iconst 26 dX6_fare_25 rfl ?_
    refine k_V2z 29 dX6_fare_26 rfl lk_X6_36 hT.t rfl (by first | rfl | exact rv_cat (by assumption) | exact rv_cat rv_f) (by first | rfl | exact rv_cat (by assumption) | exact rv_cat rv_f) (Nat.le_of_ble_eq_true rfl) (by first | exact Nat.le_of_ble_eq_true rfl | omega) (c_X6_guest hT (by first | assumption | omega) (by first | assumption | omega) ?_)
    refine g_iconst 30 dX6_fare_29 rfl ?_
    refine g_icmp_ne 38 33 dX6_fare_30 rfl rfl (by first | exact hT.r _ | exact hT.rT _ _ | omega) (by first | exact hT.r _ | exact hT.rT _ _ | omega) (fun c30 => ?_) (fun c30 => ?_)
    · refine g_bipush 40 (by rfl) dX6_fare_38 rfl ?_
      refine g_imul 41 dX6_fare_40 rfl ?_
      refine g_iret dX6_fare_41 rfl ?_
      refine lq hQ ?_
      (unfold fareP; (repeat' split) <;> first | omega | (rw [Int.mul_comm]))
    · refine g_bipush 35 (by rfl) dX6_fare_33 rfl ?_
      refine g_goto 40 dX6_fare_35 rfl ?_
      refine g_imul 41 dX6_fare_40 rfl ?_
      refine g_iret dX6_fare_41 rfl ?_
      refine lq hQ ?_
      (unfold fareP; (repeat' split) <;> first | omega | (rw [Int.mul_comm]))
  · refine g_bipush 20 (by rfl) dX6_fare_18 rfl ?_
    refine g_goto 40 dX6_fare_20 rfl ?_
    refine g_imul 41 dX6_fare_40 rfl ?_
    refine g_iret dX6_fare_41 rfl ?_
    refine lq hQ ?_
    (unfold fareP; (repeat' split) <;> first | omega | (rw [Int.mul_comm]))
theorem c_X6_waited (hT : Tw (kB K) M0 m s T M) {g : Int} (h0 : 0 ≤ g) (h1 : g < 40) (hQ : Q (.inl (some (.int (ii (waitedP s g))))) M) : Go K fX6_waited 2 k n 0 [some (.ref m), some (.int (ii g))] [] M Q := by
  refine g_aload0 1 (by first | exact rv_r | exact rv_n | assumption | exact rv_f) dX6_waited_0 rfl ?_
  refine g_iload1 2 dX6_waited_1 rfl ?_
  refine g_iconst 3 dX6_waited_2 rfl ?_
  refine k_V2z 6 dX6_waited_3 rfl lk_X6_36 hT.t rfl (by first | rfl | exact rv_cat (by assumption) | exact rv_cat rv_f) (by first | rfl | exact rv_cat (by assumption) | exact rv_cat rv_f) (Nat.le_of_ble_eq_true rfl) (by first | exact Nat.le_of_ble_eq_true rfl | omega) (c_X6_guest hT (by first | assumption | omega) (by first | assumption | omega) ?_)
  refine g_if_ne 25 9 dX6_waited_6 rfl rfl (by first | exact hT.r _ | exact hT.rT _ _ | omega) (fun c6 => ?_) (fun c6 => ?_)
  · refine g_aload0 26 (by first | exact rv_r | exact rv_n | assumption | exact rv_f) dX6_waited_25 rfl ?_
    refine g_iload1 27 dX6_waited_26 rfl ?_
    refine g_iconst 28 dX6_waited_27 rfl ?_
    refine k_V2z 31 dX6_waited_28 rfl lk_X6_36 hT.t rfl (by first | rfl | exact rv_cat (by assumption) | exact rv_cat rv_f) (by first | rfl | exact rv_cat (by assumption) | exact rv_cat rv_f) (Nat.le_of_ble_eq_true rfl) (by first | exact Nat.le_of_ble_eq_true rfl | omega) (c_X6_guest hT (by first | assumption | omega) (by first | assumption | omega) ?_)
    refine g_iret dX6_waited_31 rfl ?_
    refine lq hQ ?_
    (unfold waitedP; split <;> omega)
  · refine g_aload0 10 (by first | exact rv_r | exact rv_n | assumption | exact rv_f) dX6_waited_9 rfl ?_
    refine g_getf 13 dX6_waited_10 rfl fl_X6_7 hT.t (hT.f0) ?_
    refine g_iconst 14 dX6_waited_13 rfl ?_
    refine g_iald 15 dX6_waited_14 rfl hT.a0 (by omega) (by omega) (by omega) (hT.e0 (by omega) (by omega)) ?_
    refine g_aload0 16 (by first | exact rv_r | exact rv_n | assumption | exact rv_f) dX6_waited_15 rfl ?_
    refine g_iload1 17 dX6_waited_16 rfl ?_
    refine g_iconst 18 dX6_waited_17 rfl ?_
    refine k_V2z 21 dX6_waited_18 rfl lk_X6_36 hT.t rfl (by first | rfl | exact rv_cat (by assumption) | exact rv_cat rv_f) (by first | rfl | exact rv_cat (by assumption) | exact rv_cat rv_f) (Nat.le_of_ble_eq_true rfl) (by first | exact Nat.le_of_ble_eq_true rfl | omega) (c_X6_guest hT (by first | assumption | omega) (by first | assumption | omega) ?_)
    refine g_isub 22 dX6_waited_21 rfl ?_
    refine g_goto 31 dX6_waited_22 rfl ?_
    refine g_iret dX6_waited_31 rfl ?_
    refine lq hQ ?_
    (unfold waitedP; split <;> omega)
end TWA
