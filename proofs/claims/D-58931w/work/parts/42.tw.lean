/-! ===== the twin's methods: what is told ===== -/
theorem inP_r {v lo hi : Int} : R32 (inP v lo hi) := by unfold inP; split <;> decide
theorem inP_ne {v lo hi : Int} (h : inP v lo hi ≠ 0) : lo ≤ v ∧ v ≤ hi := by unfold inP at h; split at h <;> omega
theorem wr0 : wr 0 = 0 := by decide
theorem wr1 : wr 1 = 1 := by decide
theorem wr2 : wr 2 = 2 := by decide
theorem wr3 : wr 3 = 3 := by decide
theorem Ta.th {a : AS} {T : Nat → Int → Int} (h : Ta a T) {v : Int} : Ta a (uT T 5 8 v) := by
  obtain ⟨⟨a1, a2, a3⟩, ⟨b1, b2⟩, c1, c2, c3⟩ := h
  refine ⟨⟨by rw [uT_ne (by omega)]; exact a1, a2, fun j f hj i i0 i1 => by rw [uT_ne (by omega)]; exact a3 j f hj i i0 i1⟩, ⟨by rw [uT_ne (by omega)]; exact b1, fun f hf i i0 i1 => by rw [uT_ne (by omega)]; exact b2 f hf i i0 i1⟩, by rw [uT_ne (by omega)]; exact c1, c2, fun j c hj => by rw [uT_ne (by omega)]; exact c3 j c hj⟩
theorem tq {B m : Nat} {M M0 : Mem} {Q : Res → Mem → Prop} {s : Int → Int} {T : Nat → Int → Int} {a : AS} {c v v' : Int} (hQ : ∀ M', TP B M0 m c a M' → Q (.inl (some (.int (ii v)))) M') (hT : Tw B M0 m s T M) (hA : Ta a T) (e : s = a.1) (hc : T 5 8 = c) (hv : v' = v) : Q (.inl (some (.int (ii v')))) M := by
  subst hv
  exact hQ M ⟨T, e ▸ hT, hA, hc⟩
def lineC (s : Int → Int) (r : Int) : Nat → Int → Nat
  | 0, _ => 0
  | j + 1, g => (if s (17 + 5 * g + 2) = 0 ∧ s (17 + 5 * g + 0) = r then 1 else 0) + lineC s r j (g + 1)
theorem r32_ite {p : Prop} [Decidable p] {x y : Int} (hx : R32 x) (hy : R32 y) : R32 (if p then x else y) := by split; exact hx; exact hy
/-- how many wait -/
def lineN (s : Int → Int) : Nat := lineC s 0 (s 3).toNat 0 + (lineC s 1 (s 3).toNat 0 + lineC s 2 (s 3).toNat 0)
theorem inG_n {s : Int → Int} {r : Int} : ∀ (j : Nat) (g l : Int), 0 ≤ g → 0 ≤ l → ((inG s r j g l).1 = -1 ↔ lineC s r j g ≤ l) ∧ ((inG s r j g l).1 = -1 → (inG s r j g l).2 = l - lineC s r j g)
  | 0, g, l, h0, hl => by unfold inG lineC; simp; exact hl
  | j + 1, g, l, h0, hl => by
    unfold inG lineC
    by_cases q : s (17 + 5 * g + 2) = 0 ∧ s (17 + 5 * g + 0) = r
    · rw [if_pos q, if_pos q]
      by_cases q2 : l = 0
      · rw [if_pos q2]
        dsimp only
        constructor <;> omega
      · rw [if_neg q2]
        have := inG_n (s := s) (r := r) j (g + 1) (l + -1) (by omega) (by omega)
        constructor <;> omega
    · rw [if_neg q, if_neg q]
      have := inG_n (s := s) (r := r) j (g + 1) l (by omega) hl
      constructor <;> omega
theorem inLineP_n {s : Int → Int} {p : Int} (hp : 0 ≤ p) : inLineP s p = -1 ↔ lineN s ≤ p := by
  unfold inLineP lineN
  have a0 := inG_n (s := s) (r := 0) (s 3).toNat 0 p (by omega) hp
  have b0 := inG_r (s := s) (r := 0) (s 3).toNat 0 p (by omega) hp
  rw [inR]
  by_cases q0 : (inG s 0 (s 3).toNat 0 p).1 = -1
  · rw [if_pos q0]
    generalize inG s 0 (s 3).toNat 0 p = x0 at *
    have a1 := inG_n (s := s) (r := 0 + 1) (s 3).toNat 0 x0.2 (by omega) (by omega)
    have b1 := inG_r (s := s) (r := 0 + 1) (s 3).toNat 0 x0.2 (by omega) (by omega)
    rw [inR]
    rw [show (0 : Int) + 1 = 1 from rfl] at a1 b1 ⊢
    by_cases q1 : (inG s 1 (s 3).toNat 0 x0.2).1 = -1
    · rw [if_pos q1]
      generalize inG s 1 (s 3).toNat 0 x0.2 = x1 at *
      have a2 := inG_n (s := s) (r := 1 + 1) (s 3).toNat 0 x1.2 (by omega) (by omega)
      have b2 := inG_r (s := s) (r := 1 + 1) (s 3).toNat 0 x1.2 (by omega) (by omega)
      rw [inR]
      rw [show (1 : Int) + 1 = 2 from rfl] at a2 b2 ⊢
      by_cases q2 : (inG s 2 (s 3).toNat 0 x1.2).1 = -1
      · rw [if_pos q2, inR]; omega
      · rw [if_neg q2]; omega
    · rw [if_neg q1]; omega
  · rw [if_neg q0]; omega
theorem lineC_le {s : Int → Int} {r : Int} : ∀ (j : Nat) (g : Int), lineC s r j g ≤ j
  | 0, _ => Nat.le_refl _
  | j + 1, g => by
    have := lineC_le (s := s) (r := r) j (g + 1)
    unfold lineC; split <;> omega
theorem lineN_le (s : Int → Int) : (lineN s : Int) ≤ 3 * (s 3).toNat := by
  have := lineC_le (s := s) (r := 0) (s 3).toNat 0
  have := lineC_le (s := s) (r := 1) (s 3).toNat 0
  have := lineC_le (s := s) (r := 2) (s 3).toNat 0
  unfold lineN
  omega
/-- a boy is in the row: where, else -1 -/
def rowAt (s : Int → Int) (b : Int) : Nat → Int → Int
  | 0, _ => -1
  | j + 1, k => if s (5 + k) = b then k else rowAt s b j (k + 1)
def qtaF (g : Int) : Nat → (Int → Int) → Int → Int
  | 0, _, n => n
  | j + 1, s, n => if s (17 + 5 * g + 2) = 2 then n else qtaF g j (passP s).1 (n + 1)
section TWF
variable {K : KT} {k n m : Nat} {M M0 : Mem} {Q : Res → Mem → Prop} {a : AS} {s : Int → Int} {T : Nat → Int → Int}
theorem c_X6_time {th : Int} (hP : TP (kB K) M0 m th a M) (hV : AV a) (hQ : ∀ M', TP (kB K) M0 m (0) (a) M' → Q (.inl (some (.int (ii (a.1 0))))) M') : Go K fX6_time 1 k n 0 [some (.ref m)] [] M Q := by
  obtain ⟨T, hT, hA, hth⟩ := hP
  have hW := hV.1.1
  have w1 := hW.2.1
  unfold W1 at w1
  refine g_aload0 1 (by first | exact rv_r | exact rv_n | assumption | exact rv_f) dX6_time_0 rfl ?_
  refine g_iconst 2 dX6_time_1 rfl ?_
  refine w_put8 5 dX6_time_2 rfl fl_X6_25 hT (fun M hT => ?_)
  refine g_aload0 6 (by first | exact rv_r | exact rv_n | assumption | exact rv_f) dX6_time_5 rfl ?_
  refine g_getf 9 dX6_time_6 rfl fl_X6_7 hT.t (hT.f0) ?_
  refine g_iconst 10 dX6_time_9 rfl ?_
  refine g_iald 11 dX6_time_10 rfl hT.a0 (by omega) (by omega) (by omega) (hT.e0 (by omega) (by omega)) ?_
  refine g_iret dX6_time_11 rfl ?_
  refine tq hQ hT (by first | exact hA | exact hA.th | exact hA.th.th) rfl ?_ ?_
  · first | exact hth | (rw [hth]; (repeat' split) <;> omega) | (simp only [uT_at, wr0, wr1, wr2, wr3]; first | done | ((repeat' split) <;> omega))
  · first | rfl | ((repeat' split) <;> omega)
theorem c_X6_pace {th : Int} (hP : TP (kB K) M0 m th a M) (hV : AV a) (hQ : ∀ M', TP (kB K) M0 m (0) (a) M' → Q (.inl (some (.int (ii (a.1 1))))) M') : Go K fX6_pace 1 k n 0 [some (.ref m)] [] M Q := by
  obtain ⟨T, hT, hA, hth⟩ := hP
  have hW := hV.1.1
  have w1 := hW.2.1
  unfold W1 at w1
  refine g_aload0 1 (by first | exact rv_r | exact rv_n | assumption | exact rv_f) dX6_pace_0 rfl ?_
  refine g_iconst 2 dX6_pace_1 rfl ?_
  refine w_put8 5 dX6_pace_2 rfl fl_X6_25 hT (fun M hT => ?_)
  refine g_aload0 6 (by first | exact rv_r | exact rv_n | assumption | exact rv_f) dX6_pace_5 rfl ?_
  refine g_getf 9 dX6_pace_6 rfl fl_X6_7 hT.t (hT.f0) ?_
  refine g_iconst 10 dX6_pace_9 rfl ?_
  refine g_iald 11 dX6_pace_10 rfl hT.a0 (by omega) (by omega) (by omega) (hT.e0 (by omega) (by omega)) ?_
  refine g_iret dX6_pace_11 rfl ?_
  refine tq hQ hT (by first | exact hA | exact hA.th | exact hA.th.th) rfl ?_ ?_
  · first | exact hth | (rw [hth]; (repeat' split) <;> omega) | (simp only [uT_at, wr0, wr1, wr2, wr3]; first | done | ((repeat' split) <;> omega))
  · first | rfl | ((repeat' split) <;> omega)
theorem c_X6_poleLimit {th : Int} (hP : TP (kB K) M0 m th a M) (hV : AV a) (hQ : ∀ M', TP (kB K) M0 m (0) (a) M' → Q (.inl (some (.int (ii (a.1 2))))) M') : Go K fX6_poleLimit 1 k n 0 [some (.ref m)] [] M Q := by
  obtain ⟨T, hT, hA, hth⟩ := hP
  have hW := hV.1.1
  have w1 := hW.2.1
  unfold W1 at w1
  refine g_aload0 1 (by first | exact rv_r | exact rv_n | assumption | exact rv_f) dX6_poleLimit_0 rfl ?_
  refine g_iconst 2 dX6_poleLimit_1 rfl ?_
  refine w_put8 5 dX6_poleLimit_2 rfl fl_X6_25 hT (fun M hT => ?_)
  refine g_aload0 6 (by first | exact rv_r | exact rv_n | assumption | exact rv_f) dX6_poleLimit_5 rfl ?_
  refine g_getf 9 dX6_poleLimit_6 rfl fl_X6_7 hT.t (hT.f0) ?_
  refine g_iconst 10 dX6_poleLimit_9 rfl ?_
  refine g_iald 11 dX6_poleLimit_10 rfl hT.a0 (by omega) (by omega) (by omega) (hT.e0 (by omega) (by omega)) ?_
  refine g_iret dX6_poleLimit_11 rfl ?_
  refine tq hQ hT (by first | exact hA | exact hA.th | exact hA.th.th) rfl ?_ ?_
  · first | exact hth | (rw [hth]; (repeat' split) <;> omega) | (simp only [uT_at, wr0, wr1, wr2, wr3]; first | done | ((repeat' split) <;> omega))
  · first | rfl | ((repeat' split) <;> omega)
theorem c_X6_guestCount {th : Int} (hP : TP (kB K) M0 m th a M) (hV : AV a) (hQ : ∀ M', TP (kB K) M0 m (0) (a) M' → Q (.inl (some (.int (ii (a.1 3))))) M') : Go K fX6_guestCount 1 k n 0 [some (.ref m)] [] M Q := by
  obtain ⟨T, hT, hA, hth⟩ := hP
  have hW := hV.1.1
  have w1 := hW.2.1
  unfold W1 at w1
  refine g_aload0 1 (by first | exact rv_r | exact rv_n | assumption | exact rv_f) dX6_guestCount_0 rfl ?_
  refine g_iconst 2 dX6_guestCount_1 rfl ?_
  refine w_put8 5 dX6_guestCount_2 rfl fl_X6_25 hT (fun M hT => ?_)
  refine g_aload0 6 (by first | exact rv_r | exact rv_n | assumption | exact rv_f) dX6_guestCount_5 rfl ?_
  refine g_getf 9 dX6_guestCount_6 rfl fl_X6_7 hT.t (hT.f0) ?_
  refine g_iconst 10 dX6_guestCount_9 rfl ?_
  refine g_iald 11 dX6_guestCount_10 rfl hT.a0 (by omega) (by omega) (by omega) (hT.e0 (by omega) (by omega)) ?_
  refine g_iret dX6_guestCount_11 rfl ?_
  refine tq hQ hT (by first | exact hA | exact hA.th | exact hA.th.th) rfl ?_ ?_
  · first | exact hth | (rw [hth]; (repeat' split) <;> omega) | (simp only [uT_at, wr0, wr1, wr2, wr3]; first | done | ((repeat' split) <;> omega))
  · first | rfl | ((repeat' split) <;> omega)
theorem c_X6_toldGuest {th : Int} (hP : TP (kB K) M0 m th a M) (hV : AV a) {g w : Int} (hg : R32 g) (hw : 0 ≤ w ∧ w < 5) (hQ : ∀ M', TP (kB K) M0 m (if inP g 0 (a.1 3 - 1) = 0 then 1 else 0) (a) M' → Q (.inl (some (.int (ii (if inP g 0 (a.1 3 - 1) = 0 then 0 else a.1 (17 + 5 * g + w)))))) M') : Go K fX6_toldGuest 3 k n 0 [some (.ref m), some (.int (ii g)), some (.int (ii w))] [] M Q := by
  obtain ⟨T, hT, hA, hth⟩ := hP
  have hW := hV.1.1
  have w1 := hW.2.1
  unfold W1 at w1
  have hi : inP g 0 (a.1 3 - 1) ≠ 0 → 0 ≤ g ∧ g ≤ a.1 3 - 1 := inP_ne
  refine g_aload0 1 (by first | exact rv_r | exact rv_n | assumption | exact rv_f) dX6_toldGuest_0 rfl ?_
  refine g_iconst 2 dX6_toldGuest_1 rfl ?_
  refine w_put8 5 dX6_toldGuest_2 rfl fl_X6_25 hT (fun M hT => ?_)
  refine g_aload0 6 (by first | exact rv_r | exact rv_n | assumption | exact rv_f) dX6_toldGuest_5 rfl ?_
  refine g_iload1 7 dX6_toldGuest_6 rfl ?_
  refine k_V1z 10 dX6_toldGuest_7 rfl lk_X6_113 hT.t rfl (by first | rfl | exact rv_cat (by assumption) | exact rv_cat rv_f) (Nat.le_of_ble_eq_true rfl) (by first | exact Nat.le_of_ble_eq_true rfl | omega) (c_X6_isGuest hT (by first | assumption | omega) (by first | assumption | omega) ?_)
  refine g_if_eq 22 13 dX6_toldGuest_10 rfl rfl (by first | exact hT.r _ | exact hT.rT _ _ | exact inP_r | omega) (fun c10 => ?_) (fun c10 => ?_)
  · refine g_aload0 23 (by first | exact rv_r | exact rv_n | assumption | exact rv_f) dX6_toldGuest_22 rfl ?_
    refine g_iconst 24 dX6_toldGuest_23 rfl ?_
    refine k_V1z 27 dX6_toldGuest_24 rfl lk_X6_104 hT.t rfl (by first | rfl | exact rv_cat (by assumption) | exact rv_cat rv_f) (Nat.le_of_ble_eq_true rfl) (by first | exact Nat.le_of_ble_eq_true rfl | omega) (c_X6_throwing hT (fun M hT => ?_))
    refine g_iret dX6_toldGuest_27 rfl ?_
    refine tq hQ hT (by first | exact hA | exact hA.th | exact hA.th.th) rfl ?_ ?_
    · first | exact hth | (rw [hth]; (repeat' split) <;> omega) | (simp only [uT_at, wr0, wr1, wr2, wr3]; first | done | ((repeat' split) <;> omega))
    · first | rfl | ((repeat' split) <;> omega)
  · refine g_aload0 14 (by first | exact rv_r | exact rv_n | assumption | exact rv_f) dX6_toldGuest_13 rfl ?_
    refine g_iload1 15 dX6_toldGuest_14 rfl ?_
    refine g_iload2 16 dX6_toldGuest_15 rfl ?_
    refine k_V2z 19 dX6_toldGuest_16 rfl lk_X6_36 hT.t rfl (by first | rfl | exact rv_cat (by assumption) | exact rv_cat rv_f) (by first | rfl | exact rv_cat (by assumption) | exact rv_cat rv_f) (Nat.le_of_ble_eq_true rfl) (by first | exact Nat.le_of_ble_eq_true rfl | omega) (c_X6_guest hT (by first | assumption | omega) (by first | assumption | omega) ?_)
    refine g_goto 27 dX6_toldGuest_19 rfl ?_
    refine g_iret dX6_toldGuest_27 rfl ?_
    refine tq hQ hT (by first | exact hA | exact hA.th | exact hA.th.th) rfl ?_ ?_
    · first | exact hth | (rw [hth]; (repeat' split) <;> omega) | (simp only [uT_at, wr0, wr1, wr2, wr3]; first | done | ((repeat' split) <;> omega))
    · first | rfl | ((repeat' split) <;> omega)
theorem c_X6_rankOf {th : Int} (hP : TP (kB K) M0 m th a M) (hV : AV a) {g : Int} (hg : R32 g) (hQ : ∀ M', TP (kB K) M0 m (if inP g 0 (a.1 3 - 1) = 0 then 1 else 0) (a) M' → Q (.inl (some (.int (ii (if inP g 0 (a.1 3 - 1) = 0 then 0 else a.1 (17 + 5 * g + 0)))))) M') : Go K fX6_rankOf 4 k n 0 [some (.ref m), some (.int (ii g))] [] M Q := by
  obtain ⟨T, hT, hA, hth⟩ := hP
  have hW := hV.1.1
  have w1 := hW.2.1
  unfold W1 at w1
  refine g_aload0 1 (by first | exact rv_r | exact rv_n | assumption | exact rv_f) dX6_rankOf_0 rfl ?_
  refine g_iload1 2 dX6_rankOf_1 rfl ?_
  refine g_iconst 3 dX6_rankOf_2 rfl ?_
  refine k_V2z 6 dX6_rankOf_3 rfl lk_X6_142 hT.t rfl (by first | rfl | exact rv_cat (by assumption) | exact rv_cat rv_f) (by first | rfl | exact rv_cat (by assumption) | exact rv_cat rv_f) (Nat.le_of_ble_eq_true rfl) (by first | exact Nat.le_of_ble_eq_true rfl | omega) (c_X6_toldGuest ⟨_, hT, (by first | exact hA | exact hA.th | exact hA.th.th), rfl⟩ hV (by first | assumption | exact hT.r _ | omega) (by first | assumption | exact hT.r _ | omega) (fun M hP => ?_))
  obtain ⟨T, hT, hA, hth⟩ := hP
  refine g_iret dX6_rankOf_6 rfl ?_
  refine tq hQ hT (by first | exact hA | exact hA.th | exact hA.th.th) rfl ?_ ?_
  · first | exact hth | (rw [hth]; (repeat' split) <;> omega) | (simp only [uT_at, wr0, wr1, wr2, wr3]; first | done | ((repeat' split) <;> omega))
  · first | rfl | ((repeat' split) <;> omega)
theorem c_X6_roadOf {th : Int} (hP : TP (kB K) M0 m th a M) (hV : AV a) {g : Int} (hg : R32 g) (hQ : ∀ M', TP (kB K) M0 m (if inP g 0 (a.1 3 - 1) = 0 then 1 else 0) (a) M' → Q (.inl (some (.int (ii (if inP g 0 (a.1 3 - 1) = 0 then 0 else a.1 (17 + 5 * g + 1)))))) M') : Go K fX6_roadOf 4 k n 0 [some (.ref m), some (.int (ii g))] [] M Q := by
  obtain ⟨T, hT, hA, hth⟩ := hP
  have hW := hV.1.1
  have w1 := hW.2.1
  unfold W1 at w1
  refine g_aload0 1 (by first | exact rv_r | exact rv_n | assumption | exact rv_f) dX6_roadOf_0 rfl ?_
  refine g_iload1 2 dX6_roadOf_1 rfl ?_
  refine g_iconst 3 dX6_roadOf_2 rfl ?_
  refine k_V2z 6 dX6_roadOf_3 rfl lk_X6_142 hT.t rfl (by first | rfl | exact rv_cat (by assumption) | exact rv_cat rv_f) (by first | rfl | exact rv_cat (by assumption) | exact rv_cat rv_f) (Nat.le_of_ble_eq_true rfl) (by first | exact Nat.le_of_ble_eq_true rfl | omega) (c_X6_toldGuest ⟨_, hT, (by first | exact hA | exact hA.th | exact hA.th.th), rfl⟩ hV (by first | assumption | exact hT.r _ | omega) (by first | assumption | exact hT.r _ | omega) (fun M hP => ?_))
  obtain ⟨T, hT, hA, hth⟩ := hP
  refine g_iret dX6_roadOf_6 rfl ?_
  refine tq hQ hT (by first | exact hA | exact hA.th | exact hA.th.th) rfl ?_ ?_
  · first | exact hth | (rw [hth]; (repeat' split) <;> omega) | (simp only [uT_at, wr0, wr1, wr2, wr3]; first | done | ((repeat' split) <;> omega))
  · first | rfl | ((repeat' split) <;> omega)
theorem c_X6_isIn {th : Int} (hP : TP (kB K) M0 m th a M) (hV : AV a) {g w : Int} (hg : R32 g) (hw : R32 w) (hQ : ∀ M', TP (kB K) M0 m (if inP g 0 (a.1 3 - 1) = 0 then 1 else 0) (a) M' → Q (.inl (some (.int (ii (if inP g 0 (a.1 3 - 1) ≠ 0 ∧ a.1 (17 + 5 * g + 2) = w then 1 else 0))))) M') : Go K fX6_isIn 4 k n 0 [some (.ref m), some (.int (ii g)), some (.int (ii w)), none] [] M Q := by
  obtain ⟨T, hT, hA, hth⟩ := hP
  have hW := hV.1.1
  have w1 := hW.2.1
  unfold W1 at w1
  refine g_aload0 1 (by first | exact rv_r | exact rv_n | assumption | exact rv_f) dX6_isIn_0 rfl ?_
  refine g_iload1 2 dX6_isIn_1 rfl ?_
  refine g_iconst 3 dX6_isIn_2 rfl ?_
  refine k_V2z 6 dX6_isIn_3 rfl lk_X6_142 hT.t rfl (by first | rfl | exact rv_cat (by assumption) | exact rv_cat rv_f) (by first | rfl | exact rv_cat (by assumption) | exact rv_cat rv_f) (Nat.le_of_ble_eq_true rfl) (by first | exact Nat.le_of_ble_eq_true rfl | omega) (c_X6_toldGuest ⟨_, hT, (by first | exact hA | exact hA.th | exact hA.th.th), rfl⟩ hV (by first | assumption | exact hT.r _ | omega) (by first | assumption | exact hT.r _ | omega) (fun M hP => ?_))
  obtain ⟨T, hT, hA, hth⟩ := hP
  have hr : R32 (if inP g 0 (a.1 3 - 1) = 0 then 0 else a.1 (17 + 5 * g + 2)) := by split; decide; exact hT.r _
  refine g_istore3 7 (Nat.le_of_ble_eq_true rfl) (by first | exact c1_0 | exact c1_i | exact c1_r | exact c1_n | exact c1_v (by assumption) | exact c1_f) dX6_isIn_6 rfl ?_
  refine g_aload0 8 (by first | exact rv_r | exact rv_n | assumption | exact rv_f) dX6_isIn_7 rfl ?_
  refine g_getf 11 dX6_isIn_8 rfl fl_X6_25 hT.t (hT.f8) ?_
  refine g_if_ne 23 14 dX6_isIn_11 rfl rfl (by first | exact hT.r _ | exact hT.rT _ _ | exact inP_r | omega) (fun c11 => ?_) (fun c11 => ?_)
  · refine g_iconst 24 dX6_isIn_23 rfl ?_
    refine g_zret dX6_isIn_24 rfl (by first | rfl | exact zr inP_01 | exact zr (by omega) | exact zr (by assumption)) ?_
    refine tq hQ hT hA rfl ?_ ?_
    · exact hth
    · rw [hth] at c11
      by_cases qq : inP g 0 (a.1 3 - 1) = 0
      · rw [if_pos qq] at *
        first | omega | (rw [if_neg (fun z => z.1 qq)])
      · rw [if_neg qq] at *
        first | omega | (rw [if_pos ⟨qq, by assumption⟩]) | (rw [if_neg (fun z => absurd z.2 (by assumption))])
  · refine g_iload3 15 dX6_isIn_14 rfl ?_
    refine g_iload2 16 dX6_isIn_15 rfl ?_
    refine g_icmp_ne 23 19 dX6_isIn_16 rfl rfl (by first | exact hT.r _ | exact hT.rT _ _ | exact inP_r | omega) (by first | exact hT.r _ | exact hT.rT _ _ | exact inP_r | omega) (fun c16 => ?_) (fun c16 => ?_)
    · refine g_iconst 24 dX6_isIn_23 rfl ?_
      refine g_zret dX6_isIn_24 rfl (by first | rfl | exact zr inP_01 | exact zr (by omega) | exact zr (by assumption)) ?_
      refine tq hQ hT hA rfl ?_ ?_
      · exact hth
      · rw [hth] at c11
        by_cases qq : inP g 0 (a.1 3 - 1) = 0
        · rw [if_pos qq] at *
          first | omega | (rw [if_neg (fun z => z.1 qq)])
        · rw [if_neg qq] at *
          first | omega | (rw [if_pos ⟨qq, by assumption⟩]) | (rw [if_neg (fun z => absurd z.2 (by assumption))])
    · refine g_iconst 20 dX6_isIn_19 rfl ?_
      refine g_goto 24 dX6_isIn_20 rfl ?_
      refine g_zret dX6_isIn_24 rfl (by first | rfl | exact zr inP_01 | exact zr (by omega) | exact zr (by assumption)) ?_
      refine tq hQ hT hA rfl ?_ ?_
      · exact hth
      · rw [hth] at c11
        by_cases qq : inP g 0 (a.1 3 - 1) = 0
        · rw [if_pos qq] at *
          first | omega | (rw [if_neg (fun z => z.1 qq)])
        · rw [if_neg qq] at *
          first | omega | (rw [if_pos ⟨qq, by assumption⟩]) | (rw [if_neg (fun z => absurd z.2 (by assumption))])
theorem c_X6_isWaiting {th : Int} (hP : TP (kB K) M0 m th a M) (hV : AV a) {g : Int} (hg : R32 g) (hQ : ∀ M', TP (kB K) M0 m (if inP g 0 (a.1 3 - 1) = 0 then 1 else 0) (a) M' → Q (.inl (some (.int (ii (if inP g 0 (a.1 3 - 1) ≠ 0 ∧ a.1 (17 + 5 * g + 2) = 0 then 1 else 0))))) M') : Go K fX6_isWaiting 5 k n 0 [some (.ref m), some (.int (ii g))] [] M Q := by
  obtain ⟨T, hT, hA, hth⟩ := hP
  have hW := hV.1.1
  have w1 := hW.2.1
  unfold W1 at w1
  refine g_aload0 1 (by first | exact rv_r | exact rv_n | assumption | exact rv_f) dX6_isWaiting_0 rfl ?_
  refine g_iload1 2 dX6_isWaiting_1 rfl ?_
  refine g_iconst 3 dX6_isWaiting_2 rfl ?_
  refine k_V2z 6 dX6_isWaiting_3 rfl lk_X6_145 hT.t rfl (by first | rfl | exact rv_cat (by assumption) | exact rv_cat rv_f) (by first | rfl | exact rv_cat (by assumption) | exact rv_cat rv_f) (Nat.le_of_ble_eq_true rfl) (by first | exact Nat.le_of_ble_eq_true rfl | omega) (c_X6_isIn ⟨_, hT, (by first | exact hA | exact hA.th | exact hA.th.th), rfl⟩ hV (by first | assumption | exact hT.r _ | omega) (by first | assumption | exact hT.r _ | omega) (fun M hP => ?_))
  obtain ⟨T, hT, hA, hth⟩ := hP
  refine g_zret dX6_isWaiting_6 rfl (by first | rfl | exact zr inP_01 | exact zr (by omega) | exact zr (by assumption)) ?_
  refine tq hQ hT (by first | exact hA | exact hA.th | exact hA.th.th) rfl ?_ ?_
  · first | exact hth | (rw [hth]; (repeat' split) <;> omega) | (simp only [uT_at, wr0, wr1, wr2, wr3]; first | done | ((repeat' split) <;> omega))
  · first | rfl | ((repeat' split) <;> omega)
theorem c_X6_isUnderWay {th : Int} (hP : TP (kB K) M0 m th a M) (hV : AV a) {g : Int} (hg : R32 g) (hQ : ∀ M', TP (kB K) M0 m (if inP g 0 (a.1 3 - 1) = 0 then 1 else 0) (a) M' → Q (.inl (some (.int (ii (if inP g 0 (a.1 3 - 1) ≠ 0 ∧ a.1 (17 + 5 * g + 2) = 1 then 1 else 0))))) M') : Go K fX6_isUnderWay 5 k n 0 [some (.ref m), some (.int (ii g))] [] M Q := by
  obtain ⟨T, hT, hA, hth⟩ := hP
  have hW := hV.1.1
  have w1 := hW.2.1
  unfold W1 at w1
  refine g_aload0 1 (by first | exact rv_r | exact rv_n | assumption | exact rv_f) dX6_isUnderWay_0 rfl ?_
  refine g_iload1 2 dX6_isUnderWay_1 rfl ?_
  refine g_iconst 3 dX6_isUnderWay_2 rfl ?_
  refine k_V2z 6 dX6_isUnderWay_3 rfl lk_X6_145 hT.t rfl (by first | rfl | exact rv_cat (by assumption) | exact rv_cat rv_f) (by first | rfl | exact rv_cat (by assumption) | exact rv_cat rv_f) (Nat.le_of_ble_eq_true rfl) (by first | exact Nat.le_of_ble_eq_true rfl | omega) (c_X6_isIn ⟨_, hT, (by first | exact hA | exact hA.th | exact hA.th.th), rfl⟩ hV (by first | assumption | exact hT.r _ | omega) (by first | assumption | exact hT.r _ | omega) (fun M hP => ?_))
  obtain ⟨T, hT, hA, hth⟩ := hP
  refine g_zret dX6_isUnderWay_6 rfl (by first | rfl | exact zr inP_01 | exact zr (by omega) | exact zr (by assumption)) ?_
  refine tq hQ hT (by first | exact hA | exact hA.th | exact hA.th.th) rfl ?_ ?_
  · first | exact hth | (rw [hth]; (repeat' split) <;> omega) | (simp only [uT_at, wr0, wr1, wr2, wr3]; first | done | ((repeat' split) <;> omega))
  · first | rfl | ((repeat' split) <;> omega)
theorem c_X6_hasArrived {th : Int} (hP : TP (kB K) M0 m th a M) (hV : AV a) {g : Int} (hg : R32 g) (hQ : ∀ M', TP (kB K) M0 m (if inP g 0 (a.1 3 - 1) = 0 then 1 else 0) (a) M' → Q (.inl (some (.int (ii (if inP g 0 (a.1 3 - 1) ≠ 0 ∧ a.1 (17 + 5 * g + 2) = 2 then 1 else 0))))) M') : Go K fX6_hasArrived 5 k n 0 [some (.ref m), some (.int (ii g))] [] M Q := by
  obtain ⟨T, hT, hA, hth⟩ := hP
  have hW := hV.1.1
  have w1 := hW.2.1
  unfold W1 at w1
  refine g_aload0 1 (by first | exact rv_r | exact rv_n | assumption | exact rv_f) dX6_hasArrived_0 rfl ?_
  refine g_iload1 2 dX6_hasArrived_1 rfl ?_
  refine g_iconst 3 dX6_hasArrived_2 rfl ?_
  refine k_V2z 6 dX6_hasArrived_3 rfl lk_X6_145 hT.t rfl (by first | rfl | exact rv_cat (by assumption) | exact rv_cat rv_f) (by first | rfl | exact rv_cat (by assumption) | exact rv_cat rv_f) (Nat.le_of_ble_eq_true rfl) (by first | exact Nat.le_of_ble_eq_true rfl | omega) (c_X6_isIn ⟨_, hT, (by first | exact hA | exact hA.th | exact hA.th.th), rfl⟩ hV (by first | assumption | exact hT.r _ | omega) (by first | assumption | exact hT.r _ | omega) (fun M hP => ?_))
  obtain ⟨T, hT, hA, hth⟩ := hP
  refine g_zret dX6_hasArrived_6 rfl (by first | rfl | exact zr inP_01 | exact zr (by omega) | exact zr (by assumption)) ?_
  refine tq hQ hT (by first | exact hA | exact hA.th | exact hA.th.th) rfl ?_ ?_
  · first | exact hth | (rw [hth]; (repeat' split) <;> omega) | (simp only [uT_at, wr0, wr1, wr2, wr3]; first | done | ((repeat' split) <;> omega))
  · first | rfl | ((repeat' split) <;> omega)
theorem c_X6_hasGivenUp {th : Int} (hP : TP (kB K) M0 m th a M) (hV : AV a) {g : Int} (hg : R32 g) (hQ : ∀ M', TP (kB K) M0 m (if inP g 0 (a.1 3 - 1) = 0 then 1 else 0) (a) M' → Q (.inl (some (.int (ii (if inP g 0 (a.1 3 - 1) ≠ 0 ∧ a.1 (17 + 5 * g + 2) = 3 then 1 else 0))))) M') : Go K fX6_hasGivenUp 5 k n 0 [some (.ref m), some (.int (ii g))] [] M Q := by
  obtain ⟨T, hT, hA, hth⟩ := hP
  have hW := hV.1.1
  have w1 := hW.2.1
  unfold W1 at w1
  refine g_aload0 1 (by first | exact rv_r | exact rv_n | assumption | exact rv_f) dX6_hasGivenUp_0 rfl ?_
  refine g_iload1 2 dX6_hasGivenUp_1 rfl ?_
  refine g_iconst 3 dX6_hasGivenUp_2 rfl ?_
  refine k_V2z 6 dX6_hasGivenUp_3 rfl lk_X6_145 hT.t rfl (by first | rfl | exact rv_cat (by assumption) | exact rv_cat rv_f) (by first | rfl | exact rv_cat (by assumption) | exact rv_cat rv_f) (Nat.le_of_ble_eq_true rfl) (by first | exact Nat.le_of_ble_eq_true rfl | omega) (c_X6_isIn ⟨_, hT, (by first | exact hA | exact hA.th | exact hA.th.th), rfl⟩ hV (by first | assumption | exact hT.r _ | omega) (by first | assumption | exact hT.r _ | omega) (fun M hP => ?_))
  obtain ⟨T, hT, hA, hth⟩ := hP
  refine g_zret dX6_hasGivenUp_6 rfl (by first | rfl | exact zr inP_01 | exact zr (by omega) | exact zr (by assumption)) ?_
  refine tq hQ hT (by first | exact hA | exact hA.th | exact hA.th.th) rfl ?_ ?_
  · first | exact hth | (rw [hth]; (repeat' split) <;> omega) | (simp only [uT_at, wr0, wr1, wr2, wr3]; first | done | ((repeat' split) <;> omega))
  · first | rfl | ((repeat' split) <;> omega)
theorem c_X6_waitOf {th : Int} (hP : TP (kB K) M0 m th a M) (hV : AV a) {g : Int} (hg : R32 g) (hQ : ∀ M', TP (kB K) M0 m (if inP g 0 (a.1 3 - 1) = 0 then 1 else 0) (a) M' → Q (.inl (some (.int (ii (if inP g 0 (a.1 3 - 1) = 0 then 0 else waitedP a.1 g))))) M') : Go K fX6_waitOf 3 k n 0 [some (.ref m), some (.int (ii g))] [] M Q := by
  obtain ⟨T, hT, hA, hth⟩ := hP
  have hW := hV.1.1
  have w1 := hW.2.1
  unfold W1 at w1
  have hi : inP g 0 (a.1 3 - 1) ≠ 0 → 0 ≤ g ∧ g ≤ a.1 3 - 1 := inP_ne
  refine g_aload0 1 (by first | exact rv_r | exact rv_n | assumption | exact rv_f) dX6_waitOf_0 rfl ?_
  refine g_iconst 2 dX6_waitOf_1 rfl ?_
  refine w_put8 5 dX6_waitOf_2 rfl fl_X6_25 hT (fun M hT => ?_)
  refine g_aload0 6 (by first | exact rv_r | exact rv_n | assumption | exact rv_f) dX6_waitOf_5 rfl ?_
  refine g_iload1 7 dX6_waitOf_6 rfl ?_
  refine k_V1z 10 dX6_waitOf_7 rfl lk_X6_113 hT.t rfl (by first | rfl | exact rv_cat (by assumption) | exact rv_cat rv_f) (Nat.le_of_ble_eq_true rfl) (by first | exact Nat.le_of_ble_eq_true rfl | omega) (c_X6_isGuest hT (by first | assumption | omega) (by first | assumption | omega) ?_)
  refine g_if_eq 21 13 dX6_waitOf_10 rfl rfl (by first | exact hT.r _ | exact hT.rT _ _ | exact inP_r | omega) (fun c10 => ?_) (fun c10 => ?_)
  · refine g_aload0 22 (by first | exact rv_r | exact rv_n | assumption | exact rv_f) dX6_waitOf_21 rfl ?_
    refine g_iconst 23 dX6_waitOf_22 rfl ?_
    refine k_V1z 26 dX6_waitOf_23 rfl lk_X6_104 hT.t rfl (by first | rfl | exact rv_cat (by assumption) | exact rv_cat rv_f) (Nat.le_of_ble_eq_true rfl) (by first | exact Nat.le_of_ble_eq_true rfl | omega) (c_X6_throwing hT (fun M hT => ?_))
    refine g_iret dX6_waitOf_26 rfl ?_
    refine tq hQ hT (by first | exact hA | exact hA.th | exact hA.th.th) rfl ?_ ?_
    · first | exact hth | (rw [hth]; (repeat' split) <;> omega) | (simp only [uT_at, wr0, wr1, wr2, wr3]; first | done | ((repeat' split) <;> omega))
    · first | rfl | ((repeat' split) <;> omega)
  · refine g_aload0 14 (by first | exact rv_r | exact rv_n | assumption | exact rv_f) dX6_waitOf_13 rfl ?_
    refine g_iload1 15 dX6_waitOf_14 rfl ?_
    refine k_V1z 18 dX6_waitOf_15 rfl lk_X6_64 hT.t rfl (by first | rfl | exact rv_cat (by assumption) | exact rv_cat rv_f) (Nat.le_of_ble_eq_true rfl) (by first | exact Nat.le_of_ble_eq_true rfl | omega) (c_X6_waited hT (by first | assumption | omega) (by first | assumption | omega) ?_)
    refine g_goto 26 dX6_waitOf_18 rfl ?_
    refine g_iret dX6_waitOf_26 rfl ?_
    refine tq hQ hT (by first | exact hA | exact hA.th | exact hA.th.th) rfl ?_ ?_
    · first | exact hth | (rw [hth]; (repeat' split) <;> omega) | (simp only [uT_at, wr0, wr1, wr2, wr3]; first | done | ((repeat' split) <;> omega))
    · first | rfl | ((repeat' split) <;> omega)
theorem c_X6_fareOf {th : Int} (hP : TP (kB K) M0 m th a M) (hV : AV a) {g : Int} (hg : R32 g) (hQ : ∀ M', TP (kB K) M0 m (if inP g 0 (a.1 3 - 1) = 0 then 1 else 0) (a) M' → Q (.inl (some (.int (ii (if inP g 0 (a.1 3 - 1) = 0 then 0 else fareP (a.1 (17 + 5 * g + 0)) (a.1 (17 + 5 * g + 1))))))) M') : Go K fX6_fareOf 3 k n 0 [some (.ref m), some (.int (ii g))] [] M Q := by
  obtain ⟨T, hT, hA, hth⟩ := hP
  have hW := hV.1.1
  have w1 := hW.2.1
  unfold W1 at w1
  have hi : inP g 0 (a.1 3 - 1) ≠ 0 → 0 ≤ g ∧ g ≤ a.1 3 - 1 := inP_ne
  refine g_aload0 1 (by first | exact rv_r | exact rv_n | assumption | exact rv_f) dX6_fareOf_0 rfl ?_
  refine g_iconst 2 dX6_fareOf_1 rfl ?_
  refine w_put8 5 dX6_fareOf_2 rfl fl_X6_25 hT (fun M hT => ?_)
  refine g_aload0 6 (by first | exact rv_r | exact rv_n | assumption | exact rv_f) dX6_fareOf_5 rfl ?_
  refine g_iload1 7 dX6_fareOf_6 rfl ?_
  refine k_V1z 10 dX6_fareOf_7 rfl lk_X6_113 hT.t rfl (by first | rfl | exact rv_cat (by assumption) | exact rv_cat rv_f) (Nat.le_of_ble_eq_true rfl) (by first | exact Nat.le_of_ble_eq_true rfl | omega) (c_X6_isGuest hT (by first | assumption | omega) (by first | assumption | omega) ?_)
  refine g_if_eq 21 13 dX6_fareOf_10 rfl rfl (by first | exact hT.r _ | exact hT.rT _ _ | exact inP_r | omega) (fun c10 => ?_) (fun c10 => ?_)
  · refine g_aload0 22 (by first | exact rv_r | exact rv_n | assumption | exact rv_f) dX6_fareOf_21 rfl ?_
    refine g_iconst 23 dX6_fareOf_22 rfl ?_
    refine k_V1z 26 dX6_fareOf_23 rfl lk_X6_104 hT.t rfl (by first | rfl | exact rv_cat (by assumption) | exact rv_cat rv_f) (Nat.le_of_ble_eq_true rfl) (by first | exact Nat.le_of_ble_eq_true rfl | omega) (c_X6_throwing hT (fun M hT => ?_))
    refine g_iret dX6_fareOf_26 rfl ?_
    refine tq hQ hT (by first | exact hA | exact hA.th | exact hA.th.th) rfl ?_ ?_
    · first | exact hth | (rw [hth]; (repeat' split) <;> omega) | (simp only [uT_at, wr0, wr1, wr2, wr3]; first | done | ((repeat' split) <;> omega))
    · first | rfl | ((repeat' split) <;> omega)
  · refine g_aload0 14 (by first | exact rv_r | exact rv_n | assumption | exact rv_f) dX6_fareOf_13 rfl ?_
    refine g_iload1 15 dX6_fareOf_14 rfl ?_
    refine k_V1z 18 dX6_fareOf_15 rfl lk_X6_70 hT.t rfl (by first | rfl | exact rv_cat (by assumption) | exact rv_cat rv_f) (Nat.le_of_ble_eq_true rfl) (by first | exact Nat.le_of_ble_eq_true rfl | omega) (c_X6_fare hT (by first | assumption | omega) (by first | assumption | omega) ?_)
    refine g_goto 26 dX6_fareOf_18 rfl ?_
    refine g_iret dX6_fareOf_26 rfl ?_
    refine tq hQ hT (by first | exact hA | exact hA.th | exact hA.th.th) rfl ?_ ?_
    · first | exact hth | (rw [hth]; (repeat' split) <;> omega) | (simp only [uT_at, wr0, wr1, wr2, wr3]; first | done | ((repeat' split) <;> omega))
    · first | rfl | ((repeat' split) <;> omega)
theorem c_X6_lineLength {th : Int} (hP : TP (kB K) M0 m th a M) (hV : AV a) (hQ : ∀ M', TP (kB K) M0 m (0) (a) M' → Q (.inl (some (.int (ii (lineN a.1))))) M') : Go K fX6_lineLength 3 k n 0 [some (.ref m), none] [] M Q := by
  obtain ⟨T, hT, hA, hth⟩ := hP
  have hW := hV.1.1
  have w1 := hW.2.1
  unfold W1 at w1
  have hl := lineN_le a.1
  have loop : ∀ (j : Nat) (x : Int) (T : Nat → Int → Int) M, Tw (kB K) M0 m a.1 T M → Ta a T → T 5 8 = 0 → x + j = lineN a.1 → 0 ≤ x → (∀ M', TP (kB K) M0 m 0 a M' → Q (.inl (some (.int (ii (lineN a.1))))) M') → Go K fX6_lineLength 3 k n 7 [some (.ref m), some (.int (ii x))] [] M Q := by
    intro j
    induction j with
    | zero =>
      intro x T M hT hA hth e h0 hQ
      have hx := (inLineP_n (s := a.1) h0).mpr (by omega)
      have hr := inLineP_r (s := a.1) (p := x) (by omega) h0
      refine g_aload0 8 (by first | exact rv_r | exact rv_n | assumption | exact rv_f) dX6_lineLength_7 rfl ?_
      refine g_iload1 9 dX6_lineLength_8 rfl ?_
      refine k_V1z 12 dX6_lineLength_9 rfl lk_X6_50 hT.t rfl (by first | rfl | exact rv_cat (by assumption) | exact rv_cat rv_f) (Nat.le_of_ble_eq_true rfl) (by first | exact Nat.le_of_ble_eq_true rfl | omega) (c_X6_inLine hT ⟨by omega, by omega⟩ ⟨by omega, by omega⟩ ?_)
      refine g_iconst 13 dX6_lineLength_12 rfl ?_
      refine g_icmp_eq 22 16 dX6_lineLength_13 rfl rfl (by first | exact hT.r _ | exact hT.rT _ _ | exact inP_r | omega) (by first | exact hT.r _ | exact hT.rT _ _ | exact inP_r | omega) (fun c13 => ?_) (fun c13 => ?_)
      · refine g_iload1 23 dX6_lineLength_22 rfl ?_
        refine g_iret dX6_lineLength_23 rfl ?_
        exact tq hQ hT hA rfl hth (by omega)
      · omega
    | succ j ih =>
      intro x T M hT hA hth e h0 hQ
      have hx : inLineP a.1 x ≠ -1 := fun z => by have := (inLineP_n (s := a.1) h0).mp z; omega
      have hr := inLineP_r (s := a.1) (p := x) (by omega) h0
      refine g_aload0 8 (by first | exact rv_r | exact rv_n | assumption | exact rv_f) dX6_lineLength_7 rfl ?_
      refine g_iload1 9 dX6_lineLength_8 rfl ?_
      refine k_V1z 12 dX6_lineLength_9 rfl lk_X6_50 hT.t rfl (by first | rfl | exact rv_cat (by assumption) | exact rv_cat rv_f) (Nat.le_of_ble_eq_true rfl) (by first | exact Nat.le_of_ble_eq_true rfl | omega) (c_X6_inLine hT ⟨by omega, by omega⟩ ⟨by omega, by omega⟩ ?_)
      refine g_iconst 13 dX6_lineLength_12 rfl ?_
      refine g_icmp_eq 22 16 dX6_lineLength_13 rfl rfl (by first | exact hT.r _ | exact hT.rT _ _ | exact inP_r | omega) (by first | exact hT.r _ | exact hT.rT _ _ | exact inP_r | omega) (fun c13 => ?_) (fun c13 => ?_)
      · omega
      · refine g_iinc1 19 (Nat.le_of_ble_eq_true rfl) (by first | exact c1_0 | exact c1_i | exact c1_r | exact c1_n | exact c1_v (by assumption) | exact c1_f) dX6_lineLength_16 rfl ?_
        refine g_goto 7 dX6_lineLength_19 rfl ?_
        exact ih _ _ _ hT hA hth (by omega) (by omega) hQ
  refine g_aload0 1 (by first | exact rv_r | exact rv_n | assumption | exact rv_f) dX6_lineLength_0 rfl ?_
  refine g_iconst 2 dX6_lineLength_1 rfl ?_
  refine w_put8 5 dX6_lineLength_2 rfl fl_X6_25 hT (fun M hT => ?_)
  refine g_iconst 6 dX6_lineLength_5 rfl ?_
  refine g_istore1 7 (Nat.le_of_ble_eq_true rfl) (by first | exact c1_0 | exact c1_i | exact c1_r | exact c1_n | exact c1_v (by assumption) | exact c1_f) dX6_lineLength_6 rfl ?_
  exact loop (lineN a.1) 0 _ _ hT hA.th (by simp only [uT_at, wr0]) (by omega) (by omega) hQ
theorem c_X6_guestAt {th : Int} (hP : TP (kB K) M0 m th a M) (hV : AV a) {p : Int} (hp : R32 p) (hQ : ∀ M', TP (kB K) M0 m (if p < 0 ∨ (lineN a.1 : Int) ≤ p then 1 else 0) (a) M' → Q (.inl (some (.int (ii (if p < 0 ∨ (lineN a.1 : Int) ≤ p then 0 else inLineP a.1 p))))) M') : Go K fX6_guestAt 3 k n 0 [some (.ref m), some (.int (ii p)), none] [] M Q := by
  obtain ⟨T, hT, hA, hth⟩ := hP
  have hW := hV.1.1
  have w1 := hW.2.1
  unfold W1 at w1
  have hx : 0 ≤ p → (inLineP a.1 p = -1 ↔ lineN a.1 ≤ p) := fun h => inLineP_n h
  have hr : 0 ≤ p → (inLineP a.1 p = -1 ∨ (0 ≤ inLineP a.1 p ∧ inLineP a.1 p < a.1 3)) := fun h => inLineP_r (by omega) h
  refine g_aload0 1 (by first | exact rv_r | exact rv_n | assumption | exact rv_f) dX6_guestAt_0 rfl ?_
  refine g_iconst 2 dX6_guestAt_1 rfl ?_
  refine w_put8 5 dX6_guestAt_2 rfl fl_X6_25 hT (fun M hT => ?_)
  refine g_iload1 6 dX6_guestAt_5 rfl ?_
  refine g_if_ge 13 9 dX6_guestAt_6 rfl rfl (by first | exact hT.r _ | exact hT.rT _ _ | exact inP_r | omega) (fun c6 => ?_) (fun c6 => ?_)
  · refine g_aload0 14 (by first | exact rv_r | exact rv_n | assumption | exact rv_f) dX6_guestAt_13 rfl ?_
    refine g_iload1 15 dX6_guestAt_14 rfl ?_
    refine k_V1z 18 dX6_guestAt_15 rfl lk_X6_50 hT.t rfl (by first | rfl | exact rv_cat (by assumption) | exact rv_cat rv_f) (Nat.le_of_ble_eq_true rfl) (by first | exact Nat.le_of_ble_eq_true rfl | omega) (c_X6_inLine hT ⟨by omega, by omega⟩ ⟨by omega, by omega⟩ ?_)
    refine g_istore2 19 (Nat.le_of_ble_eq_true rfl) (by first | exact c1_0 | exact c1_i | exact c1_r | exact c1_n | exact c1_v (by assumption) | exact c1_f) dX6_guestAt_18 rfl ?_
    refine g_iload2 20 dX6_guestAt_19 rfl ?_
    refine g_iconst 21 dX6_guestAt_20 rfl ?_
    refine g_icmp_ne 32 24 dX6_guestAt_21 rfl rfl (by first | exact hT.r _ | exact hT.rT _ _ | exact inP_r | omega) (by first | exact hT.r _ | exact hT.rT _ _ | exact inP_r | omega) (fun c21 => ?_) (fun c21 => ?_)
    · refine g_iload2 33 dX6_guestAt_32 rfl ?_
      refine g_iret dX6_guestAt_33 rfl ?_
      refine tq hQ hT (by first | exact hA.th | exact hA.th.th) rfl ?_ ?_
      · simp only [uT_at, wr0, wr1]; (repeat' split) <;> omega
      · (repeat' split) <;> omega
    · refine g_aload0 25 (by first | exact rv_r | exact rv_n | assumption | exact rv_f) dX6_guestAt_24 rfl ?_
      refine g_iconst 26 dX6_guestAt_25 rfl ?_
      refine k_V1z 29 dX6_guestAt_26 rfl lk_X6_104 hT.t rfl (by first | rfl | exact rv_cat (by assumption) | exact rv_cat rv_f) (Nat.le_of_ble_eq_true rfl) (by first | exact Nat.le_of_ble_eq_true rfl | omega) (c_X6_throwing hT (fun M hT => ?_))
      refine g_goto 33 dX6_guestAt_29 rfl ?_
      refine g_iret dX6_guestAt_33 rfl ?_
      refine tq hQ hT (by first | exact hA.th | exact hA.th.th) rfl ?_ ?_
      · simp only [uT_at, wr0, wr1]; (repeat' split) <;> omega
      · (repeat' split) <;> omega
  · refine g_iconst 10 dX6_guestAt_9 rfl ?_
    refine g_goto 18 dX6_guestAt_10 rfl ?_
    refine g_istore2 19 (Nat.le_of_ble_eq_true rfl) (by first | exact c1_0 | exact c1_i | exact c1_r | exact c1_n | exact c1_v (by assumption) | exact c1_f) dX6_guestAt_18 rfl ?_
    refine g_iload2 20 dX6_guestAt_19 rfl ?_
    refine g_iconst 21 dX6_guestAt_20 rfl ?_
    refine g_icmp_ne 32 24 dX6_guestAt_21 rfl rfl (by first | exact hT.r _ | exact hT.rT _ _ | exact inP_r | omega) (by first | exact hT.r _ | exact hT.rT _ _ | exact inP_r | omega) (fun c21 => ?_) (fun c21 => ?_)
    · refine g_iload2 33 dX6_guestAt_32 rfl ?_
      refine g_iret dX6_guestAt_33 rfl ?_
      refine tq hQ hT (by first | exact hA.th | exact hA.th.th) rfl ?_ ?_
      · simp only [uT_at, wr0, wr1]; (repeat' split) <;> omega
      · (repeat' split) <;> omega
    · refine g_aload0 25 (by first | exact rv_r | exact rv_n | assumption | exact rv_f) dX6_guestAt_24 rfl ?_
      refine g_iconst 26 dX6_guestAt_25 rfl ?_
      refine k_V1z 29 dX6_guestAt_26 rfl lk_X6_104 hT.t rfl (by first | rfl | exact rv_cat (by assumption) | exact rv_cat rv_f) (Nat.le_of_ble_eq_true rfl) (by first | exact Nat.le_of_ble_eq_true rfl | omega) (c_X6_throwing hT (fun M hT => ?_))
      refine g_goto 33 dX6_guestAt_29 rfl ?_
      refine g_iret dX6_guestAt_33 rfl ?_
      refine tq hQ hT (by first | exact hA.th | exact hA.th.th) rfl ?_ ?_
      · simp only [uT_at, wr0, wr1]; (repeat' split) <;> omega
      · (repeat' split) <;> omega
theorem c_X6_toldPair {th : Int} (hP : TP (kB K) M0 m th a M) (hV : AV a) {g w : Int} (hg : R32 g) (hw : 0 ≤ w ∧ w < 3) (hQ : ∀ M', TP (kB K) M0 m (if inP g 0 4 = 0 then 1 else 0) (a) M' → Q (.inl (some (.int (ii (if inP g 0 4 = 0 then 0 else a.1 (217 + 3 * g + w)))))) M') : Go K fX6_toldPair 3 k n 0 [some (.ref m), some (.int (ii g)), some (.int (ii w))] [] M Q := by
  obtain ⟨T, hT, hA, hth⟩ := hP
  have hW := hV.1.1
  have w1 := hW.2.1
  unfold W1 at w1
  have hi : inP g 0 4 ≠ 0 → 0 ≤ g ∧ g ≤ 4 := inP_ne
  refine g_aload0 1 (by first | exact rv_r | exact rv_n | assumption | exact rv_f) dX6_toldPair_0 rfl ?_
  refine g_iconst 2 dX6_toldPair_1 rfl ?_
  refine w_put8 5 dX6_toldPair_2 rfl fl_X6_25 hT (fun M hT => ?_)
  refine g_iload1 6 dX6_toldPair_5 rfl ?_
  refine k_S1z 9 dX6_toldPair_6 rfl lk_X6_120 rfl (by first | rfl | exact rv_cat (by assumption) | exact rv_cat rv_f) (Nat.le_of_ble_eq_true rfl) (by first | exact Nat.le_of_ble_eq_true rfl | omega) (c_X6_isPair (by first | assumption | omega) ?_)
  refine g_if_eq 21 12 dX6_toldPair_9 rfl rfl (by first | exact hT.r _ | exact hT.rT _ _ | exact inP_r | omega) (fun c9 => ?_) (fun c9 => ?_)
  · refine g_aload0 22 (by first | exact rv_r | exact rv_n | assumption | exact rv_f) dX6_toldPair_21 rfl ?_
    refine g_iconst 23 dX6_toldPair_22 rfl ?_
    refine k_V1z 26 dX6_toldPair_23 rfl lk_X6_104 hT.t rfl (by first | rfl | exact rv_cat (by assumption) | exact rv_cat rv_f) (Nat.le_of_ble_eq_true rfl) (by first | exact Nat.le_of_ble_eq_true rfl | omega) (c_X6_throwing hT (fun M hT => ?_))
    refine g_iret dX6_toldPair_26 rfl ?_
    refine tq hQ hT (by first | exact hA | exact hA.th | exact hA.th.th) rfl ?_ ?_
    · first | exact hth | (rw [hth]; (repeat' split) <;> omega) | (simp only [uT_at, wr0, wr1, wr2, wr3]; first | done | ((repeat' split) <;> omega))
    · first | rfl | ((repeat' split) <;> omega)
  · refine g_aload0 13 (by first | exact rv_r | exact rv_n | assumption | exact rv_f) dX6_toldPair_12 rfl ?_
    refine g_iload1 14 dX6_toldPair_13 rfl ?_
    refine g_iload2 15 dX6_toldPair_14 rfl ?_
    refine k_V2z 18 dX6_toldPair_15 rfl lk_X6_44 hT.t rfl (by first | rfl | exact rv_cat (by assumption) | exact rv_cat rv_f) (by first | rfl | exact rv_cat (by assumption) | exact rv_cat rv_f) (Nat.le_of_ble_eq_true rfl) (by first | exact Nat.le_of_ble_eq_true rfl | omega) (c_X6_pair hT (by first | assumption | omega) (by first | assumption | omega) ?_)
    refine g_goto 26 dX6_toldPair_18 rfl ?_
    refine g_iret dX6_toldPair_26 rfl ?_
    refine tq hQ hT (by first | exact hA | exact hA.th | exact hA.th.th) rfl ?_ ?_
    · first | exact hth | (rw [hth]; (repeat' split) <;> omega) | (simp only [uT_at, wr0, wr1, wr2, wr3]; first | done | ((repeat' split) <;> omega))
    · first | rfl | ((repeat' split) <;> omega)
theorem c_X6_isPairOut {th : Int} (hP : TP (kB K) M0 m th a M) (hV : AV a) {g : Int} (hg : R32 g) (hQ : ∀ M', TP (kB K) M0 m (if inP g 0 4 = 0 then 1 else 0) (a) M' → Q (.inl (some (.int (ii (if (if inP g 0 4 = 0 then 0 else a.1 (217 + 3 * g + 0)) = 1 then 1 else 0))))) M') : Go K fX6_isPairOut 4 k n 0 [some (.ref m), some (.int (ii g))] [] M Q := by
  obtain ⟨T, hT, hA, hth⟩ := hP
  have hW := hV.1.1
  have w1 := hW.2.1
  unfold W1 at w1
  have hr : R32 (if inP g 0 4 = 0 then 0 else a.1 (217 + 3 * g + 0)) := r32_ite (by decide) (hW.1 _)
  refine g_aload0 1 (by first | exact rv_r | exact rv_n | assumption | exact rv_f) dX6_isPairOut_0 rfl ?_
  refine g_iload1 2 dX6_isPairOut_1 rfl ?_
  refine g_iconst 3 dX6_isPairOut_2 rfl ?_
  refine k_V2z 6 dX6_isPairOut_3 rfl lk_X6_149 hT.t rfl (by first | rfl | exact rv_cat (by assumption) | exact rv_cat rv_f) (by first | rfl | exact rv_cat (by assumption) | exact rv_cat rv_f) (Nat.le_of_ble_eq_true rfl) (by first | exact Nat.le_of_ble_eq_true rfl | omega) (c_X6_toldPair ⟨_, hT, (by first | exact hA | exact hA.th | exact hA.th.th), rfl⟩ hV (by first | assumption | exact hT.r _ | omega) (by first | assumption | exact hT.r _ | omega) (fun M hP => ?_))
  obtain ⟨T, hT, hA, hth⟩ := hP
  refine g_iconst 7 dX6_isPairOut_6 rfl ?_
  refine g_icmp_ne 14 10 dX6_isPairOut_7 rfl rfl (by first | exact hT.r _ | exact hT.rT _ _ | exact inP_r | omega) (by first | exact hT.r _ | exact hT.rT _ _ | exact inP_r | omega) (fun c7 => ?_) (fun c7 => ?_)
  · refine g_iconst 15 dX6_isPairOut_14 rfl ?_
    refine g_zret dX6_isPairOut_15 rfl (by first | rfl | exact zr inP_01 | exact zr (by omega) | exact zr (by assumption)) ?_
    refine tq hQ hT (by first | exact hA | exact hA.th | exact hA.th.th) rfl ?_ ?_
    · first | exact hth | (rw [hth]; (repeat' split) <;> omega) | (simp only [uT_at, wr0, wr1, wr2, wr3]; first | done | ((repeat' split) <;> omega))
    · first | rfl | ((repeat' split) <;> omega)
  · refine g_iconst 11 dX6_isPairOut_10 rfl ?_
    refine g_goto 15 dX6_isPairOut_11 rfl ?_
    refine g_zret dX6_isPairOut_15 rfl (by first | rfl | exact zr inP_01 | exact zr (by omega) | exact zr (by assumption)) ?_
    refine tq hQ hT (by first | exact hA | exact hA.th | exact hA.th.th) rfl ?_ ?_
    · first | exact hth | (rw [hth]; (repeat' split) <;> omega) | (simp only [uT_at, wr0, wr1, wr2, wr3]; first | done | ((repeat' split) <;> omega))
    · first | rfl | ((repeat' split) <;> omega)
theorem c_X6_restOf {th : Int} (hP : TP (kB K) M0 m th a M) (hV : AV a) {g : Int} (hg : R32 g) (hQ : ∀ M', TP (kB K) M0 m (if inP g 0 4 = 0 then 1 else 0) (a) M' → Q (.inl (some (.int (ii (if inP g 0 4 = 0 then 0 else a.1 (217 + 3 * g + 1)))))) M') : Go K fX6_restOf 4 k n 0 [some (.ref m), some (.int (ii g))] [] M Q := by
  obtain ⟨T, hT, hA, hth⟩ := hP
  have hW := hV.1.1
  have w1 := hW.2.1
  unfold W1 at w1
  refine g_aload0 1 (by first | exact rv_r | exact rv_n | assumption | exact rv_f) dX6_restOf_0 rfl ?_
  refine g_iload1 2 dX6_restOf_1 rfl ?_
  refine g_iconst 3 dX6_restOf_2 rfl ?_
  refine k_V2z 6 dX6_restOf_3 rfl lk_X6_149 hT.t rfl (by first | rfl | exact rv_cat (by assumption) | exact rv_cat rv_f) (by first | rfl | exact rv_cat (by assumption) | exact rv_cat rv_f) (Nat.le_of_ble_eq_true rfl) (by first | exact Nat.le_of_ble_eq_true rfl | omega) (c_X6_toldPair ⟨_, hT, (by first | exact hA | exact hA.th | exact hA.th.th), rfl⟩ hV (by first | assumption | exact hT.r _ | omega) (by first | assumption | exact hT.r _ | omega) (fun M hP => ?_))
  obtain ⟨T, hT, hA, hth⟩ := hP
  refine g_iret dX6_restOf_6 rfl ?_
  refine tq hQ hT (by first | exact hA | exact hA.th | exact hA.th.th) rfl ?_ ?_
  · first | exact hth | (rw [hth]; (repeat' split) <;> omega) | (simp only [uT_at, wr0, wr1, wr2, wr3]; first | done | ((repeat' split) <;> omega))
  · first | rfl | ((repeat' split) <;> omega)
theorem c_X6_milesOfPair {th : Int} (hP : TP (kB K) M0 m th a M) (hV : AV a) {g : Int} (hg : R32 g) (hQ : ∀ M', TP (kB K) M0 m (if inP g 0 4 = 0 then 1 else 0) (a) M' → Q (.inl (some (.int (ii (if inP g 0 4 = 0 then 0 else a.1 (217 + 3 * g + 2)))))) M') : Go K fX6_milesOfPair 4 k n 0 [some (.ref m), some (.int (ii g))] [] M Q := by
  obtain ⟨T, hT, hA, hth⟩ := hP
  have hW := hV.1.1
  have w1 := hW.2.1
  unfold W1 at w1
  refine g_aload0 1 (by first | exact rv_r | exact rv_n | assumption | exact rv_f) dX6_milesOfPair_0 rfl ?_
  refine g_iload1 2 dX6_milesOfPair_1 rfl ?_
  refine g_iconst 3 dX6_milesOfPair_2 rfl ?_
  refine k_V2z 6 dX6_milesOfPair_3 rfl lk_X6_149 hT.t rfl (by first | rfl | exact rv_cat (by assumption) | exact rv_cat rv_f) (by first | rfl | exact rv_cat (by assumption) | exact rv_cat rv_f) (Nat.le_of_ble_eq_true rfl) (by first | exact Nat.le_of_ble_eq_true rfl | omega) (c_X6_toldPair ⟨_, hT, (by first | exact hA | exact hA.th | exact hA.th.th), rfl⟩ hV (by first | assumption | exact hT.r _ | omega) (by first | assumption | exact hT.r _ | omega) (fun M hP => ?_))
  obtain ⟨T, hT, hA, hth⟩ := hP
  refine g_iret dX6_milesOfPair_6 rfl ?_
  refine tq hQ hT (by first | exact hA | exact hA.th | exact hA.th.th) rfl ?_ ?_
  · first | exact hth | (rw [hth]; (repeat' split) <;> omega) | (simp only [uT_at, wr0, wr1, wr2, wr3]; first | done | ((repeat' split) <;> omega))
  · first | rfl | ((repeat' split) <;> omega)
theorem c_X6_orNone {th : Int} (hP : TP (kB K) M0 m th a M) (hV : AV a) {x : Int} (hx : R32 x) (hQ : ∀ M', TP (kB K) M0 m (if x = -1 then 1 else 0) (a) M' → Q (.inl (some (.int (ii (if x = -1 then 0 else x))))) M') : Go K fX6_orNone 2 k n 0 [some (.ref m), some (.int (ii x))] [] M Q := by
  obtain ⟨T, hT, hA, hth⟩ := hP
  have hW := hV.1.1
  have w1 := hW.2.1
  unfold W1 at w1
  refine g_aload0 1 (by first | exact rv_r | exact rv_n | assumption | exact rv_f) dX6_orNone_0 rfl ?_
  refine g_iconst 2 dX6_orNone_1 rfl ?_
  refine w_put8 5 dX6_orNone_2 rfl fl_X6_25 hT (fun M hT => ?_)
  refine g_iload1 6 dX6_orNone_5 rfl ?_
  refine g_iconst 7 dX6_orNone_6 rfl ?_
  refine g_icmp_ne 18 10 dX6_orNone_7 rfl rfl (by first | exact hT.r _ | exact hT.rT _ _ | exact inP_r | omega) (by first | exact hT.r _ | exact hT.rT _ _ | exact inP_r | omega) (fun c7 => ?_) (fun c7 => ?_)
  · refine g_iload1 19 dX6_orNone_18 rfl ?_
    refine g_iret dX6_orNone_19 rfl ?_
    refine tq hQ hT (by first | exact hA | exact hA.th | exact hA.th.th) rfl ?_ ?_
    · first | exact hth | (rw [hth]; (repeat' split) <;> omega) | (simp only [uT_at, wr0, wr1, wr2, wr3]; first | done | ((repeat' split) <;> omega))
    · first | rfl | ((repeat' split) <;> omega)
  · refine g_aload0 11 (by first | exact rv_r | exact rv_n | assumption | exact rv_f) dX6_orNone_10 rfl ?_
    refine g_iconst 12 dX6_orNone_11 rfl ?_
    refine k_V1z 15 dX6_orNone_12 rfl lk_X6_104 hT.t rfl (by first | rfl | exact rv_cat (by assumption) | exact rv_cat rv_f) (Nat.le_of_ble_eq_true rfl) (by first | exact Nat.le_of_ble_eq_true rfl | omega) (c_X6_throwing hT (fun M hT => ?_))
    refine g_goto 19 dX6_orNone_15 rfl ?_
    refine g_iret dX6_orNone_19 rfl ?_
    refine tq hQ hT (by first | exact hA | exact hA.th | exact hA.th.th) rfl ?_ ?_
    · first | exact hth | (rw [hth]; (repeat' split) <;> omega) | (simp only [uT_at, wr0, wr1, wr2, wr3]; first | done | ((repeat' split) <;> omega))
    · first | rfl | ((repeat' split) <;> omega)
theorem c_X6_nextPair {th : Int} (hP : TP (kB K) M0 m th a M) (hV : AV a) (hQ : ∀ M', TP (kB K) M0 m (if restedP a.1 = -1 then 1 else 0) (a) M' → Q (.inl (some (.int (ii (if restedP a.1 = -1 then 0 else restedP a.1))))) M') : Go K fX6_nextPair 3 k n 0 [some (.ref m)] [] M Q := by
  obtain ⟨T, hT, hA, hth⟩ := hP
  have hW := hV.1.1
  have w1 := hW.2.1
  unfold W1 at w1
  have hr := restedP_r a.1
  refine g_aload0 1 (by first | exact rv_r | exact rv_n | assumption | exact rv_f) dX6_nextPair_0 rfl ?_
  refine g_aload0 2 (by first | exact rv_r | exact rv_n | assumption | exact rv_f) dX6_nextPair_1 rfl ?_
  refine k_V0z 5 dX6_nextPair_2 rfl lk_X6_53 hT.t rfl  (Nat.le_of_ble_eq_true rfl) (by first | exact Nat.le_of_ble_eq_true rfl | omega) (c_X6_rested hT ?_)
  refine k_V1z 8 dX6_nextPair_5 rfl lk_X6_152 hT.t rfl (by first | rfl | exact rv_cat (by assumption) | exact rv_cat rv_f) (Nat.le_of_ble_eq_true rfl) (by first | exact Nat.le_of_ble_eq_true rfl | omega) (c_X6_orNone ⟨_, hT, (by first | exact hA | exact hA.th | exact hA.th.th), rfl⟩ hV (by first | assumption | exact hT.r _ | omega) (fun M hP => ?_))
  obtain ⟨T, hT, hA, hth⟩ := hP
  refine g_iret dX6_nextPair_8 rfl ?_
  refine tq hQ hT (by first | exact hA | exact hA.th | exact hA.th.th) rfl ?_ ?_
  · first | exact hth | (rw [hth]; (repeat' split) <;> omega) | (simp only [uT_at, wr0, wr1, wr2, wr3]; first | done | ((repeat' split) <;> omega))
  · first | rfl | ((repeat' split) <;> omega)
theorem c_X6_toldBoy {th : Int} (hP : TP (kB K) M0 m th a M) (hV : AV a) {g w : Int} (hg : R32 g) (hw : 0 ≤ w ∧ w < 2) (hQ : ∀ M', TP (kB K) M0 m (if inP g 0 3 = 0 then 1 else 0) (a) M' → Q (.inl (some (.int (ii (if inP g 0 3 = 0 then 0 else a.1 (232 + 2 * g + w)))))) M') : Go K fX6_toldBoy 3 k n 0 [some (.ref m), some (.int (ii g)), some (.int (ii w))] [] M Q := by
  obtain ⟨T, hT, hA, hth⟩ := hP
  have hW := hV.1.1
  have w1 := hW.2.1
  unfold W1 at w1
  have hi : inP g 0 3 ≠ 0 → 0 ≤ g ∧ g ≤ 3 := inP_ne
  refine g_aload0 1 (by first | exact rv_r | exact rv_n | assumption | exact rv_f) dX6_toldBoy_0 rfl ?_
  refine g_iconst 2 dX6_toldBoy_1 rfl ?_
  refine w_put8 5 dX6_toldBoy_2 rfl fl_X6_25 hT (fun M hT => ?_)
  refine g_iload1 6 dX6_toldBoy_5 rfl ?_
  refine k_S1z 9 dX6_toldBoy_6 rfl lk_X6_123 rfl (by first | rfl | exact rv_cat (by assumption) | exact rv_cat rv_f) (Nat.le_of_ble_eq_true rfl) (by first | exact Nat.le_of_ble_eq_true rfl | omega) (c_X6_isBoy (by first | assumption | omega) ?_)
  refine g_if_eq 21 12 dX6_toldBoy_9 rfl rfl (by first | exact hT.r _ | exact hT.rT _ _ | exact inP_r | omega) (fun c9 => ?_) (fun c9 => ?_)
  · refine g_aload0 22 (by first | exact rv_r | exact rv_n | assumption | exact rv_f) dX6_toldBoy_21 rfl ?_
    refine g_iconst 23 dX6_toldBoy_22 rfl ?_
    refine k_V1z 26 dX6_toldBoy_23 rfl lk_X6_104 hT.t rfl (by first | rfl | exact rv_cat (by assumption) | exact rv_cat rv_f) (Nat.le_of_ble_eq_true rfl) (by first | exact Nat.le_of_ble_eq_true rfl | omega) (c_X6_throwing hT (fun M hT => ?_))
    refine g_iret dX6_toldBoy_26 rfl ?_
    refine tq hQ hT (by first | exact hA | exact hA.th | exact hA.th.th) rfl ?_ ?_
    · first | exact hth | (rw [hth]; (repeat' split) <;> omega) | (simp only [uT_at, wr0, wr1, wr2, wr3]; first | done | ((repeat' split) <;> omega))
    · first | rfl | ((repeat' split) <;> omega)
  · refine g_aload0 13 (by first | exact rv_r | exact rv_n | assumption | exact rv_f) dX6_toldBoy_12 rfl ?_
    refine g_iload1 14 dX6_toldBoy_13 rfl ?_
    refine g_iload2 15 dX6_toldBoy_14 rfl ?_
    refine k_V2z 18 dX6_toldBoy_15 rfl lk_X6_79 hT.t rfl (by first | rfl | exact rv_cat (by assumption) | exact rv_cat rv_f) (by first | rfl | exact rv_cat (by assumption) | exact rv_cat rv_f) (Nat.le_of_ble_eq_true rfl) (by first | exact Nat.le_of_ble_eq_true rfl | omega) (c_X6_boy hT (by first | assumption | omega) (by first | assumption | omega) ?_)
    refine g_goto 26 dX6_toldBoy_18 rfl ?_
    refine g_iret dX6_toldBoy_26 rfl ?_
    refine tq hQ hT (by first | exact hA | exact hA.th | exact hA.th.th) rfl ?_ ?_
    · first | exact hth | (rw [hth]; (repeat' split) <;> omega) | (simp only [uT_at, wr0, wr1, wr2, wr3]; first | done | ((repeat' split) <;> omega))
    · first | rfl | ((repeat' split) <;> omega)
theorem c_X6_isBoyOut {th : Int} (hP : TP (kB K) M0 m th a M) (hV : AV a) {g : Int} (hg : R32 g) (hQ : ∀ M', TP (kB K) M0 m (if inP g 0 3 = 0 then 1 else 0) (a) M' → Q (.inl (some (.int (ii (if (if inP g 0 3 = 0 then 0 else a.1 (232 + 2 * g + 0)) = 2 then 1 else 0))))) M') : Go K fX6_isBoyOut 4 k n 0 [some (.ref m), some (.int (ii g))] [] M Q := by
  obtain ⟨T, hT, hA, hth⟩ := hP
  have hW := hV.1.1
  have w1 := hW.2.1
  unfold W1 at w1
  have hr : R32 (if inP g 0 3 = 0 then 0 else a.1 (232 + 2 * g + 0)) := r32_ite (by decide) (hW.1 _)
  refine g_aload0 1 (by first | exact rv_r | exact rv_n | assumption | exact rv_f) dX6_isBoyOut_0 rfl ?_
  refine g_iload1 2 dX6_isBoyOut_1 rfl ?_
  refine g_iconst 3 dX6_isBoyOut_2 rfl ?_
  refine k_V2z 6 dX6_isBoyOut_3 rfl lk_X6_155 hT.t rfl (by first | rfl | exact rv_cat (by assumption) | exact rv_cat rv_f) (by first | rfl | exact rv_cat (by assumption) | exact rv_cat rv_f) (Nat.le_of_ble_eq_true rfl) (by first | exact Nat.le_of_ble_eq_true rfl | omega) (c_X6_toldBoy ⟨_, hT, (by first | exact hA | exact hA.th | exact hA.th.th), rfl⟩ hV (by first | assumption | exact hT.r _ | omega) (by first | assumption | exact hT.r _ | omega) (fun M hP => ?_))
  obtain ⟨T, hT, hA, hth⟩ := hP
  refine g_iconst 7 dX6_isBoyOut_6 rfl ?_
  refine g_icmp_ne 14 10 dX6_isBoyOut_7 rfl rfl (by first | exact hT.r _ | exact hT.rT _ _ | exact inP_r | omega) (by first | exact hT.r _ | exact hT.rT _ _ | exact inP_r | omega) (fun c7 => ?_) (fun c7 => ?_)
  · refine g_iconst 15 dX6_isBoyOut_14 rfl ?_
    refine g_zret dX6_isBoyOut_15 rfl (by first | rfl | exact zr inP_01 | exact zr (by omega) | exact zr (by assumption)) ?_
    refine tq hQ hT (by first | exact hA | exact hA.th | exact hA.th.th) rfl ?_ ?_
    · first | exact hth | (rw [hth]; (repeat' split) <;> omega) | (simp only [uT_at, wr0, wr1, wr2, wr3]; first | done | ((repeat' split) <;> omega))
    · first | rfl | ((repeat' split) <;> omega)
  · refine g_iconst 11 dX6_isBoyOut_10 rfl ?_
    refine g_goto 15 dX6_isBoyOut_11 rfl ?_
    refine g_zret dX6_isBoyOut_15 rfl (by first | rfl | exact zr inP_01 | exact zr (by omega) | exact zr (by assumption)) ?_
    refine tq hQ hT (by first | exact hA | exact hA.th | exact hA.th.th) rfl ?_ ?_
    · first | exact hth | (rw [hth]; (repeat' split) <;> omega) | (simp only [uT_at, wr0, wr1, wr2, wr3]; first | done | ((repeat' split) <;> omega))
    · first | rfl | ((repeat' split) <;> omega)
theorem c_X6_isInBed {th : Int} (hP : TP (kB K) M0 m th a M) (hV : AV a) {g : Int} (hg : R32 g) (hQ : ∀ M', TP (kB K) M0 m (if inP g 0 3 = 0 then 1 else 0) (a) M' → Q (.inl (some (.int (ii (if (if inP g 0 3 = 0 then 0 else a.1 (232 + 2 * g + 0)) = 1 then 1 else 0))))) M') : Go K fX6_isInBed 4 k n 0 [some (.ref m), some (.int (ii g))] [] M Q := by
  obtain ⟨T, hT, hA, hth⟩ := hP
  have hW := hV.1.1
  have w1 := hW.2.1
  unfold W1 at w1
  have hr : R32 (if inP g 0 3 = 0 then 0 else a.1 (232 + 2 * g + 0)) := r32_ite (by decide) (hW.1 _)
  refine g_aload0 1 (by first | exact rv_r | exact rv_n | assumption | exact rv_f) dX6_isInBed_0 rfl ?_
  refine g_iload1 2 dX6_isInBed_1 rfl ?_
  refine g_iconst 3 dX6_isInBed_2 rfl ?_
  refine k_V2z 6 dX6_isInBed_3 rfl lk_X6_155 hT.t rfl (by first | rfl | exact rv_cat (by assumption) | exact rv_cat rv_f) (by first | rfl | exact rv_cat (by assumption) | exact rv_cat rv_f) (Nat.le_of_ble_eq_true rfl) (by first | exact Nat.le_of_ble_eq_true rfl | omega) (c_X6_toldBoy ⟨_, hT, (by first | exact hA | exact hA.th | exact hA.th.th), rfl⟩ hV (by first | assumption | exact hT.r _ | omega) (by first | assumption | exact hT.r _ | omega) (fun M hP => ?_))
  obtain ⟨T, hT, hA, hth⟩ := hP
  refine g_iconst 7 dX6_isInBed_6 rfl ?_
  refine g_icmp_ne 14 10 dX6_isInBed_7 rfl rfl (by first | exact hT.r _ | exact hT.rT _ _ | exact inP_r | omega) (by first | exact hT.r _ | exact hT.rT _ _ | exact inP_r | omega) (fun c7 => ?_) (fun c7 => ?_)
  · refine g_iconst 15 dX6_isInBed_14 rfl ?_
    refine g_zret dX6_isInBed_15 rfl (by first | rfl | exact zr inP_01 | exact zr (by omega) | exact zr (by assumption)) ?_
    refine tq hQ hT (by first | exact hA | exact hA.th | exact hA.th.th) rfl ?_ ?_
    · first | exact hth | (rw [hth]; (repeat' split) <;> omega) | (simp only [uT_at, wr0, wr1, wr2, wr3]; first | done | ((repeat' split) <;> omega))
    · first | rfl | ((repeat' split) <;> omega)
  · refine g_iconst 11 dX6_isInBed_10 rfl ?_
    refine g_goto 15 dX6_isInBed_11 rfl ?_
    refine g_zret dX6_isInBed_15 rfl (by first | rfl | exact zr inP_01 | exact zr (by omega) | exact zr (by assumption)) ?_
    refine tq hQ hT (by first | exact hA | exact hA.th | exact hA.th.th) rfl ?_ ?_
    · first | exact hth | (rw [hth]; (repeat' split) <;> omega) | (simp only [uT_at, wr0, wr1, wr2, wr3]; first | done | ((repeat' split) <;> omega))
    · first | rfl | ((repeat' split) <;> omega)
theorem c_X6_tripsOf {th : Int} (hP : TP (kB K) M0 m th a M) (hV : AV a) {g : Int} (hg : R32 g) (hQ : ∀ M', TP (kB K) M0 m (if inP g 0 3 = 0 then 1 else 0) (a) M' → Q (.inl (some (.int (ii (if inP g 0 3 = 0 then 0 else a.1 (232 + 2 * g + 1)))))) M') : Go K fX6_tripsOf 4 k n 0 [some (.ref m), some (.int (ii g))] [] M Q := by
  obtain ⟨T, hT, hA, hth⟩ := hP
  have hW := hV.1.1
  have w1 := hW.2.1
  unfold W1 at w1
  refine g_aload0 1 (by first | exact rv_r | exact rv_n | assumption | exact rv_f) dX6_tripsOf_0 rfl ?_
  refine g_iload1 2 dX6_tripsOf_1 rfl ?_
  refine g_iconst 3 dX6_tripsOf_2 rfl ?_
  refine k_V2z 6 dX6_tripsOf_3 rfl lk_X6_155 hT.t rfl (by first | rfl | exact rv_cat (by assumption) | exact rv_cat rv_f) (by first | rfl | exact rv_cat (by assumption) | exact rv_cat rv_f) (Nat.le_of_ble_eq_true rfl) (by first | exact Nat.le_of_ble_eq_true rfl | omega) (c_X6_toldBoy ⟨_, hT, (by first | exact hA | exact hA.th | exact hA.th.th), rfl⟩ hV (by first | assumption | exact hT.r _ | omega) (by first | assumption | exact hT.r _ | omega) (fun M hP => ?_))
  obtain ⟨T, hT, hA, hth⟩ := hP
  refine g_iret dX6_tripsOf_6 rfl ?_
  refine tq hQ hT (by first | exact hA | exact hA.th | exact hA.th.th) rfl ?_ ?_
  · first | exact hth | (rw [hth]; (repeat' split) <;> omega) | (simp only [uT_at, wr0, wr1, wr2, wr3]; first | done | ((repeat' split) <;> omega))
  · first | rfl | ((repeat' split) <;> omega)
theorem c_X6_nextBoy {th : Int} (hP : TP (kB K) M0 m th a M) (hV : AV a) (hQ : ∀ M', TP (kB K) M0 m (if (if a.1 4 = 0 then -1 else a.1 5) = -1 then 1 else 0) (a) M' → Q (.inl (some (.int (ii (if (if a.1 4 = 0 then -1 else a.1 5) = -1 then 0 else (if a.1 4 = 0 then -1 else a.1 5)))))) M') : Go K fX6_nextBoy 3 k n 0 [some (.ref m)] [] M Q := by
  obtain ⟨T, hT, hA, hth⟩ := hP
  have hW := hV.1.1
  have w1 := hW.2.1
  unfold W1 at w1
  refine g_aload0 1 (by first | exact rv_r | exact rv_n | assumption | exact rv_f) dX6_nextBoy_0 rfl ?_
  refine g_aload0 2 (by first | exact rv_r | exact rv_n | assumption | exact rv_f) dX6_nextBoy_1 rfl ?_
  refine g_getf 5 dX6_nextBoy_2 rfl fl_X6_7 hT.t (hT.f0) ?_
  refine g_iconst 6 dX6_nextBoy_5 rfl ?_
  refine g_iald 7 dX6_nextBoy_6 rfl hT.a0 (by omega) (by omega) (by omega) (hT.e0 (by omega) (by omega)) ?_
  refine g_if_ne 14 10 dX6_nextBoy_7 rfl rfl (by first | exact hT.r _ | exact hT.rT _ _ | exact inP_r | omega) (fun c7 => ?_) (fun c7 => ?_)
  · refine g_aload0 15 (by first | exact rv_r | exact rv_n | assumption | exact rv_f) dX6_nextBoy_14 rfl ?_
    refine g_getf 18 dX6_nextBoy_15 rfl fl_X6_7 hT.t (hT.f0) ?_
    refine g_iconst 19 dX6_nextBoy_18 rfl ?_
    refine g_iald 20 dX6_nextBoy_19 rfl hT.a0 (by omega) (by omega) (by omega) (hT.e0 (by omega) (by omega)) ?_
    refine k_V1z 23 dX6_nextBoy_20 rfl lk_X6_152 hT.t rfl (by first | rfl | exact rv_cat (by assumption) | exact rv_cat rv_f) (Nat.le_of_ble_eq_true rfl) (by first | exact Nat.le_of_ble_eq_true rfl | omega) (c_X6_orNone ⟨_, hT, (by first | exact hA | exact hA.th | exact hA.th.th), rfl⟩ hV (by first | assumption | exact hT.r _ | omega) (fun M hP => ?_))
    obtain ⟨T, hT, hA, hth⟩ := hP
    refine g_iret dX6_nextBoy_23 rfl ?_
    refine tq hQ hT (by first | exact hA | exact hA.th | exact hA.th.th) rfl ?_ ?_
    · first | exact hth | (rw [hth]; (repeat' split) <;> omega) | (simp only [uT_at, wr0, wr1, wr2, wr3]; first | done | ((repeat' split) <;> omega))
    · first | rfl | ((repeat' split) <;> omega)
  · refine g_iconst 11 dX6_nextBoy_10 rfl ?_
    refine g_goto 20 dX6_nextBoy_11 rfl ?_
    refine k_V1z 23 dX6_nextBoy_20 rfl lk_X6_152 hT.t rfl (by first | rfl | exact rv_cat (by assumption) | exact rv_cat rv_f) (Nat.le_of_ble_eq_true rfl) (by first | exact Nat.le_of_ble_eq_true rfl | omega) (c_X6_orNone ⟨_, hT, (by first | exact hA | exact hA.th | exact hA.th.th), rfl⟩ hV (by first | assumption | exact hT.r _ | omega) (fun M hP => ?_))
    obtain ⟨T, hT, hA, hth⟩ := hP
    refine g_iret dX6_nextBoy_23 rfl ?_
    refine tq hQ hT (by first | exact hA | exact hA.th | exact hA.th.th) rfl ?_ ?_
    · first | exact hth | (rw [hth]; (repeat' split) <;> omega) | (simp only [uT_at, wr0, wr1, wr2, wr3]; first | done | ((repeat' split) <;> omega))
    · first | rfl | ((repeat' split) <;> omega)
theorem c_X6_toldChaise {th : Int} (hP : TP (kB K) M0 m th a M) (hV : AV a) {g w : Int} (hg : R32 g) (hw : 0 ≤ w ∧ w < 10) (hQ : ∀ M', TP (kB K) M0 m (if inP g 0 2 = 0 then 1 else 0) (a) M' → Q (.inl (some (.int (ii (if inP g 0 2 = 0 then 0 else a.1 (240 + 10 * g + w)))))) M') : Go K fX6_toldChaise 3 k n 0 [some (.ref m), some (.int (ii g)), some (.int (ii w))] [] M Q := by
  obtain ⟨T, hT, hA, hth⟩ := hP
  have hW := hV.1.1
  have w1 := hW.2.1
  unfold W1 at w1
  have hi : inP g 0 2 ≠ 0 → 0 ≤ g ∧ g ≤ 2 := inP_ne
  refine g_aload0 1 (by first | exact rv_r | exact rv_n | assumption | exact rv_f) dX6_toldChaise_0 rfl ?_
  refine g_iconst 2 dX6_toldChaise_1 rfl ?_
  refine w_put8 5 dX6_toldChaise_2 rfl fl_X6_25 hT (fun M hT => ?_)
  refine g_iload1 6 dX6_toldChaise_5 rfl ?_
  refine k_S1z 9 dX6_toldChaise_6 rfl lk_X6_132 rfl (by first | rfl | exact rv_cat (by assumption) | exact rv_cat rv_f) (Nat.le_of_ble_eq_true rfl) (by first | exact Nat.le_of_ble_eq_true rfl | omega) (c_X6_isChaise (by first | assumption | omega) ?_)
  refine g_if_eq 21 12 dX6_toldChaise_9 rfl rfl (by first | exact hT.r _ | exact hT.rT _ _ | exact inP_r | omega) (fun c9 => ?_) (fun c9 => ?_)
  · refine g_aload0 22 (by first | exact rv_r | exact rv_n | assumption | exact rv_f) dX6_toldChaise_21 rfl ?_
    refine g_iconst 23 dX6_toldChaise_22 rfl ?_
    refine k_V1z 26 dX6_toldChaise_23 rfl lk_X6_104 hT.t rfl (by first | rfl | exact rv_cat (by assumption) | exact rv_cat rv_f) (Nat.le_of_ble_eq_true rfl) (by first | exact Nat.le_of_ble_eq_true rfl | omega) (c_X6_throwing hT (fun M hT => ?_))
    refine g_iret dX6_toldChaise_26 rfl ?_
    refine tq hQ hT (by first | exact hA | exact hA.th | exact hA.th.th) rfl ?_ ?_
    · first | exact hth | (rw [hth]; (repeat' split) <;> omega) | (simp only [uT_at, wr0, wr1, wr2, wr3]; first | done | ((repeat' split) <;> omega))
    · first | rfl | ((repeat' split) <;> omega)
  · refine g_aload0 13 (by first | exact rv_r | exact rv_n | assumption | exact rv_f) dX6_toldChaise_12 rfl ?_
    refine g_iload1 14 dX6_toldChaise_13 rfl ?_
    refine g_iload2 15 dX6_toldChaise_14 rfl ?_
    refine k_V2z 18 dX6_toldChaise_15 rfl lk_X6_47 hT.t rfl (by first | rfl | exact rv_cat (by assumption) | exact rv_cat rv_f) (by first | rfl | exact rv_cat (by assumption) | exact rv_cat rv_f) (Nat.le_of_ble_eq_true rfl) (by first | exact Nat.le_of_ble_eq_true rfl | omega) (c_X6_chaise hT (by first | assumption | omega) (by first | assumption | omega) ?_)
    refine g_goto 26 dX6_toldChaise_18 rfl ?_
    refine g_iret dX6_toldChaise_26 rfl ?_
    refine tq hQ hT (by first | exact hA | exact hA.th | exact hA.th.th) rfl ?_ ?_
    · first | exact hth | (rw [hth]; (repeat' split) <;> omega) | (simp only [uT_at, wr0, wr1, wr2, wr3]; first | done | ((repeat' split) <;> omega))
    · first | rfl | ((repeat' split) <;> omega)
theorem c_X6_isChaiseOut {th : Int} (hP : TP (kB K) M0 m th a M) (hV : AV a) {g : Int} (hg : R32 g) (hQ : ∀ M', TP (kB K) M0 m (if inP g 0 2 = 0 then 1 else 0) (a) M' → Q (.inl (some (.int (ii (if (if inP g 0 2 = 0 then 0 else a.1 (240 + 10 * g + 0)) = 1 then 1 else 0))))) M') : Go K fX6_isChaiseOut 4 k n 0 [some (.ref m), some (.int (ii g))] [] M Q := by
  obtain ⟨T, hT, hA, hth⟩ := hP
  have hW := hV.1.1
  have w1 := hW.2.1
  unfold W1 at w1
  have hr : R32 (if inP g 0 2 = 0 then 0 else a.1 (240 + 10 * g + 0)) := r32_ite (by decide) (hW.1 _)
  refine g_aload0 1 (by first | exact rv_r | exact rv_n | assumption | exact rv_f) dX6_isChaiseOut_0 rfl ?_
  refine g_iload1 2 dX6_isChaiseOut_1 rfl ?_
  refine g_iconst 3 dX6_isChaiseOut_2 rfl ?_
  refine k_V2z 6 dX6_isChaiseOut_3 rfl lk_X6_158 hT.t rfl (by first | rfl | exact rv_cat (by assumption) | exact rv_cat rv_f) (by first | rfl | exact rv_cat (by assumption) | exact rv_cat rv_f) (Nat.le_of_ble_eq_true rfl) (by first | exact Nat.le_of_ble_eq_true rfl | omega) (c_X6_toldChaise ⟨_, hT, (by first | exact hA | exact hA.th | exact hA.th.th), rfl⟩ hV (by first | assumption | exact hT.r _ | omega) (by first | assumption | exact hT.r _ | omega) (fun M hP => ?_))
  obtain ⟨T, hT, hA, hth⟩ := hP
  refine g_iconst 7 dX6_isChaiseOut_6 rfl ?_
  refine g_icmp_ne 14 10 dX6_isChaiseOut_7 rfl rfl (by first | exact hT.r _ | exact hT.rT _ _ | exact inP_r | omega) (by first | exact hT.r _ | exact hT.rT _ _ | exact inP_r | omega) (fun c7 => ?_) (fun c7 => ?_)
  · refine g_iconst 15 dX6_isChaiseOut_14 rfl ?_
    refine g_zret dX6_isChaiseOut_15 rfl (by first | rfl | exact zr inP_01 | exact zr (by omega) | exact zr (by assumption)) ?_
    refine tq hQ hT (by first | exact hA | exact hA.th | exact hA.th.th) rfl ?_ ?_
    · first | exact hth | (rw [hth]; (repeat' split) <;> omega) | (simp only [uT_at, wr0, wr1, wr2, wr3]; first | done | ((repeat' split) <;> omega))
    · first | rfl | ((repeat' split) <;> omega)
  · refine g_iconst 11 dX6_isChaiseOut_10 rfl ?_
    refine g_goto 15 dX6_isChaiseOut_11 rfl ?_
    refine g_zret dX6_isChaiseOut_15 rfl (by first | rfl | exact zr inP_01 | exact zr (by omega) | exact zr (by assumption)) ?_
    refine tq hQ hT (by first | exact hA | exact hA.th | exact hA.th.th) rfl ?_ ?_
    · first | exact hth | (rw [hth]; (repeat' split) <;> omega) | (simp only [uT_at, wr0, wr1, wr2, wr3]; first | done | ((repeat' split) <;> omega))
    · first | rfl | ((repeat' split) <;> omega)
theorem c_X6_isBroken {th : Int} (hP : TP (kB K) M0 m th a M) (hV : AV a) {g : Int} (hg : R32 g) (hQ : ∀ M', TP (kB K) M0 m (if inP g 0 2 = 0 then 1 else 0) (a) M' → Q (.inl (some (.int (ii (if (if inP g 0 2 = 0 then 0 else a.1 (240 + 10 * g + 2)) = 1 then 1 else 0))))) M') : Go K fX6_isBroken 4 k n 0 [some (.ref m), some (.int (ii g))] [] M Q := by
  obtain ⟨T, hT, hA, hth⟩ := hP
  have hW := hV.1.1
  have w1 := hW.2.1
  unfold W1 at w1
  have hr : R32 (if inP g 0 2 = 0 then 0 else a.1 (240 + 10 * g + 2)) := r32_ite (by decide) (hW.1 _)
  refine g_aload0 1 (by first | exact rv_r | exact rv_n | assumption | exact rv_f) dX6_isBroken_0 rfl ?_
  refine g_iload1 2 dX6_isBroken_1 rfl ?_
  refine g_iconst 3 dX6_isBroken_2 rfl ?_
  refine k_V2z 6 dX6_isBroken_3 rfl lk_X6_158 hT.t rfl (by first | rfl | exact rv_cat (by assumption) | exact rv_cat rv_f) (by first | rfl | exact rv_cat (by assumption) | exact rv_cat rv_f) (Nat.le_of_ble_eq_true rfl) (by first | exact Nat.le_of_ble_eq_true rfl | omega) (c_X6_toldChaise ⟨_, hT, (by first | exact hA | exact hA.th | exact hA.th.th), rfl⟩ hV (by first | assumption | exact hT.r _ | omega) (by first | assumption | exact hT.r _ | omega) (fun M hP => ?_))
  obtain ⟨T, hT, hA, hth⟩ := hP
  refine g_iconst 7 dX6_isBroken_6 rfl ?_
  refine g_icmp_ne 14 10 dX6_isBroken_7 rfl rfl (by first | exact hT.r _ | exact hT.rT _ _ | exact inP_r | omega) (by first | exact hT.r _ | exact hT.rT _ _ | exact inP_r | omega) (fun c7 => ?_) (fun c7 => ?_)
  · refine g_iconst 15 dX6_isBroken_14 rfl ?_
    refine g_zret dX6_isBroken_15 rfl (by first | rfl | exact zr inP_01 | exact zr (by omega) | exact zr (by assumption)) ?_
    refine tq hQ hT (by first | exact hA | exact hA.th | exact hA.th.th) rfl ?_ ?_
    · first | exact hth | (rw [hth]; (repeat' split) <;> omega) | (simp only [uT_at, wr0, wr1, wr2, wr3]; first | done | ((repeat' split) <;> omega))
    · first | rfl | ((repeat' split) <;> omega)
  · refine g_iconst 11 dX6_isBroken_10 rfl ?_
    refine g_goto 15 dX6_isBroken_11 rfl ?_
    refine g_zret dX6_isBroken_15 rfl (by first | rfl | exact zr inP_01 | exact zr (by omega) | exact zr (by assumption)) ?_
    refine tq hQ hT (by first | exact hA | exact hA.th | exact hA.th.th) rfl ?_ ?_
    · first | exact hth | (rw [hth]; (repeat' split) <;> omega) | (simp only [uT_at, wr0, wr1, wr2, wr3]; first | done | ((repeat' split) <;> omega))
    · first | rfl | ((repeat' split) <;> omega)
theorem c_X6_wearOf {th : Int} (hP : TP (kB K) M0 m th a M) (hV : AV a) {g : Int} (hg : R32 g) (hQ : ∀ M', TP (kB K) M0 m (if inP g 0 2 = 0 then 1 else 0) (a) M' → Q (.inl (some (.int (ii (if inP g 0 2 = 0 then 0 else a.1 (240 + 10 * g + 1)))))) M') : Go K fX6_wearOf 4 k n 0 [some (.ref m), some (.int (ii g))] [] M Q := by
  obtain ⟨T, hT, hA, hth⟩ := hP
  have hW := hV.1.1
  have w1 := hW.2.1
  unfold W1 at w1
  refine g_aload0 1 (by first | exact rv_r | exact rv_n | assumption | exact rv_f) dX6_wearOf_0 rfl ?_
  refine g_iload1 2 dX6_wearOf_1 rfl ?_
  refine g_iconst 3 dX6_wearOf_2 rfl ?_
  refine k_V2z 6 dX6_wearOf_3 rfl lk_X6_158 hT.t rfl (by first | rfl | exact rv_cat (by assumption) | exact rv_cat rv_f) (by first | rfl | exact rv_cat (by assumption) | exact rv_cat rv_f) (Nat.le_of_ble_eq_true rfl) (by first | exact Nat.le_of_ble_eq_true rfl | omega) (c_X6_toldChaise ⟨_, hT, (by first | exact hA | exact hA.th | exact hA.th.th), rfl⟩ hV (by first | assumption | exact hT.r _ | omega) (by first | assumption | exact hT.r _ | omega) (fun M hP => ?_))
  obtain ⟨T, hT, hA, hth⟩ := hP
  refine g_iret dX6_wearOf_6 rfl ?_
  refine tq hQ hT (by first | exact hA | exact hA.th | exact hA.th.th) rfl ?_ ?_
  · first | exact hth | (rw [hth]; (repeat' split) <;> omega) | (simp only [uT_at, wr0, wr1, wr2, wr3]; first | done | ((repeat' split) <;> omega))
  · first | rfl | ((repeat' split) <;> omega)
theorem c_X6_milesOfChaise {th : Int} (hP : TP (kB K) M0 m th a M) (hV : AV a) {g : Int} (hg : R32 g) (hQ : ∀ M', TP (kB K) M0 m (if inP g 0 2 = 0 then 1 else 0) (a) M' → Q (.inl (some (.int (ii (if inP g 0 2 = 0 then 0 else a.1 (240 + 10 * g + 3)))))) M') : Go K fX6_milesOfChaise 4 k n 0 [some (.ref m), some (.int (ii g))] [] M Q := by
  obtain ⟨T, hT, hA, hth⟩ := hP
  have hW := hV.1.1
  have w1 := hW.2.1
  unfold W1 at w1
  refine g_aload0 1 (by first | exact rv_r | exact rv_n | assumption | exact rv_f) dX6_milesOfChaise_0 rfl ?_
  refine g_iload1 2 dX6_milesOfChaise_1 rfl ?_
  refine g_iconst 3 dX6_milesOfChaise_2 rfl ?_
  refine k_V2z 6 dX6_milesOfChaise_3 rfl lk_X6_158 hT.t rfl (by first | rfl | exact rv_cat (by assumption) | exact rv_cat rv_f) (by first | rfl | exact rv_cat (by assumption) | exact rv_cat rv_f) (Nat.le_of_ble_eq_true rfl) (by first | exact Nat.le_of_ble_eq_true rfl | omega) (c_X6_toldChaise ⟨_, hT, (by first | exact hA | exact hA.th | exact hA.th.th), rfl⟩ hV (by first | assumption | exact hT.r _ | omega) (by first | assumption | exact hT.r _ | omega) (fun M hP => ?_))
  obtain ⟨T, hT, hA, hth⟩ := hP
  refine g_iret dX6_milesOfChaise_6 rfl ?_
  refine tq hQ hT (by first | exact hA | exact hA.th | exact hA.th.th) rfl ?_ ?_
  · first | exact hth | (rw [hth]; (repeat' split) <;> omega) | (simp only [uT_at, wr0, wr1, wr2, wr3]; first | done | ((repeat' split) <;> omega))
  · first | rfl | ((repeat' split) <;> omega)
theorem c_X6_toldTrip {th : Int} (hP : TP (kB K) M0 m th a M) (hV : AV a) {g w : Int} (hg : R32 g) (hw : 0 ≤ w ∧ w < 10) (hQ : ∀ M', TP (kB K) M0 m (if inP g 0 2 = 0 then 1 else if a.1 (240 + 10 * g + 0) = 0 then 2 else 0) (a) M' → Q (.inl (some (.int (ii (if inP g 0 2 = 0 then 0 else if a.1 (240 + 10 * g + 0) = 0 then 0 else a.1 (240 + 10 * g + w)))))) M') : Go K fX6_toldTrip 3 k n 0 [some (.ref m), some (.int (ii g)), some (.int (ii w))] [] M Q := by
  obtain ⟨T, hT, hA, hth⟩ := hP
  have hW := hV.1.1
  have w1 := hW.2.1
  unfold W1 at w1
  have hi : inP g 0 2 ≠ 0 → 0 ≤ g ∧ g ≤ 2 := inP_ne
  refine g_aload0 1 (by first | exact rv_r | exact rv_n | assumption | exact rv_f) dX6_toldTrip_0 rfl ?_
  refine g_iconst 2 dX6_toldTrip_1 rfl ?_
  refine w_put8 5 dX6_toldTrip_2 rfl fl_X6_25 hT (fun M hT => ?_)
  refine g_iload1 6 dX6_toldTrip_5 rfl ?_
  refine k_S1z 9 dX6_toldTrip_6 rfl lk_X6_132 rfl (by first | rfl | exact rv_cat (by assumption) | exact rv_cat rv_f) (Nat.le_of_ble_eq_true rfl) (by first | exact Nat.le_of_ble_eq_true rfl | omega) (c_X6_isChaise (by first | assumption | omega) ?_)
  refine g_if_ne 20 12 dX6_toldTrip_9 rfl rfl (by first | exact hT.r _ | exact hT.rT _ _ | exact inP_r | omega) (fun c9 => ?_) (fun c9 => ?_)
  · refine g_aload0 21 (by first | exact rv_r | exact rv_n | assumption | exact rv_f) dX6_toldTrip_20 rfl ?_
    refine g_iload1 22 dX6_toldTrip_21 rfl ?_
    refine g_iconst 23 dX6_toldTrip_22 rfl ?_
    refine k_V2z 26 dX6_toldTrip_23 rfl lk_X6_47 hT.t rfl (by first | rfl | exact rv_cat (by assumption) | exact rv_cat rv_f) (by first | rfl | exact rv_cat (by assumption) | exact rv_cat rv_f) (Nat.le_of_ble_eq_true rfl) (by first | exact Nat.le_of_ble_eq_true rfl | omega) (c_X6_chaise hT (by first | assumption | omega) (by first | assumption | omega) ?_)
    refine g_if_ne 37 29 dX6_toldTrip_26 rfl rfl (by first | exact hT.r _ | exact hT.rT _ _ | exact inP_r | omega) (fun c26 => ?_) (fun c26 => ?_)
    · refine g_aload0 38 (by first | exact rv_r | exact rv_n | assumption | exact rv_f) dX6_toldTrip_37 rfl ?_
      refine g_iload1 39 dX6_toldTrip_38 rfl ?_
      refine g_iload2 40 dX6_toldTrip_39 rfl ?_
      refine k_V2z 43 dX6_toldTrip_40 rfl lk_X6_47 hT.t rfl (by first | rfl | exact rv_cat (by assumption) | exact rv_cat rv_f) (by first | rfl | exact rv_cat (by assumption) | exact rv_cat rv_f) (Nat.le_of_ble_eq_true rfl) (by first | exact Nat.le_of_ble_eq_true rfl | omega) (c_X6_chaise hT (by first | assumption | omega) (by first | assumption | omega) ?_)
      refine g_iret dX6_toldTrip_43 rfl ?_
      refine tq hQ hT (by first | exact hA | exact hA.th | exact hA.th.th) rfl ?_ ?_
      · first | exact hth | (rw [hth]; (repeat' split) <;> omega) | (simp only [uT_at, wr0, wr1, wr2, wr3]; first | done | ((repeat' split) <;> omega))
      · first | rfl | ((repeat' split) <;> omega)
    · refine g_aload0 30 (by first | exact rv_r | exact rv_n | assumption | exact rv_f) dX6_toldTrip_29 rfl ?_
      refine g_iconst 31 dX6_toldTrip_30 rfl ?_
      refine k_V1z 34 dX6_toldTrip_31 rfl lk_X6_104 hT.t rfl (by first | rfl | exact rv_cat (by assumption) | exact rv_cat rv_f) (Nat.le_of_ble_eq_true rfl) (by first | exact Nat.le_of_ble_eq_true rfl | omega) (c_X6_throwing hT (fun M hT => ?_))
      refine g_goto 43 dX6_toldTrip_34 rfl ?_
      refine g_iret dX6_toldTrip_43 rfl ?_
      refine tq hQ hT (by first | exact hA | exact hA.th | exact hA.th.th) rfl ?_ ?_
      · first | exact hth | (rw [hth]; (repeat' split) <;> omega) | (simp only [uT_at, wr0, wr1, wr2, wr3]; first | done | ((repeat' split) <;> omega))
      · first | rfl | ((repeat' split) <;> omega)
  · refine g_aload0 13 (by first | exact rv_r | exact rv_n | assumption | exact rv_f) dX6_toldTrip_12 rfl ?_
    refine g_iconst 14 dX6_toldTrip_13 rfl ?_
    refine k_V1z 17 dX6_toldTrip_14 rfl lk_X6_104 hT.t rfl (by first | rfl | exact rv_cat (by assumption) | exact rv_cat rv_f) (Nat.le_of_ble_eq_true rfl) (by first | exact Nat.le_of_ble_eq_true rfl | omega) (c_X6_throwing hT (fun M hT => ?_))
    refine g_goto 43 dX6_toldTrip_17 rfl ?_
    refine g_iret dX6_toldTrip_43 rfl ?_
    refine tq hQ hT (by first | exact hA | exact hA.th | exact hA.th.th) rfl ?_ ?_
    · first | exact hth | (rw [hth]; (repeat' split) <;> omega) | (simp only [uT_at, wr0, wr1, wr2, wr3]; first | done | ((repeat' split) <;> omega))
    · first | rfl | ((repeat' split) <;> omega)
theorem c_X6_guestOf {th : Int} (hP : TP (kB K) M0 m th a M) (hV : AV a) {g : Int} (hg : R32 g) (hQ : ∀ M', TP (kB K) M0 m (if inP g 0 2 = 0 then 1 else if a.1 (240 + 10 * g + 0) = 0 then 2 else 0) (a) M' → Q (.inl (some (.int (ii (if inP g 0 2 = 0 then 0 else if a.1 (240 + 10 * g + 0) = 0 then 0 else a.1 (240 + 10 * g + 4)))))) M') : Go K fX6_guestOf 4 k n 0 [some (.ref m), some (.int (ii g))] [] M Q := by
  obtain ⟨T, hT, hA, hth⟩ := hP
  have hW := hV.1.1
  have w1 := hW.2.1
  unfold W1 at w1
  refine g_aload0 1 (by first | exact rv_r | exact rv_n | assumption | exact rv_f) dX6_guestOf_0 rfl ?_
  refine g_iload1 2 dX6_guestOf_1 rfl ?_
  refine g_iconst 3 dX6_guestOf_2 rfl ?_
  refine k_V2z 6 dX6_guestOf_3 rfl lk_X6_161 hT.t rfl (by first | rfl | exact rv_cat (by assumption) | exact rv_cat rv_f) (by first | rfl | exact rv_cat (by assumption) | exact rv_cat rv_f) (Nat.le_of_ble_eq_true rfl) (by first | exact Nat.le_of_ble_eq_true rfl | omega) (c_X6_toldTrip ⟨_, hT, (by first | exact hA | exact hA.th | exact hA.th.th), rfl⟩ hV (by first | assumption | exact hT.r _ | omega) (by first | assumption | exact hT.r _ | omega) (fun M hP => ?_))
  obtain ⟨T, hT, hA, hth⟩ := hP
  refine g_iret dX6_guestOf_6 rfl ?_
  refine tq hQ hT (by first | exact hA | exact hA.th | exact hA.th.th) rfl ?_ ?_
  · first | exact hth | (rw [hth]; (repeat' split) <;> omega) | (simp only [uT_at, wr0, wr1, wr2, wr3]; first | done | ((repeat' split) <;> omega))
  · first | rfl | ((repeat' split) <;> omega)
theorem c_X6_quartersLeft {th : Int} (hP : TP (kB K) M0 m th a M) (hV : AV a) {g : Int} (hg : R32 g) (hQ : ∀ M', TP (kB K) M0 m (if inP g 0 2 = 0 then 1 else if a.1 (240 + 10 * g + 0) = 0 then 2 else 0) (a) M' → Q (.inl (some (.int (ii (if inP g 0 2 = 0 then 0 else if a.1 (240 + 10 * g + 0) = 0 then 0 else a.1 (240 + 10 * g + 7)))))) M') : Go K fX6_quartersLeft 4 k n 0 [some (.ref m), some (.int (ii g))] [] M Q := by
  obtain ⟨T, hT, hA, hth⟩ := hP
  have hW := hV.1.1
  have w1 := hW.2.1
  unfold W1 at w1
  refine g_aload0 1 (by first | exact rv_r | exact rv_n | assumption | exact rv_f) dX6_quartersLeft_0 rfl ?_
  refine g_iload1 2 dX6_quartersLeft_1 rfl ?_
  refine g_bipush 4 (by rfl) dX6_quartersLeft_2 rfl ?_
  refine k_V2z 7 dX6_quartersLeft_4 rfl lk_X6_161 hT.t rfl (by first | rfl | exact rv_cat (by assumption) | exact rv_cat rv_f) (by first | rfl | exact rv_cat (by assumption) | exact rv_cat rv_f) (Nat.le_of_ble_eq_true rfl) (by first | exact Nat.le_of_ble_eq_true rfl | omega) (c_X6_toldTrip ⟨_, hT, (by first | exact hA | exact hA.th | exact hA.th.th), rfl⟩ hV (by first | assumption | exact hT.r _ | omega) (by first | assumption | exact hT.r _ | omega) (fun M hP => ?_))
  obtain ⟨T, hT, hA, hth⟩ := hP
  refine g_iret dX6_quartersLeft_7 rfl ?_
  refine tq hQ hT (by first | exact hA | exact hA.th | exact hA.th.th) rfl ?_ ?_
  · first | exact hth | (rw [hth]; (repeat' split) <;> omega) | (simp only [uT_at, wr0, wr1, wr2, wr3]; first | done | ((repeat' split) <;> omega))
  · first | rfl | ((repeat' split) <;> omega)
theorem c_X6_nextChaise {th : Int} (hP : TP (kB K) M0 m th a M) (hV : AV a) (hQ : ∀ M', TP (kB K) M0 m (if readyP a.1 = -1 then 1 else 0) (a) M' → Q (.inl (some (.int (ii (if readyP a.1 = -1 then 0 else readyP a.1))))) M') : Go K fX6_nextChaise 3 k n 0 [some (.ref m)] [] M Q := by
  obtain ⟨T, hT, hA, hth⟩ := hP
  have hW := hV.1.1
  have w1 := hW.2.1
  unfold W1 at w1
  have hr := readyP_r a.1
  refine g_aload0 1 (by first | exact rv_r | exact rv_n | assumption | exact rv_f) dX6_nextChaise_0 rfl ?_
  refine g_aload0 2 (by first | exact rv_r | exact rv_n | assumption | exact rv_f) dX6_nextChaise_1 rfl ?_
  refine k_V0z 5 dX6_nextChaise_2 rfl lk_X6_57 hT.t rfl  (Nat.le_of_ble_eq_true rfl) (by first | exact Nat.le_of_ble_eq_true rfl | omega) (c_X6_ready hT ?_)
  refine k_V1z 8 dX6_nextChaise_5 rfl lk_X6_152 hT.t rfl (by first | rfl | exact rv_cat (by assumption) | exact rv_cat rv_f) (Nat.le_of_ble_eq_true rfl) (by first | exact Nat.le_of_ble_eq_true rfl | omega) (c_X6_orNone ⟨_, hT, (by first | exact hA | exact hA.th | exact hA.th.th), rfl⟩ hV (by first | assumption | exact hT.r _ | omega) (fun M hP => ?_))
  obtain ⟨T, hT, hA, hth⟩ := hP
  refine g_iret dX6_nextChaise_8 rfl ?_
  refine tq hQ hT (by first | exact hA | exact hA.th | exact hA.th.th) rfl ?_ ?_
  · first | exact hth | (rw [hth]; (repeat' split) <;> omega) | (simp only [uT_at, wr0, wr1, wr2, wr3]; first | done | ((repeat' split) <;> omega))
  · first | rfl | ((repeat' split) <;> omega)
theorem c_X6_chaiseInRepair {th : Int} (hP : TP (kB K) M0 m th a M) (hV : AV a) (hQ : ∀ M', TP (kB K) M0 m (if a.1 9 = -1 then 1 else 0) (a) M' → Q (.inl (some (.int (ii (if a.1 9 = -1 then 0 else a.1 9))))) M') : Go K fX6_chaiseInRepair 3 k n 0 [some (.ref m)] [] M Q := by
  obtain ⟨T, hT, hA, hth⟩ := hP
  have hW := hV.1.1
  have w1 := hW.2.1
  unfold W1 at w1
  refine g_aload0 1 (by first | exact rv_r | exact rv_n | assumption | exact rv_f) dX6_chaiseInRepair_0 rfl ?_
  refine g_aload0 2 (by first | exact rv_r | exact rv_n | assumption | exact rv_f) dX6_chaiseInRepair_1 rfl ?_
  refine g_getf 5 dX6_chaiseInRepair_2 rfl fl_X6_7 hT.t (hT.f0) ?_
  refine g_bipush 7 (by rfl) dX6_chaiseInRepair_5 rfl ?_
  refine g_iald 8 dX6_chaiseInRepair_7 rfl hT.a0 (by omega) (by omega) (by omega) (hT.e0 (by omega) (by omega)) ?_
  refine k_V1z 11 dX6_chaiseInRepair_8 rfl lk_X6_152 hT.t rfl (by first | rfl | exact rv_cat (by assumption) | exact rv_cat rv_f) (Nat.le_of_ble_eq_true rfl) (by first | exact Nat.le_of_ble_eq_true rfl | omega) (c_X6_orNone ⟨_, hT, (by first | exact hA | exact hA.th | exact hA.th.th), rfl⟩ hV (by first | assumption | exact hT.r _ | omega) (fun M hP => ?_))
  obtain ⟨T, hT, hA, hth⟩ := hP
  refine g_iret dX6_chaiseInRepair_11 rfl ?_
  refine tq hQ hT (by first | exact hA | exact hA.th | exact hA.th.th) rfl ?_ ?_
  · first | exact hth | (rw [hth]; (repeat' split) <;> omega) | (simp only [uT_at, wr0, wr1, wr2, wr3]; first | done | ((repeat' split) <;> omega))
  · first | rfl | ((repeat' split) <;> omega)
theorem c_X6_repairLeft {th : Int} (hP : TP (kB K) M0 m th a M) (hV : AV a) (hQ : ∀ M', TP (kB K) M0 m (if a.1 9 = -1 then 1 else 0) (a) M' → Q (.inl (some (.int (ii (if a.1 9 = -1 then 0 else a.1 10))))) M') : Go K fX6_repairLeft 3 k n 0 [some (.ref m)] [] M Q := by
  obtain ⟨T, hT, hA, hth⟩ := hP
  have hW := hV.1.1
  have w1 := hW.2.1
  unfold W1 at w1
  refine g_aload0 1 (by first | exact rv_r | exact rv_n | assumption | exact rv_f) dX6_repairLeft_0 rfl ?_
  refine g_iconst 2 dX6_repairLeft_1 rfl ?_
  refine w_put8 5 dX6_repairLeft_2 rfl fl_X6_25 hT (fun M hT => ?_)
  refine g_aload0 6 (by first | exact rv_r | exact rv_n | assumption | exact rv_f) dX6_repairLeft_5 rfl ?_
  refine g_getf 9 dX6_repairLeft_6 rfl fl_X6_7 hT.t (hT.f0) ?_
  refine g_bipush 11 (by rfl) dX6_repairLeft_9 rfl ?_
  refine g_iald 12 dX6_repairLeft_11 rfl hT.a0 (by omega) (by omega) (by omega) (hT.e0 (by omega) (by omega)) ?_
  refine g_iconst 13 dX6_repairLeft_12 rfl ?_
  refine g_icmp_ne 24 16 dX6_repairLeft_13 rfl rfl (by first | exact hT.r _ | exact hT.rT _ _ | exact inP_r | omega) (by first | exact hT.r _ | exact hT.rT _ _ | exact inP_r | omega) (fun c13 => ?_) (fun c13 => ?_)
  · refine g_aload0 25 (by first | exact rv_r | exact rv_n | assumption | exact rv_f) dX6_repairLeft_24 rfl ?_
    refine g_getf 28 dX6_repairLeft_25 rfl fl_X6_7 hT.t (hT.f0) ?_
    refine g_bipush 30 (by rfl) dX6_repairLeft_28 rfl ?_
    refine g_iald 31 dX6_repairLeft_30 rfl hT.a0 (by omega) (by omega) (by omega) (hT.e0 (by omega) (by omega)) ?_
    refine g_iret dX6_repairLeft_31 rfl ?_
    refine tq hQ hT (by first | exact hA | exact hA.th | exact hA.th.th) rfl ?_ ?_
    · first | exact hth | (rw [hth]; (repeat' split) <;> omega) | (simp only [uT_at, wr0, wr1, wr2, wr3]; first | done | ((repeat' split) <;> omega))
    · first | rfl | ((repeat' split) <;> omega)
  · refine g_aload0 17 (by first | exact rv_r | exact rv_n | assumption | exact rv_f) dX6_repairLeft_16 rfl ?_
    refine g_iconst 18 dX6_repairLeft_17 rfl ?_
    refine k_V1z 21 dX6_repairLeft_18 rfl lk_X6_104 hT.t rfl (by first | rfl | exact rv_cat (by assumption) | exact rv_cat rv_f) (Nat.le_of_ble_eq_true rfl) (by first | exact Nat.le_of_ble_eq_true rfl | omega) (c_X6_throwing hT (fun M hT => ?_))
    refine g_goto 31 dX6_repairLeft_21 rfl ?_
    refine g_iret dX6_repairLeft_31 rfl ?_
    refine tq hQ hT (by first | exact hA | exact hA.th | exact hA.th.th) rfl ?_ ?_
    · first | exact hth | (rw [hth]; (repeat' split) <;> omega) | (simp only [uT_at, wr0, wr1, wr2, wr3]; first | done | ((repeat' split) <;> omega))
    · first | rfl | ((repeat' split) <;> omega)
theorem c_X6_whyNoDeparture {th : Int} (hP : TP (kB K) M0 m th a M) (hV : AV a) (hQ : ∀ M', TP (kB K) M0 m (0) (a) M' → Q (.inl (some (.int (ii (whyP a.1))))) M') : Go K fX6_whyNoDeparture 4 k n 0 [some (.ref m)] [] M Q := by
  obtain ⟨T, hT, hA, hth⟩ := hP
  have hW := hV.1.1
  have w1 := hW.2.1
  unfold W1 at w1
  refine g_aload0 1 (by first | exact rv_r | exact rv_n | assumption | exact rv_f) dX6_whyNoDeparture_0 rfl ?_
  refine g_iconst 2 dX6_whyNoDeparture_1 rfl ?_
  refine w_put8 5 dX6_whyNoDeparture_2 rfl fl_X6_25 hT (fun M hT => ?_)
  refine g_aload0 6 (by first | exact rv_r | exact rv_n | assumption | exact rv_f) dX6_whyNoDeparture_5 rfl ?_
  refine k_V0z 9 dX6_whyNoDeparture_6 rfl lk_X6_95 hT.t rfl  (Nat.le_of_ble_eq_true rfl) (by first | exact Nat.le_of_ble_eq_true rfl | omega) (c_X6_why hT (by first | assumption | omega) ?_)
  refine g_iret dX6_whyNoDeparture_9 rfl ?_
  refine tq hQ hT (by first | exact hA | exact hA.th | exact hA.th.th) rfl ?_ ?_
  · first | exact hth | (rw [hth]; (repeat' split) <;> omega) | (simp only [uT_at, wr0, wr1, wr2, wr3]; first | done | ((repeat' split) <;> omega))
  · first | rfl | ((repeat' split) <;> omega)
theorem c_X6_income (hT : Tw (kB K) M0 m s T M) (hQ : Q (.inl (some (.int (ii (s 11 + s 12 + s 13 + s 14))))) M) : Go K fX6_income 1 k n 0 [some (.ref m)] [] M Q := by
  refine g_aload0 1 (by first | exact rv_r | exact rv_n | assumption | exact rv_f) dX6_income_0 rfl ?_
  refine g_getf 4 dX6_income_1 rfl fl_X6_7 hT.t (hT.f0) ?_
  refine g_bipush 6 (by rfl) dX6_income_4 rfl ?_
  refine g_iald 7 dX6_income_6 rfl hT.a0 (by omega) (by omega) (by omega) (hT.e0 (by omega) (by omega)) ?_
  refine g_aload0 8 (by first | exact rv_r | exact rv_n | assumption | exact rv_f) dX6_income_7 rfl ?_
  refine g_getf 11 dX6_income_8 rfl fl_X6_7 hT.t (hT.f0) ?_
  refine g_bipush 13 (by rfl) dX6_income_11 rfl ?_
  refine g_iald 14 dX6_income_13 rfl hT.a0 (by omega) (by omega) (by omega) (hT.e0 (by omega) (by omega)) ?_
  refine g_iadd 15 dX6_income_14 rfl ?_
  refine g_aload0 16 (by first | exact rv_r | exact rv_n | assumption | exact rv_f) dX6_income_15 rfl ?_
  refine g_getf 19 dX6_income_16 rfl fl_X6_7 hT.t (hT.f0) ?_
  refine g_bipush 21 (by rfl) dX6_income_19 rfl ?_
  refine g_iald 22 dX6_income_21 rfl hT.a0 (by omega) (by omega) (by omega) (hT.e0 (by omega) (by omega)) ?_
  refine g_iadd 23 dX6_income_22 rfl ?_
  refine g_aload0 24 (by first | exact rv_r | exact rv_n | assumption | exact rv_f) dX6_income_23 rfl ?_
  refine g_getf 27 dX6_income_24 rfl fl_X6_7 hT.t (hT.f0) ?_
  refine g_bipush 29 (by rfl) dX6_income_27 rfl ?_
  refine g_iald 30 dX6_income_29 rfl hT.a0 (by omega) (by omega) (by omega) (hT.e0 (by omega) (by omega)) ?_
  refine g_iadd 31 dX6_income_30 rfl ?_
  refine g_iret dX6_income_31 rfl ?_
  exact hQ
theorem c_X6_incomeByGuests {th : Int} (hP : TP (kB K) M0 m th a M) (hV : AV a) (hQ : ∀ M', TP (kB K) M0 m (0) (a) M' → Q (.inl (some (.int (ii (a.1 11 + a.1 12 + a.1 13 + a.1 14))))) M') : Go K fX6_incomeByGuests 2 k n 0 [some (.ref m)] [] M Q := by
  obtain ⟨T, hT, hA, hth⟩ := hP
  have hW := hV.1.1
  have w1 := hW.2.1
  unfold W1 at w1
  refine g_aload0 1 (by first | exact rv_r | exact rv_n | assumption | exact rv_f) dX6_incomeByGuests_0 rfl ?_
  refine g_iconst 2 dX6_incomeByGuests_1 rfl ?_
  refine w_put8 5 dX6_incomeByGuests_2 rfl fl_X6_25 hT (fun M hT => ?_)
  refine g_aload0 6 (by first | exact rv_r | exact rv_n | assumption | exact rv_f) dX6_incomeByGuests_5 rfl ?_
  refine k_V0z 9 dX6_incomeByGuests_6 rfl lk_X6_170 hT.t rfl  (Nat.le_of_ble_eq_true rfl) (by first | exact Nat.le_of_ble_eq_true rfl | omega) (c_X6_income hT ?_)
  refine g_iret dX6_incomeByGuests_9 rfl ?_
  refine tq hQ hT (by first | exact hA | exact hA.th | exact hA.th.th) rfl ?_ ?_
  · first | exact hth | (rw [hth]; (repeat' split) <;> omega) | (simp only [uT_at, wr0, wr1, wr2, wr3]; first | done | ((repeat' split) <;> omega))
  · first | rfl | ((repeat' split) <;> omega)
theorem c_X6_incomeByRoads {th : Int} (hP : TP (kB K) M0 m th a M) (hV : AV a) (hQ : ∀ M', TP (kB K) M0 m (0) (a) M' → Q (.inl (some (.int (ii (a.1 11 + a.1 12 + a.1 13 + a.1 14))))) M') : Go K fX6_incomeByRoads 2 k n 0 [some (.ref m)] [] M Q := by
  obtain ⟨T, hT, hA, hth⟩ := hP
  have hW := hV.1.1
  have w1 := hW.2.1
  unfold W1 at w1
  refine g_aload0 1 (by first | exact rv_r | exact rv_n | assumption | exact rv_f) dX6_incomeByRoads_0 rfl ?_
  refine g_iconst 2 dX6_incomeByRoads_1 rfl ?_
  refine w_put8 5 dX6_incomeByRoads_2 rfl fl_X6_25 hT (fun M hT => ?_)
  refine g_aload0 6 (by first | exact rv_r | exact rv_n | assumption | exact rv_f) dX6_incomeByRoads_5 rfl ?_
  refine k_V0z 9 dX6_incomeByRoads_6 rfl lk_X6_170 hT.t rfl  (Nat.le_of_ble_eq_true rfl) (by first | exact Nat.le_of_ble_eq_true rfl | omega) (c_X6_income hT ?_)
  refine g_iret dX6_incomeByRoads_9 rfl ?_
  refine tq hQ hT (by first | exact hA | exact hA.th | exact hA.th.th) rfl ?_ ?_
  · first | exact hth | (rw [hth]; (repeat' split) <;> omega) | (simp only [uT_at, wr0, wr1, wr2, wr3]; first | done | ((repeat' split) <;> omega))
  · first | rfl | ((repeat' split) <;> omega)
theorem c_X6_incomeFrom {th : Int} (hP : TP (kB K) M0 m th a M) (hV : AV a) {r : Int} (hr : R32 r) (hQ : ∀ M', TP (kB K) M0 m (if inP r 0 3 = 0 then 1 else 0) (a) M' → Q (.inl (some (.int (ii (if inP r 0 3 = 0 then 0 else a.1 (11 + r)))))) M') : Go K fX6_incomeFrom 2 k n 0 [some (.ref m), some (.int (ii r))] [] M Q := by
  obtain ⟨T, hT, hA, hth⟩ := hP
  have hW := hV.1.1
  have w1 := hW.2.1
  unfold W1 at w1
  have hi : inP r 0 3 ≠ 0 → 0 ≤ r ∧ r ≤ 3 := inP_ne
  refine g_aload0 1 (by first | exact rv_r | exact rv_n | assumption | exact rv_f) dX6_incomeFrom_0 rfl ?_
  refine g_iconst 2 dX6_incomeFrom_1 rfl ?_
  refine w_put8 5 dX6_incomeFrom_2 rfl fl_X6_25 hT (fun M hT => ?_)
  refine g_iload1 6 dX6_incomeFrom_5 rfl ?_
  refine g_iconst 7 dX6_incomeFrom_6 rfl ?_
  refine g_iconst 8 dX6_incomeFrom_7 rfl ?_
  refine k_S3z 11 dX6_incomeFrom_8 rfl lk_X6_29 rfl (by first | rfl | exact rv_cat (by assumption) | exact rv_cat rv_f) (by first | rfl | exact rv_cat (by assumption) | exact rv_cat rv_f) (by first | rfl | exact rv_cat (by assumption) | exact rv_cat rv_f) (Nat.le_of_ble_eq_true rfl) (by first | exact Nat.le_of_ble_eq_true rfl | omega) (c_X6_in (by first | assumption | omega) (by first | assumption | omega) (by first | assumption | omega) ?_)
  refine g_if_eq 26 14 dX6_incomeFrom_11 rfl rfl (by first | exact hT.r _ | exact hT.rT _ _ | exact inP_r | omega) (fun c11 => ?_) (fun c11 => ?_)
  · refine g_aload0 27 (by first | exact rv_r | exact rv_n | assumption | exact rv_f) dX6_incomeFrom_26 rfl ?_
    refine g_iconst 28 dX6_incomeFrom_27 rfl ?_
    refine k_V1z 31 dX6_incomeFrom_28 rfl lk_X6_104 hT.t rfl (by first | rfl | exact rv_cat (by assumption) | exact rv_cat rv_f) (Nat.le_of_ble_eq_true rfl) (by first | exact Nat.le_of_ble_eq_true rfl | omega) (c_X6_throwing hT (fun M hT => ?_))
    refine g_iret dX6_incomeFrom_31 rfl ?_
    refine tq hQ hT (by first | exact hA | exact hA.th | exact hA.th.th) rfl ?_ ?_
    · first | exact hth | (rw [hth]; (repeat' split) <;> omega) | (simp only [uT_at, wr0, wr1, wr2, wr3]; first | done | ((repeat' split) <;> omega))
    · first | rfl | ((repeat' split) <;> omega)
  · refine g_aload0 15 (by first | exact rv_r | exact rv_n | assumption | exact rv_f) dX6_incomeFrom_14 rfl ?_
    refine g_getf 18 dX6_incomeFrom_15 rfl fl_X6_7 hT.t (hT.f0) ?_
    refine g_bipush 20 (by rfl) dX6_incomeFrom_18 rfl ?_
    refine g_iload1 21 dX6_incomeFrom_20 rfl ?_
    refine g_iadd 22 dX6_incomeFrom_21 rfl ?_
    refine g_iald 23 dX6_incomeFrom_22 rfl hT.a0 (by omega) (by omega) (by omega) (hT.e0 (by omega) (by omega)) ?_
    refine g_goto 31 dX6_incomeFrom_23 rfl ?_
    refine g_iret dX6_incomeFrom_31 rfl ?_
    refine tq hQ hT (by first | exact hA | exact hA.th | exact hA.th.th) rfl ?_ ?_
    · first | exact hth | (rw [hth]; (repeat' split) <;> omega) | (simp only [uT_at, wr0, wr1, wr2, wr3]; first | done | ((repeat' split) <;> omega))
    · first | rfl | ((repeat' split) <;> omega)
theorem c_X6_spentOnPoles {th : Int} (hP : TP (kB K) M0 m th a M) (hV : AV a) (hQ : ∀ M', TP (kB K) M0 m (0) (a) M' → Q (.inl (some (.int (ii (a.1 15))))) M') : Go K fX6_spentOnPoles 1 k n 0 [some (.ref m)] [] M Q := by
  obtain ⟨T, hT, hA, hth⟩ := hP
  have hW := hV.1.1
  have w1 := hW.2.1
  unfold W1 at w1
  refine g_aload0 1 (by first | exact rv_r | exact rv_n | assumption | exact rv_f) dX6_spentOnPoles_0 rfl ?_
  refine g_iconst 2 dX6_spentOnPoles_1 rfl ?_
  refine w_put8 5 dX6_spentOnPoles_2 rfl fl_X6_25 hT (fun M hT => ?_)
  refine g_aload0 6 (by first | exact rv_r | exact rv_n | assumption | exact rv_f) dX6_spentOnPoles_5 rfl ?_
  refine g_getf 9 dX6_spentOnPoles_6 rfl fl_X6_7 hT.t (hT.f0) ?_
  refine g_bipush 11 (by rfl) dX6_spentOnPoles_9 rfl ?_
  refine g_iald 12 dX6_spentOnPoles_11 rfl hT.a0 (by omega) (by omega) (by omega) (hT.e0 (by omega) (by omega)) ?_
  refine g_iret dX6_spentOnPoles_12 rfl ?_
  refine tq hQ hT (by first | exact hA | exact hA.th | exact hA.th.th) rfl ?_ ?_
  · first | exact hth | (rw [hth]; (repeat' split) <;> omega) | (simp only [uT_at, wr0, wr1, wr2, wr3]; first | done | ((repeat' split) <;> omega))
  · first | rfl | ((repeat' split) <;> omega)
theorem c_X6_allMiles (hT : Tw (kB K) M0 m s T M) (hQ : Q (.inl (some (.int (ii (s 243 + s 253 + s 263))))) M) : Go K fX6_allMiles 2 k n 0 [some (.ref m)] [] M Q := by
  refine g_aload0 1 (by first | exact rv_r | exact rv_n | assumption | exact rv_f) dX6_allMiles_0 rfl ?_
  refine g_iconst 2 dX6_allMiles_1 rfl ?_
  refine g_iconst 3 dX6_allMiles_2 rfl ?_
  refine k_V2z 6 dX6_allMiles_3 rfl lk_X6_47 hT.t rfl (by first | rfl | exact rv_cat (by assumption) | exact rv_cat rv_f) (by first | rfl | exact rv_cat (by assumption) | exact rv_cat rv_f) (Nat.le_of_ble_eq_true rfl) (by first | exact Nat.le_of_ble_eq_true rfl | omega) (c_X6_chaise hT (by first | assumption | omega) (by first | assumption | omega) ?_)
  refine g_aload0 7 (by first | exact rv_r | exact rv_n | assumption | exact rv_f) dX6_allMiles_6 rfl ?_
  refine g_iconst 8 dX6_allMiles_7 rfl ?_
  refine g_iconst 9 dX6_allMiles_8 rfl ?_
  refine k_V2z 12 dX6_allMiles_9 rfl lk_X6_47 hT.t rfl (by first | rfl | exact rv_cat (by assumption) | exact rv_cat rv_f) (by first | rfl | exact rv_cat (by assumption) | exact rv_cat rv_f) (Nat.le_of_ble_eq_true rfl) (by first | exact Nat.le_of_ble_eq_true rfl | omega) (c_X6_chaise hT (by first | assumption | omega) (by first | assumption | omega) ?_)
  refine g_iadd 13 dX6_allMiles_12 rfl ?_
  refine g_aload0 14 (by first | exact rv_r | exact rv_n | assumption | exact rv_f) dX6_allMiles_13 rfl ?_
  refine g_iconst 15 dX6_allMiles_14 rfl ?_
  refine g_iconst 16 dX6_allMiles_15 rfl ?_
  refine k_V2z 19 dX6_allMiles_16 rfl lk_X6_47 hT.t rfl (by first | rfl | exact rv_cat (by assumption) | exact rv_cat rv_f) (by first | rfl | exact rv_cat (by assumption) | exact rv_cat rv_f) (Nat.le_of_ble_eq_true rfl) (by first | exact Nat.le_of_ble_eq_true rfl | omega) (c_X6_chaise hT (by first | assumption | omega) (by first | assumption | omega) ?_)
  refine g_iadd 20 dX6_allMiles_19 rfl ?_
  refine g_iret dX6_allMiles_20 rfl ?_
  exact hQ
theorem c_X6_milesByPairs {th : Int} (hP : TP (kB K) M0 m th a M) (hV : AV a) (hQ : ∀ M', TP (kB K) M0 m (0) (a) M' → Q (.inl (some (.int (ii (a.1 243 + a.1 253 + a.1 263))))) M') : Go K fX6_milesByPairs 3 k n 0 [some (.ref m)] [] M Q := by
  obtain ⟨T, hT, hA, hth⟩ := hP
  have hW := hV.1.1
  have w1 := hW.2.1
  unfold W1 at w1
  refine g_aload0 1 (by first | exact rv_r | exact rv_n | assumption | exact rv_f) dX6_milesByPairs_0 rfl ?_
  refine g_iconst 2 dX6_milesByPairs_1 rfl ?_
  refine w_put8 5 dX6_milesByPairs_2 rfl fl_X6_25 hT (fun M hT => ?_)
  refine g_aload0 6 (by first | exact rv_r | exact rv_n | assumption | exact rv_f) dX6_milesByPairs_5 rfl ?_
  refine k_V0z 9 dX6_milesByPairs_6 rfl lk_X6_173 hT.t rfl  (Nat.le_of_ble_eq_true rfl) (by first | exact Nat.le_of_ble_eq_true rfl | omega) (c_X6_allMiles hT ?_)
  refine g_iret dX6_milesByPairs_9 rfl ?_
  refine tq hQ hT (by first | exact hA | exact hA.th | exact hA.th.th) rfl ?_ ?_
  · first | exact hth | (rw [hth]; (repeat' split) <;> omega) | (simp only [uT_at, wr0, wr1, wr2, wr3]; first | done | ((repeat' split) <;> omega))
  · first | rfl | ((repeat' split) <;> omega)
theorem c_X6_milesByChaises {th : Int} (hP : TP (kB K) M0 m th a M) (hV : AV a) (hQ : ∀ M', TP (kB K) M0 m (0) (a) M' → Q (.inl (some (.int (ii (a.1 243 + a.1 253 + a.1 263))))) M') : Go K fX6_milesByChaises 3 k n 0 [some (.ref m)] [] M Q := by
  obtain ⟨T, hT, hA, hth⟩ := hP
  have hW := hV.1.1
  have w1 := hW.2.1
  unfold W1 at w1
  refine g_aload0 1 (by first | exact rv_r | exact rv_n | assumption | exact rv_f) dX6_milesByChaises_0 rfl ?_
  refine g_iconst 2 dX6_milesByChaises_1 rfl ?_
  refine w_put8 5 dX6_milesByChaises_2 rfl fl_X6_25 hT (fun M hT => ?_)
  refine g_aload0 6 (by first | exact rv_r | exact rv_n | assumption | exact rv_f) dX6_milesByChaises_5 rfl ?_
  refine k_V0z 9 dX6_milesByChaises_6 rfl lk_X6_173 hT.t rfl  (Nat.le_of_ble_eq_true rfl) (by first | exact Nat.le_of_ble_eq_true rfl | omega) (c_X6_allMiles hT ?_)
  refine g_iret dX6_milesByChaises_9 rfl ?_
  refine tq hQ hT (by first | exact hA | exact hA.th | exact hA.th.th) rfl ?_ ?_
  · first | exact hth | (rw [hth]; (repeat' split) <;> omega) | (simp only [uT_at, wr0, wr1, wr2, wr3]; first | done | ((repeat' split) <;> omega))
  · first | rfl | ((repeat' split) <;> omega)
theorem c_X6_brokenPoles {th : Int} (hP : TP (kB K) M0 m th a M) (hV : AV a) (hQ : ∀ M', TP (kB K) M0 m (0) (a) M' → Q (.inl (some (.int (ii (a.1 16))))) M') : Go K fX6_brokenPoles 1 k n 0 [some (.ref m)] [] M Q := by
  obtain ⟨T, hT, hA, hth⟩ := hP
  have hW := hV.1.1
  have w1 := hW.2.1
  unfold W1 at w1
  refine g_aload0 1 (by first | exact rv_r | exact rv_n | assumption | exact rv_f) dX6_brokenPoles_0 rfl ?_
  refine g_iconst 2 dX6_brokenPoles_1 rfl ?_
  refine w_put8 5 dX6_brokenPoles_2 rfl fl_X6_25 hT (fun M hT => ?_)
  refine g_aload0 6 (by first | exact rv_r | exact rv_n | assumption | exact rv_f) dX6_brokenPoles_5 rfl ?_
  refine g_getf 9 dX6_brokenPoles_6 rfl fl_X6_7 hT.t (hT.f0) ?_
  refine g_bipush 11 (by rfl) dX6_brokenPoles_9 rfl ?_
  refine g_iald 12 dX6_brokenPoles_11 rfl hT.a0 (by omega) (by omega) (by omega) (hT.e0 (by omega) (by omega)) ?_
  refine g_iret dX6_brokenPoles_12 rfl ?_
  refine tq hQ hT (by first | exact hA | exact hA.th | exact hA.th.th) rfl ?_ ?_
  · first | exact hth | (rw [hth]; (repeat' split) <;> omega) | (simp only [uT_at, wr0, wr1, wr2, wr3]; first | done | ((repeat' split) <;> omega))
  · first | rfl | ((repeat' split) <;> omega)
theorem c_X6_textLength {th : Int} (hP : TP (kB K) M0 m th a M) (hV : AV a) (hQ : ∀ M', TP (kB K) M0 m (0) (a) M' → Q (.inl (some (.int (ii (a.2.2.2.length))))) M') : Go K fX6_textLength 1 k n 0 [some (.ref m)] [] M Q := by
  obtain ⟨T, hT, hA, hth⟩ := hP
  have hW := hV.1.1
  have w1 := hW.2.1
  unfold W1 at w1
  refine g_aload0 1 (by first | exact rv_r | exact rv_n | assumption | exact rv_f) dX6_textLength_0 rfl ?_
  refine g_iconst 2 dX6_textLength_1 rfl ?_
  refine w_put8 5 dX6_textLength_2 rfl fl_X6_25 hT (fun M hT => ?_)
  refine g_aload0 6 (by first | exact rv_r | exact rv_n | assumption | exact rv_f) dX6_textLength_5 rfl ?_
  refine g_getf 9 dX6_textLength_6 rfl fl_X6_176 hT.t (hT.f7) ?_
  refine g_iret dX6_textLength_9 rfl ?_
  refine tq hQ hT (by first | exact hA | exact hA.th | exact hA.th.th) rfl ?_ ?_
  · first | exact hth | (rw [hth]; (repeat' split) <;> omega) | (simp only [uT_at, wr0, wr1, wr2, wr3]; first | done | ((repeat' split) <;> omega))
  · exact hA.2.2.1
theorem c_X6_savedStates {th : Int} (hP : TP (kB K) M0 m th a M) (hV : AV a) (hQ : ∀ M', TP (kB K) M0 m (0) (a) M' → Q (.inl (some (.int (ii (a.2.1.length))))) M') : Go K fX6_savedStates 1 k n 0 [some (.ref m)] [] M Q := by
  obtain ⟨T, hT, hA, hth⟩ := hP
  have hW := hV.1.1
  have w1 := hW.2.1
  unfold W1 at w1
  refine g_aload0 1 (by first | exact rv_r | exact rv_n | assumption | exact rv_f) dX6_savedStates_0 rfl ?_
  refine g_iconst 2 dX6_savedStates_1 rfl ?_
  refine w_put8 5 dX6_savedStates_2 rfl fl_X6_25 hT (fun M hT => ?_)
  refine g_aload0 6 (by first | exact rv_r | exact rv_n | assumption | exact rv_f) dX6_savedStates_5 rfl ?_
  refine g_getf 9 dX6_savedStates_6 rfl fl_X6_33 hT.t (hT.f2) ?_
  refine g_iret dX6_savedStates_9 rfl ?_
  refine tq hQ hT (by first | exact hA | exact hA.th | exact hA.th.th) rfl ?_ ?_
  · first | exact hth | (rw [hth]; (repeat' split) <;> omega) | (simp only [uT_at, wr0, wr1, wr2, wr3]; first | done | ((repeat' split) <;> omega))
  · exact hA.1.1
end TWF
