/-! ===== the twin: copies, what is saved; the state of all ===== -/
abbrev AS : Type := (Int → Int) × List (Int → Int) × Option (Int → Int) × List Int
/-- what the twin's numbers say of the saved states, the snapshot and the text -/
def Ta (a : AS) (T : Nat → Int → Int) : Prop :=
  (T 5 2 = a.2.1.length ∧ a.2.1.length ≤ 5 ∧ ∀ (j : Nat) (f : Int → Int), a.2.1[j]? = some f → ∀ i, 0 ≤ i → i < 270 → T 1 (270 * (j : Int) + i) = f i) ∧
  (T 5 4 = (if a.2.2.1.isSome then 1 else 0) ∧ ∀ f, a.2.2.1 = some f → ∀ i, 0 ≤ i → i < 270 → T 2 i = f i) ∧
  (T 5 7 = a.2.2.2.length ∧ a.2.2.2.length ≤ 60 ∧ ∀ (j : Nat) (c : Int), a.2.2.2[j]? = some c → T 4 j = c)
def TP (B : Nat) (M0 : Mem) (m : Nat) (th : Int) (a : AS) (M : Mem) : Prop := ∃ T, Tw B M0 m a.1 T M ∧ Ta a T ∧ T 5 8 = th
def SV (s : Int → Int) : Prop := WW s ∧ s 0 ≤ 9999
def AV (a : AS) : Prop := SV a.1 ∧ (∀ f ∈ a.2.1, SV f) ∧ (∀ f, a.2.2.1 = some f → SV f) ∧ ∀ c ∈ a.2.2.2, 32 ≤ c ∧ c ≤ 126
def saveH (H : List (Int → Int)) (s : Int → Int) : List (Int → Int) := if H.length = 5 then H.tail ++ [s] else H ++ [s]
def saveA (a : AS) : AS := (a.1, saveH a.2.1 a.1, a.2.2)
/-- the numbers after a save -/
def Sv (s : Int → Int) (T T' : Nat → Int → Int) : Prop :=
  (∀ p i, p ≠ 1 → ¬ (p = 5 ∧ i = 2) → T' p i = T p i) ∧ T' 5 2 = (if T 5 2 = 5 then 5 else T 5 2 + 1) ∧ (∀ i, 0 ≤ i → i < 270 * (T' 5 2 - 1) → T' 1 i = T 1 (if T 5 2 = 5 then 270 + i else i)) ∧ ∀ i, 0 ≤ i → i < 270 → T' 1 (270 * (T' 5 2 - 1) + i) = s i
theorem Tw.cgs {B : Nat} {M0 M : Mem} {m : Nat} {s s' : Int → Int} {T : Nat → Int → Int} (h : Tw B M0 m s T M) (e : ∀ i, 0 ≤ i → i < 270 → s' i = s i) (hr : ∀ i, R32 (s' i)) : Tw B M0 m s' T M :=
  ⟨h.1, h.2.1, fun i h0 h1 => by rw [e i h0 h1]; exact h.2.2.1 i h0 h1, h.2.2.2.1, h.2.2.2.2.1, hr, h.2.2.2.2.2.2⟩
section TWE
variable {K : KT} {k n m : Nat} {M M0 : Mem} {Q : Res → Mem → Prop} {s : Int → Int} {T : Nat → Int → Int}
theorem l_X6_putsBack : ∀ (j : Nat) (i : Int) (s : Int → Int) (M : Mem), Tw (kB K) M0 m s T M → i + j = 270 → 0 ≤ i → (∀ s' M', Tw (kB K) M0 m s' T M' → (∀ x, i ≤ x → x < 270 → s' x = T 3 x) → (∀ x, x < i → s' x = s x) → Go K fX6_putsBack 1 k n 27 [some (.ref m), some (.int (ii 270))] [] M' Q) → Go K fX6_putsBack 1 k n 2 [some (.ref m), some (.int (ii i))] [] M Q := by
  skip
  intro j
  induction j with
  | zero =>
    intro i s M hT e h0 h
    obtain rfl : i = 270 := by omega
    refine g_iload1 3 dX6_putsBack_2 rfl ?_
    refine g_sipush 6 (by rfl) dX6_putsBack_3 rfl ?_
    refine g_icmp_ge 27 9 dX6_putsBack_6 rfl rfl (by first | exact hT.r _ | exact hT.rT _ _ | omega) (by first | exact hT.r _ | exact hT.rT _ _ | omega) (fun c6 => ?_) (fun c6 => ?_)
    · exact h s M hT (fun x _ _ => by omega) (fun x _ => rfl)
    · omega
  | succ j ih =>
    intro i s M hT e h0 h
    refine g_iload1 3 dX6_putsBack_2 rfl ?_
    refine g_sipush 6 (by rfl) dX6_putsBack_3 rfl ?_
    refine g_icmp_ge 27 9 dX6_putsBack_6 rfl rfl (by first | exact hT.r _ | exact hT.rT _ _ | omega) (by first | exact hT.r _ | exact hT.rT _ _ | omega) (fun c6 => ?_) (fun c6 => ?_)
    · omega
    · refine g_aload0 10 (by first | exact rv_r | exact rv_n | assumption | exact rv_f) dX6_putsBack_9 rfl ?_
      refine g_getf 13 dX6_putsBack_10 rfl fl_X6_7 hT.t (hT.f0) ?_
      refine g_iload1 14 dX6_putsBack_13 rfl ?_
      refine g_aload0 15 (by first | exact rv_r | exact rv_n | assumption | exact rv_f) dX6_putsBack_14 rfl ?_
      refine g_getf 18 dX6_putsBack_15 rfl fl_X6_19 hT.t (hT.f5) ?_
      refine g_iload1 19 dX6_putsBack_18 rfl ?_
      refine g_iald 20 dX6_putsBack_19 rfl hT.a3 (by omega) (by omega) (by omega) (hT.e3 (by omega) (by omega)) ?_
      refine w_ias0 21 dX6_putsBack_20 rfl hT (by omega) (by omega) (fun M hT => ?_)
      refine g_iinc1 24 (Nat.le_of_ble_eq_true rfl) (by first | exact c1_0 | exact c1_i | exact c1_r | exact c1_n | exact c1_v (by assumption) | exact c1_f) dX6_putsBack_21 rfl ?_
      refine g_goto 2 dX6_putsBack_24 rfl ?_
      refine ih _ _ _ hT (by omega) (by omega) fun s' M' hT' h1 h2 => h s' M' hT' (fun x x0 x1 => ?_) (fun x hx => ?_)
      · by_cases hx : x = i
        · subst hx
          rw [h2 _ (by omega), up_at, wr_id (hT.rT _ _)]
        · exact h1 x (by omega) x1
      · rw [h2 x (by omega), up_ne (by omega)]
theorem l_X6_restoreSnapshot : ∀ (j : Nat) (i : Int) (s : Int → Int) (M : Mem), Tw (kB K) M0 m s T M → i + j = 270 → 0 ≤ i → (∀ s' M', Tw (kB K) M0 m s' T M' → (∀ x, i ≤ x → x < 270 → s' x = T 2 x) → (∀ x, x < i → s' x = s x) → Go K fX6_restoreSnapshot 3 k n 49 [some (.ref m), some (.int (ii 270))] [] M' Q) → Go K fX6_restoreSnapshot 3 k n 24 [some (.ref m), some (.int (ii i))] [] M Q := by
  skip
  intro j
  induction j with
  | zero =>
    intro i s M hT e h0 h
    obtain rfl : i = 270 := by omega
    refine g_iload1 25 dX6_restoreSnapshot_24 rfl ?_
    refine g_sipush 28 (by rfl) dX6_restoreSnapshot_25 rfl ?_
    refine g_icmp_ge 49 31 dX6_restoreSnapshot_28 rfl rfl (by first | exact hT.r _ | exact hT.rT _ _ | omega) (by first | exact hT.r _ | exact hT.rT _ _ | omega) (fun c28 => ?_) (fun c28 => ?_)
    · exact h s M hT (fun x _ _ => by omega) (fun x _ => rfl)
    · omega
  | succ j ih =>
    intro i s M hT e h0 h
    refine g_iload1 25 dX6_restoreSnapshot_24 rfl ?_
    refine g_sipush 28 (by rfl) dX6_restoreSnapshot_25 rfl ?_
    refine g_icmp_ge 49 31 dX6_restoreSnapshot_28 rfl rfl (by first | exact hT.r _ | exact hT.rT _ _ | omega) (by first | exact hT.r _ | exact hT.rT _ _ | omega) (fun c28 => ?_) (fun c28 => ?_)
    · omega
    · refine g_aload0 32 (by first | exact rv_r | exact rv_n | assumption | exact rv_f) dX6_restoreSnapshot_31 rfl ?_
      refine g_getf 35 dX6_restoreSnapshot_32 rfl fl_X6_7 hT.t (hT.f0) ?_
      refine g_iload1 36 dX6_restoreSnapshot_35 rfl ?_
      refine g_aload0 37 (by first | exact rv_r | exact rv_n | assumption | exact rv_f) dX6_restoreSnapshot_36 rfl ?_
      refine g_getf 40 dX6_restoreSnapshot_37 rfl fl_X6_16 hT.t (hT.f3) ?_
      refine g_iload1 41 dX6_restoreSnapshot_40 rfl ?_
      refine g_iald 42 dX6_restoreSnapshot_41 rfl hT.a2 (by omega) (by omega) (by omega) (hT.e2 (by omega) (by omega)) ?_
      refine w_ias0 43 dX6_restoreSnapshot_42 rfl hT (by omega) (by omega) (fun M hT => ?_)
      refine g_iinc1 46 (Nat.le_of_ble_eq_true rfl) (by first | exact c1_0 | exact c1_i | exact c1_r | exact c1_n | exact c1_v (by assumption) | exact c1_f) dX6_restoreSnapshot_43 rfl ?_
      refine g_goto 24 dX6_restoreSnapshot_46 rfl ?_
      refine ih _ _ _ hT (by omega) (by omega) fun s' M' hT' h1 h2 => h s' M' hT' (fun x x0 x1 => ?_) (fun x hx => ?_)
      · by_cases hx : x = i
        · subst hx
          rw [h2 _ (by omega), up_at, wr_id (hT.rT _ _)]
        · exact h1 x (by omega) x1
      · rw [h2 x (by omega), up_ne (by omega)]
theorem l_X6_undo {kk : Int} (hk : T 5 2 = kk) (hk0 : 0 ≤ kk ∧ kk < 5) : ∀ (j : Nat) (i : Int) (s : Int → Int) (M : Mem), Tw (kB K) M0 m s T M → i + j = 270 → 0 ≤ i → (∀ s' M', Tw (kB K) M0 m s' T M' → (∀ x, i ≤ x → x < 270 → s' x = T 1 (270 * T 5 2 + x)) → (∀ x, x < i → s' x = s x) → Go K fX6_undo 2 k n 64 [some (.ref m), some (.int (ii 270))] [] M' Q) → Go K fX6_undo 2 k n 30 [some (.ref m), some (.int (ii i))] [] M Q := by
  subst hk
  intro j
  induction j with
  | zero =>
    intro i s M hT e h0 h
    obtain rfl : i = 270 := by omega
    refine g_iload1 31 dX6_undo_30 rfl ?_
    refine g_sipush 34 (by rfl) dX6_undo_31 rfl ?_
    refine g_icmp_ge 64 37 dX6_undo_34 rfl rfl (by first | exact hT.r _ | exact hT.rT _ _ | omega) (by first | exact hT.r _ | exact hT.rT _ _ | omega) (fun c34 => ?_) (fun c34 => ?_)
    · exact h s M hT (fun x _ _ => by omega) (fun x _ => rfl)
    · omega
  | succ j ih =>
    intro i s M hT e h0 h
    refine g_iload1 31 dX6_undo_30 rfl ?_
    refine g_sipush 34 (by rfl) dX6_undo_31 rfl ?_
    refine g_icmp_ge 64 37 dX6_undo_34 rfl rfl (by first | exact hT.r _ | exact hT.rT _ _ | omega) (by first | exact hT.r _ | exact hT.rT _ _ | omega) (fun c34 => ?_) (fun c34 => ?_)
    · omega
    · refine g_aload0 38 (by first | exact rv_r | exact rv_n | assumption | exact rv_f) dX6_undo_37 rfl ?_
      refine g_getf 41 dX6_undo_38 rfl fl_X6_7 hT.t (hT.f0) ?_
      refine g_iload1 42 dX6_undo_41 rfl ?_
      refine g_aload0 43 (by first | exact rv_r | exact rv_n | assumption | exact rv_f) dX6_undo_42 rfl ?_
      refine g_getf 46 dX6_undo_43 rfl fl_X6_13 hT.t (hT.f1) ?_
      refine g_sipush 49 (by rfl) dX6_undo_46 rfl ?_
      refine g_aload0 50 (by first | exact rv_r | exact rv_n | assumption | exact rv_f) dX6_undo_49 rfl ?_
      refine g_getf 53 dX6_undo_50 rfl fl_X6_33 hT.t (hT.f2) ?_
      refine g_imul 54 dX6_undo_53 rfl ?_
      refine g_iload1 55 dX6_undo_54 rfl ?_
      refine g_iadd 56 dX6_undo_55 rfl ?_
      refine g_iald 57 dX6_undo_56 rfl hT.a1 (by omega) (by omega) (by omega) (hT.e1 (by omega) (by omega)) ?_
      refine w_ias0 58 dX6_undo_57 rfl hT (by omega) (by omega) (fun M hT => ?_)
      refine g_iinc1 61 (Nat.le_of_ble_eq_true rfl) (by first | exact c1_0 | exact c1_i | exact c1_r | exact c1_n | exact c1_v (by assumption) | exact c1_f) dX6_undo_58 rfl ?_
      refine g_goto 30 dX6_undo_61 rfl ?_
      refine ih _ _ _ hT (by omega) (by omega) fun s' M' hT' h1 h2 => h s' M' hT' (fun x x0 x1 => ?_) (fun x hx => ?_)
      · by_cases hx : x = i
        · subst hx
          rw [h2 _ (by omega), up_at, wr_id (hT.rT _ _)]
        · exact h1 x (by omega) x1
      · rw [h2 x (by omega), up_ne (by omega)]
theorem l_X6_keepsAside : ∀ (j : Nat) (i : Int) (T : Nat → Int → Int) (M : Mem), Tw (kB K) M0 m s T M → i + j = 270 → 0 ≤ i → (∀ T' M', Tw (kB K) M0 m s T' M' → (∀ x, i ≤ x → x < 270 → T' 3 x = s x) → (∀ p x, (p ≠ 3 ∨ x < i) → T' p x = T p x) → Go K fX6_keepsAside 1 k n 27 [some (.ref m), some (.int (ii 270))] [] M' Q) → Go K fX6_keepsAside 1 k n 2 [some (.ref m), some (.int (ii i))] [] M Q := by
  intro j
  induction j with
  | zero =>
    intro i T M hT e h0 h
    obtain rfl : i = 270 := by omega
    refine g_iload1 3 dX6_keepsAside_2 rfl ?_
    refine g_sipush 6 (by rfl) dX6_keepsAside_3 rfl ?_
    refine g_icmp_ge 27 9 dX6_keepsAside_6 rfl rfl (by first | exact hT.r _ | exact hT.rT _ _ | omega) (by first | exact hT.r _ | exact hT.rT _ _ | omega) (fun c6 => ?_) (fun c6 => ?_)
    · exact h T M hT (fun x _ _ => by omega) (fun p x _ => rfl)
    · omega
  | succ j ih =>
    intro i T M hT e h0 h
    refine g_iload1 3 dX6_keepsAside_2 rfl ?_
    refine g_sipush 6 (by rfl) dX6_keepsAside_3 rfl ?_
    refine g_icmp_ge 27 9 dX6_keepsAside_6 rfl rfl (by first | exact hT.r _ | exact hT.rT _ _ | omega) (by first | exact hT.r _ | exact hT.rT _ _ | omega) (fun c6 => ?_) (fun c6 => ?_)
    · omega
    · refine g_aload0 10 (by first | exact rv_r | exact rv_n | assumption | exact rv_f) dX6_keepsAside_9 rfl ?_
      refine g_getf 13 dX6_keepsAside_10 rfl fl_X6_19 hT.t (hT.f5) ?_
      refine g_iload1 14 dX6_keepsAside_13 rfl ?_
      refine g_aload0 15 (by first | exact rv_r | exact rv_n | assumption | exact rv_f) dX6_keepsAside_14 rfl ?_
      refine g_getf 18 dX6_keepsAside_15 rfl fl_X6_7 hT.t (hT.f0) ?_
      refine g_iload1 19 dX6_keepsAside_18 rfl ?_
      refine g_iald 20 dX6_keepsAside_19 rfl hT.a0 (by omega) (by omega) (by omega) (hT.e0 (by omega) (by omega)) ?_
      refine w_ias3 21 dX6_keepsAside_20 rfl hT (by omega) (by omega) (fun M hT => ?_)
      refine g_iinc1 24 (Nat.le_of_ble_eq_true rfl) (by first | exact c1_0 | exact c1_i | exact c1_r | exact c1_n | exact c1_v (by assumption) | exact c1_f) dX6_keepsAside_21 rfl ?_
      refine g_goto 2 dX6_keepsAside_24 rfl ?_
      refine ih _ _ _ hT (by omega) (by omega) fun T' M' hT' h1 h2 => h T' M' hT' (fun x x0 x1 => ?_) (fun p x hx => ?_)
      · by_cases hx : x = i
        · subst hx
          rw [h2 _ _ (by omega), uT_at, wr_id (hT.r _)]
        · exact h1 x (by omega) x1
      · rw [h2 p x (by omega), uT_ne (by omega)]
theorem l_X6_takeSnapshot : ∀ (j : Nat) (i : Int) (T : Nat → Int → Int) (M : Mem), Tw (kB K) M0 m s T M → i + j = 270 → 0 ≤ i → (∀ T' M', Tw (kB K) M0 m s T' M' → (∀ x, i ≤ x → x < 270 → T' 2 x = s x) → (∀ p x, (p ≠ 2 ∨ x < i) → T' p x = T p x) → Go K fX6_takeSnapshot 1 k n 32 [some (.ref m), some (.int (ii 270))] [] M' Q) → Go K fX6_takeSnapshot 1 k n 7 [some (.ref m), some (.int (ii i))] [] M Q := by
  intro j
  induction j with
  | zero =>
    intro i T M hT e h0 h
    obtain rfl : i = 270 := by omega
    refine g_iload1 8 dX6_takeSnapshot_7 rfl ?_
    refine g_sipush 11 (by rfl) dX6_takeSnapshot_8 rfl ?_
    refine g_icmp_ge 32 14 dX6_takeSnapshot_11 rfl rfl (by first | exact hT.r _ | exact hT.rT _ _ | omega) (by first | exact hT.r _ | exact hT.rT _ _ | omega) (fun c11 => ?_) (fun c11 => ?_)
    · exact h T M hT (fun x _ _ => by omega) (fun p x _ => rfl)
    · omega
  | succ j ih =>
    intro i T M hT e h0 h
    refine g_iload1 8 dX6_takeSnapshot_7 rfl ?_
    refine g_sipush 11 (by rfl) dX6_takeSnapshot_8 rfl ?_
    refine g_icmp_ge 32 14 dX6_takeSnapshot_11 rfl rfl (by first | exact hT.r _ | exact hT.rT _ _ | omega) (by first | exact hT.r _ | exact hT.rT _ _ | omega) (fun c11 => ?_) (fun c11 => ?_)
    · omega
    · refine g_aload0 15 (by first | exact rv_r | exact rv_n | assumption | exact rv_f) dX6_takeSnapshot_14 rfl ?_
      refine g_getf 18 dX6_takeSnapshot_15 rfl fl_X6_16 hT.t (hT.f3) ?_
      refine g_iload1 19 dX6_takeSnapshot_18 rfl ?_
      refine g_aload0 20 (by first | exact rv_r | exact rv_n | assumption | exact rv_f) dX6_takeSnapshot_19 rfl ?_
      refine g_getf 23 dX6_takeSnapshot_20 rfl fl_X6_7 hT.t (hT.f0) ?_
      refine g_iload1 24 dX6_takeSnapshot_23 rfl ?_
      refine g_iald 25 dX6_takeSnapshot_24 rfl hT.a0 (by omega) (by omega) (by omega) (hT.e0 (by omega) (by omega)) ?_
      refine w_ias2 26 dX6_takeSnapshot_25 rfl hT (by omega) (by omega) (fun M hT => ?_)
      refine g_iinc1 29 (Nat.le_of_ble_eq_true rfl) (by first | exact c1_0 | exact c1_i | exact c1_r | exact c1_n | exact c1_v (by assumption) | exact c1_f) dX6_takeSnapshot_26 rfl ?_
      refine g_goto 7 dX6_takeSnapshot_29 rfl ?_
      refine ih _ _ _ hT (by omega) (by omega) fun T' M' hT' h1 h2 => h T' M' hT' (fun x x0 x1 => ?_) (fun p x hx => ?_)
      · by_cases hx : x = i
        · subst hx
          rw [h2 _ _ (by omega), uT_at, wr_id (hT.r _)]
        · exact h1 x (by omega) x1
      · rw [h2 p x (by omega), uT_ne (by omega)]
theorem c_X6_keepsAside (hT : Tw (kB K) M0 m s T M) (hQ : ∀ T' M', Tw (kB K) M0 m s T' M' → (∀ x, 0 ≤ x → x < 270 → T' 3 x = s x) → (∀ p x, p ≠ 3 → T' p x = T p x) → Q (.inl none) M') : Go K fX6_keepsAside 1 k n 0 [some (.ref m), none] [] M Q := by
  refine g_iconst 1 dX6_keepsAside_0 rfl ?_
  refine g_istore1 2 (Nat.le_of_ble_eq_true rfl) (by first | exact c1_0 | exact c1_i | exact c1_r | exact c1_n | exact c1_v (by assumption) | exact c1_f) dX6_keepsAside_1 rfl ?_
  refine l_X6_keepsAside 270 0 T _ hT (by omega) (by omega) fun T' M' hT h1 h2 => ?_
  refine g_vret dX6_keepsAside_27 rfl ?_
  exact hQ _ _ hT h1 (fun p x hp => h2 p x (Or.inl hp))
theorem c_X6_putsBack (hT : Tw (kB K) M0 m s T M) (hQ : ∀ s' M', Tw (kB K) M0 m s' T M' → (∀ x, 0 ≤ x → x < 270 → s' x = T 3 x) → Q (.inl none) M') : Go K fX6_putsBack 1 k n 0 [some (.ref m), none] [] M Q := by
  refine g_iconst 1 dX6_putsBack_0 rfl ?_
  refine g_istore1 2 (Nat.le_of_ble_eq_true rfl) (by first | exact c1_0 | exact c1_i | exact c1_r | exact c1_n | exact c1_v (by assumption) | exact c1_f) dX6_putsBack_1 rfl ?_
  refine l_X6_putsBack 270 0 s _ hT (by omega) (by omega) fun s' M' hT h1 h2 => ?_
  refine g_vret dX6_putsBack_27 rfl ?_
  exact hQ _ _ hT h1
theorem l_save1 : ∀ (j : Nat) (i : Int) (T : Nat → Int → Int) (M : Mem), Tw (kB K) M0 m s T M → i + j = 1080 → 0 ≤ i → (∀ T' M', Tw (kB K) M0 m s T' M' → (∀ x, i ≤ x → x < 1080 → T' 1 x = T 1 (270 + x)) → (∀ p x, (p ≠ 1 ∨ x < i ∨ 1080 ≤ x) → T' p x = T p x) → Go K fX6_save 1 k n 39 [some (.ref m), some (.int (ii 1080))] [] M' Q) → Go K fX6_save 1 k n 10 [some (.ref m), some (.int (ii i))] [] M Q := by
  intro j
  induction j with
  | zero =>
    intro i T M hT e h0 h
    obtain rfl : i = 1080 := by omega
    refine g_iload1 11 dX6_save_10 rfl ?_
    refine g_sipush 14 (by rfl) dX6_save_11 rfl ?_
    refine g_icmp_ge 39 17 dX6_save_14 rfl rfl (by first | exact hT.r _ | exact hT.rT _ _ | omega) (by first | exact hT.r _ | exact hT.rT _ _ | omega) (fun c14 => ?_) (fun c14 => ?_)
    · exact h T M hT (fun x _ _ => by omega) (fun p x _ => rfl)
    · omega
  | succ j ih =>
    intro i T M hT e h0 h
    have hR := hT.rT
    refine g_iload1 11 dX6_save_10 rfl ?_
    refine g_sipush 14 (by rfl) dX6_save_11 rfl ?_
    refine g_icmp_ge 39 17 dX6_save_14 rfl rfl (by first | exact hT.r _ | exact hT.rT _ _ | omega) (by first | exact hT.r _ | exact hT.rT _ _ | omega) (fun c14 => ?_) (fun c14 => ?_)
    · omega
    · refine g_aload0 18 (by first | exact rv_r | exact rv_n | assumption | exact rv_f) dX6_save_17 rfl ?_
      refine g_getf 21 dX6_save_18 rfl fl_X6_13 hT.t (hT.f1) ?_
      refine g_iload1 22 dX6_save_21 rfl ?_
      refine g_aload0 23 (by first | exact rv_r | exact rv_n | assumption | exact rv_f) dX6_save_22 rfl ?_
      refine g_getf 26 dX6_save_23 rfl fl_X6_13 hT.t (hT.f1) ?_
      refine g_sipush 29 (by rfl) dX6_save_26 rfl ?_
      refine g_iload1 30 dX6_save_29 rfl ?_
      refine g_iadd 31 dX6_save_30 rfl ?_
      refine g_iald 32 dX6_save_31 rfl hT.a1 (by omega) (by omega) (by omega) (hT.e1 (by omega) (by omega)) ?_
      refine w_ias1 33 dX6_save_32 rfl hT (by omega) (by omega) (fun M hT => ?_)
      refine g_iinc1 36 (Nat.le_of_ble_eq_true rfl) (by first | exact c1_0 | exact c1_i | exact c1_r | exact c1_n | exact c1_v (by assumption) | exact c1_f) dX6_save_33 rfl ?_
      refine g_goto 10 dX6_save_36 rfl ?_
      refine ih _ _ _ hT (by omega) (by omega) fun T' M' hT' h1 h2 => h T' M' hT' (fun x x0 x1 => ?_) (fun p x hx => ?_)
      · by_cases hx : x = i
        · subst hx
          rw [h2 _ _ (by omega), uT_at, wr_id (hR _ _)]
        · rw [h1 x (by omega) x1, uT_ne (by omega)]
      · rw [h2 p x (by omega), uT_ne (by omega)]
theorem l_save2 {kk : Int} (hk0 : 0 ≤ kk ∧ kk < 5) : ∀ (j : Nat) (i : Int) (T : Nat → Int → Int) (M : Mem), T 5 2 = kk → Tw (kB K) M0 m s T M → i + j = 270 → 0 ≤ i → (∀ T' M', Tw (kB K) M0 m s T' M' → (∀ x, i ≤ x → x < 270 → T' 1 (270 * kk + x) = s x) → (∀ p x, (p ≠ 1 ∨ x < 270 * kk + i) → T' p x = T p x) → Go K fX6_save 1 k n 85 [some (.ref m), some (.int (ii 270))] [] M' Q) → Go K fX6_save 1 k n 51 [some (.ref m), some (.int (ii i))] [] M Q := by
  intro j
  induction j with
  | zero =>
    intro i T M hk hT e h0 h
    obtain rfl : i = 270 := by omega
    refine g_iload1 52 dX6_save_51 rfl ?_
    refine g_sipush 55 (by rfl) dX6_save_52 rfl ?_
    refine g_icmp_ge 85 58 dX6_save_55 rfl rfl (by first | exact hT.r _ | exact hT.rT _ _ | omega) (by first | exact hT.r _ | exact hT.rT _ _ | omega) (fun c55 => ?_) (fun c55 => ?_)
    · exact h T M hT (fun x _ _ => by omega) (fun p x _ => rfl)
    · omega
  | succ j ih =>
    intro i T M hk hT e h0 h
    subst hk
    refine g_iload1 52 dX6_save_51 rfl ?_
    refine g_sipush 55 (by rfl) dX6_save_52 rfl ?_
    refine g_icmp_ge 85 58 dX6_save_55 rfl rfl (by first | exact hT.r _ | exact hT.rT _ _ | omega) (by first | exact hT.r _ | exact hT.rT _ _ | omega) (fun c55 => ?_) (fun c55 => ?_)
    · omega
    · refine g_aload0 59 (by first | exact rv_r | exact rv_n | assumption | exact rv_f) dX6_save_58 rfl ?_
      refine g_getf 62 dX6_save_59 rfl fl_X6_13 hT.t (hT.f1) ?_
      refine g_sipush 65 (by rfl) dX6_save_62 rfl ?_
      refine g_aload0 66 (by first | exact rv_r | exact rv_n | assumption | exact rv_f) dX6_save_65 rfl ?_
      refine g_getf 69 dX6_save_66 rfl fl_X6_33 hT.t (hT.f2) ?_
      refine g_imul 70 dX6_save_69 rfl ?_
      refine g_iload1 71 dX6_save_70 rfl ?_
      refine g_iadd 72 dX6_save_71 rfl ?_
      refine g_aload0 73 (by first | exact rv_r | exact rv_n | assumption | exact rv_f) dX6_save_72 rfl ?_
      refine g_getf 76 dX6_save_73 rfl fl_X6_7 hT.t (hT.f0) ?_
      refine g_iload1 77 dX6_save_76 rfl ?_
      refine g_iald 78 dX6_save_77 rfl hT.a0 (by omega) (by omega) (by omega) (hT.e0 (by omega) (by omega)) ?_
      refine w_ias1 79 dX6_save_78 rfl hT (by omega) (by omega) (fun M hT => ?_)
      refine g_iinc1 82 (Nat.le_of_ble_eq_true rfl) (by first | exact c1_0 | exact c1_i | exact c1_r | exact c1_n | exact c1_v (by assumption) | exact c1_f) dX6_save_79 rfl ?_
      refine g_goto 51 dX6_save_82 rfl ?_
      refine ih _ _ _ (uT_ne (by omega)) hT (by omega) (by omega) fun T' M' hT' h1 h2 => h T' M' hT' (fun x x0 x1 => ?_) (fun p x hx => ?_)
      · by_cases hx : x = i
        · subst hx
          rw [h2 _ _ (by omega), uT_at, wr_id (hT.r _)]
        · exact h1 x (by omega) x1
      · rw [h2 p x (by omega), uT_ne (by omega)]
theorem l_save3 (hT : Tw (kB K) M0 m s T M) {x : Option Value} (h5 : 0 ≤ T 5 2 ∧ T 5 2 < 5) (hQ : ∀ T' M', Tw (kB K) M0 m s T' M' → (∀ p i, p ≠ 1 → ¬ (p = 5 ∧ i = 2) → T' p i = T p i) → T' 5 2 = T 5 2 + 1 → (∀ i, i < 270 * T 5 2 → T' 1 i = T 1 i) → (∀ i, 0 ≤ i → i < 270 → T' 1 (270 * T 5 2 + i) = s i) → Q (.inl none) M') : Go K fX6_save 1 k n 49 [some (.ref m), x] [] M Q := by
  refine g_iconst 50 dX6_save_49 rfl ?_
  refine g_istore1 51 (Nat.le_of_ble_eq_true rfl) (by first | exact c1_0 | exact c1_i | exact c1_r | exact c1_n | exact c1_v (by assumption) | exact c1_f) dX6_save_50 rfl ?_
  refine l_save2 h5 270 0 T _ rfl hT (by omega) (by omega) fun T' M' hT h1 h2 => ?_
  have e2 : T' 5 2 = T 5 2 := h2 5 2 (by omega)
  refine g_aload0 86 (by first | exact rv_r | exact rv_n | assumption | exact rv_f) dX6_save_85 rfl ?_
  refine g_dup 87 (by first | rfl | exact rv_cat (by assumption) | exact rv_cat rv_f) dX6_save_86 rfl ?_
  refine g_getf 90 dX6_save_87 rfl fl_X6_33 hT.t (hT.f2) ?_
  refine g_iconst 91 dX6_save_90 rfl ?_
  refine g_iadd 92 dX6_save_91 rfl ?_
  refine w_put2 95 dX6_save_92 rfl fl_X6_33 hT (fun M hT => ?_)
  refine g_vret dX6_save_95 rfl ?_
  refine hQ _ _ hT (fun p i hp hq => ?_) ?_ (fun i hi => ?_) (fun i h0 hi => ?_)
  · rw [uT_ne hq, h2 p i (Or.inl hp)]
  · rw [uT_at, e2, wr_id (by omega)]
  · rw [uT_ne (by omega), h2 1 i (by omega)]
  · rw [uT_ne (by omega), h1 i h0 hi]
theorem c_X6_save (hT : Tw (kB K) M0 m s T M) (h5 : 0 ≤ T 5 2 ∧ T 5 2 ≤ 5) (hQ : ∀ T' M', Tw (kB K) M0 m s T' M' → Sv s T T' → Q (.inl none) M') : Go K fX6_save 1 k n 0 [some (.ref m), none] [] M Q := by
  by_cases q : T 5 2 = 5
  · refine g_aload0 1 (by first | exact rv_r | exact rv_n | assumption | exact rv_f) dX6_save_0 rfl ?_
    refine g_getf 4 dX6_save_1 rfl fl_X6_33 hT.t (hT.f2) ?_
    refine g_iconst 5 dX6_save_4 rfl ?_
    refine g_icmp_ne 49 8 dX6_save_5 rfl rfl (by first | exact hT.r _ | exact hT.rT _ _ | omega) (by first | exact hT.r _ | exact hT.rT _ _ | omega) (fun c5 => ?_) (fun c5 => ?_)
    · omega
    · refine g_iconst 9 dX6_save_8 rfl ?_
      refine g_istore1 10 (Nat.le_of_ble_eq_true rfl) (by first | exact c1_0 | exact c1_i | exact c1_r | exact c1_n | exact c1_v (by assumption) | exact c1_f) dX6_save_9 rfl ?_
      refine l_save1 1080 0 T _ hT (by omega) (by omega) fun T1 M1 hT h1 h2 => ?_
      have e2 : T1 5 2 = 5 := by rw [h2 5 2 (by omega), q]
      refine g_aload0 40 (by first | exact rv_r | exact rv_n | assumption | exact rv_f) dX6_save_39 rfl ?_
      refine g_dup 41 (by first | rfl | exact rv_cat (by assumption) | exact rv_cat rv_f) dX6_save_40 rfl ?_
      refine g_getf 44 dX6_save_41 rfl fl_X6_33 hT.t (hT.f2) ?_
      refine g_iconst 45 dX6_save_44 rfl ?_
      refine g_isub 46 dX6_save_45 rfl ?_
      refine w_put2 49 dX6_save_46 rfl fl_X6_33 hT (fun M hT => ?_)
      have e4 : uT T1 5 2 (T1 5 2 - 1) 5 2 = 4 := by rw [uT_at, e2]; decide
      refine l_save3 hT (by omega) fun T' M' hT a1 a2 a3 a4 => hQ _ _ hT ⟨fun p i hp hq => ?_, ?_, fun i i0 i1 => ?_, fun i i0 i1 => ?_⟩
      · rw [a1 p i hp hq, uT_ne hq, h2 p i (Or.inl hp)]
      · rw [a2, e4, if_pos q]; decide
      · rw [a2, e4] at i1; rw [a3 i (by omega), uT_ne (by omega), if_pos q, h1 i i0 (by omega)]
      · rw [a2, show uT T1 5 2 (T1 5 2 - 1) 5 2 + 1 - 1 = uT T1 5 2 (T1 5 2 - 1) 5 2 by omega]; exact a4 i i0 i1
  · refine g_aload0 1 (by first | exact rv_r | exact rv_n | assumption | exact rv_f) dX6_save_0 rfl ?_
    refine g_getf 4 dX6_save_1 rfl fl_X6_33 hT.t (hT.f2) ?_
    refine g_iconst 5 dX6_save_4 rfl ?_
    refine g_icmp_ne 49 8 dX6_save_5 rfl rfl (by first | exact hT.r _ | exact hT.rT _ _ | omega) (by first | exact hT.r _ | exact hT.rT _ _ | omega) (fun c5 => ?_) (fun c5 => ?_)
    · refine l_save3 hT (by omega) fun T' M' hT a1 a2 a3 a4 => hQ _ _ hT ⟨fun p i hp hq => ?_, ?_, fun i i0 i1 => ?_, fun i i0 i1 => ?_⟩
      · exact a1 p i hp hq
      · rw [a2, if_neg q]
      · rw [a2] at i1; rw [a3 i (by omega), if_neg q]
      · rw [a2, show T 5 2 + 1 - 1 = T 5 2 by omega]; exact a4 i i0 i1
    · omega
theorem Ta.save {a : AS} {T T' : Nat → Int → Int} (h : Ta a T) (hS : Sv a.1 T T') : Ta (saveA a) T' := by
  obtain ⟨⟨a1, a2, a3⟩, ⟨b1, b2⟩, c1, c2, c3⟩ := h
  obtain ⟨s1, s2, s3, s4⟩ := hS
  refine ⟨?_, ⟨?_, fun f hf i i0 i1 => ?_⟩, ?_, c2, fun j c hj => ?_⟩
  · unfold saveA saveH
    dsimp only
    by_cases q : a.2.1.length = 5
    · have q5 : T 5 2 = 5 := by omega
      rw [if_pos q]
      rw [if_pos q5] at s2
      rw [s2] at s3 s4
      refine ⟨?_, ?_, fun j f hj i i0 i1 => ?_⟩
      · rw [s2]; simp [q]
      · simp [q]
      · by_cases hj4 : j = 4
        · subst hj4
          rw [List.getElem?_append_right (by simp [q])] at hj
          simp [q] at hj
          rw [← hj]
          exact s4 i i0 i1
        · have hjl : j < 4 := by
            have := (List.getElem?_eq_some_iff.mp hj).1
            simp [q] at this
            omega
          rw [List.getElem?_append_left (by simp [q]; omega), List.getElem?_tail] at hj
          rw [s3 _ (by omega) (by omega), if_pos q5, ← a3 (j + 1) f hj i i0 i1]
          congr 1
          omega
    · have q5 : ¬ T 5 2 = 5 := by omega
      rw [if_neg q]
      rw [if_neg q5] at s2
      rw [s2] at s3 s4
      refine ⟨?_, ?_, fun j f hj i i0 i1 => ?_⟩
      · rw [s2, a1]; simp
      · simp; omega
      · by_cases hj4 : j = a.2.1.length
        · subst hj4
          rw [List.getElem?_append_right (Nat.le_refl _)] at hj
          simp at hj
          rw [← hj, ← s4 i i0 i1, a1]
          congr 1
          omega
        · have hjl : j < a.2.1.length := by
            have := (List.getElem?_eq_some_iff.mp hj).1
            simp at this
            omega
          rw [List.getElem?_append_left hjl] at hj
          rw [s3 _ (by omega) (by omega), if_neg q5]
          exact a3 j f hj i i0 i1
  · rw [s1 5 4 (by omega) (by omega)]; exact b1
  · rw [s1 2 i (by omega) (by omega)]; exact b2 f hf i i0 i1
  · rw [s1 5 7 (by omega) (by omega)]; exact c1
  · rw [s1 4 j (by omega) (by omega)]; exact c3 j c hj
end TWE
