/-! ===== the twin made ===== -/
def z32 : Value := .int (ii 0)
def twM (M : Mem) (m : Nat) : Mem := setF (newA (setF (newA (setF (newA (setF (newA (setF (newA M 0 270 z32) 5 0 m (.ref (mN M))) 0 1350 z32) 5 1 m (.ref (mN M + 1))) 0 270 z32) 5 3 m (.ref (mN M + 2))) 0 270 z32) 5 5 m (.ref (mN M + 3))) 0 60 z32) 5 6 m (.ref (mN M + 4))
theorem twM_ok {B : Nat} {M : Mem} {m : Nat} (hB : B ≤ m) (hm : mN M = m + 1) (ht : mT M m = some (.inl 5)) (hz : ∀ j, (j = 2 ∨ j = 4 ∨ j = 7 ∨ j = 8 ∨ j = 9 ∨ j = 10) → mF M 5 j m = z32) : Tw B (twM M m) m (fun _ => 0) (fun _ _ => 0) (twM M m) ∧ mN (twM M m) = m + 6 ∧ ∀ a, a < m → mT (twM M m) a = mT M a ∧ (∀ c k, mF (twM M m) c k a = mF M c k a) ∧ ∀ i, mE (twM M m) a i = mE M a i := by
  have eN : mN (twM M m) = m + 6 := by show mN M + 1 + 1 + 1 + 1 + 1 = _; omega
  have eT : ∀ a, mT (twM M m) a = if a = mN M + 4 then some (.inr (0, 60)) else if a = mN M + 3 then some (.inr (0, 270)) else if a = mN M + 2 then some (.inr (0, 270)) else if a = mN M + 1 then some (.inr (0, 1350)) else if a = mN M then some (.inr (0, 270)) else mT M a := fun a => rfl
  have eE : ∀ a i, mE (twM M m) a i = if a = mN M + 4 then z32 else if a = mN M + 3 then z32 else if a = mN M + 2 then z32 else if a = mN M + 1 then z32 else if a = mN M then z32 else mE M a i := fun a i => rfl
  have eF : ∀ c k a, mF (twM M m) c k a = if c = 5 ∧ k = 6 ∧ a = m then .ref (mN M + 4) else if c = 5 ∧ k = 5 ∧ a = m then .ref (mN M + 3) else if c = 5 ∧ k = 3 ∧ a = m then .ref (mN M + 2) else if c = 5 ∧ k = 1 ∧ a = m then .ref (mN M + 1) else if c = 5 ∧ k = 0 ∧ a = m then .ref (mN M) else mF M c k a := fun c k a => rfl
  generalize twM M m = X at *
  refine ⟨⟨⟨hB, rfl, fun _ => rfl, fun _ _ => ⟨fun _ _ => rfl, fun _ => rfl⟩⟩, ⟨?_, ?_, ?_, fun q q1 q2 => ⟨?_, ?_⟩⟩, fun i h0 h1 => ?_, fun q q1 q2 i h0 h1 => ?_, fun j hj => ?_, fun _ => (by decide : R32 0), fun _ _ => (by decide : R32 0)⟩, eN, fun a ha => ⟨?_, fun c k => ?_, fun i => ?_⟩⟩
  · rw [eT]; (repeat (first | rw [if_neg (by omega)] | rw [if_pos (by omega)])); exact ht
  · rw [eF]; (repeat (first | rw [if_neg (by omega)] | rw [if_pos (by omega)])); rw [hm]
  · rw [eT]; (repeat (first | rw [if_neg (by omega)] | rw [if_pos (by omega)]))
  · rw [eF]
    rcases (show q = 1 ∨ q = 2 ∨ q = 3 ∨ q = 4 by omega) with rfl | rfl | rfl | rfl <;> (simp [fiT, hm])
  · rw [eT]
    rcases (show q = 1 ∨ q = 2 ∨ q = 3 ∨ q = 4 by omega) with rfl | rfl | rfl | rfl <;> (simp [szT, hm])
  · rw [eE]; (repeat (first | rw [if_neg (by omega)] | rw [if_pos (by omega)])); rfl
  · rw [eE]
    rcases (show q = 1 ∨ q = 2 ∨ q = 3 ∨ q = 4 by omega) with rfl | rfl | rfl | rfl <;> (simp [hm]; rfl)
  · rw [eF]; (repeat (first | rw [if_neg (by omega)] | rw [if_pos (by omega)])); exact hz j hj
  · rw [eT]; (repeat (first | rw [if_neg (by omega)] | rw [if_pos (by omega)]))
  · rw [eF]; (repeat (first | rw [if_neg (by omega)] | rw [if_pos (by omega)]))
  · rw [eE]; (repeat (first | rw [if_neg (by omega)] | rw [if_pos (by omega)]))
def initF : Nat → Int → (Int → Int) → (Int → Int)
  | 0, _, s => s
  | j + 1, b, s => initF j (b + 1) (up s (5 + b) b)
/-- the yard at its opening, as numbers -/
def s0P : Int → Int := up (initF 4 0 (up (up (up (fun _ => 0) 1 3) 2 60) 4 4)) 9 (-1)
section TWN
variable {K : KT} {k n m : Nat} {M M0 : Mem} {Q : Res → Mem → Prop} {s : Int → Int} {T : Nat → Int → Int}
theorem l_init : ∀ (j : Nat) (b : Int) (s : Int → Int) (M : Mem), Tw (kB K) M0 m s T M → b + j = 4 → 0 ≤ b → (∀ M', Tw (kB K) M0 m (up (initF j b s) 9 (-1)) T M' → Q (.inl none) M') → Go K fX6_init 2 0 0 72 [some (.ref m), some (.int (ii b))] [] M Q := by
  intro j
  induction j with
  | zero =>
    intro b s M hT e h0 hQ
    refine g_iload1 73 dX6_init_72 rfl ?_
    refine g_iconst 74 dX6_init_73 rfl ?_
    refine g_icmp_ge 92 77 dX6_init_74 rfl rfl (by first | exact hT.r _ | exact hT.rT _ _ | exact inP_r | omega) (by first | exact hT.r _ | exact hT.rT _ _ | exact inP_r | omega) (fun c74 => ?_) (fun c74 => ?_)
    · refine g_aload0 93 (by first | exact rv_r | exact rv_n | assumption | exact rv_f) dX6_init_92 rfl ?_
      refine g_getf 96 dX6_init_93 rfl fl_X6_7 hT.t (hT.f0) ?_
      refine g_bipush 98 (by rfl) dX6_init_96 rfl ?_
      refine g_iconst 99 dX6_init_98 rfl ?_
      refine w_ias0 100 dX6_init_99 rfl hT (by omega) (by omega) (fun M hT => ?_)
      refine g_vret dX6_init_100 rfl ?_
      exact hQ _ hT
    · omega
  | succ j ih =>
    intro b s M hT e h0 hQ
    refine g_iload1 73 dX6_init_72 rfl ?_
    refine g_iconst 74 dX6_init_73 rfl ?_
    refine g_icmp_ge 92 77 dX6_init_74 rfl rfl (by first | exact hT.r _ | exact hT.rT _ _ | exact inP_r | omega) (by first | exact hT.r _ | exact hT.rT _ _ | exact inP_r | omega) (fun c74 => ?_) (fun c74 => ?_)
    · omega
    · refine g_aload0 78 (by first | exact rv_r | exact rv_n | assumption | exact rv_f) dX6_init_77 rfl ?_
      refine g_getf 81 dX6_init_78 rfl fl_X6_7 hT.t (hT.f0) ?_
      refine g_iconst 82 dX6_init_81 rfl ?_
      refine g_iload1 83 dX6_init_82 rfl ?_
      refine g_iadd 84 dX6_init_83 rfl ?_
      refine g_iload1 85 dX6_init_84 rfl ?_
      refine w_ias0 86 dX6_init_85 rfl hT (by omega) (by omega) (fun M hT => ?_)
      refine g_iinc1 89 (Nat.le_of_ble_eq_true rfl) (by first | exact c1_0 | exact c1_i | exact c1_r | exact c1_n | exact c1_v (by assumption) | exact c1_f) dX6_init_86 rfl ?_
      refine g_goto 72 dX6_init_89 rfl ?_
      exact ih _ _ _ hT (by omega) (by omega) hQ
theorem c_X6_init (hB : kB K ≤ m) (hm : mN M = m + 1) (ht : mT M m = some (.inl 5)) (hz : ∀ j, (j = 2 ∨ j = 4 ∨ j = 7 ∨ j = 8 ∨ j = 9 ∨ j = 10) → mF M 5 j m = z32) (hQ : ∀ M', TP (kB K) M' m 0 (s0P, [], none, []) M' → mN M' = m + 6 → (∀ a, a < m → mT M' a = mT M a ∧ (∀ c k, mF M' c k a = mF M c k a) ∧ ∀ i, mE M' a i = mE M a i) → Q (.inl none) M') : Go K fX6_init 2 5 2220 0 [some (.ref m), none] [] M Q := by
  have hk := twM_ok hB hm ht hz
  refine g_aload0 1 (by first | exact rv_r | exact rv_n | assumption | exact rv_f) dX6_init_0 rfl ?_
  refine g_objInit 4 dX6_init_1 rfl q2488 q134 q135 (Nat.le_of_ble_eq_true rfl) (Nat.le_of_ble_eq_true rfl) ?_
  refine g_aload0 5 (by first | exact rv_r | exact rv_n | assumption | exact rv_f) dX6_init_4 rfl ?_
  refine g_sipush 8 (by rfl) dX6_init_5 rfl ?_
  refine g_newI 10 (4) (1950) dX6_init_8 rfl (by omega) (by first | rfl | omega) (by first | decide | omega) (by first | exact Nat.le_of_ble_eq_true rfl | omega) (by first | exact Nat.le_of_ble_eq_true rfl | omega) ?_
  refine g_putF 13 dX6_init_10 rfl fl_X6_7 (fun C T N h => by cases h; rfl) rfl (by (repeat (first | exact ht | rw [mT_setF] | rw [mT_newA_old (by (try simp only [mN_newA, mN_setF]); omega)]))) (by assumption) (ft_a (by first | exact rv_r | exact rv_n | assumption | exact rv_f)) ?_
  refine g_aload0 14 (by first | exact rv_r | exact rv_n | assumption | exact rv_f) dX6_init_13 rfl ?_
  refine g_sipush 17 (by rfl) dX6_init_14 rfl ?_
  refine g_newI 19 (3) (600) dX6_init_17 rfl (by omega) (by first | rfl | omega) (by first | decide | omega) (by first | exact Nat.le_of_ble_eq_true rfl | omega) (by first | exact Nat.le_of_ble_eq_true rfl | omega) ?_
  refine g_putF 22 dX6_init_19 rfl fl_X6_13 (fun C T N h => by cases h; rfl) rfl (by (repeat (first | exact ht | rw [mT_setF] | rw [mT_newA_old (by (try simp only [mN_newA, mN_setF]); omega)]))) (by assumption) (ft_a (by first | exact rv_r | exact rv_n | assumption | exact rv_f)) ?_
  refine g_aload0 23 (by first | exact rv_r | exact rv_n | assumption | exact rv_f) dX6_init_22 rfl ?_
  refine g_sipush 26 (by rfl) dX6_init_23 rfl ?_
  refine g_newI 28 (2) (330) dX6_init_26 rfl (by omega) (by first | rfl | omega) (by first | decide | omega) (by first | exact Nat.le_of_ble_eq_true rfl | omega) (by first | exact Nat.le_of_ble_eq_true rfl | omega) ?_
  refine g_putF 31 dX6_init_28 rfl fl_X6_16 (fun C T N h => by cases h; rfl) rfl (by (repeat (first | exact ht | rw [mT_setF] | rw [mT_newA_old (by (try simp only [mN_newA, mN_setF]); omega)]))) (by assumption) (ft_a (by first | exact rv_r | exact rv_n | assumption | exact rv_f)) ?_
  refine g_aload0 32 (by first | exact rv_r | exact rv_n | assumption | exact rv_f) dX6_init_31 rfl ?_
  refine g_sipush 35 (by rfl) dX6_init_32 rfl ?_
  refine g_newI 37 (1) (60) dX6_init_35 rfl (by omega) (by first | rfl | omega) (by first | decide | omega) (by first | exact Nat.le_of_ble_eq_true rfl | omega) (by first | exact Nat.le_of_ble_eq_true rfl | omega) ?_
  refine g_putF 40 dX6_init_37 rfl fl_X6_19 (fun C T N h => by cases h; rfl) rfl (by (repeat (first | exact ht | rw [mT_setF] | rw [mT_newA_old (by (try simp only [mN_newA, mN_setF]); omega)]))) (by assumption) (ft_a (by first | exact rv_r | exact rv_n | assumption | exact rv_f)) ?_
  refine g_aload0 41 (by first | exact rv_r | exact rv_n | assumption | exact rv_f) dX6_init_40 rfl ?_
  refine g_bipush 43 (by rfl) dX6_init_41 rfl ?_
  refine g_newI 45 (0) (0) dX6_init_43 rfl (by omega) (by first | rfl | omega) (by first | decide | omega) (by first | exact Nat.le_of_ble_eq_true rfl | omega) (by first | exact Nat.le_of_ble_eq_true rfl | omega) ?_
  refine g_putF 48 dX6_init_45 rfl fl_X6_22 (fun C T N h => by cases h; rfl) rfl (by (repeat (first | exact ht | rw [mT_setF] | rw [mT_newA_old (by (try simp only [mN_newA, mN_setF]); omega)]))) (by assumption) (ft_a (by first | exact rv_r | exact rv_n | assumption | exact rv_f)) ?_
  refine g_M (M' := twM M m) rfl ?_
  generalize twM M m = X at *
  obtain ⟨hT, hN, hO⟩ := hk
  refine g_aload0 49 (by first | exact rv_r | exact rv_n | assumption | exact rv_f) dX6_init_48 rfl ?_
  refine g_getf 52 dX6_init_49 rfl fl_X6_7 hT.t (hT.f0) ?_
  refine g_iconst 53 dX6_init_52 rfl ?_
  refine g_iconst 54 dX6_init_53 rfl ?_
  refine w_ias0 55 dX6_init_54 rfl hT (by omega) (by omega) (fun M hT => ?_)
  refine g_aload0 56 (by first | exact rv_r | exact rv_n | assumption | exact rv_f) dX6_init_55 rfl ?_
  refine g_getf 59 dX6_init_56 rfl fl_X6_7 hT.t (hT.f0) ?_
  refine g_iconst 60 dX6_init_59 rfl ?_
  refine g_bipush 62 (by rfl) dX6_init_60 rfl ?_
  refine w_ias0 63 dX6_init_62 rfl hT (by omega) (by omega) (fun M hT => ?_)
  refine g_aload0 64 (by first | exact rv_r | exact rv_n | assumption | exact rv_f) dX6_init_63 rfl ?_
  refine g_getf 67 dX6_init_64 rfl fl_X6_7 hT.t (hT.f0) ?_
  refine g_iconst 68 dX6_init_67 rfl ?_
  refine g_iconst 69 dX6_init_68 rfl ?_
  refine w_ias0 70 dX6_init_69 rfl hT (by omega) (by omega) (fun M hT => ?_)
  refine g_iconst 71 dX6_init_70 rfl ?_
  refine g_istore1 72 (Nat.le_of_ble_eq_true rfl) (by first | exact c1_0 | exact c1_i | exact c1_r | exact c1_n | exact c1_v (by assumption) | exact c1_f) dX6_init_71 rfl ?_
  refine l_init 4 0 _ _ hT (by omega) (by omega) fun M' hT => ?_
  refine hQ M' ⟨_, ⟨⟨hT.1.1, rfl, fun _ => rfl, fun _ _ => ⟨fun _ _ => rfl, fun _ => rfl⟩⟩, hT.2⟩, ⟨⟨rfl, by simp, fun j f hj => by simp at hj⟩, ⟨rfl, fun f hf => by cases hf⟩, rfl, by simp, fun j c hj => by simp at hj⟩, rfl⟩ (by rw [hT.1.2.1]; exact hN) fun a ha => ?_
  have h1 := hO a ha
  have h2 := hT.1.2.2.2 a (Or.inl ha)
  exact ⟨(hT.1.2.2.1 a).trans h1.1, fun c k => (h2.1 c k).trans (h1.2.1 c k), fun i => (h2.2 i).trans (h1.2.2 i)⟩
theorem s0P_ok : SV s0P := by
  have e : ∀ i, s0P i = if i = 9 then -1 else if i = 8 then 3 else if i = 7 then 2 else if i = 6 then 1 else if i = 5 then 0 else if i = 4 then 4 else if i = 2 then 60 else if i = 1 then 3 else 0 := fun i => rfl
  have hR : ∀ i, R32 (s0P i) := fun i => by rw [e]; (repeat' split) <;> decide
  generalize s0P = t at e hR
  have hin : ∀ j : Nat, incF t j = 0 := fun j => by
    induction j with
    | zero => rfl
    | succ j ih =>
      unfold incF
      rw [ih, if_neg]
      · rfl
      · rw [e]; (repeat (first | rw [if_neg (by omega)] | rw [if_pos (by omega)])); omega
  have kz : ∀ i, 9 < i → t i = 0 := fun i hi => by rw [e]; (repeat (first | rw [if_neg (by omega)] | rw [if_pos (by omega)]))
  have k0 : t 0 = 0 := by rw [e]; (repeat (first | rw [if_neg (by omega)] | rw [if_pos (by omega)]))
  have k1 : t 1 = 3 := by rw [e]; (repeat (first | rw [if_neg (by omega)] | rw [if_pos (by omega)]))
  have k2 : t 2 = 60 := by rw [e]; (repeat (first | rw [if_neg (by omega)] | rw [if_pos (by omega)]))
  have k3 : t 3 = 0 := by rw [e]; (repeat (first | rw [if_neg (by omega)] | rw [if_pos (by omega)]))
  have k4 : t 4 = 4 := by rw [e]; (repeat (first | rw [if_neg (by omega)] | rw [if_pos (by omega)]))
  have k9 : t 9 = -1 := by rw [e]; (repeat (first | rw [if_neg (by omega)] | rw [if_pos (by omega)]))
  have kr : ∀ k, 0 ≤ k → k < 4 → t (5 + k) = k := fun k h0 h1 => by
    rcases (show k = 0 ∨ k = 1 ∨ k = 2 ∨ k = 3 by omega) with rfl | rfl | rfl | rfl <;> rw [e]; (repeat (first | rw [if_neg (by omega)] | rw [if_pos (by omega)]))
  refine ⟨⟨hR, ?_, ⟨fun k h0 h1 => ?_, fun j k j0 jk h1 => ?_, fun b h0 h1 => ?_⟩, ?_, fun g h0 h1 => ?_, fun p h0 h1 => ?_, fun c h0 h1 => ?_, fun c c' h0 h1 h2 z => ?_, ?_⟩, by omega⟩
  · unfold W1; omega
  · rw [kr k h0 (by omega), kz _ (by omega)]; omega
  · rw [kr k (by omega) (by omega), kr j (by omega) (by omega)]; omega
  · rw [kz _ (by omega)]; exact ⟨by omega, by omega, fun _ => ⟨b, h0, by omega, kr b h0 h1⟩⟩
  · left; exact ⟨k9, kz _ (by omega)⟩
  · omega
  · rw [kz _ (by omega), kz _ (by omega)]; omega
  · rw [kz (240 + 10 * c + 0) (by omega), kz (240 + 10 * c + 2) (by omega)]; omega
  · rw [kz _ (by omega)] at z; omega
  · refine ⟨⟨0, ?_⟩, ⟨0, ?_⟩⟩
    · rw [hin, kz 11 (by omega), kz 12 (by omega), kz 13 (by omega), kz 14 (by omega)]; rfl
    · rw [kz 243 (by omega), kz 253 (by omega), kz 263 (by omega), kz 219 (by omega), kz 222 (by omega), kz 225 (by omega), kz 228 (by omega), kz 231 (by omega)]; rfl
end TWN
