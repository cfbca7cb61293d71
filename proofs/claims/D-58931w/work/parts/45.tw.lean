/-! ===== the twin's methods: undo, the snapshot, the buffer; reading the text ===== -/
theorem Ta.txt {a : AS} {T : Nat → Int → Int} (h : Ta a T) : T 5 7 = a.2.2.2.length ∧ a.2.2.2.length ≤ 60 ∧ ∀ (j : Nat) (c : Int), a.2.2.2[j]? = some c → T 4 j = c := h.2.2
theorem tq3 {B m : Nat} {M M0 : Mem} {Q : Res → Mem → Prop} {s : Int → Int} {T : Nat → Int → Int} {a' : AS} {c v v' : Int} (hQ : ∀ M', TP B M0 m c a' M' → Q (.inl (some (.int (ii v)))) M') (hT : Tw B M0 m s T M) (e : s = a'.1) (hA : Ta a' T) (hc : T 5 8 = c) (hv : v' = v) : Q (.inl (some (.int (ii v')))) M := by
  subst hv
  subst e
  exact hQ M ⟨T, hT, hA, hc⟩
section TWI
variable {K : KT} {k n m : Nat} {M M0 : Mem} {Q : Res → Mem → Prop} {a : AS} {s : Int → Int} {T : Nat → Int → Int}
theorem c_X6_undo {th : Int} (hP : TP (kB K) M0 m th a M) (hV : AV a) (hQ : ∀ M', TP (kB K) M0 m (if a.2.1.length = 0 then 1 else 0) (if a.2.1.length = 0 then a else (a.2.1.getLastD a.1, a.2.1.dropLast, a.2.2)) M' → Q (.inl (some (.int (ii (if a.2.1.length = 0 then 0 else a.2.1.length - 1))))) M') : Go K fX6_undo 2 k n 0 [some (.ref m), none] [] M Q := by
  obtain ⟨T, hT, hA, hth⟩ := hP
  have hW := hV.1.1
  have w1 := hW.2.1
  unfold W1 at w1
  have hk := hA.1
  by_cases q : a.2.1.length = 0
  · rw [if_pos q, if_pos q, if_pos q] at hQ
    have h2 : uT T 5 8 0 5 2 = 0 := by rw [uT_ne (by omega)]; omega
    refine g_aload0 1 (by first | exact rv_r | exact rv_n | assumption | exact rv_f) dX6_undo_0 rfl ?_
    refine g_iconst 2 dX6_undo_1 rfl ?_
    refine w_put8 5 dX6_undo_2 rfl fl_X6_25 hT (fun M hT => ?_)
    refine g_aload0 6 (by first | exact rv_r | exact rv_n | assumption | exact rv_f) dX6_undo_5 rfl ?_
    refine g_getf 9 dX6_undo_6 rfl fl_X6_33 hT.t (hT.f2) ?_
    refine g_if_ne 18 12 dX6_undo_9 rfl rfl (by first | exact hT.r _ | exact hT.rT _ _ | exact inP_r | omega) (fun c9 => ?_) (fun c9 => ?_)
    · omega
    · refine g_aload0 13 (by first | exact rv_r | exact rv_n | assumption | exact rv_f) dX6_undo_12 rfl ?_
      refine g_iconst 14 dX6_undo_13 rfl ?_
      refine k_V1z 17 dX6_undo_14 rfl lk_X6_104 hT.t rfl (by first | rfl | exact rv_cat (by assumption) | exact rv_cat rv_f) (Nat.le_of_ble_eq_true rfl) (by first | exact Nat.le_of_ble_eq_true rfl | omega) (c_X6_throwing hT (fun M hT => ?_))
      refine g_iret dX6_undo_17 rfl ?_
      exact tq hQ hT hA.th.th rfl (by simp only [uT_at, wr1]) rfl
  · rw [if_neg q, if_neg q, if_neg q] at hQ
    have h2 : uT T 5 8 0 5 2 = a.2.1.length := by rw [uT_ne (by omega)]; exact hk.1
    obtain ⟨f, hf⟩ : ∃ f, a.2.1[a.2.1.length - 1]? = some f := ⟨_, List.getElem?_eq_getElem (by omega)⟩
    have hl : a.2.1.getLastD a.1 = f := by
      rw [List.getLastD_eq_getLast?, List.getLast?_eq_getElem?, hf]; rfl
    have hS := hV.2.1 f (List.mem_of_getElem? hf)
    rw [hl] at hQ
    refine g_aload0 1 (by first | exact rv_r | exact rv_n | assumption | exact rv_f) dX6_undo_0 rfl ?_
    refine g_iconst 2 dX6_undo_1 rfl ?_
    refine w_put8 5 dX6_undo_2 rfl fl_X6_25 hT (fun M hT => ?_)
    refine g_aload0 6 (by first | exact rv_r | exact rv_n | assumption | exact rv_f) dX6_undo_5 rfl ?_
    refine g_getf 9 dX6_undo_6 rfl fl_X6_33 hT.t (hT.f2) ?_
    refine g_if_ne 18 12 dX6_undo_9 rfl rfl (by first | exact hT.r _ | exact hT.rT _ _ | exact inP_r | omega) (fun c9 => ?_) (fun c9 => ?_)
    · refine g_aload0 19 (by first | exact rv_r | exact rv_n | assumption | exact rv_f) dX6_undo_18 rfl ?_
      refine g_dup 20 (by first | rfl | exact rv_cat (by assumption) | exact rv_cat rv_f) dX6_undo_19 rfl ?_
      refine g_getf 23 dX6_undo_20 rfl fl_X6_33 hT.t (hT.f2) ?_
      refine g_iconst 24 dX6_undo_23 rfl ?_
      refine g_isub 25 dX6_undo_24 rfl ?_
      refine w_put2 28 dX6_undo_25 rfl fl_X6_33 hT (fun M hT => ?_)
      refine g_iconst 29 dX6_undo_28 rfl ?_
      refine g_istore1 30 (Nat.le_of_ble_eq_true rfl) (by first | exact c1_0 | exact c1_i | exact c1_r | exact c1_n | exact c1_v (by assumption) | exact c1_f) dX6_undo_29 rfl ?_
      generalize hT5 : uT (uT T 5 8 0) 5 2 (uT T 5 8 0 5 2 - 1) = T5 at hT
      have e5 : ∀ p i, ¬ (p = 5 ∧ i = 8) → ¬ (p = 5 ∧ i = 2) → T5 p i = T p i := fun p i u v => by rw [← hT5, uT_ne v, uT_ne u]
      have e52 : T5 5 2 = (a.2.1.length : Int) - 1 := by rw [← hT5, uT_at, h2, wr_id (by omega)]
      have e58 : T5 5 8 = 0 := by rw [← hT5, uT_ne (by omega), uT_at, wr0]
      refine Go.up (l_X6_undo e52 (by omega) 270 0 _ _ hT (by omega) (by omega) fun s' M hT h1 h2 => ?_) (Nat.le_refl _) (Nat.le_refl _) (Nat.le_refl _)
      have hT := hT.cgs (s' := f) (fun i i0 i1 => by rw [h1 i i0 i1, e52, e5 _ _ (by omega) (by omega), ← hk.2.2 _ f hf i i0 i1]; congr 1; omega) hS.1.1
      refine g_aload0 65 (by first | exact rv_r | exact rv_n | assumption | exact rv_f) dX6_undo_64 rfl ?_
      refine g_getf 68 dX6_undo_65 rfl fl_X6_33 hT.t (hT.f2) ?_
      refine g_iret dX6_undo_68 rfl ?_
      refine tq3 hQ hT rfl ?_ e58 e52
      obtain ⟨⟨a1, a2, a3⟩, ⟨b1, b2⟩, c1, c2, c3⟩ := hA
      refine ⟨⟨?_, ?_, fun j g hj i i0 i1 => ?_⟩, ⟨?_, fun g hg i i0 i1 => ?_⟩, ?_, c2, fun j c hj => ?_⟩
      · rw [e52]; simp; omega
      · simp; omega
      · rw [e5 _ _ (by omega) (by omega)]
        have hjl := (List.getElem?_eq_some_iff.mp hj).1
        simp at hjl
        rw [List.getElem?_dropLast, if_pos (by omega)] at hj
        exact a3 j g hj i i0 i1
      · rw [e5 _ _ (by omega) (by omega)]; exact b1
      · rw [e5 _ _ (by omega) (by omega)]; exact b2 g hg i i0 i1
      · rw [e5 _ _ (by omega) (by omega)]; exact c1
      · rw [e5 _ _ (by omega) (by omega)]; exact c3 j c hj
    · refine g_aload0 13 (by first | exact rv_r | exact rv_n | assumption | exact rv_f) dX6_undo_12 rfl ?_
      refine g_iconst 14 dX6_undo_13 rfl ?_
      refine k_V1z 17 dX6_undo_14 rfl lk_X6_104 hT.t rfl (by first | rfl | exact rv_cat (by assumption) | exact rv_cat rv_f) (Nat.le_of_ble_eq_true rfl) (by first | exact Nat.le_of_ble_eq_true rfl | omega) (c_X6_throwing hT (fun M hT => ?_))
      refine g_iret dX6_undo_17 rfl ?_
      omega
theorem c_X6_takeSnapshot {th : Int} (hP : TP (kB K) M0 m th a M) (hV : AV a) (hQ : ∀ M', TP (kB K) M0 m (0) ((a.1, a.2.1, some a.1, a.2.2.2)) M' → Q (.inl (some (.int (ii (a.1 0))))) M') : Go K fX6_takeSnapshot 1 k n 0 [some (.ref m), none] [] M Q := by
  obtain ⟨T, hT, hA, hth⟩ := hP
  have hW := hV.1.1
  have w1 := hW.2.1
  unfold W1 at w1
  refine g_aload0 1 (by first | exact rv_r | exact rv_n | assumption | exact rv_f) dX6_takeSnapshot_0 rfl ?_
  refine g_iconst 2 dX6_takeSnapshot_1 rfl ?_
  refine w_put8 5 dX6_takeSnapshot_2 rfl fl_X6_25 hT (fun M hT => ?_)
  refine g_iconst 6 dX6_takeSnapshot_5 rfl ?_
  refine g_istore1 7 (Nat.le_of_ble_eq_true rfl) (by first | exact c1_0 | exact c1_i | exact c1_r | exact c1_n | exact c1_v (by assumption) | exact c1_f) dX6_takeSnapshot_6 rfl ?_
  refine Go.up (l_X6_takeSnapshot 270 0 _ _ hT (by omega) (by omega) fun T' M hT h1 h2 => ?_) (Nat.le_refl _) (Nat.le_refl _) (Nat.le_refl _)
  have e : ∀ p i, p ≠ 2 → ¬ (p = 5 ∧ i = 4) → ¬ (p = 5 ∧ i = 8) → uT T' 5 4 1 p i = T p i := fun p i u v w => by rw [uT_ne v, h2 p i (Or.inl u), uT_ne w]
  refine g_aload0 33 (by first | exact rv_r | exact rv_n | assumption | exact rv_f) dX6_takeSnapshot_32 rfl ?_
  refine g_iconst 34 dX6_takeSnapshot_33 rfl ?_
  refine w_put4 37 dX6_takeSnapshot_34 rfl fl_X6_204 hT (by omega) (fun M hT => ?_)
  refine g_aload0 38 (by first | exact rv_r | exact rv_n | assumption | exact rv_f) dX6_takeSnapshot_37 rfl ?_
  refine g_getf 41 dX6_takeSnapshot_38 rfl fl_X6_7 hT.t (hT.f0) ?_
  refine g_iconst 42 dX6_takeSnapshot_41 rfl ?_
  refine g_iald 43 dX6_takeSnapshot_42 rfl hT.a0 (by omega) (by omega) (by omega) (hT.e0 (by omega) (by omega)) ?_
  refine g_iret dX6_takeSnapshot_43 rfl ?_
  refine tq3 hQ hT rfl ?_ ?_ rfl
  · obtain ⟨⟨a1, a2, a3⟩, ⟨b1, b2⟩, c1, c2, c3⟩ := hA
    refine ⟨⟨?_, a2, fun j g hj i i0 i1 => ?_⟩, ⟨?_, fun g hg i i0 i1 => ?_⟩, ?_, c2, fun j c hj => ?_⟩
    · rw [e _ _ (by omega) (by omega) (by omega)]; exact a1
    · rw [e _ _ (by omega) (by omega) (by omega)]; exact a3 j g hj i i0 i1
    · rw [uT_at, wr1]; rfl
    · rw [uT_ne (by omega), h1 i i0 i1]; cases hg; rfl
    · rw [e _ _ (by omega) (by omega) (by omega)]; exact c1
    · rw [e _ _ (by omega) (by omega) (by omega)]; exact c3 j c hj
  · rw [uT_ne (by omega), h2 5 8 (by omega), uT_at, wr0]
theorem c_X6_restoreSnapshot {th : Int} (hP : TP (kB K) M0 m th a M) (hV : AV a) (hQ : ∀ M', TP (kB K) M0 m (if a.2.2.1.isSome then 0 else 1) (if a.2.2.1.isSome then (a.2.2.1.getD a.1, (saveA a).2) else a) M' → Q (.inl (some (.int (ii (if a.2.2.1.isSome then (a.2.2.1.getD a.1) 0 else 0))))) M') : Go K fX6_restoreSnapshot 3 k n 0 [some (.ref m), none] [] M Q := by
  obtain ⟨T, hT, hA, hth⟩ := hP
  have hW := hV.1.1
  have w1 := hW.2.1
  unfold W1 at w1
  have hk := hA.2.1
  cases hkp : a.2.2.1 with
  | none =>
    rw [hkp] at hQ hk
    have h4 : uT T 5 8 0 5 4 = 0 := by rw [uT_ne (by omega)]; exact hk.1
    refine g_aload0 1 (by first | exact rv_r | exact rv_n | assumption | exact rv_f) dX6_restoreSnapshot_0 rfl ?_
    refine g_iconst 2 dX6_restoreSnapshot_1 rfl ?_
    refine w_put8 5 dX6_restoreSnapshot_2 rfl fl_X6_25 hT (fun M hT => ?_)
    refine g_aload0 6 (by first | exact rv_r | exact rv_n | assumption | exact rv_f) dX6_restoreSnapshot_5 rfl ?_
    refine g_getf 9 dX6_restoreSnapshot_6 rfl fl_X6_204 hT.t (hT.f4) ?_
    refine g_if_ne 18 12 dX6_restoreSnapshot_9 rfl rfl (by first | exact hT.r _ | exact hT.rT _ _ | exact inP_r | omega) (fun c9 => ?_) (fun c9 => ?_)
    · omega
    · refine g_aload0 13 (by first | exact rv_r | exact rv_n | assumption | exact rv_f) dX6_restoreSnapshot_12 rfl ?_
      refine g_iconst 14 dX6_restoreSnapshot_13 rfl ?_
      refine k_V1z 17 dX6_restoreSnapshot_14 rfl lk_X6_104 hT.t rfl (by first | rfl | exact rv_cat (by assumption) | exact rv_cat rv_f) (Nat.le_of_ble_eq_true rfl) (by first | exact Nat.le_of_ble_eq_true rfl | omega) (c_X6_throwing hT (fun M hT => ?_))
      refine g_iret dX6_restoreSnapshot_17 rfl ?_
      exact tq hQ hT hA.th.th rfl (by simp only [uT_at, wr1]; rfl) rfl
  | some f =>
    rw [hkp] at hQ hk
    have h4 : uT T 5 8 0 5 4 = 1 := by rw [uT_ne (by omega)]; exact hk.1
    have hF := hV.2.2.1 f hkp
    refine g_aload0 1 (by first | exact rv_r | exact rv_n | assumption | exact rv_f) dX6_restoreSnapshot_0 rfl ?_
    refine g_iconst 2 dX6_restoreSnapshot_1 rfl ?_
    refine w_put8 5 dX6_restoreSnapshot_2 rfl fl_X6_25 hT (fun M hT => ?_)
    refine g_aload0 6 (by first | exact rv_r | exact rv_n | assumption | exact rv_f) dX6_restoreSnapshot_5 rfl ?_
    refine g_getf 9 dX6_restoreSnapshot_6 rfl fl_X6_204 hT.t (hT.f4) ?_
    refine g_if_ne 18 12 dX6_restoreSnapshot_9 rfl rfl (by first | exact hT.r _ | exact hT.rT _ _ | exact inP_r | omega) (fun c9 => ?_) (fun c9 => ?_)
    · refine g_aload0 19 (by first | exact rv_r | exact rv_n | assumption | exact rv_f) dX6_restoreSnapshot_18 rfl ?_
      refine k_V0z 22 dX6_restoreSnapshot_19 rfl lk_X6_107 hT.t rfl  (Nat.le_of_ble_eq_true rfl) (by first | exact Nat.le_of_ble_eq_true rfl | omega) (c_X6_save hT (by have hk := hA.1; rw [uT_ne (by omega)]; omega) (fun T M hT hS => ?_))
      have hA := hA.th.save hS
      have hth := (hS.1 5 8 (by omega) (by omega)).trans uT_at
      rw [wr0] at hth
      refine g_iconst 23 dX6_restoreSnapshot_22 rfl ?_
      refine g_istore1 24 (Nat.le_of_ble_eq_true rfl) (by first | exact c1_0 | exact c1_i | exact c1_r | exact c1_n | exact c1_v (by assumption) | exact c1_f) dX6_restoreSnapshot_23 rfl ?_
      refine Go.up (l_X6_restoreSnapshot 270 0 _ _ hT (by omega) (by omega) fun s' M hT h1 h2 => ?_) (Nat.le_refl _) (Nat.le_refl _) (Nat.le_refl _)
      have hT := hT.cgs (s' := f) (fun i i0 i1 => by rw [h1 i i0 i1]; exact (hA.2.1.2 f hkp i i0 i1).symm) hF.1.1
      refine g_aload0 50 (by first | exact rv_r | exact rv_n | assumption | exact rv_f) dX6_restoreSnapshot_49 rfl ?_
      refine g_getf 53 dX6_restoreSnapshot_50 rfl fl_X6_7 hT.t (hT.f0) ?_
      refine g_iconst 54 dX6_restoreSnapshot_53 rfl ?_
      refine g_iald 55 dX6_restoreSnapshot_54 rfl hT.a0 (by omega) (by omega) (by omega) (hT.e0 (by omega) (by omega)) ?_
      refine g_iret dX6_restoreSnapshot_55 rfl ?_
      exact tq3 hQ hT rfl hA hth rfl
    · refine g_aload0 13 (by first | exact rv_r | exact rv_n | assumption | exact rv_f) dX6_restoreSnapshot_12 rfl ?_
      refine g_iconst 14 dX6_restoreSnapshot_13 rfl ?_
      refine k_V1z 17 dX6_restoreSnapshot_14 rfl lk_X6_104 hT.t rfl (by first | rfl | exact rv_cat (by assumption) | exact rv_cat rv_f) (Nat.le_of_ble_eq_true rfl) (by first | exact Nat.le_of_ble_eq_true rfl | omega) (c_X6_throwing hT (fun M hT => ?_))
      refine g_iret dX6_restoreSnapshot_17 rfl ?_
      omega
theorem c_X6_clearText {th : Int} (hP : TP (kB K) M0 m th a M) (hV : AV a) (hQ : ∀ M', TP (kB K) M0 m (0) ((a.1, a.2.1, a.2.2.1, [])) M' → Q (.inl (some (.int (ii (a.2.2.2.length))))) M') : Go K fX6_clearText 1 k n 0 [some (.ref m), none] [] M Q := by
  obtain ⟨T, hT, hA, hth⟩ := hP
  have hW := hV.1.1
  have w1 := hW.2.1
  unfold W1 at w1
  refine g_aload0 1 (by first | exact rv_r | exact rv_n | assumption | exact rv_f) dX6_clearText_0 rfl ?_
  refine g_iconst 2 dX6_clearText_1 rfl ?_
  refine w_put8 5 dX6_clearText_2 rfl fl_X6_25 hT (fun M hT => ?_)
  refine g_aload0 6 (by first | exact rv_r | exact rv_n | assumption | exact rv_f) dX6_clearText_5 rfl ?_
  refine g_getf 9 dX6_clearText_6 rfl fl_X6_176 hT.t (hT.f7) ?_
  refine g_istore1 10 (Nat.le_of_ble_eq_true rfl) (by first | exact c1_0 | exact c1_i | exact c1_r | exact c1_n | exact c1_v (by assumption) | exact c1_f) dX6_clearText_9 rfl ?_
  refine g_aload0 11 (by first | exact rv_r | exact rv_n | assumption | exact rv_f) dX6_clearText_10 rfl ?_
  refine g_iconst 12 dX6_clearText_11 rfl ?_
  refine w_put7 15 dX6_clearText_12 rfl fl_X6_176 hT (fun M hT => ?_)
  refine g_iload1 16 dX6_clearText_15 rfl ?_
  refine g_iret dX6_clearText_16 rfl ?_
  refine tq3 hQ hT rfl ?_ (by rw [uT_ne (by omega), uT_at, wr0]) (by rw [uT_ne (by omega)]; exact hA.2.2.1)
  obtain ⟨⟨a1, a2, a3⟩, ⟨b1, b2⟩, c1, c2, c3⟩ := hA
  refine ⟨⟨?_, a2, fun j g hj i i0 i1 => ?_⟩, ⟨?_, fun g hg i i0 i1 => ?_⟩, ?_, by simp, fun j c hj => ?_⟩
  · rw [uT_ne (by omega), uT_ne (by omega)]; exact a1
  · rw [uT_ne (by omega), uT_ne (by omega)]; exact a3 j g hj i i0 i1
  · rw [uT_ne (by omega), uT_ne (by omega)]; exact b1
  · rw [uT_ne (by omega), uT_ne (by omega)]; exact b2 g hg i i0 i1
  · rw [uT_at, wr0]; rfl
  · simp at hj
theorem c_X6_append {th : Int} (hP : TP (kB K) M0 m th a M) (hV : AV a) {c : Int} (hc : R32 c) (hQ : ∀ M', TP (kB K) M0 m (if inP c 32 126 = 0 then 1 else if a.2.2.2.length = 60 then 2 else 0) (if inP c 32 126 = 0 then a else if a.2.2.2.length = 60 then a else (a.1, a.2.1, a.2.2.1, a.2.2.2 ++ [c])) M' → Q (.inl (some (.int (ii (if inP c 32 126 = 0 then 0 else if a.2.2.2.length = 60 then 0 else a.2.2.2.length + 1))))) M') : Go K fX6_append 2 k n 0 [some (.ref m), some (.int (ii c))] [] M Q := by
  obtain ⟨T, hT, hA, hth⟩ := hP
  have hW := hV.1.1
  have w1 := hW.2.1
  unfold W1 at w1
  have hk := hA.txt
  have h7 : uT T 5 8 0 5 7 = a.2.2.2.length := by rw [uT_ne (by omega)]; exact hk.1
  have h7' : ∀ i v, uT (uT T 5 8 0) 4 i v 5 7 = a.2.2.2.length := fun i v => by rw [uT_ne (by omega)]; exact h7
  have h7'' := h7' (uT T 5 8 0 5 7) c
  by_cases q : inP c 32 126 = 0
  · rw [if_pos q, if_pos q, if_pos q] at hQ
    refine g_aload0 1 (by first | exact rv_r | exact rv_n | assumption | exact rv_f) dX6_append_0 rfl ?_
    refine g_iconst 2 dX6_append_1 rfl ?_
    refine w_put8 5 dX6_append_2 rfl fl_X6_25 hT (fun M hT => ?_)
    refine g_iload1 6 dX6_append_5 rfl ?_
    refine g_bipush 8 (by rfl) dX6_append_6 rfl ?_
    refine g_bipush 10 (by rfl) dX6_append_8 rfl ?_
    refine k_S3z 13 dX6_append_10 rfl lk_X6_29 rfl (by first | rfl | exact rv_cat (by assumption) | exact rv_cat rv_f) (by first | rfl | exact rv_cat (by assumption) | exact rv_cat rv_f) (by first | rfl | exact rv_cat (by assumption) | exact rv_cat rv_f) (Nat.le_of_ble_eq_true rfl) (by first | exact Nat.le_of_ble_eq_true rfl | omega) (c_X6_in (by first | assumption | omega) (by first | assumption | omega) (by first | assumption | omega) ?_)
    refine g_if_ne 22 16 dX6_append_13 rfl rfl (by first | exact hT.r _ | exact hT.rT _ _ | exact inP_r | omega) (fun c13 => ?_) (fun c13 => ?_)
    · omega
    · refine g_aload0 17 (by first | exact rv_r | exact rv_n | assumption | exact rv_f) dX6_append_16 rfl ?_
      refine g_iconst 18 dX6_append_17 rfl ?_
      refine k_V1z 21 dX6_append_18 rfl lk_X6_104 hT.t rfl (by first | rfl | exact rv_cat (by assumption) | exact rv_cat rv_f) (Nat.le_of_ble_eq_true rfl) (by first | exact Nat.le_of_ble_eq_true rfl | omega) (c_X6_throwing hT (fun M hT => ?_))
      refine g_iret dX6_append_21 rfl ?_
      exact tq hQ hT hA.th.th rfl (by simp only [uT_at, wr1]) rfl
  · rw [if_neg q, if_neg q, if_neg q] at hQ
    by_cases q2 : a.2.2.2.length = 60
    · rw [if_pos q2, if_pos q2, if_pos q2] at hQ
      refine g_aload0 1 (by first | exact rv_r | exact rv_n | assumption | exact rv_f) dX6_append_0 rfl ?_
      refine g_iconst 2 dX6_append_1 rfl ?_
      refine w_put8 5 dX6_append_2 rfl fl_X6_25 hT (fun M hT => ?_)
      refine g_iload1 6 dX6_append_5 rfl ?_
      refine g_bipush 8 (by rfl) dX6_append_6 rfl ?_
      refine g_bipush 10 (by rfl) dX6_append_8 rfl ?_
      refine k_S3z 13 dX6_append_10 rfl lk_X6_29 rfl (by first | rfl | exact rv_cat (by assumption) | exact rv_cat rv_f) (by first | rfl | exact rv_cat (by assumption) | exact rv_cat rv_f) (by first | rfl | exact rv_cat (by assumption) | exact rv_cat rv_f) (Nat.le_of_ble_eq_true rfl) (by first | exact Nat.le_of_ble_eq_true rfl | omega) (c_X6_in (by first | assumption | omega) (by first | assumption | omega) (by first | assumption | omega) ?_)
      refine g_if_ne 22 16 dX6_append_13 rfl rfl (by first | exact hT.r _ | exact hT.rT _ _ | exact inP_r | omega) (fun c13 => ?_) (fun c13 => ?_)
      · refine g_aload0 23 (by first | exact rv_r | exact rv_n | assumption | exact rv_f) dX6_append_22 rfl ?_
        refine g_getf 26 dX6_append_23 rfl fl_X6_176 hT.t (hT.f7) ?_
        refine g_bipush 28 (by rfl) dX6_append_26 rfl ?_
        refine g_icmp_ne 37 31 dX6_append_28 rfl rfl (by first | exact hT.r _ | exact hT.rT _ _ | exact inP_r | omega) (by first | exact hT.r _ | exact hT.rT _ _ | exact inP_r | omega) (fun c28 => ?_) (fun c28 => ?_)
        · omega
        · refine g_aload0 32 (by first | exact rv_r | exact rv_n | assumption | exact rv_f) dX6_append_31 rfl ?_
          refine g_iconst 33 dX6_append_32 rfl ?_
          refine k_V1z 36 dX6_append_33 rfl lk_X6_104 hT.t rfl (by first | rfl | exact rv_cat (by assumption) | exact rv_cat rv_f) (Nat.le_of_ble_eq_true rfl) (by first | exact Nat.le_of_ble_eq_true rfl | omega) (c_X6_throwing hT (fun M hT => ?_))
          refine g_iret dX6_append_36 rfl ?_
          first | omega | exact tq hQ hT hA.th.th rfl (by simp only [uT_at, wr2]) rfl
      · refine g_aload0 17 (by first | exact rv_r | exact rv_n | assumption | exact rv_f) dX6_append_16 rfl ?_
        refine g_iconst 18 dX6_append_17 rfl ?_
        refine k_V1z 21 dX6_append_18 rfl lk_X6_104 hT.t rfl (by first | rfl | exact rv_cat (by assumption) | exact rv_cat rv_f) (Nat.le_of_ble_eq_true rfl) (by first | exact Nat.le_of_ble_eq_true rfl | omega) (c_X6_throwing hT (fun M hT => ?_))
        refine g_iret dX6_append_21 rfl ?_
        first | omega | exact tq hQ hT hA.th.th rfl (by simp only [uT_at, wr2]) rfl
    · rw [if_neg q2, if_neg q2, if_neg q2] at hQ
      refine g_aload0 1 (by first | exact rv_r | exact rv_n | assumption | exact rv_f) dX6_append_0 rfl ?_
      refine g_iconst 2 dX6_append_1 rfl ?_
      refine w_put8 5 dX6_append_2 rfl fl_X6_25 hT (fun M hT => ?_)
      refine g_iload1 6 dX6_append_5 rfl ?_
      refine g_bipush 8 (by rfl) dX6_append_6 rfl ?_
      refine g_bipush 10 (by rfl) dX6_append_8 rfl ?_
      refine k_S3z 13 dX6_append_10 rfl lk_X6_29 rfl (by first | rfl | exact rv_cat (by assumption) | exact rv_cat rv_f) (by first | rfl | exact rv_cat (by assumption) | exact rv_cat rv_f) (by first | rfl | exact rv_cat (by assumption) | exact rv_cat rv_f) (Nat.le_of_ble_eq_true rfl) (by first | exact Nat.le_of_ble_eq_true rfl | omega) (c_X6_in (by first | assumption | omega) (by first | assumption | omega) (by first | assumption | omega) ?_)
      refine g_if_ne 22 16 dX6_append_13 rfl rfl (by first | exact hT.r _ | exact hT.rT _ _ | exact inP_r | omega) (fun c13 => ?_) (fun c13 => ?_)
      · refine g_aload0 23 (by first | exact rv_r | exact rv_n | assumption | exact rv_f) dX6_append_22 rfl ?_
        refine g_getf 26 dX6_append_23 rfl fl_X6_176 hT.t (hT.f7) ?_
        refine g_bipush 28 (by rfl) dX6_append_26 rfl ?_
        refine g_icmp_ne 37 31 dX6_append_28 rfl rfl (by first | exact hT.r _ | exact hT.rT _ _ | exact inP_r | omega) (by first | exact hT.r _ | exact hT.rT _ _ | exact inP_r | omega) (fun c28 => ?_) (fun c28 => ?_)
        · have e58 : ∀ i v w, uT (uT (uT T 5 8 0) 4 i v) 5 7 w 5 8 = 0 := fun i v w => by rw [uT_ne (by omega), uT_ne (by omega), uT_at, wr0]
          refine g_aload0 38 (by first | exact rv_r | exact rv_n | assumption | exact rv_f) dX6_append_37 rfl ?_
          refine g_getf 41 dX6_append_38 rfl fl_X6_22 hT.t (hT.f6) ?_
          refine g_aload0 42 (by first | exact rv_r | exact rv_n | assumption | exact rv_f) dX6_append_41 rfl ?_
          refine g_getf 45 dX6_append_42 rfl fl_X6_176 hT.t (hT.f7) ?_
          refine g_iload1 46 dX6_append_45 rfl ?_
          refine w_ias4 47 dX6_append_46 rfl hT (by omega) (by omega) (fun M hT => ?_)
          refine g_aload0 48 (by first | exact rv_r | exact rv_n | assumption | exact rv_f) dX6_append_47 rfl ?_
          refine g_dup 49 (by first | rfl | exact rv_cat (by assumption) | exact rv_cat rv_f) dX6_append_48 rfl ?_
          refine g_getf 52 dX6_append_49 rfl fl_X6_176 hT.t (hT.f7) ?_
          refine g_iconst 53 dX6_append_52 rfl ?_
          refine g_iadd 54 dX6_append_53 rfl ?_
          refine w_put7 57 dX6_append_54 rfl fl_X6_176 hT (fun M hT => ?_)
          refine g_aload0 58 (by first | exact rv_r | exact rv_n | assumption | exact rv_f) dX6_append_57 rfl ?_
          refine g_getf 61 dX6_append_58 rfl fl_X6_176 hT.t (hT.f7) ?_
          refine g_iret dX6_append_61 rfl ?_
          refine tq3 hQ hT rfl ?_ (e58 _ _ _) (by rw [uT_at, h7'', wr_id (by omega)])
          obtain ⟨⟨a1, a2, a3⟩, ⟨b1, b2⟩, c1, c2, c3⟩ := hA
          refine ⟨⟨?_, a2, fun j g hj i i0 i1 => ?_⟩, ⟨?_, fun g hg i i0 i1 => ?_⟩, ?_, ?_, fun j c' hj => ?_⟩
          · rw [uT_ne (by omega), uT_ne (by omega), uT_ne (by omega)]; exact a1
          · rw [uT_ne (by omega), uT_ne (by omega), uT_ne (by omega)]; exact a3 j g hj i i0 i1
          · rw [uT_ne (by omega), uT_ne (by omega), uT_ne (by omega)]; exact b1
          · rw [uT_ne (by omega), uT_ne (by omega), uT_ne (by omega)]; exact b2 g hg i i0 i1
          · rw [uT_at, h7'', wr_id (by omega)]; simp
          · simp; omega
          · rw [uT_ne (by omega)]
            by_cases hj4 : j = a.2.2.2.length
            · subst hj4
              rw [h7, uT_at, wr_id hc]
              simpa using hj
            · have hjl := (List.getElem?_eq_some_iff.mp hj).1
              simp at hjl
              rw [List.getElem?_append_left (by omega)] at hj
              rw [h7, uT_ne (by omega), uT_ne (by omega)]
              exact c3 j c' hj
        · refine g_aload0 32 (by first | exact rv_r | exact rv_n | assumption | exact rv_f) dX6_append_31 rfl ?_
          refine g_iconst 33 dX6_append_32 rfl ?_
          refine k_V1z 36 dX6_append_33 rfl lk_X6_104 hT.t rfl (by first | rfl | exact rv_cat (by assumption) | exact rv_cat rv_f) (Nat.le_of_ble_eq_true rfl) (by first | exact Nat.le_of_ble_eq_true rfl | omega) (c_X6_throwing hT (fun M hT => ?_))
          refine g_iret dX6_append_36 rfl ?_
          omega
      · refine g_aload0 17 (by first | exact rv_r | exact rv_n | assumption | exact rv_f) dX6_append_16 rfl ?_
        refine g_iconst 18 dX6_append_17 rfl ?_
        refine k_V1z 21 dX6_append_18 rfl lk_X6_104 hT.t rfl (by first | rfl | exact rv_cat (by assumption) | exact rv_cat rv_f) (Nat.le_of_ble_eq_true rfl) (by first | exact Nat.le_of_ble_eq_true rfl | omega) (c_X6_throwing hT (fun M hT => ?_))
        refine g_iret dX6_append_21 rfl ?_
        omega
end TWI
