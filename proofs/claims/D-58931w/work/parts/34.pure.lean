/-! ===== the pure law: rests, repairs ===== -/
theorem WW.rest1 {s : Int → Int} (h : WW s) {p v : Int} (h0 : 0 ≤ p) (h1 : p < 5) (hv : 0 ≤ v ∧ v ≤ 200) (ho : s (217 + 3 * p + 0) = 1 → v = 0) : WW (up s (217 + 3 * p + 1) v) := by
  obtain ⟨hr, w1, w2, w3, w4, w5, w6, w7, w8⟩ := h
  refine ⟨up_r hr, w1.cg (fun _ _ _ => (up_ne (by omega))), w2.cg w1.2.2.2.2.2.2.2.2 (up_ne (by omega)) (fun _ _ _ => (up_ne (by omega))) (fun _ _ _ => (up_ne (by omega))), w3.cg (up_ne (by omega)) (up_ne (by omega)) (fun _ _ _ _ => (up_ne (by omega))), w4.cg (up_ne (by omega)) (fun g h0 h1 => ?_), ?_, ?_, w7.cg (fun _ _ _ => ⟨(up_ne (by omega)), (up_ne (by omega)), (up_ne (by omega))⟩), w8.cg (up_ne (by omega)) (fun _ _ _ => (up_ne (by omega))) (fun g _ h1 => ?_) (fun _ _ _ => (up_ne (by omega))) (fun _ _ _ => (up_ne (by omega)))⟩
  · have := w4 g h0 h1
    have := w1.2.2.2.2.2.2
    exact ⟨(up_ne (by omega)), (up_ne (by omega)), by rw [up_ne (by omega)]; omega, by rw [up_ne (by omega)]; omega⟩
  · intro q q0 q1
    have := w5 q q0 q1
    by_cases hq : q = p
    · subst hq
      rw [up_at, up_ne (by omega), wr_id (by omega)]
      omega
    · rw [up_ne (by omega), up_ne (by omega)]
      exact this
  · have := w1.2.2.2.2.2.2
    exact w6.cg (by rw [up_ne (by omega)]; omega) (fun c h0 h1 => ⟨(up_ne (by omega)), ⟨by rw [up_ne (by omega)]; exact (w6 c h0 h1).2.2.1, by rw [up_ne (by omega)]; exact (w6 c h0 h1).2.2.2.1, fun _ => (up_ne (by omega))⟩, (up_ne (by omega)), (up_ne (by omega)), (up_ne (by omega)), (up_ne (by omega)), (up_ne (by omega)), (up_ne (by omega))⟩) (fun _ _ _ _ _ => (up_ne (by omega))) (fun _ _ _ => (up_ne (by omega))) (fun _ _ _ e => by rw [up_ne (by omega)]; exact e)
  · have := w1.2.2.2.2.2.2
    exact ⟨(up_ne (by omega)), (up_ne (by omega)), (up_ne (by omega))⟩
theorem WW.rests {s : Int → Int} : ∀ (j : Nat) (p : Int) (s : Int → Int), WW s → 0 ≤ p → p + j ≤ 5 → WW (restsF j p s)
  | 0, _, _, h, _, _ => h
  | j + 1, p, s, h, h0, h1 => by
    unfold restsF
    have w := h.2.2.2.2.2.1 p h0 (by omega)
    refine WW.rests (s := s) j (p + 1) _ (h.rest1 h0 (by omega) ?_ ?_) (by omega) (by omega) <;> (split <;> omega)
def fbP (s : Int → Int) : Int := if s (240 + 10 * 0 + 2) = 1 then 0 else if s (240 + 10 * 1 + 2) = 1 then 1 else if s (240 + 10 * 2 + 2) = 1 then 2 else -1
theorem repStep_ne {s : Int → Int} {c i : Int} (h : i ≠ 9) : repStep c s i = s i := up_ne h
theorem repStep_at {s : Int → Int} {c : Int} : repStep c s 9 = wr (if s (240 + 10 * c + 0) = 0 ∧ s (240 + 10 * c + 2) = 1 then c else s 9) := up_at
theorem repA_at {s : Int → Int} (h6 : W6 s) (h10 : s 10 = 0) (h9 : s 9 = -1) (i : Int) : repA s i = if i = 9 then fbP s else s i := by
  have a0 := h6 0 (by omega) (by omega)
  have a1 := h6 1 (by omega) (by omega)
  have a2 := h6 2 (by omega) (by omega)
  unfold repA
  rw [if_pos h10]
  by_cases hi : i = 9
  · subst hi
    rw [if_pos rfl, repStep_at, repStep_ne (by omega), repStep_ne (by omega), repStep_ne (by omega), repStep_ne (by omega), repStep_at, repStep_ne (by omega), repStep_ne (by omega), repStep_at, h9]
    unfold fbP
    by_cases b0 : s (240 + 10 * 0 + 2) = 1
    · rw [if_pos ⟨by omega, b0⟩, if_pos b0]
      exact wr_id (by decide)
    · rw [if_neg (fun z => b0 z.2), if_neg b0]
      by_cases b1 : s (240 + 10 * 1 + 2) = 1
      · rw [if_pos ⟨by omega, b1⟩, if_pos b1]
        decide
      · rw [if_neg (fun z => b1 z.2), if_neg b1]
        by_cases b2 : s (240 + 10 * 2 + 2) = 1
        · rw [if_pos ⟨by omega, b2⟩, if_pos b2]
          decide
        · rw [if_neg (fun z => b2 z.2), if_neg b2]
          decide
  · rw [if_neg hi, repStep_ne hi, repStep_ne hi, repStep_ne hi]
theorem fbP_r {s : Int → Int} : (fbP s = -1 ∧ ∀ c, 0 ≤ c → c < 3 → s (240 + 10 * c + 2) ≠ 1) ∨ (0 ≤ fbP s ∧ fbP s < 3 ∧ s (240 + 10 * fbP s + 2) = 1 ∧ ∀ c, 0 ≤ c → c < fbP s → s (240 + 10 * c + 2) ≠ 1) := by
  unfold fbP
  split
  · rename_i h; exact Or.inr ⟨by omega, by omega, h, fun c _ _ => by omega⟩
  · split
    · rename_i h1 h2
      refine Or.inr ⟨by omega, by omega, h2, fun c _ _ => ?_⟩
      obtain rfl : c = 0 := by omega
      exact h1
    · split
      · rename_i h0 h1 h2
        refine Or.inr ⟨by omega, by omega, h2, fun c _ _ => ?_⟩
        rcases (show c = 0 ∨ c = 1 by omega) with rfl | rfl
        · exact h0
        · exact h1
      · rename_i h0 h1 h2
        refine Or.inl ⟨rfl, fun c _ _ => ?_⟩
        rcases (show c = 0 ∨ c = 1 ∨ c = 2 by omega) with rfl | rfl | rfl
        · exact h0
        · exact h1
        · exact h2
/-- the three ways a quarter's repair goes -/
theorem repairsP_at {s : Int → Int} (h3 : W3 s) (h6 : W6 s) (i : Int) : repairsP s i =
    if s 9 = -1 then (if fbP s = -1 then s i else if i = 9 then fbP s else if i = 10 then 3 else s i)
    else if s 10 = 1 then (if i = 9 then -1 else if i = 10 then 0 else if i = 240 + 10 * s 9 + 1 ∨ i = 240 + 10 * s 9 + 2 then 0 else s i)
    else if i = 10 then s 10 - 1 else s i := by
  have hf := @fbP_r s
  rcases h3 with ⟨h9, h10⟩ | ⟨h9, h9', h10, h10', hb⟩
  · have e := repA_at h6 h10 h9
    have e9 : repA s 9 = fbP s := by rw [e, if_pos rfl]
    have e10 : repA s 10 = 0 := by rw [e, if_neg (by omega), h10]
    rw [if_pos h9]
    unfold repairsP repB
    by_cases hfb : fbP s = -1
    · rw [if_pos hfb, if_pos (by rw [e9, hfb]), e]
      split
      · rename_i q; rw [q]; omega
      · rfl
    · rw [if_neg hfb, if_neg (by rw [e9]; exact hfb), if_pos e10]
      have e3 : wr (4 - 1) = 3 := wr_id (by decide)
      simp only [up_at, e3, show ¬ ((3 : Int) = 0) by decide, if_false]
      by_cases hi : i = 10
      · subst hi
        rw [up_at, e3, if_neg (by omega), if_pos rfl]
      · rw [up_ne hi, e]
        split
        · rfl
        · first | rfl | rw [if_neg hi]
  · have e : repA s = s := by unfold repA; rw [if_neg (by omega)]
    rw [if_neg (by omega)]
    unfold repairsP
    rw [e]
    unfold repB
    rw [if_neg (by omega), if_neg (by omega : ¬ s 10 = 0)]
    have e3 : wr (s 10 - 1) = s 10 - 1 := wr_id (by omega)
    simp only [up_at, e3]
    by_cases h1 : s 10 = 1
    · rw [if_pos h1, if_pos (by omega)]
      have z0 : wr 0 = 0 := wr_id (by decide)
      have z1 : wr (-1) = -1 := wr_id (by decide)
      simp (disch := omega) only [up_ne]
      unfold up
      simp only [e3, z0, z1]
      split
      · rfl
      · split
        · rename_i q1 q2
          rw [if_neg (by omega), if_pos (Or.inl q2)]
        · split
          · rename_i q1 q2 q3
            rw [if_neg (by omega), if_pos (Or.inr q3)]
          · rename_i q1 q2 q3
            split
            · omega
            · rw [if_neg (by omega)]
    · rw [if_neg h1, if_neg (by omega)]
      unfold up
      rw [e3]
theorem repairsP_r {s : Int → Int} (h : ∀ i, R32 (s i)) : ∀ i, R32 (repairsP s i) := by
  have hA : ∀ i, R32 (repA s i) := by
    unfold repA
    split
    · exact up_r (up_r (up_r h))
    · exact h
  unfold repairsP repB
  split
  · exact hA
  · generalize (if repA s 10 = 0 then 4 else repA s 10) - 1 = v
    dsimp only
    split
    · exact up_r (up_r (up_r (up_r hA)))
    · exact up_r hA
theorem WW.repairs {s : Int → Int} (h : WW s) : WW (repairsP s) := by
  obtain ⟨hr, w1, w2, w3, w4, w5, w6, w7, w8⟩ := h
  have e := repairsP_at w3 w6
  have hf := @fbP_r s
  have w1' := w1
  unfold W1 at w1'
  have k1 : ∀ i, i ≠ 9 → i ≠ 10 → (∀ c, 0 ≤ c → c < 3 → i ≠ 240 + 10 * c + 1 ∧ i ≠ 240 + 10 * c + 2) → repairsP s i = s i := fun i h1 h2 h3 => by
    rw [e]
    have := h3 (s 9)
    by_cases q : s 9 = -1
    · rw [if_pos q]
      by_cases q2 : fbP s = -1
      · rw [if_pos q2]
      · rw [if_neg q2, if_neg h1, if_neg h2]
    · rw [if_neg q]
      by_cases q2 : s 10 = 1
      · rw [if_pos q2, if_neg h1, if_neg h2, if_neg]
        rcases w3 with w3 | w3 <;> omega
      · rw [if_neg q2, if_neg h2]
  have kb : ∀ c, 0 ≤ c → c < 3 → repairsP s (240 + 10 * c + 2) = s (240 + 10 * c + 2) ∨ (repairsP s (240 + 10 * c + 2) = 0 ∧ s (240 + 10 * c + 2) = 1 ∧ s 9 = c) := fun c h0 h1 => by
    rw [e]
    by_cases q : s 9 = -1
    · rw [if_pos q]
      by_cases q2 : fbP s = -1
      · rw [if_pos q2]; exact Or.inl rfl
      · rw [if_neg q2, if_neg (by omega), if_neg (by omega)]; exact Or.inl rfl
    · rw [if_neg q]
      by_cases q2 : s 10 = 1
      · rw [if_pos q2]
        rw [if_neg (by omega), if_neg (by omega)]
        by_cases hc : s 9 = c
        · rw [if_pos (by omega)]
          rcases w3 with w3 | w3
          · omega
          · exact Or.inr ⟨rfl, by rw [← hc]; exact w3.2.2.2.2, hc⟩
        · rw [if_neg (by omega)]; exact Or.inl rfl
      · rw [if_neg q2, if_neg (by omega)]; exact Or.inl rfl
  refine ⟨repairsP_r hr, w1.cg (fun _ _ _ => k1 _ (by omega) (by omega) (fun _ _ _ => by omega)), w2.cg (by omega) (k1 _ (by omega) (by omega) (fun _ _ _ => by omega)) (fun _ _ _ => k1 _ (by omega) (by omega) (fun _ _ _ => by omega)) (fun _ _ _ => k1 _ (by omega) (by omega) (fun _ _ _ => by omega)), ?_, w4.cg (k1 _ (by omega) (by omega) (fun _ _ _ => by omega)) (fun g h0 h1 => ?_), w5.cg (fun _ _ _ => ⟨k1 _ (by omega) (by omega) (fun _ _ _ => by omega), k1 _ (by omega) (by omega) (fun _ _ _ => by omega)⟩), ?_, w7.cg (fun _ _ _ => ⟨k1 _ (by omega) (by omega) (fun _ _ _ => by omega), k1 _ (by omega) (by omega) (fun _ _ _ => by omega), k1 _ (by omega) (by omega) (fun _ _ _ => by omega)⟩), w8.cg (k1 _ (by omega) (by omega) (fun _ _ _ => by omega)) (fun _ _ _ => k1 _ (by omega) (by omega) (fun _ _ _ => by omega)) (fun g _ h1 => ?_) (fun _ _ _ => k1 _ (by omega) (by omega) (fun _ _ _ => by omega)) (fun _ _ _ => k1 _ (by omega) (by omega) (fun _ _ _ => by omega))⟩
  · unfold W3
    rcases w3 with w3 | w3
    · rw [e 9, e 10, if_pos w3.1, if_pos w3.1]
      by_cases hfb : fbP s = -1
      · rw [if_pos hfb, if_pos hfb]; exact Or.inl w3
      · rw [if_neg hfb, if_neg hfb, if_pos rfl, if_neg (by omega), if_pos rfl, e, if_pos w3.1, if_neg hfb, if_neg (by omega), if_neg (by omega)]
        rcases hf with hf | hf
        · omega
        · exact Or.inr ⟨hf.1, hf.2.1, by omega, by omega, hf.2.2.1⟩
    · have n9 : ¬ s 9 = -1 := by omega
      by_cases h1 : s 10 = 1
      · have v9 : repairsP s 9 = -1 := by rw [e, if_neg n9, if_pos h1, if_pos rfl]
        have v10 : repairsP s 10 = 0 := by rw [e, if_neg n9, if_pos h1, if_neg (by decide), if_pos rfl]
        exact Or.inl ⟨v9, v10⟩
      · have v9 : repairsP s 9 = s 9 := by rw [e, if_neg n9, if_neg h1, if_neg (by decide)]
        have v10 : repairsP s 10 = s 10 - 1 := by rw [e, if_neg n9, if_neg h1, if_pos rfl]
        have vb : repairsP s (240 + 10 * s 9 + 2) = 1 := by rw [e, if_neg n9, if_neg h1, if_neg (by omega)]; exact w3.2.2.2.2
        rw [v9, v10]
        exact Or.inr ⟨w3.1, w3.2.1, by omega, by omega, vb⟩
  · have := w4 g h0 h1
    rw [k1 (17 + 5 * g + 2) (by omega) (by omega) (fun _ _ _ => by omega)]
    exact ⟨k1 _ (by omega) (by omega) (fun _ _ _ => by omega), k1 _ (by omega) (by omega) (fun _ _ _ => by omega), this.2.2.2.2⟩
  · refine w6.cg (by rw [k1 3 (by omega) (by omega) (fun _ _ _ => by omega)]; omega) (fun c h0 h1 => ?_) (fun _ _ _ _ _ => k1 _ (by omega) (by omega) (fun _ _ _ => by omega)) (fun _ _ _ => k1 _ (by omega) (by omega) (fun _ _ _ => by omega)) (fun _ _ _ e => by rw [k1 _ (by omega) (by omega) (fun _ _ _ => by omega)]; exact e)
    have := w6 c h0 h1
    have b := kb c h0 h1
    exact ⟨k1 _ (by omega) (by omega) (fun _ _ _ => by omega), by omega, k1 _ (by omega) (by omega) (fun _ _ _ => by omega), k1 _ (by omega) (by omega) (fun _ _ _ => by omega), k1 _ (by omega) (by omega) (fun _ _ _ => by omega), k1 _ (by omega) (by omega) (fun _ _ _ => by omega), k1 _ (by omega) (by omega) (fun _ _ _ => by omega), k1 _ (by omega) (by omega) (fun _ _ _ => by omega)⟩
  · exact ⟨k1 _ (by omega) (by omega) (fun _ _ _ => by omega), k1 _ (by omega) (by omega) (fun _ _ _ => by omega), k1 _ (by omega) (by omega) (fun _ _ _ => by omega)⟩
