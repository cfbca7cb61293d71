/-! ===== the pure law: a departure ===== -/
theorem shiftF_at : ∀ (j : Nat) (k : Int) (s : Int → Int) (i : Int), (∀ i, R32 (s i)) → shiftF j k s i = if 5 + k ≤ i ∧ i < 5 + k + j then s (i + 1) else s i
  | 0, k, s, i, _ => by unfold shiftF; rw [if_neg (by omega)]
  | j + 1, k, s, i, hr => by
    unfold shiftF
    rw [shiftF_at j (k + 1) _ i (up_r hr)]
    by_cases q : 5 + (k + 1) ≤ i ∧ i < 5 + (k + 1) + j
    · rw [if_pos q, if_pos (by omega), up_ne (by omega)]
    · rw [if_neg q]
      by_cases q2 : i = 5 + k
      · rw [q2, up_at, if_pos (by omega), wr_id (hr _)]
      · rw [up_ne q2, if_neg (by omega)]
theorem leavesP_at {s : Int → Int} {b : Int} (hr : ∀ i, R32 (s i)) (h4 : 0 ≤ s 4 ∧ s 4 ≤ 4) (hp : 0 ≤ placeP s b ∧ placeP s b < s 4) (i : Int) : leavesP s b i = if i = 4 then s 4 - 1 else if 5 + placeP s b ≤ i ∧ i < 4 + s 4 then s (i + 1) else s i := by
  unfold leavesP
  rw [shiftF_at _ _ _ _ (up_r hr)]
  by_cases q : i = 4
  · subst q
    rw [if_pos rfl, if_neg (by omega), up_at, wr_id (by omega)]
  · rw [if_neg q]
    by_cases q2 : 5 + placeP s b ≤ i ∧ i < 4 + s 4
    · rw [if_pos (by omega), if_pos q2, up_ne (by omega)]
    · rw [if_neg (by omega), if_neg q2, up_ne q]
theorem placeP_0 {s : Int → Int} (h4 : 1 ≤ s 4) : placeP s (s 5) = 0 := by
  unfold placeP
  rw [show (s 4).toNat = ((s 4).toNat - 1) + 1 by omega]
  unfold plF
  exact if_pos rfl
theorem inG_st {s : Int → Int} {r : Int} : ∀ (j : Nat) (g l : Int), 0 ≤ g → (inG s r j g l).1 ≠ -1 → s (17 + 5 * (inG s r j g l).1 + 2) = 0 ∧ s (17 + 5 * (inG s r j g l).1 + 0) = r
  | 0, g, l, _, h => absurd rfl h
  | j + 1, g, l, h0, h => by
    unfold inG at h ⊢
    split at h
    · rename_i q
      rw [if_pos q]
      split at h
      · rename_i q2
        rw [if_pos q2]
        exact q
      · rename_i q2
        rw [if_neg q2]
        exact inG_st j (g + 1) _ (by omega) h
    · rename_i q
      rw [if_neg q]
      exact inG_st j (g + 1) l (by omega) h
theorem inR_st {s : Int → Int} : ∀ (j : Nat) (r l : Int), inR s j r l ≠ -1 → s (17 + 5 * inR s j r l + 2) = 0
  | 0, r, l, h => absurd rfl h
  | j + 1, r, l, h => by
    unfold inR at h ⊢
    split at h
    · rename_i q
      rw [if_pos q]
      exact inR_st j (r + 1) _ h
    · rename_i q
      rw [if_neg q]
      exact (inG_st _ 0 l (by omega) q).1
theorem inLineP_st {s : Int → Int} {p : Int} (h : inLineP s p ≠ -1) : s (17 + 5 * inLineP s p + 2) = 0 := inR_st 3 0 p h
theorem restF_st {s : Int → Int} : ∀ (j : Nat) (p x : Int), (x ≠ -1 → s (217 + 3 * x + 0) = 0 ∧ s (217 + 3 * x + 1) = 0) → restF s j p x ≠ -1 → s (217 + 3 * restF s j p x + 0) = 0 ∧ s (217 + 3 * restF s j p x + 1) = 0
  | 0, p, x, hx, h => hx h
  | j + 1, p, x, hx, h => by
    refine restF_st j (p + 1) _ (fun q => ?_) h
    unfold restStep at q ⊢
    split at q
    · rename_i a; rw [if_pos a]; exact a.1
    · rename_i a; rw [if_neg a]; exact hx q
theorem restedP_st {s : Int → Int} (h : restedP s ≠ -1) : s (217 + 3 * restedP s + 0) = 0 ∧ s (217 + 3 * restedP s + 1) = 0 := restF_st 5 0 (-1) (fun q => absurd rfl q) h
theorem readyF_st {s : Int → Int} : ∀ (j : Nat) (p x : Int), (x ≠ -1 → s (240 + 10 * x + 0) = 0 ∧ s (240 + 10 * x + 2) = 0) → readyF s j p x ≠ -1 → s (240 + 10 * readyF s j p x + 0) = 0 ∧ s (240 + 10 * readyF s j p x + 2) = 0
  | 0, p, x, hx, h => hx h
  | j + 1, p, x, hx, h => by
    refine readyF_st j (p + 1) _ (fun q => ?_) h
    unfold readyStep at q ⊢
    split at q
    · rename_i a; rw [if_pos a]; exact a.1
    · rename_i a; rw [if_neg a]; exact hx q
theorem readyP_st {s : Int → Int} (h : readyP s ≠ -1) : s (240 + 10 * readyP s + 0) = 0 ∧ s (240 + 10 * readyP s + 2) = 0 := readyF_st 3 0 (-1) (fun q => absurd rfl q) h
/-- what a departure stands on -/
def DP (s : Int → Int) (g p c : Int) : Prop := (0 ≤ g ∧ g < s 3 ∧ s (17 + 5 * g + 2) = 0) ∧ (0 ≤ p ∧ p < 5 ∧ s (217 + 3 * p + 0) = 0 ∧ s (217 + 3 * p + 1) = 0) ∧ (0 ≤ c ∧ c < 3 ∧ s (240 + 10 * c + 0) = 0 ∧ s (240 + 10 * c + 2) = 0) ∧ 1 ≤ s 4
theorem why_DP {s : Int → Int} (h1 : W1 s) (h : whyP s = 0) : DP s (inLineP s 0) (restedP s) (readyP s) := by
  unfold W1 at h1
  have a := inLineP_r (s := s) (p := 0) (by omega) (by omega)
  have b := restedP_r s
  have c := readyP_r s
  have a2 := @inLineP_st s 0
  have b2 := @restedP_st s
  have c2 := @readyP_st s
  unfold whyP at h
  by_cases q1 : inLineP s 0 = -1
  · rw [if_pos q1] at h; omega
  · by_cases q2 : restedP s = -1
    · rw [if_neg q1, if_pos q2] at h; omega
    · by_cases q3 : s 4 = 0
      · rw [if_neg q1, if_neg q2, if_pos q3] at h; omega
      · by_cases q4 : readyP s = -1
        · rw [if_neg q1, if_neg q2, if_neg q3, if_pos q4] at h; omega
        · have a3 := a2 q1; have := b2 q2; have := c2 q4
          exact ⟨⟨by omega, by omega, a3⟩, ⟨by omega, by omega, by omega, by omega⟩, ⟨by omega, by omega, by omega, by omega⟩, by omega⟩
def departQ (s : Int → Int) (g p c : Int) : Int → Int := depB (leavesP (depA s g p) (s 5)) g p (s 5) c (outP s g) (backP s g)
theorem out_r {s : Int → Int} (h1 : W1 s) (g : Int) : 1 ≤ outP s g ∧ outP s g ≤ 8 ∧ 1 ≤ backP s g ∧ backP s g ≤ 8 := by
  have m := milesP_r (s (17 + 5 * g + 1))
  unfold W1 at h1
  have key : ∀ x y : Int, 6 ≤ x → x ≤ 16 → 2 ≤ y → y ≤ 6 → 1 ≤ (x + y - 1) / y ∧ (x + y - 1) / y ≤ 8 := fun x y h1 h2 h3 h4 => by
    rcases (show y = 2 ∨ y = 3 ∨ y = 4 ∨ y = 5 ∨ y = 6 by omega) with rfl | rfl | rfl | rfl | rfl <;> omega
  unfold outP backP
  have k2 := key _ (s 1) m.1 m.2 (by omega) (by omega)
  split
  · have k1 := key _ (s 1 + 1) m.1 m.2 (by omega) (by omega)
    exact ⟨k1.1, k1.2, k2.1, k2.2⟩
  · exact ⟨k2.1, k2.2, k2.1, k2.2⟩
theorem depart_at {s : Int → Int} (h : WW s) {g p c : Int} (hD : DP s g p c) (i : Int) : departQ s g p c i =
    if i = 240 + 10 * c + 9 then backP s g else if i = 240 + 10 * c + 8 then outP s g + backP s g else if i = 240 + 10 * c + 7 then outP s g + backP s g else if i = 240 + 10 * c + 6 then s 5 else if i = 240 + 10 * c + 5 then p else if i = 240 + 10 * c + 4 then g else if i = 240 + 10 * c + 0 then 1
    else if i = 232 + 2 * s 5 + 1 then wr (s (232 + 2 * s 5 + 1) + 1) else if i = 232 + 2 * s 5 + 0 then 2 else if i = 4 then s 4 - 1 else if 5 ≤ i ∧ i < 4 + s 4 then s (i + 1)
    else if i = 217 + 3 * p + 0 then 1 else if i = 11 + s (17 + 5 * g + 1) then wr (s (11 + s (17 + 5 * g + 1)) + fareP (s (17 + 5 * g + 0)) (s (17 + 5 * g + 1))) else if i = 17 + 5 * g + 2 then 1 else if i = 17 + 5 * g + 4 then wr (waitedP s g) else s i := by
  obtain ⟨hr, w1, w2, -, w4, -, -, -, -⟩ := h
  obtain ⟨⟨g0, g1, g2⟩, ⟨p0, p1, p2, p3⟩, ⟨c0, c1, c2, c3⟩, h4⟩ := hD
  have hw := out_r w1 g
  unfold W1 at w1
  have hg := w4 g g0 g1
  have hb := w2.1 0 (by omega) (by omega)
  rw [show (5 : Int) + 0 = 5 from rfl] at hb
  have hb0 := hr (s 5)
  have z1 : wr 1 = 1 := wr_id (by decide)
  have z2 : wr 2 = 2 := wr_id (by decide)
  have eA : depA s g p = up (up (up (up s (17 + 5 * g + 4) (waitedP s g)) (17 + 5 * g + 2) 1) (11 + s (17 + 5 * g + 1)) (s (11 + s (17 + 5 * g + 1)) + fareP (s (17 + 5 * g + 0)) (s (17 + 5 * g + 1)))) (217 + 3 * p + 0) 1 := by
    unfold depA
    simp (disch := omega) only [up_ne]
  have rA : ∀ i, R32 (depA s g p i) := by rw [eA]; exact up_r (up_r (up_r (up_r hr)))
  have A4 : depA s g p 4 = s 4 := by rw [eA]; simp (disch := omega) only [up_ne]
  have A5 : depA s g p 5 = s 5 := by rw [eA]; simp (disch := omega) only [up_ne]
  have pl : placeP (depA s g p) (s 5) = 0 := by rw [← A5]; exact placeP_0 (by omega)
  have eL := leavesP_at (b := s 5) rA (by omega) (by omega)
  have eT : leavesP (depA s g p) (s 5) (232 + 2 * s 5 + 1) = s (232 + 2 * s 5 + 1) := by
    rw [eL, if_neg (by omega), if_neg (by omega), eA]; simp (disch := omega) only [up_ne]
  have rl : ∀ k, 5 ≤ k → k ≤ 8 → depA s g p k = s k := fun k k0 k1 => by rw [eA]; simp (disch := omega) only [up_ne]
  unfold departQ depB
  rw [show up (leavesP (depA s g p) (s 5)) (232 + 2 * s 5 + 0) 2 (232 + 2 * s 5 + 1) = s (232 + 2 * s 5 + 1) by rw [up_ne (by omega), eT]]
  unfold up
  rw [wr_id (show R32 (backP s g) by omega), wr_id (show R32 (outP s g + backP s g) by omega), wr_id (show R32 g by omega), wr_id (show R32 p by omega), wr_id (hr 5), z1, z2, eL, A4, pl]
  by_cases q : 5 ≤ i ∧ i < 4 + s 4
  · rw [if_pos (show 5 + 0 ≤ i ∧ i < 4 + s 4 by omega), if_pos q, rl _ (by omega) (by omega)]
  · rw [if_neg (show ¬ (5 + 0 ≤ i ∧ i < 4 + s 4) by omega), if_neg q, eA]
    unfold up
    rw [z1]
theorem departQ_r {s : Int → Int} {g p c : Int} (h : ∀ i, R32 (s i)) : ∀ i, R32 (departQ s g p c i) := by
  have hA : ∀ i, R32 (depA s g p i) := up_r (up_r (up_r (up_r h)))
  have hS : ∀ (j : Nat) (k : Int) (t : Int → Int), (∀ i, R32 (t i)) → ∀ i, R32 (shiftF j k t i) := fun j => by
    induction j with
    | zero => exact fun k t ht => ht
    | succ j ih => exact fun k t ht => ih _ _ (up_r ht)
  exact up_r (up_r (up_r (up_r (up_r (up_r (up_r (up_r (up_r (hS _ _ _ (up_r hA))))))))))
theorem incF_one {s t : Int → Int} {g0 : Int} (h0 : 0 ≤ g0) (h1 : s (17 + 5 * g0 + 2) = 0) (h2 : t (17 + 5 * g0 + 2) = 1) (e : ∀ g, 0 ≤ g → t (17 + 5 * g + 0) = s (17 + 5 * g + 0) ∧ t (17 + 5 * g + 1) = s (17 + 5 * g + 1) ∧ (g ≠ g0 → t (17 + 5 * g + 2) = s (17 + 5 * g + 2))) : ∀ j : Nat, incF t j = incF s j + (if g0 < (j : Int) then fareP (s (17 + 5 * g0 + 0)) (s (17 + 5 * g0 + 1)) else 0)
  | 0 => by unfold incF; rw [if_neg (by omega)]; rfl
  | j + 1 => by
    unfold incF
    rw [incF_one h0 h1 h2 e j]
    have ej := e j (by omega)
    by_cases q : g0 = (j : Int)
    · subst q
      rw [if_neg (show ¬ ((j : Int) < (j : Int)) by omega), h1, h2, if_pos (Or.inl rfl), if_neg (show ¬ ((0 : Int) = 1 ∨ (0 : Int) = 2) by decide), if_pos (show (j : Int) < ((j + 1 : Nat) : Int) by omega), ej.1, ej.2.1]
      first | done | omega
    · rw [ej.1, ej.2.1, ej.2.2 (fun z => q z.symm)]
      by_cases q2 : g0 < (j : Int)
      · rw [if_pos q2, if_pos (show g0 < ((j + 1 : Nat) : Int) by omega)]; omega
      · rw [if_neg q2, if_neg (show ¬ g0 < ((j + 1 : Nat) : Int) by omega)]; omega
theorem fareP_r (a b : Int) : 0 ≤ fareP a b ∧ fareP a b ≤ 448 := by
  have := milesP_r b
  unfold fareP
  (repeat' split) <;> omega
/-- what a departure leaves -/
def DE (s t : Int → Int) (g p c o w : Int) : Prop :=
  (∀ i, 0 ≤ i → i < 4 → t i = s i) ∧ t 4 = s 4 - 1 ∧ (∀ k, 0 ≤ k → k < s 4 - 1 → t (5 + k) = s (5 + k + 1)) ∧ t 9 = s 9 ∧ t 10 = s 10 ∧
  (∀ g', 0 ≤ g' → t (17 + 5 * g' + 0) = s (17 + 5 * g' + 0) ∧ t (17 + 5 * g' + 1) = s (17 + 5 * g' + 1) ∧ (g' ≠ g → t (17 + 5 * g' + 2) = s (17 + 5 * g' + 2)) ∨ s 3 ≤ g') ∧ t (17 + 5 * g + 2) = 1 ∧
  (∀ p', 0 ≤ p' → p' < 5 → (p' ≠ p → t (217 + 3 * p' + 0) = s (217 + 3 * p' + 0)) ∧ t (217 + 3 * p' + 1) = s (217 + 3 * p' + 1) ∧ t (217 + 3 * p' + 2) = s (217 + 3 * p' + 2)) ∧ t (217 + 3 * p + 0) = 1 ∧
  (∀ b, 0 ≤ b → b < 4 → b ≠ s 5 → t (232 + 2 * b + 0) = s (232 + 2 * b + 0)) ∧ t (232 + 2 * s 5 + 0) = 2 ∧
  (∀ c' w', 0 ≤ c' → c' < 3 → 0 ≤ w' → w' < 10 → (c' ≠ c ∨ w' = 1 ∨ w' = 2 ∨ w' = 3) → t (240 + 10 * c' + w') = s (240 + 10 * c' + w')) ∧
  t (240 + 10 * c + 0) = 1 ∧ t (240 + 10 * c + 4) = g ∧ t (240 + 10 * c + 5) = p ∧ t (240 + 10 * c + 6) = s 5 ∧ t (240 + 10 * c + 7) = o + w ∧ t (240 + 10 * c + 8) = o + w ∧ t (240 + 10 * c + 9) = w ∧
  (∀ r, 0 ≤ r → r < 4 → t (11 + r) = if r = s (17 + 5 * g + 1) then wr (s (11 + r) + fareP (s (17 + 5 * g + 0)) (s (17 + 5 * g + 1))) else s (11 + r)) ∧ (∀ i, R32 (t i)) ∧ (1 ≤ o ∧ o ≤ 8 ∧ 1 ≤ w ∧ w ≤ 8)
theorem depart_k {s : Int → Int} (h : WW s) {g p c : Int} (hD : DP s g p c) : DE s (departQ s g p c) g p c (outP s g) (backP s g) := by
  have e := depart_at h hD
  have hR : ∀ i, R32 (departQ s g p c i) := departQ_r h.1
  obtain ⟨hr, w1, w2, -, w4, -, -, -, -⟩ := h
  obtain ⟨⟨g0, g1, g2⟩, ⟨p0, p1, p2, p3⟩, ⟨c0, c1, c2, c3⟩, h4⟩ := hD
  have hw := out_r w1 g
  unfold W1 at w1
  have hg := w4 g g0 g1
  have hb := w2.1 0 (by omega) (by omega)
  rw [show (5 : Int) + 0 = 5 from rfl] at hb
  generalize departQ s g p c = t at e hR
  generalize outP s g = o at e hw
  generalize backP s g = w at e hw
  generalize wr (waitedP s g) = wt at e
  generalize wr (s (232 + 2 * s 5 + 1) + 1) = wtr at e
  clear w2 w4
  refine ⟨fun i h0 h1 => ?_, ?_, fun k h0 h1 => ?_, ?_, ?_, fun g' h0 => ?_, ?_, fun p' h0 h1 => ⟨fun hp => ?_, ?_, ?_⟩, ?_, fun b h0 h1 hb => ?_, ?_, fun c' w' h0 h1 h2 h3 hx => ?_, ?_, ?_, ?_, ?_, ?_, ?_, ?_, fun r h0 h1 => ?_, hR, hw⟩
  · rw [e]; (repeat (first | rw [if_neg (by omega)] | rw [if_pos (by omega)]))
  · rw [e]; (repeat (first | rw [if_neg (by omega)] | rw [if_pos (by omega)]))
  · rw [e]; (repeat (first | rw [if_neg (by omega)] | rw [if_pos (by omega)]))
  · rw [e]; (repeat (first | rw [if_neg (by omega)] | rw [if_pos (by omega)]))
  · rw [e]; (repeat (first | rw [if_neg (by omega)] | rw [if_pos (by omega)]))
  · by_cases q : g' < s 3
    · left
      refine ⟨?_, ?_, fun hg' => ?_⟩
      · rw [e]; (repeat (first | rw [if_neg (by omega)] | rw [if_pos (by omega)]))
      · rw [e]; (repeat (first | rw [if_neg (by omega)] | rw [if_pos (by omega)]))
      · rw [e]; (repeat (first | rw [if_neg (by omega)] | rw [if_pos (by omega)]))
    · right; omega
  · rw [e]; (repeat (first | rw [if_neg (by omega)] | rw [if_pos (by omega)]))
  · rw [e]; (repeat (first | rw [if_neg (by omega)] | rw [if_pos (by omega)]))
  · rw [e]; (repeat (first | rw [if_neg (by omega)] | rw [if_pos (by omega)]))
  · rw [e]; (repeat (first | rw [if_neg (by omega)] | rw [if_pos (by omega)]))
  · rw [e]; (repeat (first | rw [if_neg (by omega)] | rw [if_pos (by omega)]))
  · rw [e]; (repeat (first | rw [if_neg (by omega)] | rw [if_pos (by omega)]))
  · rw [e]; (repeat (first | rw [if_neg (by omega)] | rw [if_pos (by omega)]))
  · rw [e]; (repeat (first | rw [if_neg (by omega)] | rw [if_pos (by omega)]))
  · rw [e]; (repeat (first | rw [if_neg (by omega)] | rw [if_pos (by omega)]))
  · rw [e]; (repeat (first | rw [if_neg (by omega)] | rw [if_pos (by omega)]))
  · rw [e]; (repeat (first | rw [if_neg (by omega)] | rw [if_pos (by omega)]))
  · rw [e]; (repeat (first | rw [if_neg (by omega)] | rw [if_pos (by omega)]))
  · rw [e]; (repeat (first | rw [if_neg (by omega)] | rw [if_pos (by omega)]))
  · rw [e]; (repeat (first | rw [if_neg (by omega)] | rw [if_pos (by omega)]))
  · rw [e]; (repeat (first | rw [if_neg (by omega)] | rw [if_pos (by omega)]))
  · by_cases q : r = s (17 + 5 * g + 1)
    · subst q
      rw [if_pos rfl]; rw [e]; (repeat (first | rw [if_neg (by omega)] | rw [if_pos (by omega)]))
    · rw [if_neg q]; rw [e]; (repeat (first | rw [if_neg (by omega)] | rw [if_pos (by omega)]))
theorem ww_departQ {s : Int → Int} (h : WW s) {g p c : Int} (hD : DP s g p c) : WW (departQ s g p c) := by
  have k := depart_k h hD
  obtain ⟨hr, w1, w2, w3, w4, w5, w6, w7, w8⟩ := h
  obtain ⟨⟨g0, g1, g2⟩, ⟨p0, p1, p2, p3⟩, ⟨c0, c1, c2, c3⟩, h4⟩ := hD
  generalize departQ s g p c = t at k
  generalize outP s g = o at k
  generalize backP s g = w at k
  obtain ⟨klo, k4, krow, k9, k10, kg, kg0, kp, kp0, kb, kb0, kc, d0, d4, d5, d6, d7, d8, d9, kinc, kr, hw⟩ := k
  have w1' := w1
  unfold W1 at w1'
  have hb := w2.1 0 (by omega) (by omega)
  rw [show (5 : Int) + 0 = 5 from rfl] at hb
  have kg' : ∀ g', 0 ≤ g' → g' < s 3 → t (17 + 5 * g' + 0) = s (17 + 5 * g' + 0) ∧ t (17 + 5 * g' + 1) = s (17 + 5 * g' + 1) ∧ (g' ≠ g → t (17 + 5 * g' + 2) = s (17 + 5 * g' + 2)) := fun g' a b => by
    rcases kg g' a with z | z
    · exact z
    · omega
  have t3 := klo 3 (by omega) (by omega)
  refine ⟨kr, ?_, ⟨fun k h0 h1 => ?_, fun j k j0 jk h1 => ?_, fun b b0 b1 => ?_⟩, ?_, ?_, ?_, ?_, ?_, ?_, ?_⟩
  · unfold W1
    rw [klo 0 (by omega) (by omega), klo 1 (by omega) (by omega), klo 2 (by omega) (by omega), t3, k4]
    omega
  · rw [krow k h0 (by omega)]
    have a := w2.1 (k + 1) (by omega) (by omega)
    have d := w2.2.1 0 (k + 1) (by omega) (by omega) (by omega)
    simp only [Int.add_zero] at d
    rw [show 5 + k + 1 = 5 + (k + 1) by omega]
    rw [kb _ a.1 a.2.1 (fun z => d z.symm)]
    exact a
  · rw [krow j j0 (by omega), krow k (by omega) (by omega), show 5 + j + 1 = 5 + (j + 1) by omega, show 5 + k + 1 = 5 + (k + 1) by omega]
    exact w2.2.1 (j + 1) (k + 1) (by omega) (by omega) (by omega)
  · by_cases q : b = s 5
    · subst q
      rw [kb0]; exact ⟨by omega, by omega, fun z => by omega⟩
    · rw [kb b b0 b1 q]
      have a := w2.2.2 b b0 b1
      refine ⟨a.1, a.2.1, fun z => ?_⟩
      obtain ⟨k, x0, x1, x2⟩ := a.2.2 z
      have : k ≠ 0 := fun z => q (by rw [z] at x2; simp only [Int.add_zero] at x2; exact x2.symm)
      exact ⟨k - 1, by omega, by omega, by rw [krow _ (by omega) (by omega), show 5 + (k - 1) + 1 = 5 + k by omega]; exact x2⟩
  · refine w3.cg k9 k10 (fun c' h0 h1 _ => kc c' 2 h0 h1 (by omega) (by omega) (by omega))
  · refine w4.cg t3 (fun g' h0 h1 => ?_)
    have a := kg' g' h0 h1
    have b := w4 g' h0 h1
    by_cases q : g' = g
    · subst q
      exact ⟨a.1, a.2.1, by omega, by omega⟩
    · rw [a.2.2 q]
      exact ⟨a.1, a.2.1, b.2.2.2.2⟩
  · intro p' h0 h1
    have a := w5 p' h0 h1
    have b := kp p' h0 h1
    rw [b.2.1]
    by_cases q : p' = p
    · subst q
      rw [kp0]
      omega
    · rw [b.1 q]
      exact a
  · intro c' h0 h1
    have a := w6 c' h0 h1
    by_cases q : c' = c
    · subst q
      rw [d0, kc c' 2 h0 h1 (by omega) (by omega) (by omega), c3, d4, t3, d5, d6, d7, d8, d9, kg0, kp0, kb0]
      omega
    · rw [kc c' 0 h0 h1 (by omega) (by omega) (by omega), kc c' 2 h0 h1 (by omega) (by omega) (by omega), kc c' 4 h0 h1 (by omega) (by omega) (by omega), kc c' 5 h0 h1 (by omega) (by omega) (by omega), kc c' 6 h0 h1 (by omega) (by omega) (by omega), kc c' 7 h0 h1 (by omega) (by omega) (by omega), kc c' 8 h0 h1 (by omega) (by omega) (by omega), kc c' 9 h0 h1 (by omega) (by omega) (by omega), t3]
      refine ⟨a.1, a.2.1, a.2.2.1, a.2.2.2.1, fun z => ?_⟩
      have b := a.2.2.2.2 z
      have n1 : s (240 + 10 * c' + 4) ≠ g := fun x => by rw [x] at b; omega
      have n2 : s (240 + 10 * c' + 5) ≠ p := fun x => by rw [x] at b; omega
      have n3 : s (240 + 10 * c' + 6) ≠ s 5 := fun x => by rw [x] at b; omega
      rw [(kg' _ (by omega) (by omega)).2.2 n1, (kp _ (by omega) (by omega)).1 n2, kb _ (by omega) (by omega) n3]
      exact b
  · intro a b h0 h1 h2 z1 z2
    have ns : ∀ c', 0 ≤ c' → c' < 3 → c' ≠ c → t (240 + 10 * c' + 0) = 1 → s (240 + 10 * c' + 5) ≠ p ∧ s (240 + 10 * c' + 6) ≠ s 5 ∧ t (240 + 10 * c' + 5) = s (240 + 10 * c' + 5) ∧ t (240 + 10 * c' + 6) = s (240 + 10 * c' + 6) ∧ s (240 + 10 * c' + 0) = 1 := fun c' h0 h1 q z => by
      rw [kc c' 0 h0 h1 (by omega) (by omega) (by omega)] at z
      have b := (w6 c' h0 h1).2.2.2.2 z
      exact ⟨fun x => by rw [x] at b; omega, fun x => by rw [x] at b; omega, kc c' 5 h0 h1 (by omega) (by omega) (by omega), kc c' 6 h0 h1 (by omega) (by omega) (by omega), z⟩
    by_cases qa : a = c
    · have n := ns b (by omega) h2 (by omega) z2
      rw [qa, d5, d6, n.2.2.1, n.2.2.2.1]
      exact ⟨fun x => n.1 x.symm, fun x => n.2.1 x.symm⟩
    · have n := ns a h0 (by omega) qa z1
      by_cases qb : b = c
      · rw [qb, d5, d6, n.2.2.1, n.2.2.2.1]
        exact ⟨n.1, n.2.1⟩
      · have n' := ns b (by omega) h2 qb z2
        rw [n.2.2.1, n.2.2.2.1, n'.2.2.1, n'.2.2.2.1]
        exact w7 a b h0 h1 h2 n.2.2.2.2 n'.2.2.2.2
  · obtain ⟨q, v⟩ := w8.1
    have hi : incF t (s 3).toNat = incF s (s 3).toNat + fareP (s (17 + 5 * g + 0)) (s (17 + 5 * g + 1)) := by
      have := incF_one (s := s) (t := fun i => if 0 ≤ i ∧ i < 17 + 5 * s 3 then t i else s i) g0 g2 (by rw [if_pos (by omega)]; exact kg0) (fun g' h0 => by
        by_cases q : g' < s 3
        · rw [if_pos (by omega), if_pos (by omega), if_pos (by omega)]
          exact kg' g' h0 q
        · rw [if_neg (by omega), if_neg (by omega), if_neg (by omega)]
          exact ⟨rfl, rfl, fun _ => rfl⟩) (s 3).toNat
      rw [if_pos (by omega)] at this
      rw [← this]
      refine incF_cg _ (fun g' h0 h1 => ?_)
      rw [if_pos (by omega), if_pos (by omega), if_pos (by omega)]
      exact ⟨rfl, rfl, rfl⟩
    rw [t3, hi]
    have hg := w4 g g0 g1
    obtain ⟨q1, v1⟩ := wr_mod (s (11 + s (17 + 5 * g + 1)) + fareP (s (17 + 5 * g + 0)) (s (17 + 5 * g + 1)))
    refine ⟨q + q1, ?_⟩
    have i0 := kinc 0 (by omega) (by omega); have i1 := kinc 1 (by omega) (by omega); have i2 := kinc 2 (by omega) (by omega); have i3 := kinc 3 (by omega) (by omega)
    generalize fareP (s (17 + 5 * g + 0)) (s (17 + 5 * g + 1)) = fa at *
    generalize s (17 + 5 * g + 1) = ro at *
    clear kinc kc kg kg' kp kb krow klo kr
    simp only [Int.reduceAdd] at i0 i1 i2 i3
    rcases (show ro = 0 ∨ ro = 1 ∨ ro = 2 ∨ ro = 3 by omega) with rfl | rfl | rfl | rfl <;> simp only [Int.reduceAdd, if_true, Int.reduceEq, if_false] at i0 i1 i2 i3 v1 <;> omega
  · obtain ⟨q, v⟩ := w8.2
    have c0 := kc 0 3 (by omega) (by omega) (by omega) (by omega) (by omega); have c1 := kc 1 3 (by omega) (by omega) (by omega) (by omega) (by omega); have c2 := kc 2 3 (by omega) (by omega) (by omega) (by omega) (by omega)
    have p0 := (kp 0 (by omega) (by omega)).2.2; have p1 := (kp 1 (by omega) (by omega)).2.2; have p2 := (kp 2 (by omega) (by omega)).2.2; have p3 := (kp 3 (by omega) (by omega)).2.2; have p4 := (kp 4 (by omega) (by omega)).2.2
    simp only [Int.reduceMul, Int.reduceAdd] at c0 c1 c2 p0 p1 p2 p3 p4
    exact ⟨q, by rw [c0, c1, c2, p0, p1, p2, p3, p4]; exact v⟩
theorem ww_depart {s : Int → Int} (h : WW s) (hw : whyP s = 0) : WW (departP s) := ww_departQ h (why_DP h.2.1 hw)
