/-! ===== the pure law: what else changes ===== -/
theorem ww_arrives {s : Int → Int} (h : WW s) (h40 : s 3 < 40) {rk rd : Int} (hk : 0 ≤ rk ∧ rk ≤ 2) (hd : 0 ≤ rd ∧ rd ≤ 3) : WW (arrivesP s rk rd) := by
  obtain ⟨hr, w1, w2, w3, w4, w5, w6, w7, w8⟩ := h
  have w1' := w1
  unfold W1 at w1'
  have z0 : wr 0 = 0 := wr_id (by decide)
  have ek : wr rk = rk := wr_id (by omega)
  have ed : wr rd = rd := wr_id (by omega)
  have em : wr (s 3 + 1) = s 3 + 1 := wr_id (by omega)
  have e : ∀ i, arrivesP s rk rd i = if i = 17 + 5 * s 3 + 4 then 0 else if i = 17 + 5 * s 3 + 3 then s 0 else if i = 17 + 5 * s 3 + 2 then 0 else if i = 17 + 5 * s 3 + 1 then rd else if i = 17 + 5 * s 3 + 0 then rk else if i = 3 then s 3 + 1 else s i := fun i => by
    have e0 : wr (up (up (up (up s 3 (s 3 + 1)) (17 + 5 * s 3 + 0) rk) (17 + 5 * s 3 + 1) rd) (17 + 5 * s 3 + 2) 0 0) = s 0 := by
      simp (disch := omega) only [up_ne]
      exact wr_id (hr 0)
    unfold arrivesP
    rw [up]
    rw [up]
    rw [e0, z0]
    unfold up
    rw [z0, ek, ed, em]
  have hR : ∀ i, R32 (arrivesP s rk rd i) := up_r (up_r (up_r (up_r (up_r (up_r hr)))))
  generalize arrivesP s rk rd = t at e hR
  have k : ∀ i, (i < 17 + 5 * s 3 ∨ 17 + 5 * s 3 + 4 < i) → i ≠ 3 → t i = s i := fun i h1 h2 => by rw [e]; (repeat (first | rw [if_neg (by omega)] | rw [if_pos (by omega)]))
  have t3 : t 3 = s 3 + 1 := by rw [e]; (repeat (first | rw [if_neg (by omega)] | rw [if_pos (by omega)]))
  refine ⟨hR, ?_, w2.cg (by omega) (k _ (by omega) (by omega)) (fun _ _ _ => k _ (by omega) (by omega)) (fun _ _ _ => k _ (by omega) (by omega)), w3.cg (k _ (by omega) (by omega)) (k _ (by omega) (by omega)) (fun _ _ _ _ => k _ (by omega) (by omega)), ?_, w5.cg (fun _ _ _ => ⟨k _ (by omega) (by omega), k _ (by omega) (by omega)⟩), w6.cg (by omega) (fun c h0 h1 => ⟨k _ (by omega) (by omega), ⟨by rw [k _ (by omega) (by omega)]; exact (w6 c h0 h1).2.2.1, by rw [k _ (by omega) (by omega)]; exact (w6 c h0 h1).2.2.2.1, fun _ => k _ (by omega) (by omega)⟩, k _ (by omega) (by omega), k _ (by omega) (by omega), k _ (by omega) (by omega), k _ (by omega) (by omega), k _ (by omega) (by omega), k _ (by omega) (by omega)⟩) (fun g _ h1 _ _ => k _ (by omega) (by omega)) (fun _ _ _ => k _ (by omega) (by omega)) (fun _ _ _ q => by rw [k _ (by omega) (by omega)]; exact q), w7.cg (fun _ _ _ => ⟨k _ (by omega) (by omega), k _ (by omega) (by omega), k _ (by omega) (by omega)⟩), ?_, ?_⟩
  · unfold W1
    rw [k 0 (by omega) (by omega), k 1 (by omega) (by omega), k 2 (by omega) (by omega), t3, k 4 (by omega) (by omega)]
    omega
  · intro g h0 h1
    rw [t3] at h1
    by_cases q : g = s 3
    · subst q
      have a0 : t (17 + 5 * s 3 + 0) = rk := by rw [e]; (repeat (first | rw [if_neg (by omega)] | rw [if_pos (by omega)]))
      have a1 : t (17 + 5 * s 3 + 1) = rd := by rw [e]; (repeat (first | rw [if_neg (by omega)] | rw [if_pos (by omega)]))
      have a2 : t (17 + 5 * s 3 + 2) = 0 := by rw [e]; (repeat (first | rw [if_neg (by omega)] | rw [if_pos (by omega)]))
      rw [a0, a1, a2]
      omega
    · rw [k (17 + 5 * g + 0) (by omega) (by omega), k (17 + 5 * g + 1) (by omega) (by omega), k (17 + 5 * g + 2) (by omega) (by omega)]
      exact w4 g h0 (by omega)
  · have a2 : t (17 + 5 * s 3 + 2) = 0 := by rw [e]; (repeat (first | rw [if_neg (by omega)] | rw [if_pos (by omega)]))
    rw [t3, show (s 3 + 1).toNat = (s 3).toNat + 1 by omega]
    unfold incF
    rw [show ((s 3).toNat : Int) = s 3 by omega, a2, if_neg (by omega), Int.add_zero, incF_cg (s := s) _ (fun g h0 h1 => ⟨k _ (by omega) (by omega), k _ (by omega) (by omega), k _ (by omega) (by omega)⟩), k 11 (by omega) (by omega), k 12 (by omega) (by omega), k 13 (by omega) (by omega), k 14 (by omega) (by omega)]
    exact w8.1
  · rw [k 243 (by omega) (by omega), k 253 (by omega) (by omega), k 263 (by omega) (by omega), k 219 (by omega) (by omega), k 222 (by omega) (by omega), k 225 (by omega) (by omega), k 228 (by omega) (by omega), k 231 (by omega) (by omega)]
    exact w8.2
theorem ww_giveUp {s : Int → Int} (h : WW s) {g : Int} (hg : 0 ≤ g ∧ g < s 3) (hs : s (17 + 5 * g + 2) = 0) : WW (giveUpP s g) := by
  obtain ⟨hr, w1, w2, w3, w4, w5, w6, w7, w8⟩ := h
  have w1' := w1
  unfold W1 at w1'
  have hR : ∀ i, R32 (giveUpP s g i) := up_r (up_r hr)
  have k : ∀ i, i ≠ 17 + 5 * g + 4 → i ≠ 17 + 5 * g + 2 → giveUpP s g i = s i := fun i h1 h2 => by unfold giveUpP; rw [up_ne h2, up_ne h1]
  have k2 : giveUpP s g (17 + 5 * g + 2) = 3 := by unfold giveUpP; rw [up_at]; decide
  generalize giveUpP s g = t at k k2 hR
  refine ⟨hR, w1.cg (fun _ _ _ => k _ (by omega) (by omega)), w2.cg (by omega) (k _ (by omega) (by omega)) (fun _ _ _ => k _ (by omega) (by omega)) (fun _ _ _ => k _ (by omega) (by omega)), w3.cg (k _ (by omega) (by omega)) (k _ (by omega) (by omega)) (fun _ _ _ _ => k _ (by omega) (by omega)), w4.cg (k _ (by omega) (by omega)) (fun g' h0 h1 => ?_), w5.cg (fun _ _ _ => ⟨k _ (by omega) (by omega), k _ (by omega) (by omega)⟩), w6.cg (by rw [k 3 (by omega) (by omega)]; omega) (fun c h0 h1 => ⟨k _ (by omega) (by omega), ⟨by rw [k _ (by omega) (by omega)]; exact (w6 c h0 h1).2.2.1, by rw [k _ (by omega) (by omega)]; exact (w6 c h0 h1).2.2.2.1, fun _ => k _ (by omega) (by omega)⟩, k _ (by omega) (by omega), k _ (by omega) (by omega), k _ (by omega) (by omega), k _ (by omega) (by omega), k _ (by omega) (by omega), k _ (by omega) (by omega)⟩) (fun g' h0 h1 a b => ?_) (fun _ _ _ => k _ (by omega) (by omega)) (fun _ _ _ q => by rw [k _ (by omega) (by omega)]; exact q), w7.cg (fun _ _ _ => ⟨k _ (by omega) (by omega), k _ (by omega) (by omega), k _ (by omega) (by omega)⟩), ?_, ?_⟩
  · by_cases q : g' = g
    · subst q
      exact ⟨k _ (by omega) (by omega), k _ (by omega) (by omega), by omega, by omega⟩
    · have := w4 g' h0 h1
      rw [k (17 + 5 * g' + 2) (by omega) (by omega)]
      exact ⟨k _ (by omega) (by omega), k _ (by omega) (by omega), this.2.2.2.2⟩
  · have : g' ≠ g := fun z => by subst z; omega
    exact k _ (by omega) (by omega)
  · rw [k 3 (by omega) (by omega), incF_st (s := s) _ (fun g' h0 h1 => ⟨k _ (by omega) (by omega), k _ (by omega) (by omega), ?_⟩), k 11 (by omega) (by omega), k 12 (by omega) (by omega), k 13 (by omega) (by omega), k 14 (by omega) (by omega)]
    · exact w8.1
    · by_cases q : g' = g
      · subst q
        rw [k2, hs]
        omega
      · rw [k (17 + 5 * g' + 2) (by omega) (by omega)]
  · rw [k 243 (by omega) (by omega), k 253 (by omega) (by omega), k 263 (by omega) (by omega), k 219 (by omega) (by omega), k 222 (by omega) (by omega), k 225 (by omega) (by omega), k 228 (by omega) (by omega), k 231 (by omega) (by omega)]
    exact w8.2
/-- what touches only the row, the boys and numbers apart -/
theorem ww_row {s t : Int → Int} (h : WW s) (hR : ∀ i, R32 (t i)) (h1 : 0 ≤ t 4 ∧ t 4 ≤ 4) (h2 : W2 t) (k : ∀ i, (i < 4 ∨ (8 < i ∧ i < 232) ∨ 239 < i) → t i = s i) (ew : ∀ b, 0 ≤ b → b < 4 → s (232 + 2 * b + 0) = 2 → t (232 + 2 * b + 0) = 2) : WW t := by
  obtain ⟨hr, w1, w2, w3, w4, w5, w6, w7, w8⟩ := h
  have w1' := w1
  unfold W1 at w1'
  refine ⟨hR, ?_, h2, w3.cg (k _ (by omega)) (k _ (by omega)) (fun _ _ _ _ => k _ (by omega)), w4.cg (k _ (by omega)) (fun g h0 h1 => ?_), w5.cg (fun _ _ _ => ⟨k _ (by omega), k _ (by omega)⟩), w6.cg (by rw [k 3 (by omega)]; omega) (fun c h0 h1 => ⟨k _ (by omega), ⟨by rw [k _ (by omega)]; exact (w6 c h0 h1).2.2.1, by rw [k _ (by omega)]; exact (w6 c h0 h1).2.2.2.1, fun _ => k _ (by omega)⟩, k _ (by omega), k _ (by omega), k _ (by omega), k _ (by omega), k _ (by omega), k _ (by omega)⟩) (fun g' h0 h1 a b => k _ (by omega)) (fun _ _ _ => k _ (by omega)) ew, w7.cg (fun _ _ _ => ⟨k _ (by omega), k _ (by omega), k _ (by omega)⟩), w8.cg (k _ (by omega)) (fun _ _ _ => k _ (by omega)) (fun _ _ _ => ⟨k _ (by omega), k _ (by omega), k _ (by omega)⟩) (fun _ _ _ => k _ (by omega)) (fun _ _ _ => k _ (by omega))⟩
  · unfold W1
    rw [k 0 (by omega), k 1 (by omega), k 2 (by omega), k 3 (by omega)]
    omega
  · have := w4 g h0 h1
    rw [k (17 + 5 * g + 2) (by omega)]
    exact ⟨k _ (by omega), k _ (by omega), this.2.2.2.2⟩
theorem ww_beds {s : Int → Int} (h : WW s) {b : Int} (hb : 0 ≤ b ∧ b < 4) (hw : s (232 + 2 * b + 0) = 0) : WW (bedsP s b) := by
  have hr := h.1
  have w1 := h.2.1
  have w2 := h.2.2.1
  unfold W1 at w1
  have hx := (w2.2.2 b hb.1 hb.2).2.2 hw
  have hp := placeP_r hx
  have eL := leavesP_at (b := b) hr (by omega) ⟨hp.1, hp.2.1⟩
  have kL : ∀ i, i ≠ 232 + 2 * b + 0 → bedsP s b i = leavesP s b i := fun i hi => up_ne hi
  have kb : bedsP s b (232 + 2 * b + 0) = 1 := by unfold bedsP; rw [up_at]; decide
  have hS : ∀ (j : Nat) (k : Int) (t : Int → Int), (∀ i, R32 (t i)) → ∀ i, R32 (shiftF j k t i) := fun j => by
    induction j with
    | zero => exact fun k t ht => ht
    | succ j ih => exact fun k t ht => ih _ _ (up_r ht)
  have hR : ∀ i, R32 (bedsP s b i) := up_r (hS _ _ _ (up_r hr))
  have k4 : bedsP s b 4 = s 4 - 1 := by rw [kL _ (by omega), eL, if_pos rfl]
  have kr : ∀ k, 0 ≤ k → k < s 4 - 1 → bedsP s b (5 + k) = if placeP s b ≤ k then s (5 + (k + 1)) else s (5 + k) := fun k k0 k1 => by
    rw [kL _ (by omega), eL, if_neg (by omega)]
    by_cases q : placeP s b ≤ k
    · rw [if_pos (by omega), if_pos q, Int.add_assoc]
    · rw [if_neg (by omega), if_neg q]
  have ko : ∀ b', 0 ≤ b' → b' < 4 → b' ≠ b → bedsP s b (232 + 2 * b' + 0) = s (232 + 2 * b' + 0) := fun b' h0 h1 h2 => by
    rw [kL _ (by omega), eL, if_neg (by omega), if_neg (by omega)]
  have kk : ∀ i, (i < 4 ∨ (8 < i ∧ i < 232) ∨ 239 < i) → bedsP s b i = s i := fun i hi => by
    rw [kL _ (by omega), eL, if_neg (by omega), if_neg (by omega)]
  generalize bedsP s b = t at *
  obtain ⟨r, d, w⟩ := w2
  have dn : ∀ j k, 0 ≤ j → 0 ≤ k → j < s 4 → k < s 4 → j ≠ k → s (5 + j) ≠ s (5 + k) := fun j k j0 k0 j1 k1 jk => by
    rcases (show j < k ∨ k < j by omega) with q | q
    · exact d j k j0 q k1
    · exact fun z => d k j k0 q j1 z.symm
  refine ww_row h hR (by omega) ⟨fun k h0 h1 => ?_, fun j k j0 jk h1 => ?_, fun b' b0 b1 => ?_⟩ kk (fun b' h0 h1 q => ?_)
  · rw [k4] at h1
    rw [kr k h0 h1]
    by_cases q : placeP s b ≤ k
    · rw [if_pos q]
      have a := r (k + 1) (by omega) (by omega)
      have n : s (5 + (k + 1)) ≠ b := fun z => dn (k + 1) (placeP s b) (by omega) (by omega) (by omega) (by omega) (by omega) (z.trans hp.2.2.symm)
      rw [ko _ a.1 a.2.1 n]
      exact a
    · rw [if_neg q]
      have a := r k (by omega) (by omega)
      have n : s (5 + k) ≠ b := fun z => dn k (placeP s b) (by omega) (by omega) (by omega) (by omega) (by omega) (z.trans hp.2.2.symm)
      rw [ko _ a.1 a.2.1 n]
      exact a
  · rw [k4] at h1
    rw [kr j j0 (by omega), kr k (by omega) h1]
    by_cases q : placeP s b ≤ j
    · rw [if_pos q, if_pos (by omega)]
      exact dn _ _ (by omega) (by omega) (by omega) (by omega) (by omega)
    · rw [if_neg q]
      by_cases q2 : placeP s b ≤ k
      · rw [if_pos q2]; exact dn _ _ (by omega) (by omega) (by omega) (by omega) (by omega)
      · rw [if_neg q2]; exact dn _ _ (by omega) (by omega) (by omega) (by omega) (by omega)
  · by_cases q : b' = b
    · subst q
      rw [kb]; exact ⟨by omega, by omega, fun z => by omega⟩
    · rw [ko b' b0 b1 q]
      have a := w b' b0 b1
      refine ⟨a.1, a.2.1, fun z => ?_⟩
      obtain ⟨k, x0, x1, x2⟩ := a.2.2 z
      have n : k ≠ placeP s b := fun y => q (by rw [y, hp.2.2] at x2; exact x2.symm)
      by_cases q2 : k < placeP s b
      · exact ⟨k, x0, by omega, by rw [kr k x0 (by omega), if_neg (by omega)]; exact x2⟩
      · refine ⟨k - 1, by omega, by omega, ?_⟩
        rw [kr (k - 1) (by omega) (by omega), if_pos (by omega), show 5 + (k - 1 + 1) = 5 + k by omega]
        exact x2
  · have n : b' ≠ b := fun z => by subst z; omega
    rw [ko b' h0 h1 n]; exact q
theorem standsP_at {s : Int → Int} {b : Int} (hb : 0 ≤ b ∧ b < 4) (h4 : 0 ≤ s 4 ∧ s 4 < 4) (i : Int) : standsP s b i = if i = 232 + 2 * b + 0 then 0 else if i = 4 then s 4 + 1 else if i = 5 + s 4 then b else s i := by
  have z0 : wr 0 = 0 := wr_id (by decide)
  have zb : wr b = b := wr_id (by omega)
  have z4 : wr (s 4 + 1) = s 4 + 1 := wr_id (by omega)
  unfold standsP
  simp (disch := omega) only [up_ne]
  unfold up
  rw [z0, zb, z4]
theorem ww_stands {s : Int → Int} (h : WW s) {b : Int} (hb : 0 ≤ b ∧ b < 4) (hw : s (232 + 2 * b + 0) = 1) : WW (standsP s b) := by
  have hr := h.1
  have w1 := h.2.1
  have h4 := row_lt h.2.1 h.2.2.1 hb (by omega)
  unfold W1 at w1
  have e := standsP_at (s := s) hb (by omega)
  have hR : ∀ i, R32 (standsP s b i) := up_r (up_r (up_r hr))
  have k4 : standsP s b 4 = s 4 + 1 := by rw [e]; (repeat (first | rw [if_neg (by omega)] | rw [if_pos (by omega)]))
  refine ww_row h hR (by omega) (h.2.2.1.stand h.2.1 hb (by omega) k4 (by rw [e]; (repeat (first | rw [if_neg (by omega)] | rw [if_pos (by omega)]))) (fun k k0 k1 => by rw [e]; (repeat (first | rw [if_neg (by omega)] | rw [if_pos (by omega)]))) (by rw [e]; (repeat (first | rw [if_neg (by omega)] | rw [if_pos (by omega)]))) (fun b' b0 b1 bb => by rw [e]; (repeat (first | rw [if_neg (by omega)] | rw [if_pos (by omega)])))) (fun i hi => by rw [e]; (repeat (first | rw [if_neg (by omega)] | rw [if_pos (by omega)]))) (fun b' b0 b1 q => ?_)
  have n : b' ≠ b := fun z => by subst z; omega
  rw [e]; (repeat (first | rw [if_neg (by omega)] | rw [if_pos (by omega)]))
  exact q
theorem ww_poles {s : Int → Int} (h : WW s) {c : Int} (hc : 0 ≤ c ∧ c < 3) (ho : s (240 + 10 * c + 0) = 0) : WW (polesP s c) := by
  obtain ⟨hr, w1, w2, w3, w4, w5, w6, w7, w8⟩ := h
  have w1' := w1
  unfold W1 at w1'
  have z0 : wr 0 = 0 := wr_id (by decide)
  have z1 : wr (-1) = -1 := wr_id (by decide)
  have hR : ∀ i, R32 (polesP s c i) := by
    unfold polesP
    split
    · exact up_r (up_r (up_r (up_r (up_r hr))))
    · exact up_r (up_r (up_r hr))
  have e : ∀ i, polesP s c i = if s 9 = c ∧ i = 10 then 0 else if s 9 = c ∧ i = 9 then -1 else if i = 15 then wr (s 15 + 90) else if i = 240 + 10 * c + 2 then 0 else if i = 240 + 10 * c + 1 then 0 else s i := fun i => by
    unfold polesP
    simp (disch := omega) only [up_ne]
    by_cases q : s 9 = c
    · rw [if_pos q]
      unfold up
      rw [z0, z1]
      simp only [q, true_and]
    · rw [if_neg q]
      unfold up
      rw [z0]
      simp only [q, false_and, if_false]
  generalize polesP s c = t at e hR
  have k : ∀ i, i ≠ 9 → i ≠ 10 → i ≠ 15 → i ≠ 240 + 10 * c + 2 → i ≠ 240 + 10 * c + 1 → t i = s i := fun i a1 a2 a3 a4 a5 => by rw [e]; (repeat (first | rw [if_neg (by omega)] | rw [if_pos (by omega)]))
  have kb : t (240 + 10 * c + 2) = 0 := by rw [e]; (repeat (first | rw [if_neg (by omega)] | rw [if_pos (by omega)]))
  refine ⟨hR, w1.cg (fun _ _ _ => k _ (by omega) (by omega) (by omega) (by omega) (by omega)), w2.cg (by omega) (k _ (by omega) (by omega) (by omega) (by omega) (by omega)) (fun _ _ _ => k _ (by omega) (by omega) (by omega) (by omega) (by omega)) (fun _ _ _ => k _ (by omega) (by omega) (by omega) (by omega) (by omega)), ?_, w4.cg (k _ (by omega) (by omega) (by omega) (by omega) (by omega)) (fun g h0 h1 => ?_), w5.cg (fun _ _ _ => ⟨k _ (by omega) (by omega) (by omega) (by omega) (by omega), k _ (by omega) (by omega) (by omega) (by omega) (by omega)⟩), w6.cg (by rw [k 3 (by omega) (by omega) (by omega) (by omega) (by omega)]; omega) (fun c' h0 h1 => ⟨k _ (by omega) (by omega) (by omega) (by omega) (by omega), ?_, k _ (by omega) (by omega) (by omega) (by omega) (by omega), k _ (by omega) (by omega) (by omega) (by omega) (by omega), k _ (by omega) (by omega) (by omega) (by omega) (by omega), k _ (by omega) (by omega) (by omega) (by omega) (by omega), k _ (by omega) (by omega) (by omega) (by omega) (by omega), k _ (by omega) (by omega) (by omega) (by omega) (by omega)⟩) (fun g' h0 h1 a b => k _ (by omega) (by omega) (by omega) (by omega) (by omega)) (fun _ _ _ => k _ (by omega) (by omega) (by omega) (by omega) (by omega)) (fun _ _ _ q => by rw [k _ (by omega) (by omega) (by omega) (by omega) (by omega)]; exact q), w7.cg (fun _ _ _ => ⟨k _ (by omega) (by omega) (by omega) (by omega) (by omega), k _ (by omega) (by omega) (by omega) (by omega) (by omega), k _ (by omega) (by omega) (by omega) (by omega) (by omega)⟩), w8.cg (k _ (by omega) (by omega) (by omega) (by omega) (by omega)) (fun _ _ _ => k _ (by omega) (by omega) (by omega) (by omega) (by omega)) (fun _ _ _ => ⟨k _ (by omega) (by omega) (by omega) (by omega) (by omega), k _ (by omega) (by omega) (by omega) (by omega) (by omega), k _ (by omega) (by omega) (by omega) (by omega) (by omega)⟩) (fun _ _ _ => k _ (by omega) (by omega) (by omega) (by omega) (by omega)) (fun _ _ _ => k _ (by omega) (by omega) (by omega) (by omega) (by omega))⟩
  · unfold W3 at w3 ⊢
    by_cases q : s 9 = c
    · left
      rw [e 9, e 10, if_neg (by omega), if_pos (by omega), if_pos (by omega)]
      exact ⟨rfl, rfl⟩
    · have e9 : t 9 = s 9 := by rw [e]; (repeat (first | rw [if_neg (by omega)] | rw [if_pos (by omega)]))
      have e10 : t 10 = s 10 := by rw [e]; (repeat (first | rw [if_neg (by omega)] | rw [if_pos (by omega)]))
      rw [e9, e10]
      rcases w3 with w3 | w3
      · exact Or.inl w3
      · right
        rw [k (240 + 10 * s 9 + 2) (by omega) (by omega) (by omega) (by omega) (by omega)]
        exact w3
  · have := w4 g h0 h1
    rw [k (17 + 5 * g + 2) (by omega) (by omega) (by omega) (by omega) (by omega)]
    exact ⟨k _ (by omega) (by omega) (by omega) (by omega) (by omega), k _ (by omega) (by omega) (by omega) (by omega) (by omega), this.2.2.2.2⟩
  · have a := w6 c' h0 h1
    by_cases q : c' = c
    · subst q
      rw [kb]
      exact ⟨by omega, by omega, fun z => by omega⟩
    · rw [k (240 + 10 * c' + 2) (by omega) (by omega) (by omega) (by omega) (by omega)]
      exact ⟨a.2.2.1, a.2.2.2.1, fun _ => rfl⟩
theorem ww_set {s : Int → Int} (h : WW s) {w v : Int} (hw : (w = 1 ∧ 2 ≤ v ∧ v ≤ 5) ∨ (w = 2 ∧ 20 ≤ v ∧ v ≤ 200)) : WW (up s w v) := by
  obtain ⟨hr, w1, w2, w3, w4, w5, w6, w7, w8⟩ := h
  have w1' := w1
  unfold W1 at w1'
  refine ⟨up_r hr, ?_, w2.cg (by omega) (up_ne (by omega)) (fun _ _ _ => (up_ne (by omega))) (fun _ _ _ => (up_ne (by omega))), w3.cg (up_ne (by omega)) (up_ne (by omega)) (fun _ _ _ _ => (up_ne (by omega))), w4.cg (up_ne (by omega)) (fun g h0 h1 => ?_), w5.cg (fun _ _ _ => ⟨(up_ne (by omega)), (up_ne (by omega))⟩), ?_, w7.cg (fun _ _ _ => ⟨(up_ne (by omega)), (up_ne (by omega)), (up_ne (by omega))⟩), w8.cg (up_ne (by omega)) (fun _ _ _ => (up_ne (by omega))) (fun _ _ _ => ⟨(up_ne (by omega)), (up_ne (by omega)), (up_ne (by omega))⟩) (fun _ _ _ => (up_ne (by omega))) (fun _ _ _ => (up_ne (by omega)))⟩
  · unfold W1
    have ev : wr v = v := wr_id (by omega)
    rcases hw with ⟨rfl, hw⟩ | ⟨rfl, hw⟩
    · simp (disch := omega) only [up_at, up_ne, ev]; omega
    · simp (disch := omega) only [up_at, up_ne, ev]; omega
  · have := w4 g h0 h1
    exact ⟨(up_ne (by omega)), (up_ne (by omega)), by rw [up_ne (by omega)]; omega, by rw [up_ne (by omega)]; omega⟩
  · exact w6.cg (by rw [up_ne (by omega)]; omega) (fun c h0 h1 => ⟨(up_ne (by omega)), ⟨by rw [up_ne (by omega)]; exact (w6 c h0 h1).2.2.1, by rw [up_ne (by omega)]; exact (w6 c h0 h1).2.2.2.1, fun _ => (up_ne (by omega))⟩, (up_ne (by omega)), (up_ne (by omega)), (up_ne (by omega)), (up_ne (by omega)), (up_ne (by omega)), (up_ne (by omega))⟩) (fun _ _ _ _ _ => (up_ne (by omega))) (fun _ _ _ => (up_ne (by omega))) (fun _ _ _ e => by rw [up_ne (by omega)]; exact e)
