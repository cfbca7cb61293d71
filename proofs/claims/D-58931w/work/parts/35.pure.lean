/-! ===== the pure law: a ride ===== -/
theorem row_lt {s : Int → Int} (h1 : W1 s) (h2 : W2 s) {b : Int} (hb : 0 ≤ b ∧ b < 4) (hw : s (232 + 2 * b + 0) ≠ 0) : s 4 < 4 := by
  unfold W1 at h1
  by_cases h : s 4 = 4
  · exfalso
    obtain ⟨r, d, -⟩ := h2
    have q : ∀ k, 0 ≤ k → k < 4 → 0 ≤ s (5 + k) ∧ s (5 + k) < 4 ∧ s (5 + k) ≠ b := fun k k0 k1 => by
      have := r k k0 (by omega)
      exact ⟨this.1, this.2.1, fun z => hw (by rw [← z]; exact this.2.2)⟩
    have q0 := q 0 (by omega) (by omega); have q1 := q 1 (by omega) (by omega); have q2 := q 2 (by omega) (by omega); have q3 := q 3 (by omega) (by omega)
    have d01 := d 0 1 (by omega) (by omega) (by omega); have d02 := d 0 2 (by omega) (by omega) (by omega); have d03 := d 0 3 (by omega) (by omega) (by omega)
    have d12 := d 1 2 (by omega) (by omega) (by omega); have d13 := d 1 3 (by omega) (by omega) (by omega); have d23 := d 2 3 (by omega) (by omega) (by omega)
    omega
  · omega
/-- the row when a boy steps into it, and is in it then -/
theorem W2.stand {s t : Int → Int} (h1 : W1 s) (h2 : W2 s) {b : Int} (hb : 0 ≤ b ∧ b < 4) (hw : s (232 + 2 * b + 0) ≠ 0) (e4 : t 4 = s 4 + 1) (eb : t (5 + s 4) = b) (er : ∀ k, 0 ≤ k → k < s 4 → t (5 + k) = s (5 + k)) (ew : t (232 + 2 * b + 0) = 0) (eo : ∀ b', 0 ≤ b' → b' < 4 → b' ≠ b → t (232 + 2 * b' + 0) = s (232 + 2 * b' + 0)) : W2 t := by
  have h4 := row_lt h1 h2 hb hw
  unfold W1 at h1
  obtain ⟨r, d, w⟩ := h2
  have nb : ∀ k, 0 ≤ k → k < s 4 → s (5 + k) ≠ b := fun k k0 k1 z => hw (by rw [← z]; exact (r k k0 k1).2.2)
  refine ⟨fun k k0 k1 => ?_, fun j k j0 jk k1 => ?_, fun b' b0 b1 => ?_⟩
  · by_cases hk : k = s 4
    · subst hk
      rw [eb]
      exact ⟨hb.1, hb.2, ew⟩
    · have := r k k0 (by omega)
      rw [er k k0 (by omega), eo _ this.1 this.2.1 (nb k k0 (by omega))]
      exact this
  · by_cases hk : k = s 4
    · subst hk
      rw [eb, er j j0 jk]
      exact nb j j0 jk
    · rw [er j j0 (by omega), er k (by omega) (by omega)]
      exact d j k j0 jk (by omega)
  · by_cases hb' : b' = b
    · subst hb'
      rw [ew]
      exact ⟨by omega, by omega, fun _ => ⟨s 4, by omega, by omega, eb⟩⟩
    · rw [eo b' b0 b1 hb']
      refine ⟨(w b' b0 b1).1, (w b' b0 b1).2.1, fun z => ?_⟩
      obtain ⟨k, k0, k1, k2⟩ := (w b' b0 b1).2.2 z
      exact ⟨k, k0, by omega, by rw [er k k0 k1]; exact k2⟩
theorem rideA_at {s : Int → Int} {c : Int} (hr : ∀ i, R32 (s i)) (hc : 0 ≤ c ∧ c < 3) (hl : 1 ≤ s (240 + 10 * c + 7)) (i : Int) : rideA s c i = if s (240 + 10 * c + 7) - 1 = s (240 + 10 * c + 9) ∧ i = 17 + 5 * s (240 + 10 * c + 4) + 2 then 2 else if i = 240 + 10 * c + 7 then s (240 + 10 * c + 7) - 1 else s i := by
  have h7 := hr (240 + 10 * c + 7)
  have z2 : wr 2 = 2 := wr_id (by decide)
  have z7 : wr (s (240 + 10 * c + 7) - 1) = s (240 + 10 * c + 7) - 1 := wr_id (by omega)
  unfold rideA
  simp (disch := omega) only [up_at, up_ne, z7]
  by_cases q : s (240 + 10 * c + 7) - 1 = s (240 + 10 * c + 9)
  · rw [if_pos q]
    unfold up
    rw [z2, z7]
    simp only [q, true_and]
  · rw [if_neg q]
    unfold up
    rw [z7]
    simp only [q, false_and, if_false]
theorem rideB_eq {t : Int → Int} {c g : Int} (hc : 0 ≤ c ∧ c < 3) (hp : 0 ≤ t (240 + 10 * c + 5) ∧ t (240 + 10 * c + 5) < 5) (hb : 0 ≤ t (240 + 10 * c + 6) ∧ t (240 + 10 * c + 6) < 4) (h4 : 0 ≤ t 4 ∧ t 4 < 4) : rideB t c g =
    up (up (up (up (up (up (up (up (up t (240 + 10 * c + 0) 0) (240 + 10 * c + 3) (t (240 + 10 * c + 3) + 2 * milesP (t (17 + 5 * g + 1)))) (240 + 10 * c + 1) (t (240 + 10 * c + 1) + 2 * milesP (t (17 + 5 * g + 1)))) (217 + 3 * t (240 + 10 * c + 5) + 0) 0) (217 + 3 * t (240 + 10 * c + 5) + 2) (t (217 + 3 * t (240 + 10 * c + 5) + 2) + 2 * milesP (t (17 + 5 * g + 1))))
      (217 + 3 * t (240 + 10 * c + 5) + 1) (t (240 + 10 * c + 8))) (5 + t 4) (t (240 + 10 * c + 6))) 4 (t 4 + 1)) (232 + 2 * t (240 + 10 * c + 6) + 0) 0 := by
  unfold rideB standsP
  simp (disch := omega) only [up_ne, up_at]
theorem incF_st {s t : Int → Int} : ∀ (j : Nat), (∀ g, 0 ≤ g → g < (j : Int) → t (17 + 5 * g + 0) = s (17 + 5 * g + 0) ∧ t (17 + 5 * g + 1) = s (17 + 5 * g + 1) ∧ ((t (17 + 5 * g + 2) = 1 ∨ t (17 + 5 * g + 2) = 2) ↔ (s (17 + 5 * g + 2) = 1 ∨ s (17 + 5 * g + 2) = 2))) → incF t j = incF s j
  | 0, _ => rfl
  | j + 1, h => by
    have e := h j (by omega) (by omega)
    unfold incF
    rw [incF_st j (fun g h0 h1 => h g h0 (by omega)), e.1, e.2.1]
    by_cases q : s (17 + 5 * (j : Int) + 2) = 1 ∨ s (17 + 5 * (j : Int) + 2) = 2
    · rw [if_pos q, if_pos (e.2.2.mpr q)]
    · rw [if_neg q, if_neg (fun z => q (e.2.2.mp z))]
theorem milesP_r (r : Int) : 6 ≤ milesP r ∧ milesP r ≤ 16 := by unfold milesP; (repeat' split) <;> omega
/-- a step of a trip that does not end it -/
theorem ww_rideA {s : Int → Int} (h : WW s) {c : Int} (hc : 0 ≤ c ∧ c < 3) (ho : s (240 + 10 * c + 0) = 1) (hl : 2 ≤ s (240 + 10 * c + 7)) : WW (rideA s c) := by
  obtain ⟨hr, w1, w2, w3, w4, w5, w6, w7, w8⟩ := h
  have e := rideA_at hr hc (by omega)
  have a := w6 c hc.1 hc.2
  have a5 := a.2.2.2.2 ho
  have w1' := w1
  unfold W1 at w1'
  have k1 : ∀ i, i ≠ 240 + 10 * c + 7 → i ≠ 17 + 5 * s (240 + 10 * c + 4) + 2 → rideA s c i = s i := fun i h1 h2 => by rw [e, if_neg (fun z => h2 z.2), if_neg h1]
  have kg : ∀ g, 0 ≤ g → g < s 3 → rideA s c (17 + 5 * g + 2) = s (17 + 5 * g + 2) ∨ (rideA s c (17 + 5 * g + 2) = 2 ∧ g = s (240 + 10 * c + 4)) := fun g h0 h1 => by
    rw [e]
    by_cases q : s (240 + 10 * c + 7) - 1 = s (240 + 10 * c + 9) ∧ 17 + 5 * g + 2 = 17 + 5 * s (240 + 10 * c + 4) + 2
    · rw [if_pos q]; exact Or.inr ⟨rfl, by omega⟩
    · rw [if_neg q, if_neg (by omega)]; exact Or.inl rfl
  refine ⟨?_, w1.cg (fun i _ _ => k1 i (by omega) (by omega)), w2.cg (by omega) (k1 _ (by omega) (by omega)) (fun _ _ _ => k1 _ (by omega) (by omega)) (fun _ _ _ => k1 _ (by omega) (by omega)), w3.cg (k1 _ (by omega) (by omega)) (k1 _ (by omega) (by omega)) (fun _ _ _ _ => k1 _ (by omega) (by omega)), w4.cg (k1 _ (by omega) (by omega)) (fun g h0 h1 => ?_), w5.cg (fun _ _ _ => ⟨k1 _ (by omega) (by omega), k1 _ (by omega) (by omega)⟩), ?_, w7.cg (fun _ _ _ => ⟨k1 _ (by omega) (by omega), k1 _ (by omega) (by omega), k1 _ (by omega) (by omega)⟩), ?_⟩
  · intro i
    rw [e]
    have := hr i
    have := hr (240 + 10 * c + 7)
    split
    · decide
    · split <;> omega
  · have := w4 g h0 h1
    have := kg g h0 h1
    exact ⟨k1 _ (by omega) (by omega), k1 _ (by omega) (by omega), by omega, by omega⟩
  · intro c' h0 h1
    have b := w6 c' h0 h1
    rw [k1 (240 + 10 * c' + 0) (by omega) (by omega), k1 (240 + 10 * c' + 2) (by omega) (by omega), k1 3 (by omega) (by omega), k1 (240 + 10 * c' + 4) (by omega) (by omega), k1 (240 + 10 * c' + 5) (by omega) (by omega), k1 (240 + 10 * c' + 6) (by omega) (by omega), k1 (240 + 10 * c' + 8) (by omega) (by omega), k1 (240 + 10 * c' + 9) (by omega) (by omega)]
    refine ⟨b.1, b.2.1, b.2.2.1, b.2.2.2.1, fun z => ?_⟩
    have b5 := b.2.2.2.2 z
    have := kg (s (240 + 10 * c' + 4)) (by omega) (by omega)
    rw [k1 (217 + 3 * s (240 + 10 * c' + 5) + 0) (by omega) (by omega), k1 (232 + 2 * s (240 + 10 * c' + 6) + 0) (by omega) (by omega)]
    have h7 : 1 ≤ rideA s c (240 + 10 * c' + 7) ∧ rideA s c (240 + 10 * c' + 7) ≤ s (240 + 10 * c' + 8) := by
      by_cases q : c' = c
      · subst q
        rw [e, if_neg (by omega), if_pos rfl]
        omega
      · rw [k1 _ (by omega) (by omega)]
        omega
    omega
  · obtain ⟨u, v⟩ := w8
    refine ⟨?_, ?_⟩
    · rw [k1 3 (by omega) (by omega), k1 11 (by omega) (by omega), k1 12 (by omega) (by omega), k1 13 (by omega) (by omega), k1 14 (by omega) (by omega), incF_st (s := s) _ (fun g h0 h1 => ⟨k1 _ (by omega) (by omega), k1 _ (by omega) (by omega), ?_⟩)]
      · exact u
      · rcases kg g h0 (by omega) with q | ⟨q, q'⟩
        · rw [q]
        · rw [q, q']
          omega
    · rw [k1 243 (by omega) (by omega), k1 253 (by omega) (by omega), k1 263 (by omega) (by omega), k1 219 (by omega) (by omega), k1 222 (by omega) (by omega), k1 225 (by omega) (by omega), k1 228 (by omega) (by omega), k1 231 (by omega) (by omega)]
      exact v
