/-! ===== the pure law: a ride's end ===== -/
def rideM (s : Int → Int) (c : Int) : Int := 2 * milesP (s (17 + 5 * s (240 + 10 * c + 4) + 1))
theorem rideEnd_at {s : Int → Int} (h : WW s) {c : Int} (hc : 0 ≤ c ∧ c < 3) (ho : s (240 + 10 * c + 0) = 1) (hl : s (240 + 10 * c + 7) = 1) (i : Int) : ridesP s c i =
    if ¬ wr (s (240 + 10 * c + 1) + rideM s c) < s 2 ∧ i = 16 then wr (s 16 + 1) else if ¬ wr (s (240 + 10 * c + 1) + rideM s c) < s 2 ∧ i = 240 + 10 * c + 2 then 1
    else if i = 232 + 2 * s (240 + 10 * c + 6) + 0 then 0 else if i = 4 then s 4 + 1 else if i = 5 + s 4 then s (240 + 10 * c + 6)
    else if i = 217 + 3 * s (240 + 10 * c + 5) + 1 then s (240 + 10 * c + 8) else if i = 217 + 3 * s (240 + 10 * c + 5) + 2 then wr (s (217 + 3 * s (240 + 10 * c + 5) + 2) + rideM s c) else if i = 217 + 3 * s (240 + 10 * c + 5) + 0 then 0
    else if i = 240 + 10 * c + 1 then wr (s (240 + 10 * c + 1) + rideM s c) else if i = 240 + 10 * c + 3 then wr (s (240 + 10 * c + 3) + rideM s c) else if i = 240 + 10 * c + 0 then 0 else if i = 240 + 10 * c + 7 then 0 else s i := by
  obtain ⟨hr, w1, w2, w3, w4, w5, w6, w7, w8⟩ := h
  have e := rideA_at hr hc (by omega)
  have a5 := (w6 c hc.1 hc.2).2.2.2.2 ho
  have hlt := row_lt (b := s (240 + 10 * c + 6)) w1 w2 (by omega) (by omega)
  unfold W1 at w1
  have k1 : ∀ i, i ≠ 240 + 10 * c + 7 → rideA s c i = s i := fun i h1 => by rw [e, if_neg (by omega), if_neg h1]
  have k7 : rideA s c (240 + 10 * c + 7) = 0 := by rw [e, if_neg (by omega), if_pos rfl]; omega
  unfold ridesP
  rw [if_pos k7]
  have e2 := rideB_eq (t := rideA s c) (c := c) (g := s (240 + 10 * c + 4)) hc (by rw [k1 _ (by omega)]; omega) (by rw [k1 _ (by omega)]; omega) (by rw [k1 _ (by omega)]; omega)
  rw [k1 (240 + 10 * c + 3) (by omega), k1 (240 + 10 * c + 1) (by omega), k1 (17 + 5 * s (240 + 10 * c + 4) + 1) (by omega), k1 (240 + 10 * c + 5) (by omega), k1 (240 + 10 * c + 8) (by omega), k1 (240 + 10 * c + 6) (by omega), k1 4 (by omega), k1 (217 + 3 * s (240 + 10 * c + 5) + 2) (by omega)] at e2
  change _ = up (up (up (up (up (up (up (up (up _ _ 0) _ (_ + rideM s c)) _ (_ + rideM s c)) _ 0) _ (_ + rideM s c)) _ _) _ _) _ _) _ 0 at e2
  have u1 : rideB (rideA s c) c (s (240 + 10 * c + 4)) (240 + 10 * c + 1) = wr (s (240 + 10 * c + 1) + rideM s c) := by
    rw [e2]; simp (disch := omega) only [up_ne, up_at]
  have u2 : rideB (rideA s c) c (s (240 + 10 * c + 4)) 2 = s 2 := by
    rw [e2]; simp (disch := omega) only [up_ne, up_at]; exact k1 2 (by omega)
  have u16 : rideB (rideA s c) c (s (240 + 10 * c + 4)) 16 = s 16 := by
    rw [e2]; simp (disch := omega) only [up_ne, up_at]; exact k1 16 (by omega)
  have z0 : wr 0 = 0 := wr_id (by decide)
  have z1 : wr 1 = 1 := wr_id (by decide)
  have zb : wr (s (240 + 10 * c + 6)) = s (240 + 10 * c + 6) := wr_id (hr _)
  have zt : wr (s (240 + 10 * c + 8)) = s (240 + 10 * c + 8) := wr_id (hr _)
  have z4 : wr (s 4 + 1) = s 4 + 1 := wr_id (by omega)
  have core : ∀ i, rideB (rideA s c) c (s (240 + 10 * c + 4)) i = if i = 232 + 2 * s (240 + 10 * c + 6) + 0 then 0 else if i = 4 then s 4 + 1 else if i = 5 + s 4 then s (240 + 10 * c + 6)
    else if i = 217 + 3 * s (240 + 10 * c + 5) + 1 then s (240 + 10 * c + 8) else if i = 217 + 3 * s (240 + 10 * c + 5) + 2 then wr (s (217 + 3 * s (240 + 10 * c + 5) + 2) + rideM s c) else if i = 217 + 3 * s (240 + 10 * c + 5) + 0 then 0
    else if i = 240 + 10 * c + 1 then wr (s (240 + 10 * c + 1) + rideM s c) else if i = 240 + 10 * c + 3 then wr (s (240 + 10 * c + 3) + rideM s c) else if i = 240 + 10 * c + 0 then 0 else if i = 240 + 10 * c + 7 then 0 else s i := fun i => by
    have ei : rideA s c i = if i = 240 + 10 * c + 7 then 0 else s i := by
      by_cases q : i = 240 + 10 * c + 7
      · rw [if_pos q, q, k7]
      · rw [if_neg q, k1 i q]
    rw [e2]
    unfold up
    rw [z0, zb, zt, z4, ei]
  unfold rideC
  rw [u1, u2]
  by_cases q : wr (s (240 + 10 * c + 1) + rideM s c) < s 2
  · rw [if_pos q, core]
    simp only [q, not_true_eq_false, false_and, if_false]
  · rw [if_neg q]
    generalize rideB (rideA s c) c (s (240 + 10 * c + 4)) = u at core u16
    have e16 : up u (240 + 10 * c + 2) 1 16 = s 16 := by rw [up_ne (by omega), u16]
    rw [e16]
    unfold up
    rw [core, z1]
    simp only [q, not_false_eq_true, true_and]
theorem w8_run {s t : Int → Int} {c p mm w3 wp : Int} (hc : 0 ≤ c ∧ c < 3) (hp : 0 ≤ p ∧ p < 5) (h : ∃ q : Int, s 243 + s 253 + s 263 = s 219 + s 222 + s 225 + s 228 + s 231 + 4294967296 * q) (v1 : ∃ q, w3 = s (240 + 10 * c + 3) + mm + 4294967296 * q) (v2 : ∃ q, wp = s (217 + 3 * p + 2) + mm + 4294967296 * q)
    (kr : ∀ c', 0 ≤ c' → c' < 3 → t (240 + 10 * c' + 3) = if c' = c then w3 else s (240 + 10 * c' + 3)) (kp : ∀ p', 0 ≤ p' → p' < 5 → t (217 + 3 * p' + 2) = if p' = p then wp else s (217 + 3 * p' + 2)) : ∃ q : Int, t 243 + t 253 + t 263 = t 219 + t 222 + t 225 + t 228 + t 231 + 4294967296 * q := by
  obtain ⟨q, v⟩ := h
  obtain ⟨q1, v1⟩ := v1
  obtain ⟨q2, v2⟩ := v2
  have c0 := kr 0 (by omega) (by omega); have c1 := kr 1 (by omega) (by omega); have c2 := kr 2 (by omega) (by omega)
  have p0 := kp 0 (by omega) (by omega); have p1 := kp 1 (by omega) (by omega); have p2 := kp 2 (by omega) (by omega); have p3 := kp 3 (by omega) (by omega); have p4 := kp 4 (by omega) (by omega)
  refine ⟨q + q1 - q2, ?_⟩
  clear kr kp
  simp only [Int.reduceMul, Int.reduceAdd] at c0 c1 c2 p0 p1 p2 p3 p4
  have hx : t 243 + t 253 + t 263 = s 243 + s 253 + s 263 + mm + 4294967296 * q1 := by
    clear p0 p1 p2 p3 p4 v v2
    rcases (show c = 0 ∨ c = 1 ∨ c = 2 by omega) with rfl | rfl | rfl <;> simp only [Int.reduceMul, Int.reduceAdd, if_true, Int.reduceEq, if_false] at c0 c1 c2 v1 <;> omega
  have hy : t 219 + t 222 + t 225 + t 228 + t 231 = s 219 + s 222 + s 225 + s 228 + s 231 + mm + 4294967296 * q2 := by
    clear c0 c1 c2 v v1 hx
    rcases (show p = 0 ∨ p = 1 ∨ p = 2 ∨ p = 3 ∨ p = 4 by omega) with rfl | rfl | rfl | rfl | rfl <;> simp only [Int.reduceMul, Int.reduceAdd, if_true, Int.reduceEq, if_false] at p0 p1 p2 p3 p4 v2 <;> omega
  omega
/-- what a ride's end leaves -/
def RE (s t : Int → Int) (c w3 wp w16 mm : Int) : Prop :=
  (∀ c', 0 ≤ c' → c' < 3 → t (240 + 10 * c' + 2) = s (240 + 10 * c' + 2) ∨ (c' = c ∧ t (240 + 10 * c' + 2) = 1)) ∧
  (∀ c' w, 0 ≤ c' → c' < 3 → (w = 4 ∨ w = 5 ∨ w = 6 ∨ w = 8 ∨ w = 9) → t (240 + 10 * c' + w) = s (240 + 10 * c' + w)) ∧
  (∀ c', 0 ≤ c' → c' < 3 → c' ≠ c → t (240 + 10 * c' + 0) = s (240 + 10 * c' + 0) ∧ t (240 + 10 * c' + 7) = s (240 + 10 * c' + 7)) ∧ t (240 + 10 * c + 0) = 0 ∧
  (∀ g w, 0 ≤ g → g < s 3 → (0 ≤ w ∧ w < 5) → t (17 + 5 * g + w) = s (17 + 5 * g + w)) ∧
  (∀ p, 0 ≤ p → p < 5 → p ≠ s (240 + 10 * c + 5) → t (217 + 3 * p + 0) = s (217 + 3 * p + 0) ∧ t (217 + 3 * p + 1) = s (217 + 3 * p + 1)) ∧
  (t (217 + 3 * s (240 + 10 * c + 5) + 0) = 0 ∧ t (217 + 3 * s (240 + 10 * c + 5) + 1) = s (240 + 10 * c + 8)) ∧
  (∀ p', 0 ≤ p' → p' < 5 → t (217 + 3 * p' + 2) = if p' = s (240 + 10 * c + 5) then wp else s (217 + 3 * p' + 2)) ∧
  (∀ b, 0 ≤ b → b < 4 → b ≠ s (240 + 10 * c + 6) → t (232 + 2 * b + 0) = s (232 + 2 * b + 0)) ∧ t (232 + 2 * s (240 + 10 * c + 6) + 0) = 0 ∧ t 4 = s 4 + 1 ∧ (∀ i, 0 ≤ i → i < 4 → t i = s i) ∧ (∀ i, 9 ≤ i → i < 16 → t i = s i) ∧
  (∀ k, 0 ≤ k → k < s 4 → t (5 + k) = s (5 + k)) ∧ t (5 + s 4) = s (240 + 10 * c + 6) ∧ (∀ c', 0 ≤ c' → c' < 3 → t (240 + 10 * c' + 3) = if c' = c then w3 else s (240 + 10 * c' + 3)) ∧ (∀ i, R32 (t i)) ∧
  (∃ q, w3 = s (240 + 10 * c + 3) + mm + 4294967296 * q) ∧ ∃ q, wp = s (217 + 3 * s (240 + 10 * c + 5) + 2) + mm + 4294967296 * q
theorem ridesP_r {s : Int → Int} {c : Int} (h : ∀ i, R32 (s i)) : ∀ i, R32 (ridesP s c i) := by
  have hA : ∀ i, R32 (rideA s c i) := by
    unfold rideA
    split
    · exact up_r (up_r h)
    · exact up_r h
  unfold ridesP
  split
  · have hB : ∀ g i, R32 (rideB (rideA s c) c g i) := fun g => up_r (up_r (up_r (up_r (up_r (up_r (up_r (up_r (up_r hA))))))))
    unfold rideC
    split
    · exact hB _
    · exact up_r (up_r (hB _))
  · exact hA
theorem rideEnd_k {s : Int → Int} (h : WW s) {c : Int} (hc : 0 ≤ c ∧ c < 3) (ho : s (240 + 10 * c + 0) = 1) (hl : s (240 + 10 * c + 7) = 1) : ∃ w3 wp w16 mm, RE s (ridesP s c) c w3 wp w16 mm := by
  have e := rideEnd_at h hc ho hl
  have hR : ∀ i, R32 (ridesP s c i) := ridesP_r h.1
  obtain ⟨hr, w1, w2, -, -, -, w6, -, -⟩ := h
  have a5 := (w6 c hc.1 hc.2).2.2.2.2 ho
  have hlt := row_lt (b := s (240 + 10 * c + 6)) w1 w2 (by omega) (by omega)
  unfold W1 at w1
  have v1 := wr_mod (s (240 + 10 * c + 3) + rideM s c)
  have v2 := wr_mod (s (217 + 3 * s (240 + 10 * c + 5) + 2) + rideM s c)
  generalize hM : rideM s c = mm at e v1 v2
  generalize hw : wr (s (240 + 10 * c + 1) + mm) = ww at e
  generalize hw3 : wr (s (240 + 10 * c + 3) + mm) = w3' at e v1
  generalize hwp : wr (s (217 + 3 * s (240 + 10 * c + 5) + 2) + mm) = wp at e v2
  generalize hw16 : wr (s 16 + 1) = w16 at e
  have r1 : R32 ww := hw ▸ wr_r _
  have r2 : R32 w3' := hw3 ▸ wr_r _
  have r3 : R32 wp := hwp ▸ wr_r _
  have r4 : R32 w16 := hw16 ▸ wr_r _
  generalize ridesP s c = t at e hR
  clear hw hw3 hwp hw16 w2 w6 hM
  refine ⟨w3', wp, w16, mm, fun c' h0 h1 => ?_, fun c' w h0 h1 hw => ?_, fun c' h0 h1 hw => ?_, ?_, fun g w h0 h1 hw => ?_, fun p h0 h1 hp => ?_, ?_, fun p h0 h1 => ?_, fun b h0 h1 hb => ?_, ?_, ?_, fun i h0 h1 => ?_, fun i h0 h1 => ?_, fun k h0 h1 => ?_, ?_, fun c' h0 h1 => ?_, fun i => ?_, v1, v2⟩
  · rw [e]
    by_cases q : ¬ ww < s 2 ∧ 240 + 10 * c' + 2 = 240 + 10 * c + 2
    · rw [if_neg (by omega), if_pos q]
      exact Or.inr ⟨by omega, rfl⟩
    · rw [if_neg (by omega), if_neg q]
      (repeat (first | rw [if_neg (by omega)] | rw [if_pos (by omega)]))
      exact Or.inl rfl
  · rw [e]; (repeat (first | rw [if_neg (by omega)] | rw [if_pos (by omega)]))
  · constructor <;> (rw [e]; (repeat (first | rw [if_neg (by omega)] | rw [if_pos (by omega)])))
  · rw [e]; (repeat (first | rw [if_neg (by omega)] | rw [if_pos (by omega)]))
  · rw [e]; (repeat (first | rw [if_neg (by omega)] | rw [if_pos (by omega)]))
  · constructor <;> (rw [e]; (repeat (first | rw [if_neg (by omega)] | rw [if_pos (by omega)])))
  · constructor <;> (rw [e]; (repeat (first | rw [if_neg (by omega)] | rw [if_pos (by omega)])))
  · by_cases q : p = s (240 + 10 * c + 5)
    · rw [if_pos q]; rw [e]; (repeat (first | rw [if_neg (by omega)] | rw [if_pos (by omega)]))
    · rw [if_neg q]; rw [e]; (repeat (first | rw [if_neg (by omega)] | rw [if_pos (by omega)]))
  · rw [e]; (repeat (first | rw [if_neg (by omega)] | rw [if_pos (by omega)]))
  · rw [e]; (repeat (first | rw [if_neg (by omega)] | rw [if_pos (by omega)]))
  · rw [e]; (repeat (first | rw [if_neg (by omega)] | rw [if_pos (by omega)]))
  · rw [e]; (repeat (first | rw [if_neg (by omega)] | rw [if_pos (by omega)]))
  · rw [e]; (repeat (first | rw [if_neg (by omega)] | rw [if_pos (by omega)]))
  · rw [e]; (repeat (first | rw [if_neg (by omega)] | rw [if_pos (by omega)]))
  · rw [e]; (repeat (first | rw [if_neg (by omega)] | rw [if_pos (by omega)]))
  · by_cases q : c' = c
    · rw [if_pos q]; rw [e]; (repeat (first | rw [if_neg (by omega)] | rw [if_pos (by omega)]))
    · rw [if_neg q]; rw [e]; (repeat (first | rw [if_neg (by omega)] | rw [if_pos (by omega)]))
  · exact hR i
theorem ww_rideEnd {s : Int → Int} (h : WW s) {c : Int} (hc : 0 ≤ c ∧ c < 3) (ho : s (240 + 10 * c + 0) = 1) (hl : s (240 + 10 * c + 7) = 1) : WW (ridesP s c) := by
  obtain ⟨w3', wp, w16, mm, k⟩ := rideEnd_k h hc ho hl
  obtain ⟨hr, w1, w2, w3, w4, w5, w6, w7, w8⟩ := h
  have a5 := (w6 c hc.1 hc.2).2.2.2.2 ho
  have w1' := w1
  unfold W1 at w1'
  generalize ridesP s c = t at k
  obtain ⟨kb, kc, ko, ko0, kg, kp, kp0, kpm, kw, kw0, k4, klo, kmid, krow, krow0, krun, kr, v1, v2⟩ := k
  refine ⟨kr, ?_, ?_, ?_, ?_, ?_, ?_, ?_, ?_⟩
  · clear krun kpm v1 v2
    unfold W1
    rw [klo 0 (by omega) (by omega), klo 1 (by omega) (by omega), klo 2 (by omega) (by omega), klo 3 (by omega) (by omega), k4]
    have hlt := row_lt (b := s (240 + 10 * c + 6)) w1 w2 (by omega) (by omega)
    omega
  · exact w2.stand w1 (b := s (240 + 10 * c + 6)) (by omega) (by omega) k4 krow0 krow kw0 kw
  · refine w3.cg (kmid 9 (by omega) (by omega)) (kmid 10 (by omega) (by omega)) (fun c' h0 h1 h9 => ?_)
    have := kb c' h0 h1
    unfold W3 at w3
    rw [h9] at w3
    omega
  · refine w4.cg (klo 3 (by omega) (by omega)) (fun g h0 h1 => ?_)
    have := w4 g h0 h1
    rw [kg g 0 h0 h1 (by omega), kg g 1 h0 h1 (by omega), kg g 2 h0 h1 (by omega)]
    exact ⟨rfl, rfl, this.2.2.2.2⟩
  · intro p h0 h1
    have := w5 p h0 h1
    by_cases hp : p = s (240 + 10 * c + 5)
    · subst hp
      rw [kp0.1, kp0.2]
      omega
    · rw [(kp p h0 h1 hp).1, (kp p h0 h1 hp).2]
      exact this
  · intro c' h0 h1
    have b := w6 c' h0 h1
    have b2 := kb c' h0 h1
    by_cases hcc : c' = c
    · subst hcc
      rw [ko0]
      omega
    · have o := ko c' h0 h1 hcc
      rw [o.1, o.2, klo 3 (by omega) (by omega), kc c' 4 h0 h1 (by omega), kc c' 5 h0 h1 (by omega), kc c' 6 h0 h1 (by omega), kc c' 8 h0 h1 (by omega), kc c' 9 h0 h1 (by omega)]
      refine ⟨b.1, b.2.1, by omega, by omega, fun z => ?_⟩
      have b5 := b.2.2.2.2 z
      have n : s (240 + 10 * c' + 5) ≠ s (240 + 10 * c + 5) ∧ s (240 + 10 * c' + 6) ≠ s (240 + 10 * c + 6) := by
        rcases (show c' < c ∨ c < c' by omega) with q | q
        · exact w7 c' c h0 q hc.2 z ho
        · have := w7 c c' hc.1 q h1 ho z
          exact ⟨fun x => this.1 x.symm, fun x => this.2 x.symm⟩
      rw [kg _ 2 (by omega) (by omega) (by omega), (kp _ (by omega) (by omega) n.1).1, kw _ (by omega) (by omega) n.2]
      omega
  · intro c1 c2 h0 h1 h2 z1 z2
    have n1 : c1 ≠ c := fun z => by subst z; omega
    have n2 : c2 ≠ c := fun z => by subst z; omega
    rw [(ko c1 h0 (by omega) n1).1] at z1
    rw [(ko c2 (by omega) h2 n2).1] at z2
    rw [kc c1 5 h0 (by omega) (by omega), kc c2 5 (by omega) h2 (by omega), kc c1 6 h0 (by omega) (by omega), kc c2 6 (by omega) h2 (by omega)]
    exact w7 c1 c2 h0 h1 h2 z1 z2
  · refine ⟨?_, w8_run hc ⟨by omega, by omega⟩ w8.2 v1 v2 krun kpm⟩
    rw [klo 3 (by omega) (by omega), kmid 11 (by omega) (by omega), kmid 12 (by omega) (by omega), kmid 13 (by omega) (by omega), kmid 14 (by omega) (by omega), incF_cg (s := s) _ (fun g h0 h1 => ⟨kg g 0 h0 (by omega) (by omega), kg g 1 h0 (by omega) (by omega), kg g 2 h0 (by omega) (by omega)⟩)]
    exact w8.1
theorem ww_rides {s : Int → Int} (h : WW s) {c : Int} (hc : 0 ≤ c ∧ c < 3) (ho : s (240 + 10 * c + 0) = 1) : WW (ridesP s c) := by
  have a := (h.2.2.2.2.2.2.1 c hc.1 hc.2).2.2.2.2 ho
  by_cases q : s (240 + 10 * c + 7) = 1
  · exact ww_rideEnd h hc ho q
  · have e : ridesP s c = rideA s c := by
      unfold ridesP
      rw [if_neg]
      rw [rideA_at h.1 hc (by omega)]
      (repeat' split) <;> omega
    rw [e]
    exact ww_rideA h hc ho (by omega)
theorem ww_ridesF : ∀ (j : Nat) (c : Int) (s : Int → Int), WW s → 0 ≤ c → c + j ≤ 3 → WW (ridesF j c s)
  | 0, _, _, h, _, _ => h
  | j + 1, c, s, h, h0, h1 => by
    unfold ridesF
    refine ww_ridesF j (c + 1) _ ?_ (by omega) (by omega)
    split
    · rename_i q; exact ww_rides h ⟨h0, by omega⟩ q
    · exact h
