/-! ===== the pure law: what a quarter does; what holds all through ===== -/
def restsF : Nat → Int → (Int → Int) → (Int → Int)
  | 0, _, s => s
  | j + 1, p, s => restsF j (p + 1) (up s (217 + 3 * p + 1) (if s (217 + 3 * p + 0) = 0 ∧ 0 < s (217 + 3 * p + 1) then s (217 + 3 * p + 1) - 1 else s (217 + 3 * p + 1)))
def repStep (c : Int) (s : Int → Int) : Int → Int := up s 9 (if s (240 + 10 * c + 0) = 0 ∧ s (240 + 10 * c + 2) = 1 then c else s 9)
def repA (s : Int → Int) : Int → Int := if s 10 = 0 then repStep 0 (repStep 1 (repStep 2 s)) else s
def repB (s : Int → Int) : Int → Int :=
  if s 9 = -1 then s else
    let s1 := up s 10 ((if s 10 = 0 then 4 else s 10) - 1)
    if s1 10 = 0 then
      let s2 := up s1 (240 + 10 * s1 9 + 2) 0
      let s3 := up s2 (240 + 10 * s2 9 + 1) 0
      up s3 9 (-1)
    else s1
def repairsP (s : Int → Int) : Int → Int := repB (repA s)
def rideA (s : Int → Int) (c : Int) : Int → Int :=
  let s1 := up s (240 + 10 * c + 7) (s (240 + 10 * c + 7) - 1)
  if s1 (240 + 10 * c + 7) = s1 (240 + 10 * c + 9) then up s1 (17 + 5 * s1 (240 + 10 * c + 4) + 2) 2 else s1
def rideB (s : Int → Int) (c g : Int) : Int → Int :=
  let miles := 2 * milesP (s (17 + 5 * g + 1))
  let p := s (240 + 10 * c + 5)
  let s3 := up s (240 + 10 * c + 0) 0
  let s4 := up s3 (240 + 10 * c + 3) (s3 (240 + 10 * c + 3) + miles)
  let s5 := up s4 (240 + 10 * c + 1) (s4 (240 + 10 * c + 1) + miles)
  let s6 := up s5 (217 + 3 * p + 0) 0
  let s7 := up s6 (217 + 3 * p + 2) (s6 (217 + 3 * p + 2) + miles)
  let s8 := up s7 (217 + 3 * p + 1) (s7 (240 + 10 * c + 8))
  standsP s8 (s8 (240 + 10 * c + 6))
def rideC (s : Int → Int) (c : Int) : Int → Int :=
  if s (240 + 10 * c + 1) < s 2 then s else
    let s10 := up s (240 + 10 * c + 2) 1
    up s10 16 (s10 16 + 1)
def ridesP (s : Int → Int) (c : Int) : Int → Int :=
  if rideA s c (240 + 10 * c + 7) = 0 then rideC (rideB (rideA s c) c (s (240 + 10 * c + 4))) c else rideA s c
def ridesF : Nat → Int → (Int → Int) → (Int → Int)
  | 0, _, s => s
  | j + 1, c, s => ridesF j (c + 1) (if s (240 + 10 * c + 0) = 1 then ridesP s c else s)
def outP (s : Int → Int) (g : Int) : Int := (milesP (s (17 + 5 * g + 1)) + (if s (17 + 5 * g + 0) = 0 then s 1 + 1 else s 1) - 1) / (if s (17 + 5 * g + 0) = 0 then s 1 + 1 else s 1)
def backP (s : Int → Int) (g : Int) : Int := (milesP (s (17 + 5 * g + 1)) + s 1 - 1) / s 1
def depA (s : Int → Int) (g p : Int) : Int → Int :=
  let s1 := up s (17 + 5 * g + 4) (waitedP s g)
  let s2 := up s1 (17 + 5 * g + 2) 1
  let s3 := up s2 (11 + s2 (17 + 5 * g + 1)) (s2 (11 + s2 (17 + 5 * g + 1)) + fareP (s2 (17 + 5 * g + 0)) (s2 (17 + 5 * g + 1)))
  up s3 (217 + 3 * p + 0) 1
def depB (s : Int → Int) (g p b c o w : Int) : Int → Int :=
  let s6 := up s (232 + 2 * b + 0) 2
  let s7 := up s6 (232 + 2 * b + 1) (s6 (232 + 2 * b + 1) + 1)
  let s8 := up s7 (240 + 10 * c + 0) 1
  let s9 := up s8 (240 + 10 * c + 4) g
  let s10 := up s9 (240 + 10 * c + 5) p
  let s11 := up s10 (240 + 10 * c + 6) b
  let s12 := up s11 (240 + 10 * c + 7) (o + w)
  let s13 := up s12 (240 + 10 * c + 8) (o + w)
  up s13 (240 + 10 * c + 9) w
def departP (s : Int → Int) : Int → Int := depB (leavesP (depA s (inLineP s 0) (restedP s)) (s 5)) (inLineP s 0) (restedP s) (s 5) (readyP s) (outP s (inLineP s 0)) (backP s (inLineP s 0))
def depF : Nat → (Int → Int) → Int → (Int → Int) × Int
  | 0, s, n => (s, n)
  | j + 1, s, n => if whyP s = 0 then depF j (departP s) (n + 1) else (s, n)
def passP (s : Int → Int) : (Int → Int) × Int := depF 3 (ridesF 3 0 (repairsP (restsF 5 0 (up s 0 (s 0 + 1))))) 0
def passAllP : Nat → (Int → Int) → Int → (Int → Int) × Int
  | 0, s, n => (s, n)
  | j + 1, s, n => passAllP j (passP s).1 (n + (passP s).2)
/-! what holds all through -/
def W1 (s : Int → Int) : Prop := 0 ≤ s 0 ∧ 2 ≤ s 1 ∧ s 1 ≤ 5 ∧ 20 ≤ s 2 ∧ s 2 ≤ 200 ∧ 0 ≤ s 3 ∧ s 3 ≤ 40 ∧ 0 ≤ s 4 ∧ s 4 ≤ 4
def W2 (s : Int → Int) : Prop := (∀ k, 0 ≤ k → k < s 4 → 0 ≤ s (5 + k) ∧ s (5 + k) < 4 ∧ s (232 + 2 * s (5 + k) + 0) = 0) ∧ (∀ j k, 0 ≤ j → j < k → k < s 4 → s (5 + j) ≠ s (5 + k)) ∧ ∀ b, 0 ≤ b → b < 4 → 0 ≤ s (232 + 2 * b + 0) ∧ s (232 + 2 * b + 0) ≤ 2 ∧ (s (232 + 2 * b + 0) = 0 → ∃ k, 0 ≤ k ∧ k < s 4 ∧ s (5 + k) = b)
def W3 (s : Int → Int) : Prop := (s 9 = -1 ∧ s 10 = 0) ∨ (0 ≤ s 9 ∧ s 9 < 3 ∧ 1 ≤ s 10 ∧ s 10 ≤ 3 ∧ s (240 + 10 * s 9 + 2) = 1)
def W4 (s : Int → Int) : Prop := ∀ g, 0 ≤ g → g < s 3 → 0 ≤ s (17 + 5 * g + 0) ∧ s (17 + 5 * g + 0) ≤ 2 ∧ 0 ≤ s (17 + 5 * g + 1) ∧ s (17 + 5 * g + 1) ≤ 3 ∧ 0 ≤ s (17 + 5 * g + 2) ∧ s (17 + 5 * g + 2) ≤ 3
def W5 (s : Int → Int) : Prop := ∀ p, 0 ≤ p → p < 5 → 0 ≤ s (217 + 3 * p + 0) ∧ s (217 + 3 * p + 0) ≤ 1 ∧ 0 ≤ s (217 + 3 * p + 1) ∧ s (217 + 3 * p + 1) ≤ 200 ∧ (s (217 + 3 * p + 0) = 1 → s (217 + 3 * p + 1) = 0)
def W6 (s : Int → Int) : Prop := ∀ c, 0 ≤ c → c < 3 → 0 ≤ s (240 + 10 * c + 0) ∧ s (240 + 10 * c + 0) ≤ 1 ∧ 0 ≤ s (240 + 10 * c + 2) ∧ s (240 + 10 * c + 2) ≤ 1 ∧ (s (240 + 10 * c + 0) = 1 → s (240 + 10 * c + 2) = 0 ∧ 0 ≤ s (240 + 10 * c + 4) ∧ s (240 + 10 * c + 4) < s 3 ∧ 1 ≤ s (17 + 5 * s (240 + 10 * c + 4) + 2) ∧ s (17 + 5 * s (240 + 10 * c + 4) + 2) ≤ 2 ∧
  0 ≤ s (240 + 10 * c + 5) ∧ s (240 + 10 * c + 5) < 5 ∧ s (217 + 3 * s (240 + 10 * c + 5) + 0) = 1 ∧ 0 ≤ s (240 + 10 * c + 6) ∧ s (240 + 10 * c + 6) < 4 ∧ s (232 + 2 * s (240 + 10 * c + 6) + 0) = 2 ∧ 1 ≤ s (240 + 10 * c + 7) ∧ s (240 + 10 * c + 7) ≤ s (240 + 10 * c + 8) ∧ s (240 + 10 * c + 8) ≤ 100 ∧ 1 ≤ s (240 + 10 * c + 9) ∧ s (240 + 10 * c + 9) ≤ 50)
def W7 (s : Int → Int) : Prop := ∀ c c', 0 ≤ c → c < c' → c' < 3 → s (240 + 10 * c + 0) = 1 → s (240 + 10 * c' + 0) = 1 → s (240 + 10 * c + 5) ≠ s (240 + 10 * c' + 5) ∧ s (240 + 10 * c + 6) ≠ s (240 + 10 * c' + 6)
def incF (s : Int → Int) : Nat → Int
  | 0 => 0
  | j + 1 => incF s j + (if s (17 + 5 * (j : Int) + 2) = 1 ∨ s (17 + 5 * (j : Int) + 2) = 2 then fareP (s (17 + 5 * (j : Int) + 0)) (s (17 + 5 * (j : Int) + 1)) else 0)
def W8 (s : Int → Int) : Prop := (∃ q : Int, s 11 + s 12 + s 13 + s 14 = incF s (s 3).toNat + 4294967296 * q) ∧ ∃ q : Int, s 243 + s 253 + s 263 = s 219 + s 222 + s 225 + s 228 + s 231 + 4294967296 * q
def WW (s : Int → Int) : Prop := (∀ i, R32 (s i)) ∧ W1 s ∧ W2 s ∧ W3 s ∧ W4 s ∧ W5 s ∧ W6 s ∧ W7 s ∧ W8 s
theorem wr_mod (v : Int) : ∃ q : Int, wr v = v + 4294967296 * q := by
  refine ⟨wr v / 4294967296 - v / 4294967296 , ?_⟩
  have h : (wr v) % 4294967296 = v % 4294967296 := by
    unfold wr ii
    rw [Int32.toInt_ofInt, Int.bmod_def, show ((Int32.size : Nat) : Int) = 4294967296 from rfl]
    split <;> omega
  omega
/-! where each part looks -/
theorem incF_cg {s t : Int → Int} : ∀ (j : Nat), (∀ g, 0 ≤ g → g < (j : Int) → t (17 + 5 * g + 0) = s (17 + 5 * g + 0) ∧ t (17 + 5 * g + 1) = s (17 + 5 * g + 1) ∧ t (17 + 5 * g + 2) = s (17 + 5 * g + 2)) → incF t j = incF s j
  | 0, _ => rfl
  | j + 1, h => by
    have e := h j (by omega) (by omega)
    unfold incF
    rw [incF_cg j (fun g h0 h1 => h g h0 (by omega)), e.1, e.2.1, e.2.2]
theorem W1.cg {s t : Int → Int} (h : W1 s) (e : ∀ i, 0 ≤ i → i < 5 → t i = s i) : W1 t := by
  unfold W1 at *
  rw [e 0 (by omega) (by omega), e 1 (by omega) (by omega), e 2 (by omega) (by omega), e 3 (by omega) (by omega), e 4 (by omega) (by omega)]
  exact h
theorem W2.cg {s t : Int → Int} (h : W2 s) (h4 : s 4 ≤ 4) (e4 : t 4 = s 4) (e : ∀ k, 0 ≤ k → k < 4 → t (5 + k) = s (5 + k)) (ew : ∀ b, 0 ≤ b → b < 4 → t (232 + 2 * b + 0) = s (232 + 2 * b + 0)) : W2 t := by
  obtain ⟨a, b, c⟩ := h
  refine ⟨fun k h0 h1 => ?_, fun j k h0 h1 h2 => ?_, fun b h0 h1 => ?_⟩
  · rw [e4] at h1
    have := a k h0 h1
    rw [e k h0 (by omega), ew _ (by omega) (by omega)]
    exact this
  · rw [e4] at h2
    rw [e j h0 (by omega), e k (by omega) (by omega)]
    exact b j k h0 h1 h2
  · have := c b h0 h1
    rw [ew b h0 h1]
    refine ⟨this.1, this.2.1, fun z => ?_⟩
    obtain ⟨k, k0, k1, k2⟩ := this.2.2 z
    exact ⟨k, k0, by omega, by rw [e k k0 (by omega)]; exact k2⟩
theorem W3.cg {s t : Int → Int} (h : W3 s) (e9 : t 9 = s 9) (e10 : t 10 = s 10) (e : ∀ c, 0 ≤ c → c < 3 → s 9 = c → t (240 + 10 * c + 2) = s (240 + 10 * c + 2)) : W3 t := by
  unfold W3 at *
  rw [e9, e10]
  rcases h with h | h
  · exact Or.inl h
  · rw [e (s 9) h.1 h.2.1 rfl]; exact Or.inr h
theorem W4.cg {s t : Int → Int} (h : W4 s) (e3 : t 3 = s 3) (e : ∀ g, 0 ≤ g → g < s 3 → t (17 + 5 * g + 0) = s (17 + 5 * g + 0) ∧ t (17 + 5 * g + 1) = s (17 + 5 * g + 1) ∧ 0 ≤ t (17 + 5 * g + 2) ∧ t (17 + 5 * g + 2) ≤ 3) : W4 t := fun g h0 h1 => by
  rw [e3] at h1
  have := h g h0 h1
  have q := e g h0 h1
  rw [q.1, q.2.1]
  exact ⟨this.1, this.2.1, this.2.2.1, this.2.2.2.1, q.2.2⟩
theorem W5.cg {s t : Int → Int} (h : W5 s) (e : ∀ p, 0 ≤ p → p < 5 → t (217 + 3 * p + 0) = s (217 + 3 * p + 0) ∧ t (217 + 3 * p + 1) = s (217 + 3 * p + 1)) : W5 t := fun g h0 h1 => by
  rw [(e g h0 h1).1, (e g h0 h1).2]
  exact h g h0 h1
theorem W6.cg {s t : Int → Int} (h : W6 s) (e3 : s 3 ≤ t 3) (e : ∀ c, 0 ≤ c → c < 3 → t (240 + 10 * c + 0) = s (240 + 10 * c + 0) ∧ (0 ≤ t (240 + 10 * c + 2) ∧ t (240 + 10 * c + 2) ≤ 1 ∧ (s (240 + 10 * c + 0) = 1 → t (240 + 10 * c + 2) = s (240 + 10 * c + 2))) ∧ t (240 + 10 * c + 4) = s (240 + 10 * c + 4) ∧ t (240 + 10 * c + 5) = s (240 + 10 * c + 5) ∧ t (240 + 10 * c + 6) = s (240 + 10 * c + 6) ∧ t (240 + 10 * c + 7) = s (240 + 10 * c + 7) ∧ t (240 + 10 * c + 8) = s (240 + 10 * c + 8) ∧ t (240 + 10 * c + 9) = s (240 + 10 * c + 9))
    (eg : ∀ g, 0 ≤ g → g < s 3 → 1 ≤ s (17 + 5 * g + 2) → s (17 + 5 * g + 2) ≤ 2 → t (17 + 5 * g + 2) = s (17 + 5 * g + 2)) (ep : ∀ p, 0 ≤ p → p < 5 → t (217 + 3 * p + 0) = s (217 + 3 * p + 0)) (eb : ∀ b, 0 ≤ b → b < 4 → s (232 + 2 * b + 0) = 2 → t (232 + 2 * b + 0) = 2) : W6 t := fun c h0 h1 => by
  obtain ⟨a1, a2, a3, a4, a5⟩ := h c h0 h1
  obtain ⟨q0, q2, q4, q5, q6, q7, q8, q9⟩ := e c h0 h1
  rw [q0, q4, q5, q6, q7, q8, q9]
  refine ⟨a1, a2, q2.1, q2.2.1, fun z => ?_⟩
  obtain ⟨b1, b2, b3, b4, b5, b6, b7, b8, b9, b10, b11, b12⟩ := a5 z
  rw [q2.2.2 z, eg _ b2 b3 b4 b5, ep _ b6 b7]
  exact ⟨b1, b2, by omega, b4, b5, b6, b7, b8, b9, b10, eb _ b9 b10 b11, b12⟩
theorem W7.cg {s t : Int → Int} (h : W7 s) (e : ∀ c, 0 ≤ c → c < 3 → t (240 + 10 * c + 0) = s (240 + 10 * c + 0) ∧ t (240 + 10 * c + 5) = s (240 + 10 * c + 5) ∧ t (240 + 10 * c + 6) = s (240 + 10 * c + 6)) : W7 t := fun c c' h0 h1 h2 => by
  obtain ⟨a1, a2, a3⟩ := e c h0 (by omega)
  obtain ⟨b1, b2, b3⟩ := e c' (by omega) h2
  rw [a1, a2, a3, b1, b2, b3]
  exact h c c' h0 h1 h2
theorem W8.cg {s t : Int → Int} (h : W8 s) (e3 : t 3 = s 3) (e : ∀ i, 11 ≤ i → i < 15 → t i = s i) (eg : ∀ g, 0 ≤ g → g < s 3 → t (17 + 5 * g + 0) = s (17 + 5 * g + 0) ∧ t (17 + 5 * g + 1) = s (17 + 5 * g + 1) ∧ t (17 + 5 * g + 2) = s (17 + 5 * g + 2)) (ep : ∀ p, 0 ≤ p → p < 5 → t (217 + 3 * p + 2) = s (217 + 3 * p + 2)) (ec : ∀ c, 0 ≤ c → c < 3 → t (240 + 10 * c + 3) = s (240 + 10 * c + 3)) : W8 t := by
  unfold W8 at *
  have p0 := ep 0 (by omega) (by omega); have p1 := ep 1 (by omega) (by omega); have p2 := ep 2 (by omega) (by omega); have p3 := ep 3 (by omega) (by omega); have p4 := ep 4 (by omega) (by omega)
  have c0 := ec 0 (by omega) (by omega); have c1 := ec 1 (by omega) (by omega); have c2 := ec 2 (by omega) (by omega)
  simp only [Int.reduceMul, Int.reduceAdd] at p0 p1 p2 p3 p4 c0 c1 c2
  rw [incF_cg _ (fun g h0 h1 => eg g h0 (by rw [e3] at h1; omega)), e3, e 11 (by omega) (by omega), e 12 (by omega) (by omega), e 13 (by omega) (by omega), e 14 (by omega) (by omega), p0, p1, p2, p3, p4, c0, c1, c2]
  exact h
/-! a time step; the pairs' rests -/
theorem WW.tick {s : Int → Int} (h : WW s) (ht : s 0 ≤ 100000) : WW (up s 0 (s 0 + 1)) := by
  obtain ⟨hr, w1, w2, w3, w4, w5, w6, w7, w8⟩ := h
  refine ⟨up_r hr, ?_, w2.cg w1.2.2.2.2.2.2.2.2 (up_ne (by omega)) (fun _ _ _ => (up_ne (by omega))) (fun _ _ _ => (up_ne (by omega))), w3.cg (up_ne (by omega)) (up_ne (by omega)) (fun _ _ _ _ => (up_ne (by omega))), w4.cg (up_ne (by omega)) (fun g h0 h1 => ?_), w5.cg (fun _ _ _ => ⟨(up_ne (by omega)), (up_ne (by omega))⟩), ?_, w7.cg (fun _ _ _ => ⟨(up_ne (by omega)), (up_ne (by omega)), (up_ne (by omega))⟩), w8.cg (up_ne (by omega)) (fun _ _ _ => (up_ne (by omega))) (fun _ _ _ => ⟨(up_ne (by omega)), (up_ne (by omega)), (up_ne (by omega))⟩) (fun _ _ _ => (up_ne (by omega))) (fun _ _ _ => (up_ne (by omega)))⟩
  · unfold W1 at *
    simp (disch := omega) only [up_at, up_ne, wr_id]
    omega
  · have := w4 g h0 h1
    exact ⟨(up_ne (by omega)), (up_ne (by omega)), by rw [up_ne (by omega)]; omega, by rw [up_ne (by omega)]; omega⟩
  · exact w6.cg (by rw [up_ne (by omega)]; omega) (fun c h0 h1 => ⟨(up_ne (by omega)), ⟨by rw [up_ne (by omega)]; exact (w6 c h0 h1).2.2.1, by rw [up_ne (by omega)]; exact (w6 c h0 h1).2.2.2.1, fun _ => (up_ne (by omega))⟩, (up_ne (by omega)), (up_ne (by omega)), (up_ne (by omega)), (up_ne (by omega)), (up_ne (by omega)), (up_ne (by omega))⟩) (fun _ _ _ _ _ => (up_ne (by omega))) (fun _ _ _ => (up_ne (by omega))) (fun _ _ _ e => by rw [up_ne (by omega)]; exact e)
