/-! ===== the pure law: a quarter; quarters ===== -/
def rd1 (s : Int → Int) (c : Int) : Nat := if s (240 + 10 * c + 0) = 0 ∧ s (240 + 10 * c + 2) = 0 then 1 else 0
def rdyN (s : Int → Int) : Nat := rd1 s 0 + rd1 s 1 + rd1 s 2
theorem rd1_le (s : Int → Int) (c : Int) : rd1 s c ≤ 1 := by unfold rd1; split <;> omega
theorem rdyN_le (s : Int → Int) : rdyN s ≤ 3 := by
  have := rd1_le s 0; have := rd1_le s 1; have := rd1_le s 2
  unfold rdyN; omega
theorem rdyN_dep {s : Int → Int} (h : WW s) (hw : whyP s = 0) : rdyN (departP s) + 1 = rdyN s := by
  have hD := why_DP h.2.1 hw
  have k := depart_k h hD
  obtain ⟨-, -, ⟨c0, c1, c2, c3⟩, -⟩ := hD
  obtain ⟨-, -, -, -, -, -, -, -, -, -, -, kc, d0, -⟩ := k
  change rdyN (departQ s (inLineP s 0) (restedP s) (readyP s)) + 1 = _
  generalize departQ s (inLineP s 0) (restedP s) (readyP s) = t at kc d0
  generalize readyP s = c at *
  have e1 : rd1 t c = 0 := by unfold rd1; rw [if_neg (by omega)]
  have e2 : rd1 s c = 1 := by unfold rd1; rw [if_pos ⟨c2, c3⟩]
  have e3 : ∀ c', 0 ≤ c' → c' < 3 → c' ≠ c → rd1 t c' = rd1 s c' := fun c' h0 h1 h2 => by
    unfold rd1
    rw [kc c' 0 h0 h1 (by omega) (by omega) (by omega), kc c' 2 h0 h1 (by omega) (by omega) (by omega)]
  unfold rdyN
  rcases (show c = 0 ∨ c = 1 ∨ c = 2 by omega) with rfl | rfl | rfl
  · rw [e1, e2, e3 1 (by omega) (by omega) (by omega), e3 2 (by omega) (by omega) (by omega)]; omega
  · rw [e1, e2, e3 0 (by omega) (by omega) (by omega), e3 2 (by omega) (by omega) (by omega)]; omega
  · rw [e1, e2, e3 0 (by omega) (by omega) (by omega), e3 1 (by omega) (by omega) (by omega)]
theorem ww_depF : ∀ (j : Nat) (s : Int → Int) (n : Int), WW s → WW (depF j s n).1
  | 0, _, _, h => h
  | j + 1, s, n, h => by
    unfold depF
    split
    · rename_i q; exact ww_depF j _ _ (ww_depart h q)
    · exact h
theorem depF_lo : ∀ (j : Nat) (s : Int → Int) (n : Int), WW s → ∀ i, 0 ≤ i → i < 4 → (depF j s n).1 i = s i
  | 0, _, _, _, _, _, _ => rfl
  | j + 1, s, n, h, i, h0, h1 => by
    unfold depF
    split
    · rename_i q
      rw [depF_lo j _ _ (ww_depart h q) i h0 h1]
      exact (depart_k h (why_DP h.2.1 q)).1 i h0 h1
    · rfl
theorem depF_n : ∀ (j : Nat) (s : Int → Int) (n : Int), n ≤ (depF j s n).2 ∧ (depF j s n).2 ≤ n + j
  | 0, _, _ => ⟨Int.le_refl _, by simp [depF]⟩
  | j + 1, s, n => by
    unfold depF
    split
    · have := depF_n j (departP s) (n + 1); omega
    · dsimp only; omega
theorem restsF_ne : ∀ (j : Nat) (p : Int) (s : Int → Int) (i : Int), 0 ≤ p → i < 217 → restsF j p s i = s i
  | 0, _, _, _, _, _ => rfl
  | j + 1, p, s, i, h0, h1 => by unfold restsF; rw [restsF_ne j (p + 1) _ i (by omega) h1, up_ne (by omega)]
theorem repairsP_lo {s : Int → Int} (h : WW s) (i : Int) (h1 : i < 9) : repairsP s i = s i := by
  have h3 := h.2.2.2.1
  rw [repairsP_at h3 h.2.2.2.2.2.2.1]
  unfold W3 at h3
  by_cases q : s 9 = -1
  · rw [if_pos q]
    by_cases q2 : fbP s = -1
    · rw [if_pos q2]
    · rw [if_neg q2, if_neg (by omega), if_neg (by omega)]
  · rw [if_neg q]
    by_cases q2 : s 10 = 1
    · rw [if_pos q2, if_neg (by omega), if_neg (by omega), if_neg (by omega)]
    · rw [if_neg q2, if_neg (by omega)]
theorem ridesP_lo {s : Int → Int} (h : WW s) {c : Int} (hc : 0 ≤ c ∧ c < 3) (ho : s (240 + 10 * c + 0) = 1) (i : Int) (h0 : 0 ≤ i) (h1 : i < 4) : ridesP s c i = s i := by
  have a := (h.2.2.2.2.2.2.1 c hc.1 hc.2).2.2.2.2 ho
  by_cases q : s (240 + 10 * c + 7) = 1
  · obtain ⟨_, _, _, _, k⟩ := rideEnd_k h hc ho q
    exact k.2.2.2.2.2.2.2.2.2.2.2.1 i h0 h1
  · have e := rideA_at h.1 hc (show 1 ≤ s (240 + 10 * c + 7) by omega)
    have e2 : ridesP s c = rideA s c := by
      unfold ridesP
      rw [if_neg]
      rw [e, if_neg (by omega), if_pos rfl]
      omega
    rw [e2, e, if_neg (by omega), if_neg (by omega)]
theorem ridesF_lo : ∀ (j : Nat) (c : Int) (s : Int → Int), WW s → 0 ≤ c → c + j ≤ 3 → ∀ i, 0 ≤ i → i < 4 → ridesF j c s i = s i
  | 0, _, _, _, _, _, _, _, _ => rfl
  | j + 1, c, s, h, h0, h1, i, i0, i1 => by
    unfold ridesF
    by_cases q : s (240 + 10 * c + 0) = 1
    · rw [if_pos q, ridesF_lo j (c + 1) _ (ww_rides h ⟨h0, by omega⟩ q) (by omega) (by omega) i i0 i1]
      exact ridesP_lo h ⟨h0, by omega⟩ q i i0 i1
    · rw [if_neg q]
      exact ridesF_lo j (c + 1) _ h (by omega) (by omega) i i0 i1
/-- before the departures of a quarter -/
def preP (s : Int → Int) : Int → Int := ridesF 3 0 (repairsP (restsF 5 0 (up s 0 (s 0 + 1))))
theorem ww_pre {s : Int → Int} (h : WW s) (ht : s 0 ≤ 100000) : WW (preP s) := ww_ridesF 3 0 _ (WW.repairs (WW.rests (s := s) 5 0 _ (h.tick ht) (by omega) (by omega))) (by omega) (by omega)
theorem preP_lo {s : Int → Int} (h : WW s) (ht : s 0 ≤ 100000) (i : Int) (h0 : 0 ≤ i) (h1 : i < 4) : preP s i = if i = 0 then s 0 + 1 else s i := by
  unfold preP
  have w := WW.rests (s := s) 5 0 _ (h.tick ht) (by omega) (by omega)
  have := h.2.1.1
  rw [ridesF_lo 3 0 _ (WW.repairs w) (by omega) (by omega) i h0 h1, repairsP_lo w i (by omega), restsF_ne 5 0 _ i (by omega) (by omega)]
  by_cases q : i = 0
  · subst q; rw [up_at, if_pos rfl, wr_id (by omega)]
  · rw [up_ne q, if_neg q]
theorem ww_pass {s : Int → Int} (h : WW s) (ht : s 0 ≤ 100000) : WW (passP s).1 := ww_depF 3 _ 0 (ww_pre h ht)
theorem passP_lo {s : Int → Int} (h : WW s) (ht : s 0 ≤ 100000) (i : Int) (h0 : 0 ≤ i) (h1 : i < 4) : (passP s).1 i = if i = 0 then s 0 + 1 else s i := by
  rw [← preP_lo h ht i h0 h1]
  exact depF_lo 3 _ 0 (ww_pre h ht) i h0 h1
theorem passP_n (s : Int → Int) : 0 ≤ (passP s).2 ∧ (passP s).2 ≤ 3 := depF_n 3 _ 0
theorem ww_passAll : ∀ (j : Nat) (s : Int → Int) (n : Int), WW s → s 0 + j ≤ 100000 → WW (passAllP j s n).1 ∧ (passAllP j s n).1 0 = s 0 + j ∧ (passAllP j s n).1 3 = s 3 ∧ n ≤ (passAllP j s n).2 ∧ (passAllP j s n).2 ≤ n + 3 * j
  | 0, s, n, h, _ => ⟨h, by unfold passAllP; simp, rfl, Int.le_refl _, by unfold passAllP; simp⟩
  | j + 1, s, n, h, ht => by
    have e := passP_lo h (by omega) 0 (by omega) (by omega)
    have e3 := passP_lo h (by omega) 3 (by omega) (by omega)
    rw [if_pos rfl] at e
    rw [if_neg (by omega)] at e3
    have a := ww_passAll j (passP s).1 (n + (passP s).2) (ww_pass h (by omega)) (by omega)
    have b := passP_n s
    unfold passAllP
    exact ⟨a.1, by rw [a.2.1]; omega, by rw [a.2.2.1]; exact e3, by omega, by omega⟩
