/-! ===== the twin's methods: texts carried out ===== -/
theorem ww_exec {s : Int → Int} (h : WW s) (ht : s 0 ≤ 9999) {k v : Int} (hk : 0 ≤ k ∧ k ≤ 6) (hv : (k = 3 ∧ 1 ≤ v ∧ v ≤ 99) ∨ (k ≠ 3 ∧ 0 ≤ v ∧ v ≤ 3 ∧ (k = 6 → v ≤ 2))) (hc : canP s k v ≠ 0) : WW (execP s k v) ∧ execP s k v 0 ≤ 9999 := by
  have w1 := h.2.1
  have h2 := h.2.2.1
  unfold W1 at w1
  have w6 := h.2.2.2.2.2.2.1
  unfold canP at hc
  unfold execP
  by_cases k3 : k < 3
  · rw [if_pos k3] at hc ⊢
    have h40 : s 3 < 40 := by split at hc <;> omega
    refine ⟨ww_arrives h h40 (by omega) (by omega), ?_⟩
    unfold arrivesP
    simp (disch := omega) only [up_ne]
    exact ht
  · rw [if_neg k3] at hc ⊢
    by_cases k3' : k = 3
    · rw [if_pos k3'] at hc ⊢
      have := ww_passAll v.toNat s 0 h (by omega)
      refine ⟨this.1, ?_⟩
      rw [this.2.1]
      split at hc <;> omega
    · rw [if_neg k3'] at hc ⊢
      by_cases k4 : k = 4
      · rw [if_pos k4] at hc ⊢
        have hw : s (232 + 2 * v + 0) = 0 := by split at hc <;> omega
        refine ⟨ww_beds h (by omega) hw, ?_⟩
        unfold bedsP
        have hp := placeP_r ((h2.2.2 v (by omega) (by omega)).2.2 hw)
        rw [up_ne (by omega), leavesP_at h.1 (by omega) ⟨hp.1, hp.2.1⟩, if_neg (by omega), if_neg (by omega)]
        exact ht
      · rw [if_neg k4] at hc ⊢
        by_cases k5 : k = 5
        · rw [if_pos k5] at hc ⊢
          have hw : s (232 + 2 * v + 0) = 1 := by split at hc <;> omega
          refine ⟨ww_stands h (by omega) hw, ?_⟩
          have := row_lt h.2.1 h.2.2.1 (b := v) (by omega) (by omega)
          rw [standsP_at (by omega) (by omega), if_neg (by omega), if_neg (by omega), if_neg (by omega)]
          exact ht
        · rw [if_neg k5] at hc ⊢
          have hw : s (240 + 10 * v + 0) = 0 := by split at hc <;> omega
          refine ⟨ww_poles h (by omega) hw, ?_⟩
          unfold polesP
          split <;> (simp (disch := omega) only [up_ne]; exact ht)
/-- the whole text is right from here on -/
def okT (tx : List Int) : Nat → (Int × Int) → Prop
  | 0, _ => False
  | j + 1, ps => (parseP tx ps).2.2 = 0 ∧ ((parseP tx ps).2.1 < tx.length → (signP tx 59 59 (parseP tx ps).2).2.2 = 0 ∧ okT tx j (signP tx 59 59 (parseP tx ps).2).2)
theorem goF_ok {tx : List Int} : ∀ (j : Nat) (ps : Int × Int), PSv tx ps → (tx.length : Int) - ps.1 < j → (goF tx j ps).2 = 0 → okT tx j ps
  | 0, ps, hv, hl, _ => by have := hv.2.1; omega
  | j + 1, ps, hv, hl, h => by
    have hp := (parseP_v hv).1
    have hlt := @parseP_lt tx ps
    unfold goF at h
    unfold okT
    by_cases q : (parseP tx ps).2.2 = 0 ∧ (parseP tx ps).2.1 < tx.length
    · rw [if_pos q] at h
      have hs := @signP_lt tx 59 59 (parseP tx ps).2 (by decide)
      by_cases q2 : (signP tx 59 59 (parseP tx ps).2).2.2 = 0
      · rw [if_pos q2] at h
        have := hlt q.1
        have := hs.2.1 q2
        exact ⟨q.1, fun _ => ⟨q2, goF_ok j _ (signP_v (by decide) hp) (by omega) h⟩⟩
      · rw [if_neg q2] at h
        exact absurd h q2
    · rw [if_neg q] at h
      exact ⟨h, fun z => absurd ⟨h, z⟩ q⟩
theorem ww_run {tx : List Int} : ∀ (j : Nat) (ps : Int × Int) (s : Int → Int) (x : Int), PSv tx ps → okT tx j ps → WW s → s 0 ≤ 9999 → WW (runF tx j ps s x).1 ∧ (runF tx j ps s x).1 0 ≤ 9999
  | 0, _, _, _, _, h, _, _ => h.elim
  | j + 1, ps, s, x, hv, h, hW, ht => by
    have hp := parseP_v hv
    unfold okT at h
    have ho := parseP_ok h.1
    unfold runF
    by_cases q : canP s (parseP tx ps).1.1 (parseP tx ps).1.2 = 0
    · rw [if_pos q]; exact ⟨hW, ht⟩
    · rw [if_neg q]
      have e := ww_exec hW ht hp.2 ho q
      by_cases q2 : (parseP tx ps).2.1 < tx.length
      · rw [if_pos q2]
        exact ww_run j _ _ _ (signP_v (by decide) hp.1) (h.2 q2).2 e.1 e.2
      · rw [if_neg q2]; exact e
section TWM
variable {K : KT} {k n m : Nat} {M M0 : Mem} {Q : Res → Mem → Prop} {s : Int → Int} {T T0 : Nat → Int → Int} {tx : List Int} {ps : Int × Int} {a : AS}
theorem c_X6_order1 (hT : Tw (kB K) M0 m s T M) (hX : TXt tx T0) (hP : TX T0 ps T) (hv : PSv tx ps) (hz : (parseP tx ps).2.2 = 0) (hW : WW s) (ht : s 0 ≤ 9999) (hQ : ∀ T' M', Tw (kB K) M0 m (if canP s (parseP tx ps).1.1 (parseP tx ps).1.2 = 0 then s else execP s (parseP tx ps).1.1 (parseP tx ps).1.2) T' M' → TX T0 (parseP tx ps).2 T' → Q (.inl (some (.int (ii (canP s (parseP tx ps).1.1 (parseP tx ps).1.2))))) M') : Go K fX6_order 6 k n 0 [some (.ref m), some (.int (ii 1)), none, none, none, none, none] [] M Q := by
  refine l_order hT hX hP hv fun v z T M hT hP hv' => ?_
  have ho := parseP_ok hz
  have hk := (parseP_v hv).2
  rw [← hv'] at hQ ho
  generalize (parseP tx ps).1.1 = kd at *
  have w1 := hW.2.1
  unfold W1 at w1
  have t239 : ∀ c, c = canP s kd v → (c = 0 ∨ c = 1) → Go K fX6_order 6 k n 239 [some (.ref m), some (.int (ii 1)), some (.int (ii kd)), some (.int z), some (.int (ii v)), none, none] [.int (ii c)] M Q := by
    intro c hc hc1
    rw [← hc] at hQ
    by_cases q : c = 0
    · rw [if_pos q] at hQ
      refine g_istore5 241 (Nat.le_of_ble_eq_true rfl) (by first | exact c1_0 | exact c1_i | exact c1_r | exact c1_n | exact c1_v (by assumption) | exact c1_f) dX6_order_239 rfl ?_
      refine g_iload5 243 dX6_order_241 rfl ?_
      refine g_if_eq 311 246 dX6_order_243 rfl rfl (by first | exact hT.r _ | exact hT.rT _ _ | exact inP_r | omega) (fun c243 => ?_) (fun c243 => ?_)
      · refine g_iload5 313 dX6_order_311 rfl ?_
        refine g_zret dX6_order_313 rfl (by first | rfl | exact zr inP_01 | exact zr (by omega) | exact zr (by assumption)) ?_
        exact hQ _ _ hT hP
      · omega
    · rw [if_neg q] at hQ
      rw [hc] at q
      have q' := q
      unfold canP at q'
      unfold execP at hQ
      by_cases k3 : kd < 3
      · rw [if_pos k3] at hQ q'
        have h40 : s 3 < 40 := by split at q' <;> omega
        refine g_istore5 241 (Nat.le_of_ble_eq_true rfl) (by first | exact c1_0 | exact c1_i | exact c1_r | exact c1_n | exact c1_v (by assumption) | exact c1_f) dX6_order_239 rfl ?_
        refine g_iload5 243 dX6_order_241 rfl ?_
        refine g_if_eq 311 246 dX6_order_243 rfl rfl (by first | exact hT.r _ | exact hT.rT _ _ | exact inP_r | omega) (fun c243 => ?_) (fun c243 => ?_)
        · refine g_iload5 313 dX6_order_311 rfl ?_
          refine g_zret dX6_order_313 rfl (by first | rfl | exact zr inP_01 | exact zr (by omega) | exact zr (by assumption)) ?_
          first | omega | exact hQ _ _ hT hP
        · refine g_iload2 247 dX6_order_246 rfl ?_
          refine g_iconst 248 dX6_order_247 rfl ?_
          refine g_icmp_ge 261 251 dX6_order_248 rfl rfl (by first | exact hT.r _ | exact hT.rT _ _ | exact inP_r | omega) (by first | exact hT.r _ | exact hT.rT _ _ | exact inP_r | omega) (fun c248 => ?_) (fun c248 => ?_)
          · omega
          · refine g_aload0 252 (by first | exact rv_r | exact rv_n | assumption | exact rv_f) dX6_order_251 rfl ?_
            refine g_iload2 253 dX6_order_252 rfl ?_
            refine g_iload4 255 dX6_order_253 rfl ?_
            refine k_V2z 258 dX6_order_255 rfl lk_X6_110 hT.t rfl (by first | rfl | exact rv_cat (by assumption) | exact rv_cat rv_f) (by first | rfl | exact rv_cat (by assumption) | exact rv_cat rv_f) (Nat.le_of_ble_eq_true rfl) (by first | exact Nat.le_of_ble_eq_true rfl | omega) (c_X6_arrives hT (by first | assumption | omega) (fun M hT => ?_))
            refine g_goto 309 dX6_order_258 rfl ?_
            refine g_istore6 311 (Nat.le_of_ble_eq_true rfl) (by first | exact c1_0 | exact c1_i | exact c1_r | exact c1_n | exact c1_v (by assumption) | exact c1_f) dX6_order_309 rfl ?_
            refine g_iload5 313 dX6_order_311 rfl ?_
            refine g_zret dX6_order_313 rfl (by first | rfl | exact zr inP_01 | exact zr (by omega) | exact zr (by assumption)) ?_
            first | omega | exact hQ _ _ hT hP
      · rw [if_neg k3] at hQ q'
        by_cases k3' : kd = 3
        · rw [if_pos k3'] at hQ q'
          refine g_istore5 241 (Nat.le_of_ble_eq_true rfl) (by first | exact c1_0 | exact c1_i | exact c1_r | exact c1_n | exact c1_v (by assumption) | exact c1_f) dX6_order_239 rfl ?_
          refine g_iload5 243 dX6_order_241 rfl ?_
          refine g_if_eq 311 246 dX6_order_243 rfl rfl (by first | exact hT.r _ | exact hT.rT _ _ | exact inP_r | omega) (fun c243 => ?_) (fun c243 => ?_)
          · refine g_iload5 313 dX6_order_311 rfl ?_
            refine g_zret dX6_order_313 rfl (by first | rfl | exact zr inP_01 | exact zr (by omega) | exact zr (by assumption)) ?_
            first | omega | exact hQ _ _ hT hP
          · refine g_iload2 247 dX6_order_246 rfl ?_
            refine g_iconst 248 dX6_order_247 rfl ?_
            refine g_icmp_ge 261 251 dX6_order_248 rfl rfl (by first | exact hT.r _ | exact hT.rT _ _ | exact inP_r | omega) (by first | exact hT.r _ | exact hT.rT _ _ | exact inP_r | omega) (fun c248 => ?_) (fun c248 => ?_)
            · refine g_iload2 262 dX6_order_261 rfl ?_
              refine g_iconst 263 dX6_order_262 rfl ?_
              refine g_icmp_ne 275 266 dX6_order_263 rfl rfl (by first | exact hT.r _ | exact hT.rT _ _ | exact inP_r | omega) (by first | exact hT.r _ | exact hT.rT _ _ | exact inP_r | omega) (fun c263 => ?_) (fun c263 => ?_)
              · omega
              · refine g_aload0 267 (by first | exact rv_r | exact rv_n | assumption | exact rv_f) dX6_order_266 rfl ?_
                refine g_iload4 269 dX6_order_267 rfl ?_
                refine k_V1z 272 dX6_order_269 rfl lk_X6_117 hT.t rfl (by first | rfl | exact rv_cat (by assumption) | exact rv_cat rv_f) (Nat.le_of_ble_eq_true rfl) (by first | exact Nat.le_of_ble_eq_true rfl | omega) (c_X6_passesAll hT (by first | assumption | omega) (by first | assumption | omega) (by first | assumption | omega) (fun M hT => ?_))
                refine g_goto 309 dX6_order_272 rfl ?_
                refine g_istore6 311 (Nat.le_of_ble_eq_true rfl) (by first | exact c1_0 | exact c1_i | exact c1_r | exact c1_n | exact c1_v (by assumption) | exact c1_f) dX6_order_309 rfl ?_
                refine g_iload5 313 dX6_order_311 rfl ?_
                refine g_zret dX6_order_313 rfl (by first | rfl | exact zr inP_01 | exact zr (by omega) | exact zr (by assumption)) ?_
                first | omega | exact hQ _ _ hT hP
            · omega
        · rw [if_neg k3'] at hQ q'
          by_cases k4 : kd = 4
          · rw [if_pos k4] at hQ q'
            have hw : s (232 + 2 * v + 0) = 0 := by split at q' <;> omega
            refine g_istore5 241 (Nat.le_of_ble_eq_true rfl) (by first | exact c1_0 | exact c1_i | exact c1_r | exact c1_n | exact c1_v (by assumption) | exact c1_f) dX6_order_239 rfl ?_
            refine g_iload5 243 dX6_order_241 rfl ?_
            refine g_if_eq 311 246 dX6_order_243 rfl rfl (by first | exact hT.r _ | exact hT.rT _ _ | exact inP_r | omega) (fun c243 => ?_) (fun c243 => ?_)
            · refine g_iload5 313 dX6_order_311 rfl ?_
              refine g_zret dX6_order_313 rfl (by first | rfl | exact zr inP_01 | exact zr (by omega) | exact zr (by assumption)) ?_
              first | omega | exact hQ _ _ hT hP
            · refine g_iload2 247 dX6_order_246 rfl ?_
              refine g_iconst 248 dX6_order_247 rfl ?_
              refine g_icmp_ge 261 251 dX6_order_248 rfl rfl (by first | exact hT.r _ | exact hT.rT _ _ | exact inP_r | omega) (by first | exact hT.r _ | exact hT.rT _ _ | exact inP_r | omega) (fun c248 => ?_) (fun c248 => ?_)
              · refine g_iload2 262 dX6_order_261 rfl ?_
                refine g_iconst 263 dX6_order_262 rfl ?_
                refine g_icmp_ne 275 266 dX6_order_263 rfl rfl (by first | exact hT.r _ | exact hT.rT _ _ | exact inP_r | omega) (by first | exact hT.r _ | exact hT.rT _ _ | exact inP_r | omega) (fun c263 => ?_) (fun c263 => ?_)
                · refine g_iload2 276 dX6_order_275 rfl ?_
                  refine g_iconst 277 dX6_order_276 rfl ?_
                  refine g_icmp_ne 289 280 dX6_order_277 rfl rfl (by first | exact hT.r _ | exact hT.rT _ _ | exact inP_r | omega) (by first | exact hT.r _ | exact hT.rT _ _ | exact inP_r | omega) (fun c277 => ?_) (fun c277 => ?_)
                  · omega
                  · refine g_aload0 281 (by first | exact rv_r | exact rv_n | assumption | exact rv_f) dX6_order_280 rfl ?_
                    refine g_iload4 283 dX6_order_281 rfl ?_
                    refine k_V1z 286 dX6_order_283 rfl lk_X6_126 hT.t rfl (by first | rfl | exact rv_cat (by assumption) | exact rv_cat rv_f) (Nat.le_of_ble_eq_true rfl) (by first | exact Nat.le_of_ble_eq_true rfl | omega) (c_X6_beds hT hW (by omega) hw (fun M hT => ?_))
                    refine g_goto 309 dX6_order_286 rfl ?_
                    refine g_istore6 311 (Nat.le_of_ble_eq_true rfl) (by first | exact c1_0 | exact c1_i | exact c1_r | exact c1_n | exact c1_v (by assumption) | exact c1_f) dX6_order_309 rfl ?_
                    refine g_iload5 313 dX6_order_311 rfl ?_
                    refine g_zret dX6_order_313 rfl (by first | rfl | exact zr inP_01 | exact zr (by omega) | exact zr (by assumption)) ?_
                    first | omega | exact hQ _ _ hT hP
                · omega
              · omega
          · rw [if_neg k4] at hQ q'
            by_cases k5 : kd = 5
            · rw [if_pos k5] at hQ q'
              refine g_istore5 241 (Nat.le_of_ble_eq_true rfl) (by first | exact c1_0 | exact c1_i | exact c1_r | exact c1_n | exact c1_v (by assumption) | exact c1_f) dX6_order_239 rfl ?_
              refine g_iload5 243 dX6_order_241 rfl ?_
              refine g_if_eq 311 246 dX6_order_243 rfl rfl (by first | exact hT.r _ | exact hT.rT _ _ | exact inP_r | omega) (fun c243 => ?_) (fun c243 => ?_)
              · refine g_iload5 313 dX6_order_311 rfl ?_
                refine g_zret dX6_order_313 rfl (by first | rfl | exact zr inP_01 | exact zr (by omega) | exact zr (by assumption)) ?_
                first | omega | exact hQ _ _ hT hP
              · refine g_iload2 247 dX6_order_246 rfl ?_
                refine g_iconst 248 dX6_order_247 rfl ?_
                refine g_icmp_ge 261 251 dX6_order_248 rfl rfl (by first | exact hT.r _ | exact hT.rT _ _ | exact inP_r | omega) (by first | exact hT.r _ | exact hT.rT _ _ | exact inP_r | omega) (fun c248 => ?_) (fun c248 => ?_)
                · refine g_iload2 262 dX6_order_261 rfl ?_
                  refine g_iconst 263 dX6_order_262 rfl ?_
                  refine g_icmp_ne 275 266 dX6_order_263 rfl rfl (by first | exact hT.r _ | exact hT.rT _ _ | exact inP_r | omega) (by first | exact hT.r _ | exact hT.rT _ _ | exact inP_r | omega) (fun c263 => ?_) (fun c263 => ?_)
                  · refine g_iload2 276 dX6_order_275 rfl ?_
                    refine g_iconst 277 dX6_order_276 rfl ?_
                    refine g_icmp_ne 289 280 dX6_order_277 rfl rfl (by first | exact hT.r _ | exact hT.rT _ _ | exact inP_r | omega) (by first | exact hT.r _ | exact hT.rT _ _ | exact inP_r | omega) (fun c277 => ?_) (fun c277 => ?_)
                    · refine g_iload2 290 dX6_order_289 rfl ?_
                      refine g_iconst 291 dX6_order_290 rfl ?_
                      refine g_icmp_ne 303 294 dX6_order_291 rfl rfl (by first | exact hT.r _ | exact hT.rT _ _ | exact inP_r | omega) (by first | exact hT.r _ | exact hT.rT _ _ | exact inP_r | omega) (fun c291 => ?_) (fun c291 => ?_)
                      · omega
                      · refine g_aload0 295 (by first | exact rv_r | exact rv_n | assumption | exact rv_f) dX6_order_294 rfl ?_
                        refine g_iload4 297 dX6_order_295 rfl ?_
                        refine k_V1z 300 dX6_order_297 rfl lk_X6_129 hT.t rfl (by first | rfl | exact rv_cat (by assumption) | exact rv_cat rv_f) (Nat.le_of_ble_eq_true rfl) (by first | exact Nat.le_of_ble_eq_true rfl | omega) (c_X6_calls hT (by first | assumption | omega) (by first | assumption | omega) (fun M hT => ?_))
                        refine g_goto 309 dX6_order_300 rfl ?_
                        refine g_istore6 311 (Nat.le_of_ble_eq_true rfl) (by first | exact c1_0 | exact c1_i | exact c1_r | exact c1_n | exact c1_v (by assumption) | exact c1_f) dX6_order_309 rfl ?_
                        refine g_iload5 313 dX6_order_311 rfl ?_
                        refine g_zret dX6_order_313 rfl (by first | rfl | exact zr inP_01 | exact zr (by omega) | exact zr (by assumption)) ?_
                        first | omega | exact hQ _ _ hT hP
                    · omega
                  · omega
                · omega
            · rw [if_neg k5] at hQ q'
              refine g_istore5 241 (Nat.le_of_ble_eq_true rfl) (by first | exact c1_0 | exact c1_i | exact c1_r | exact c1_n | exact c1_v (by assumption) | exact c1_f) dX6_order_239 rfl ?_
              refine g_iload5 243 dX6_order_241 rfl ?_
              refine g_if_eq 311 246 dX6_order_243 rfl rfl (by first | exact hT.r _ | exact hT.rT _ _ | exact inP_r | omega) (fun c243 => ?_) (fun c243 => ?_)
              · refine g_iload5 313 dX6_order_311 rfl ?_
                refine g_zret dX6_order_313 rfl (by first | rfl | exact zr inP_01 | exact zr (by omega) | exact zr (by assumption)) ?_
                first | omega | exact hQ _ _ hT hP
              · refine g_iload2 247 dX6_order_246 rfl ?_
                refine g_iconst 248 dX6_order_247 rfl ?_
                refine g_icmp_ge 261 251 dX6_order_248 rfl rfl (by first | exact hT.r _ | exact hT.rT _ _ | exact inP_r | omega) (by first | exact hT.r _ | exact hT.rT _ _ | exact inP_r | omega) (fun c248 => ?_) (fun c248 => ?_)
                · refine g_iload2 262 dX6_order_261 rfl ?_
                  refine g_iconst 263 dX6_order_262 rfl ?_
                  refine g_icmp_ne 275 266 dX6_order_263 rfl rfl (by first | exact hT.r _ | exact hT.rT _ _ | exact inP_r | omega) (by first | exact hT.r _ | exact hT.rT _ _ | exact inP_r | omega) (fun c263 => ?_) (fun c263 => ?_)
                  · refine g_iload2 276 dX6_order_275 rfl ?_
                    refine g_iconst 277 dX6_order_276 rfl ?_
                    refine g_icmp_ne 289 280 dX6_order_277 rfl rfl (by first | exact hT.r _ | exact hT.rT _ _ | exact inP_r | omega) (by first | exact hT.r _ | exact hT.rT _ _ | exact inP_r | omega) (fun c277 => ?_) (fun c277 => ?_)
                    · refine g_iload2 290 dX6_order_289 rfl ?_
                      refine g_iconst 291 dX6_order_290 rfl ?_
                      refine g_icmp_ne 303 294 dX6_order_291 rfl rfl (by first | exact hT.r _ | exact hT.rT _ _ | exact inP_r | omega) (by first | exact hT.r _ | exact hT.rT _ _ | exact inP_r | omega) (fun c291 => ?_) (fun c291 => ?_)
                      · refine g_aload0 304 (by first | exact rv_r | exact rv_n | assumption | exact rv_f) dX6_order_303 rfl ?_
                        refine g_iload4 306 dX6_order_304 rfl ?_
                        refine k_V1z 309 dX6_order_306 rfl lk_X6_135 hT.t rfl (by first | rfl | exact rv_cat (by assumption) | exact rv_cat rv_f) (Nat.le_of_ble_eq_true rfl) (by first | exact Nat.le_of_ble_eq_true rfl | omega) (c_X6_poles hT (by first | assumption | omega) (fun M hT => ?_))
                        refine g_istore6 311 (Nat.le_of_ble_eq_true rfl) (by first | exact c1_0 | exact c1_i | exact c1_r | exact c1_n | exact c1_v (by assumption) | exact c1_f) dX6_order_309 rfl ?_
                        refine g_iload5 313 dX6_order_311 rfl ?_
                        refine g_zret dX6_order_313 rfl (by first | rfl | exact zr inP_01 | exact zr (by omega) | exact zr (by assumption)) ?_
                        first | omega | exact hQ _ _ hT hP
                      · omega
                    · omega
                  · omega
                · omega
  refine g_iload1 120 dX6_order_119 rfl ?_
  refine g_if_ne 125 123 dX6_order_120 rfl rfl (by first | exact hT.r _ | exact hT.rT _ _ | exact inP_r | omega) (fun c120 => ?_) (fun c120 => ?_)
  · refine g_iload2 126 dX6_order_125 rfl ?_
    refine g_iconst 127 dX6_order_126 rfl ?_
    refine g_icmp_ge 149 130 dX6_order_127 rfl rfl (by first | exact hT.r _ | exact hT.rT _ _ | exact inP_r | omega) (by first | exact hT.r _ | exact hT.rT _ _ | exact inP_r | omega) (fun c127 => ?_) (fun c127 => ?_)
    · refine g_iload2 150 dX6_order_149 rfl ?_
      refine g_iconst 151 dX6_order_150 rfl ?_
      refine g_icmp_ne 177 154 dX6_order_151 rfl rfl (by first | exact hT.r _ | exact hT.rT _ _ | exact inP_r | omega) (by first | exact hT.r _ | exact hT.rT _ _ | exact inP_r | omega) (fun c151 => ?_) (fun c151 => ?_)
      · refine g_iload2 178 dX6_order_177 rfl ?_
        refine g_iconst 179 dX6_order_178 rfl ?_
        refine g_icmp_ne 200 182 dX6_order_179 rfl rfl (by first | exact hT.r _ | exact hT.rT _ _ | exact inP_r | omega) (by first | exact hT.r _ | exact hT.rT _ _ | exact inP_r | omega) (fun c179 => ?_) (fun c179 => ?_)
        · refine g_iload2 201 dX6_order_200 rfl ?_
          refine g_iconst 202 dX6_order_201 rfl ?_
          refine g_icmp_ne 224 205 dX6_order_202 rfl rfl (by first | exact hT.r _ | exact hT.rT _ _ | exact inP_r | omega) (by first | exact hT.r _ | exact hT.rT _ _ | exact inP_r | omega) (fun c202 => ?_) (fun c202 => ?_)
          · refine g_aload0 225 (by first | exact rv_r | exact rv_n | assumption | exact rv_f) dX6_order_224 rfl ?_
            refine g_iload4 227 dX6_order_225 rfl ?_
            refine g_iconst 228 dX6_order_227 rfl ?_
            refine k_V2z 231 dX6_order_228 rfl lk_X6_47 hT.t rfl (by first | rfl | exact rv_cat (by assumption) | exact rv_cat rv_f) (by first | rfl | exact rv_cat (by assumption) | exact rv_cat rv_f) (Nat.le_of_ble_eq_true rfl) (by first | exact Nat.le_of_ble_eq_true rfl | omega) (c_X6_chaise hT (by first | assumption | omega) (by first | assumption | omega) ?_)
            refine g_if_ne 238 234 dX6_order_231 rfl rfl (by first | exact hT.r _ | exact hT.rT _ _ | exact inP_r | omega) (fun c231 => ?_) (fun c231 => ?_)
            · refine g_iconst 239 dX6_order_238 rfl ?_
              first | omega | exact t239 _ (by unfold canP; (repeat (first | rw [if_pos (by omega)] | rw [if_neg (by omega)]))) (by omega)
            · refine g_iconst 235 dX6_order_234 rfl ?_
              refine g_goto 239 dX6_order_235 rfl ?_
              first | omega | exact t239 _ (by unfold canP; (repeat (first | rw [if_pos (by omega)] | rw [if_neg (by omega)]))) (by omega)
          · refine g_aload0 206 (by first | exact rv_r | exact rv_n | assumption | exact rv_f) dX6_order_205 rfl ?_
            refine g_iload4 208 dX6_order_206 rfl ?_
            refine g_iconst 209 dX6_order_208 rfl ?_
            refine k_V2z 212 dX6_order_209 rfl lk_X6_79 hT.t rfl (by first | rfl | exact rv_cat (by assumption) | exact rv_cat rv_f) (by first | rfl | exact rv_cat (by assumption) | exact rv_cat rv_f) (Nat.le_of_ble_eq_true rfl) (by first | exact Nat.le_of_ble_eq_true rfl | omega) (c_X6_boy hT (by first | assumption | omega) (by first | assumption | omega) ?_)
            refine g_iconst 213 dX6_order_212 rfl ?_
            refine g_icmp_ne 220 216 dX6_order_213 rfl rfl (by first | exact hT.r _ | exact hT.rT _ _ | exact inP_r | omega) (by first | exact hT.r _ | exact hT.rT _ _ | exact inP_r | omega) (fun c213 => ?_) (fun c213 => ?_)
            · refine g_iconst 221 dX6_order_220 rfl ?_
              refine g_goto 239 dX6_order_221 rfl ?_
              first | omega | exact t239 _ (by unfold canP; (repeat (first | rw [if_pos (by omega)] | rw [if_neg (by omega)]))) (by omega)
            · refine g_iconst 217 dX6_order_216 rfl ?_
              refine g_goto 239 dX6_order_217 rfl ?_
              first | omega | exact t239 _ (by unfold canP; (repeat (first | rw [if_pos (by omega)] | rw [if_neg (by omega)]))) (by omega)
        · refine g_aload0 183 (by first | exact rv_r | exact rv_n | assumption | exact rv_f) dX6_order_182 rfl ?_
          refine g_iload4 185 dX6_order_183 rfl ?_
          refine g_iconst 186 dX6_order_185 rfl ?_
          refine k_V2z 189 dX6_order_186 rfl lk_X6_79 hT.t rfl (by first | rfl | exact rv_cat (by assumption) | exact rv_cat rv_f) (by first | rfl | exact rv_cat (by assumption) | exact rv_cat rv_f) (Nat.le_of_ble_eq_true rfl) (by first | exact Nat.le_of_ble_eq_true rfl | omega) (c_X6_boy hT (by first | assumption | omega) (by first | assumption | omega) ?_)
          refine g_if_ne 196 192 dX6_order_189 rfl rfl (by first | exact hT.r _ | exact hT.rT _ _ | exact inP_r | omega) (fun c189 => ?_) (fun c189 => ?_)
          · refine g_iconst 197 dX6_order_196 rfl ?_
            refine g_goto 239 dX6_order_197 rfl ?_
            first | omega | exact t239 _ (by unfold canP; (repeat (first | rw [if_pos (by omega)] | rw [if_neg (by omega)]))) (by omega)
          · refine g_iconst 193 dX6_order_192 rfl ?_
            refine g_goto 239 dX6_order_193 rfl ?_
            first | omega | exact t239 _ (by unfold canP; (repeat (first | rw [if_pos (by omega)] | rw [if_neg (by omega)]))) (by omega)
      · refine g_aload0 155 (by first | exact rv_r | exact rv_n | assumption | exact rv_f) dX6_order_154 rfl ?_
        refine g_getf 158 dX6_order_155 rfl fl_X6_7 hT.t (hT.f0) ?_
        refine g_iconst 159 dX6_order_158 rfl ?_
        refine g_iald 160 dX6_order_159 rfl hT.a0 (by omega) (by omega) (by omega) (hT.e0 (by omega) (by omega)) ?_
        refine g_iload4 162 dX6_order_160 rfl ?_
        refine g_iadd 163 dX6_order_162 rfl ?_
        refine g_sipush 166 (by rfl) dX6_order_163 rfl ?_
        refine g_icmp_gt 173 169 dX6_order_166 rfl rfl (by first | exact hT.r _ | exact hT.rT _ _ | exact inP_r | omega) (by first | exact hT.r _ | exact hT.rT _ _ | exact inP_r | omega) (fun c166 => ?_) (fun c166 => ?_)
        · refine g_iconst 174 dX6_order_173 rfl ?_
          refine g_goto 239 dX6_order_174 rfl ?_
          first | omega | exact t239 _ (by unfold canP; (repeat (first | rw [if_pos (by omega)] | rw [if_neg (by omega)]))) (by omega)
        · refine g_iconst 170 dX6_order_169 rfl ?_
          refine g_goto 239 dX6_order_170 rfl ?_
          first | omega | exact t239 _ (by unfold canP; (repeat (first | rw [if_pos (by omega)] | rw [if_neg (by omega)]))) (by omega)
    · refine g_aload0 131 (by first | exact rv_r | exact rv_n | assumption | exact rv_f) dX6_order_130 rfl ?_
      refine g_getf 134 dX6_order_131 rfl fl_X6_7 hT.t (hT.f0) ?_
      refine g_iconst 135 dX6_order_134 rfl ?_
      refine g_iald 136 dX6_order_135 rfl hT.a0 (by omega) (by omega) (by omega) (hT.e0 (by omega) (by omega)) ?_
      refine g_bipush 138 (by rfl) dX6_order_136 rfl ?_
      refine g_icmp_ge 145 141 dX6_order_138 rfl rfl (by first | exact hT.r _ | exact hT.rT _ _ | exact inP_r | omega) (by first | exact hT.r _ | exact hT.rT _ _ | exact inP_r | omega) (fun c138 => ?_) (fun c138 => ?_)
      · refine g_iconst 146 dX6_order_145 rfl ?_
        refine g_goto 239 dX6_order_146 rfl ?_
        first | omega | exact t239 _ (by unfold canP; (repeat (first | rw [if_pos (by omega)] | rw [if_neg (by omega)]))) (by omega)
      · refine g_iconst 142 dX6_order_141 rfl ?_
        refine g_goto 239 dX6_order_142 rfl ?_
        first | omega | exact t239 _ (by unfold canP; (repeat (first | rw [if_pos (by omega)] | rw [if_neg (by omega)]))) (by omega)
  · omega
theorem l_goX {dn x : Int} {o : Option Value} (h : Q (.inl (some (.int (ii x)))) M) : Go K fX6_go 7 k n 14 [some (.ref m), some (.int (ii dn)), some (.int (ii x)), some (.int (ii 0)), o] [] M Q := by
  refine g_iload3 15 dX6_go_14 rfl ?_
  refine g_if_eq 85 18 dX6_go_15 rfl rfl (by first | exact hT.r _ | exact hT.rT _ _ | exact inP_r | omega) (fun c15 => ?_) (fun c15 => ?_)
  · refine g_iload2 86 dX6_go_85 rfl ?_
    refine g_iret dX6_go_86 rfl ?_
    exact h
  · omega
theorem l_go0 (hX : TXt tx T0) : ∀ (j : Nat) (ps : Int × Int) (x : Int) (T : Nat → Int → Int) (M : Mem) (o : Option Value), Tw (kB K) M0 m s T M → TX T0 ps T → PSv tx ps → (tx.length : Int) - ps.1 < j → (∀ x T' M', Tw (kB K) M0 m s T' M' → TX T0 (goF tx j ps) T' → Q (.inl (some (.int (ii x)))) M') → Go K fX6_go 7 k n 14 [some (.ref m), some (.int (ii 0)), some (.int (ii x)), some (.int (ii 1)), o] [] M Q := by
  intro j
  induction j with
  | zero => intro ps x T M o hT hP hv hl hQ; have := hv.2.1; omega
  | succ j ih =>
    intro ps x T M o hT hP hv hl hQ
    have hp := (parseP_v hv).1
    have hlt := @parseP_lt tx ps
    have hs := @signP_lt tx 59 59 (parseP tx ps).2 (by decide)
    have hsv := signP_v (lo := 59) (hi := 59) (by decide) hp
    have h60 := hX.2.1
    have hi := @signP_i tx 59 59 (parseP tx ps).2 (by decide)
    have hps := hp.2.2
    have hss := hsv.2.2
    unfold goF at hQ
    by_cases q : (parseP tx ps).2.2 = 0 ∧ (parseP tx ps).2.1 < tx.length
    · rw [if_pos q] at hQ
      by_cases q2 : (signP tx 59 59 (parseP tx ps).2).2.2 = 0
      · rw [if_pos q2] at hQ
        have := hlt q.1
        have := hs.2.1 q2
        refine g_iload3 15 dX6_go_14 rfl ?_
        refine g_if_eq 85 18 dX6_go_15 rfl rfl (by first | exact hT.r _ | exact hT.rT _ _ | exact inP_r | omega) (fun c15 => ?_) (fun c15 => ?_)
        · omega
        · refine g_aload0 19 (by first | exact rv_r | exact rv_n | assumption | exact rv_f) dX6_go_18 rfl ?_
          refine g_iload1 20 dX6_go_19 rfl ?_
          refine k_V1z 23 dX6_go_20 rfl lk_X6_196 hT.t rfl (by first | rfl | exact rv_cat (by assumption) | exact rv_cat rv_f) (Nat.le_of_ble_eq_true rfl) (by first | exact Nat.le_of_ble_eq_true rfl | omega) (c_X6_order0 hT hX hP hv (fun T M hT hP => ?_))
          have e9 := hP.2.1
          have e10 := hP.2.2
          have e7 : T 5 7 = tx.length := by rw [hP.1 _ _ (by omega)]; exact hX.1
          refine g_if_ne 28 26 dX6_go_23 rfl rfl (by first | exact hT.r _ | exact hT.rT _ _ | exact inP_r | omega) (fun c23 => ?_) (fun c23 => ?_)
          · refine g_iinc2 31 (Nat.le_of_ble_eq_true rfl) (by first | exact c1_0 | exact c1_i | exact c1_r | exact c1_n | exact c1_v (by assumption) | exact c1_f) dX6_go_28 rfl ?_
            refine g_aload0 32 (by first | exact rv_r | exact rv_n | assumption | exact rv_f) dX6_go_31 rfl ?_
            refine g_getf 35 dX6_go_32 rfl fl_X6_182 hT.t (hT.f10) ?_
            refine g_if_ne 53 38 dX6_go_35 rfl rfl (by first | exact hT.r _ | exact hT.rT _ _ | exact inP_r | omega) (fun c35 => ?_) (fun c35 => ?_)
            · refine g_iconst 54 dX6_go_53 rfl ?_
              refine g_istore3 55 (Nat.le_of_ble_eq_true rfl) (by first | exact c1_0 | exact c1_i | exact c1_r | exact c1_n | exact c1_v (by assumption) | exact c1_f) dX6_go_54 rfl ?_
              refine g_iload3 56 dX6_go_55 rfl ?_
              refine g_if_eq 14 59 dX6_go_56 rfl rfl (by first | exact hT.r _ | exact hT.rT _ _ | exact inP_r | omega) (fun c56 => ?_) (fun c56 => ?_)
              · first | omega | exact ih _ _ _ _ _ hT hP hsv (by omega) hQ
              · refine g_aload0 60 (by first | exact rv_r | exact rv_n | assumption | exact rv_f) dX6_go_59 rfl ?_
                refine g_bipush 62 (by rfl) dX6_go_60 rfl ?_
                refine g_bipush 64 (by rfl) dX6_go_62 rfl ?_
                refine k_V2z 67 dX6_go_64 rfl lk_X6_186 hT.t rfl (by first | rfl | exact rv_cat (by assumption) | exact rv_cat rv_f) (by first | rfl | exact rv_cat (by assumption) | exact rv_cat rv_f) (Nat.le_of_ble_eq_true rfl) (by first | exact Nat.le_of_ble_eq_true rfl | omega) (c_X6_sign hT hX hP hp (by decide) (fun T M hT hP => ?_))
                have e10 := hP.2.2
                refine g_istore4 69 (Nat.le_of_ble_eq_true rfl) (by first | exact c1_0 | exact c1_i | exact c1_r | exact c1_n | exact c1_v (by assumption) | exact c1_f) dX6_go_67 rfl ?_
                refine g_aload0 70 (by first | exact rv_r | exact rv_n | assumption | exact rv_f) dX6_go_69 rfl ?_
                refine g_getf 73 dX6_go_70 rfl fl_X6_182 hT.t (hT.f10) ?_
                refine g_if_ne 80 76 dX6_go_73 rfl rfl (by first | exact hT.r _ | exact hT.rT _ _ | exact inP_r | omega) (fun c73 => ?_) (fun c73 => ?_)
                · refine g_iconst 81 dX6_go_80 rfl ?_
                  refine g_istore3 82 (Nat.le_of_ble_eq_true rfl) (by first | exact c1_0 | exact c1_i | exact c1_r | exact c1_n | exact c1_v (by assumption) | exact c1_f) dX6_go_81 rfl ?_
                  refine g_goto 14 dX6_go_82 rfl ?_
                  first | omega | exact ih _ _ _ _ _ hT hP hsv (by omega) hQ
                · refine g_iconst 77 dX6_go_76 rfl ?_
                  refine g_goto 81 dX6_go_77 rfl ?_
                  refine g_istore3 82 (Nat.le_of_ble_eq_true rfl) (by first | exact c1_0 | exact c1_i | exact c1_r | exact c1_n | exact c1_v (by assumption) | exact c1_f) dX6_go_81 rfl ?_
                  refine g_goto 14 dX6_go_82 rfl ?_
                  first | omega | exact ih _ _ _ _ _ hT hP hsv (by omega) hQ
            · refine g_aload0 39 (by first | exact rv_r | exact rv_n | assumption | exact rv_f) dX6_go_38 rfl ?_
              refine g_getf 42 dX6_go_39 rfl fl_X6_179 hT.t (hT.f9) ?_
              refine g_aload0 43 (by first | exact rv_r | exact rv_n | assumption | exact rv_f) dX6_go_42 rfl ?_
              refine g_getf 46 dX6_go_43 rfl fl_X6_176 hT.t (hT.f7) ?_
              refine g_icmp_ge 53 49 dX6_go_46 rfl rfl (by first | exact hT.r _ | exact hT.rT _ _ | exact inP_r | omega) (by first | exact hT.r _ | exact hT.rT _ _ | exact inP_r | omega) (fun c46 => ?_) (fun c46 => ?_)
              · refine g_iconst 54 dX6_go_53 rfl ?_
                refine g_istore3 55 (Nat.le_of_ble_eq_true rfl) (by first | exact c1_0 | exact c1_i | exact c1_r | exact c1_n | exact c1_v (by assumption) | exact c1_f) dX6_go_54 rfl ?_
                refine g_iload3 56 dX6_go_55 rfl ?_
                refine g_if_eq 14 59 dX6_go_56 rfl rfl (by first | exact hT.r _ | exact hT.rT _ _ | exact inP_r | omega) (fun c56 => ?_) (fun c56 => ?_)
                · first | omega | exact ih _ _ _ _ _ hT hP hsv (by omega) hQ
                · refine g_aload0 60 (by first | exact rv_r | exact rv_n | assumption | exact rv_f) dX6_go_59 rfl ?_
                  refine g_bipush 62 (by rfl) dX6_go_60 rfl ?_
                  refine g_bipush 64 (by rfl) dX6_go_62 rfl ?_
                  refine k_V2z 67 dX6_go_64 rfl lk_X6_186 hT.t rfl (by first | rfl | exact rv_cat (by assumption) | exact rv_cat rv_f) (by first | rfl | exact rv_cat (by assumption) | exact rv_cat rv_f) (Nat.le_of_ble_eq_true rfl) (by first | exact Nat.le_of_ble_eq_true rfl | omega) (c_X6_sign hT hX hP hp (by decide) (fun T M hT hP => ?_))
                  have e10 := hP.2.2
                  refine g_istore4 69 (Nat.le_of_ble_eq_true rfl) (by first | exact c1_0 | exact c1_i | exact c1_r | exact c1_n | exact c1_v (by assumption) | exact c1_f) dX6_go_67 rfl ?_
                  refine g_aload0 70 (by first | exact rv_r | exact rv_n | assumption | exact rv_f) dX6_go_69 rfl ?_
                  refine g_getf 73 dX6_go_70 rfl fl_X6_182 hT.t (hT.f10) ?_
                  refine g_if_ne 80 76 dX6_go_73 rfl rfl (by first | exact hT.r _ | exact hT.rT _ _ | exact inP_r | omega) (fun c73 => ?_) (fun c73 => ?_)
                  · refine g_iconst 81 dX6_go_80 rfl ?_
                    refine g_istore3 82 (Nat.le_of_ble_eq_true rfl) (by first | exact c1_0 | exact c1_i | exact c1_r | exact c1_n | exact c1_v (by assumption) | exact c1_f) dX6_go_81 rfl ?_
                    refine g_goto 14 dX6_go_82 rfl ?_
                    first | omega | exact ih _ _ _ _ _ hT hP hsv (by omega) hQ
                  · refine g_iconst 77 dX6_go_76 rfl ?_
                    refine g_goto 81 dX6_go_77 rfl ?_
                    refine g_istore3 82 (Nat.le_of_ble_eq_true rfl) (by first | exact c1_0 | exact c1_i | exact c1_r | exact c1_n | exact c1_v (by assumption) | exact c1_f) dX6_go_81 rfl ?_
                    refine g_goto 14 dX6_go_82 rfl ?_
                    first | omega | exact ih _ _ _ _ _ hT hP hsv (by omega) hQ
              · refine g_iconst 50 dX6_go_49 rfl ?_
                refine g_goto 54 dX6_go_50 rfl ?_
                refine g_istore3 55 (Nat.le_of_ble_eq_true rfl) (by first | exact c1_0 | exact c1_i | exact c1_r | exact c1_n | exact c1_v (by assumption) | exact c1_f) dX6_go_54 rfl ?_
                refine g_iload3 56 dX6_go_55 rfl ?_
                refine g_if_eq 14 59 dX6_go_56 rfl rfl (by first | exact hT.r _ | exact hT.rT _ _ | exact inP_r | omega) (fun c56 => ?_) (fun c56 => ?_)
                · first | omega | exact ih _ _ _ _ _ hT hP hsv (by omega) hQ
                · refine g_aload0 60 (by first | exact rv_r | exact rv_n | assumption | exact rv_f) dX6_go_59 rfl ?_
                  refine g_bipush 62 (by rfl) dX6_go_60 rfl ?_
                  refine g_bipush 64 (by rfl) dX6_go_62 rfl ?_
                  refine k_V2z 67 dX6_go_64 rfl lk_X6_186 hT.t rfl (by first | rfl | exact rv_cat (by assumption) | exact rv_cat rv_f) (by first | rfl | exact rv_cat (by assumption) | exact rv_cat rv_f) (Nat.le_of_ble_eq_true rfl) (by first | exact Nat.le_of_ble_eq_true rfl | omega) (c_X6_sign hT hX hP hp (by decide) (fun T M hT hP => ?_))
                  have e10 := hP.2.2
                  refine g_istore4 69 (Nat.le_of_ble_eq_true rfl) (by first | exact c1_0 | exact c1_i | exact c1_r | exact c1_n | exact c1_v (by assumption) | exact c1_f) dX6_go_67 rfl ?_
                  refine g_aload0 70 (by first | exact rv_r | exact rv_n | assumption | exact rv_f) dX6_go_69 rfl ?_
                  refine g_getf 73 dX6_go_70 rfl fl_X6_182 hT.t (hT.f10) ?_
                  refine g_if_ne 80 76 dX6_go_73 rfl rfl (by first | exact hT.r _ | exact hT.rT _ _ | exact inP_r | omega) (fun c73 => ?_) (fun c73 => ?_)
                  · refine g_iconst 81 dX6_go_80 rfl ?_
                    refine g_istore3 82 (Nat.le_of_ble_eq_true rfl) (by first | exact c1_0 | exact c1_i | exact c1_r | exact c1_n | exact c1_v (by assumption) | exact c1_f) dX6_go_81 rfl ?_
                    refine g_goto 14 dX6_go_82 rfl ?_
                    first | omega | exact ih _ _ _ _ _ hT hP hsv (by omega) hQ
                  · refine g_iconst 77 dX6_go_76 rfl ?_
                    refine g_goto 81 dX6_go_77 rfl ?_
                    refine g_istore3 82 (Nat.le_of_ble_eq_true rfl) (by first | exact c1_0 | exact c1_i | exact c1_r | exact c1_n | exact c1_v (by assumption) | exact c1_f) dX6_go_81 rfl ?_
                    refine g_goto 14 dX6_go_82 rfl ?_
                    first | omega | exact ih _ _ _ _ _ hT hP hsv (by omega) hQ
          · omega
      · rw [if_neg q2] at hQ
        refine g_iload3 15 dX6_go_14 rfl ?_
        refine g_if_eq 85 18 dX6_go_15 rfl rfl (by first | exact hT.r _ | exact hT.rT _ _ | exact inP_r | omega) (fun c15 => ?_) (fun c15 => ?_)
        · refine g_iload2 86 dX6_go_85 rfl ?_
          refine g_iret dX6_go_86 rfl ?_
          first | omega | exact hQ _ _ _ hT hP
        · refine g_aload0 19 (by first | exact rv_r | exact rv_n | assumption | exact rv_f) dX6_go_18 rfl ?_
          refine g_iload1 20 dX6_go_19 rfl ?_
          refine k_V1z 23 dX6_go_20 rfl lk_X6_196 hT.t rfl (by first | rfl | exact rv_cat (by assumption) | exact rv_cat rv_f) (Nat.le_of_ble_eq_true rfl) (by first | exact Nat.le_of_ble_eq_true rfl | omega) (c_X6_order0 hT hX hP hv (fun T M hT hP => ?_))
          have e9 := hP.2.1
          have e10 := hP.2.2
          have e7 : T 5 7 = tx.length := by rw [hP.1 _ _ (by omega)]; exact hX.1
          refine g_if_ne 28 26 dX6_go_23 rfl rfl (by first | exact hT.r _ | exact hT.rT _ _ | exact inP_r | omega) (fun c23 => ?_) (fun c23 => ?_)
          · refine g_iinc2 31 (Nat.le_of_ble_eq_true rfl) (by first | exact c1_0 | exact c1_i | exact c1_r | exact c1_n | exact c1_v (by assumption) | exact c1_f) dX6_go_28 rfl ?_
            refine g_aload0 32 (by first | exact rv_r | exact rv_n | assumption | exact rv_f) dX6_go_31 rfl ?_
            refine g_getf 35 dX6_go_32 rfl fl_X6_182 hT.t (hT.f10) ?_
            refine g_if_ne 53 38 dX6_go_35 rfl rfl (by first | exact hT.r _ | exact hT.rT _ _ | exact inP_r | omega) (fun c35 => ?_) (fun c35 => ?_)
            · refine g_iconst 54 dX6_go_53 rfl ?_
              refine g_istore3 55 (Nat.le_of_ble_eq_true rfl) (by first | exact c1_0 | exact c1_i | exact c1_r | exact c1_n | exact c1_v (by assumption) | exact c1_f) dX6_go_54 rfl ?_
              refine g_iload3 56 dX6_go_55 rfl ?_
              refine g_if_eq 14 59 dX6_go_56 rfl rfl (by first | exact hT.r _ | exact hT.rT _ _ | exact inP_r | omega) (fun c56 => ?_) (fun c56 => ?_)
              · first | omega | exact l_goX (hQ _ _ _ hT hP)
              · refine g_aload0 60 (by first | exact rv_r | exact rv_n | assumption | exact rv_f) dX6_go_59 rfl ?_
                refine g_bipush 62 (by rfl) dX6_go_60 rfl ?_
                refine g_bipush 64 (by rfl) dX6_go_62 rfl ?_
                refine k_V2z 67 dX6_go_64 rfl lk_X6_186 hT.t rfl (by first | rfl | exact rv_cat (by assumption) | exact rv_cat rv_f) (by first | rfl | exact rv_cat (by assumption) | exact rv_cat rv_f) (Nat.le_of_ble_eq_true rfl) (by first | exact Nat.le_of_ble_eq_true rfl | omega) (c_X6_sign hT hX hP hp (by decide) (fun T M hT hP => ?_))
                have e10 := hP.2.2
                refine g_istore4 69 (Nat.le_of_ble_eq_true rfl) (by first | exact c1_0 | exact c1_i | exact c1_r | exact c1_n | exact c1_v (by assumption) | exact c1_f) dX6_go_67 rfl ?_
                refine g_aload0 70 (by first | exact rv_r | exact rv_n | assumption | exact rv_f) dX6_go_69 rfl ?_
                refine g_getf 73 dX6_go_70 rfl fl_X6_182 hT.t (hT.f10) ?_
                refine g_if_ne 80 76 dX6_go_73 rfl rfl (by first | exact hT.r _ | exact hT.rT _ _ | exact inP_r | omega) (fun c73 => ?_) (fun c73 => ?_)
                · refine g_iconst 81 dX6_go_80 rfl ?_
                  refine g_istore3 82 (Nat.le_of_ble_eq_true rfl) (by first | exact c1_0 | exact c1_i | exact c1_r | exact c1_n | exact c1_v (by assumption) | exact c1_f) dX6_go_81 rfl ?_
                  refine g_goto 14 dX6_go_82 rfl ?_
                  first | omega | exact l_goX (hQ _ _ _ hT hP)
                · refine g_iconst 77 dX6_go_76 rfl ?_
                  refine g_goto 81 dX6_go_77 rfl ?_
                  refine g_istore3 82 (Nat.le_of_ble_eq_true rfl) (by first | exact c1_0 | exact c1_i | exact c1_r | exact c1_n | exact c1_v (by assumption) | exact c1_f) dX6_go_81 rfl ?_
                  refine g_goto 14 dX6_go_82 rfl ?_
                  first | omega | exact l_goX (hQ _ _ _ hT hP)
            · refine g_aload0 39 (by first | exact rv_r | exact rv_n | assumption | exact rv_f) dX6_go_38 rfl ?_
              refine g_getf 42 dX6_go_39 rfl fl_X6_179 hT.t (hT.f9) ?_
              refine g_aload0 43 (by first | exact rv_r | exact rv_n | assumption | exact rv_f) dX6_go_42 rfl ?_
              refine g_getf 46 dX6_go_43 rfl fl_X6_176 hT.t (hT.f7) ?_
              refine g_icmp_ge 53 49 dX6_go_46 rfl rfl (by first | exact hT.r _ | exact hT.rT _ _ | exact inP_r | omega) (by first | exact hT.r _ | exact hT.rT _ _ | exact inP_r | omega) (fun c46 => ?_) (fun c46 => ?_)
              · refine g_iconst 54 dX6_go_53 rfl ?_
                refine g_istore3 55 (Nat.le_of_ble_eq_true rfl) (by first | exact c1_0 | exact c1_i | exact c1_r | exact c1_n | exact c1_v (by assumption) | exact c1_f) dX6_go_54 rfl ?_
                refine g_iload3 56 dX6_go_55 rfl ?_
                refine g_if_eq 14 59 dX6_go_56 rfl rfl (by first | exact hT.r _ | exact hT.rT _ _ | exact inP_r | omega) (fun c56 => ?_) (fun c56 => ?_)
                · first | omega | exact l_goX (hQ _ _ _ hT hP)
                · refine g_aload0 60 (by first | exact rv_r | exact rv_n | assumption | exact rv_f) dX6_go_59 rfl ?_
                  refine g_bipush 62 (by rfl) dX6_go_60 rfl ?_
                  refine g_bipush 64 (by rfl) dX6_go_62 rfl ?_
                  refine k_V2z 67 dX6_go_64 rfl lk_X6_186 hT.t rfl (by first | rfl | exact rv_cat (by assumption) | exact rv_cat rv_f) (by first | rfl | exact rv_cat (by assumption) | exact rv_cat rv_f) (Nat.le_of_ble_eq_true rfl) (by first | exact Nat.le_of_ble_eq_true rfl | omega) (c_X6_sign hT hX hP hp (by decide) (fun T M hT hP => ?_))
                  have e10 := hP.2.2
                  refine g_istore4 69 (Nat.le_of_ble_eq_true rfl) (by first | exact c1_0 | exact c1_i | exact c1_r | exact c1_n | exact c1_v (by assumption) | exact c1_f) dX6_go_67 rfl ?_
                  refine g_aload0 70 (by first | exact rv_r | exact rv_n | assumption | exact rv_f) dX6_go_69 rfl ?_
                  refine g_getf 73 dX6_go_70 rfl fl_X6_182 hT.t (hT.f10) ?_
                  refine g_if_ne 80 76 dX6_go_73 rfl rfl (by first | exact hT.r _ | exact hT.rT _ _ | exact inP_r | omega) (fun c73 => ?_) (fun c73 => ?_)
                  · refine g_iconst 81 dX6_go_80 rfl ?_
                    refine g_istore3 82 (Nat.le_of_ble_eq_true rfl) (by first | exact c1_0 | exact c1_i | exact c1_r | exact c1_n | exact c1_v (by assumption) | exact c1_f) dX6_go_81 rfl ?_
                    refine g_goto 14 dX6_go_82 rfl ?_
                    first | omega | exact l_goX (hQ _ _ _ hT hP)
                  · refine g_iconst 77 dX6_go_76 rfl ?_
                    refine g_goto 81 dX6_go_77 rfl ?_
                    refine g_istore3 82 (Nat.le_of_ble_eq_true rfl) (by first | exact c1_0 | exact c1_i | exact c1_r | exact c1_n | exact c1_v (by assumption) | exact c1_f) dX6_go_81 rfl ?_
                    refine g_goto 14 dX6_go_82 rfl ?_
                    first | omega | exact l_goX (hQ _ _ _ hT hP)
              · refine g_iconst 50 dX6_go_49 rfl ?_
                refine g_goto 54 dX6_go_50 rfl ?_
                refine g_istore3 55 (Nat.le_of_ble_eq_true rfl) (by first | exact c1_0 | exact c1_i | exact c1_r | exact c1_n | exact c1_v (by assumption) | exact c1_f) dX6_go_54 rfl ?_
                refine g_iload3 56 dX6_go_55 rfl ?_
                refine g_if_eq 14 59 dX6_go_56 rfl rfl (by first | exact hT.r _ | exact hT.rT _ _ | exact inP_r | omega) (fun c56 => ?_) (fun c56 => ?_)
                · first | omega | exact l_goX (hQ _ _ _ hT hP)
                · refine g_aload0 60 (by first | exact rv_r | exact rv_n | assumption | exact rv_f) dX6_go_59 rfl ?_
                  refine g_bipush 62 (by rfl) dX6_go_60 rfl ?_
                  refine g_bipush 64 (by rfl) dX6_go_62 rfl ?_
                  refine k_V2z 67 dX6_go_64 rfl lk_X6_186 hT.t rfl (by first | rfl | exact rv_cat (by assumption) | exact rv_cat rv_f) (by first | rfl | exact rv_cat (by assumption) | exact rv_cat rv_f) (Nat.le_of_ble_eq_true rfl) (by first | exact Nat.le_of_ble_eq_true rfl | omega) (c_X6_sign hT hX hP hp (by decide) (fun T M hT hP => ?_))
                  have e10 := hP.2.2
                  refine g_istore4 69 (Nat.le_of_ble_eq_true rfl) (by first | exact c1_0 | exact c1_i | exact c1_r | exact c1_n | exact c1_v (by assumption) | exact c1_f) dX6_go_67 rfl ?_
                  refine g_aload0 70 (by first | exact rv_r | exact rv_n | assumption | exact rv_f) dX6_go_69 rfl ?_
                  refine g_getf 73 dX6_go_70 rfl fl_X6_182 hT.t (hT.f10) ?_
                  refine g_if_ne 80 76 dX6_go_73 rfl rfl (by first | exact hT.r _ | exact hT.rT _ _ | exact inP_r | omega) (fun c73 => ?_) (fun c73 => ?_)
                  · refine g_iconst 81 dX6_go_80 rfl ?_
                    refine g_istore3 82 (Nat.le_of_ble_eq_true rfl) (by first | exact c1_0 | exact c1_i | exact c1_r | exact c1_n | exact c1_v (by assumption) | exact c1_f) dX6_go_81 rfl ?_
                    refine g_goto 14 dX6_go_82 rfl ?_
                    first | omega | exact l_goX (hQ _ _ _ hT hP)
                  · refine g_iconst 77 dX6_go_76 rfl ?_
                    refine g_goto 81 dX6_go_77 rfl ?_
                    refine g_istore3 82 (Nat.le_of_ble_eq_true rfl) (by first | exact c1_0 | exact c1_i | exact c1_r | exact c1_n | exact c1_v (by assumption) | exact c1_f) dX6_go_81 rfl ?_
                    refine g_goto 14 dX6_go_82 rfl ?_
                    first | omega | exact l_goX (hQ _ _ _ hT hP)
          · omega
    · rw [if_neg q] at hQ
      refine g_iload3 15 dX6_go_14 rfl ?_
      refine g_if_eq 85 18 dX6_go_15 rfl rfl (by first | exact hT.r _ | exact hT.rT _ _ | exact inP_r | omega) (fun c15 => ?_) (fun c15 => ?_)
      · refine g_iload2 86 dX6_go_85 rfl ?_
        refine g_iret dX6_go_86 rfl ?_
        first | omega | exact hQ _ _ _ hT hP
      · refine g_aload0 19 (by first | exact rv_r | exact rv_n | assumption | exact rv_f) dX6_go_18 rfl ?_
        refine g_iload1 20 dX6_go_19 rfl ?_
        refine k_V1z 23 dX6_go_20 rfl lk_X6_196 hT.t rfl (by first | rfl | exact rv_cat (by assumption) | exact rv_cat rv_f) (Nat.le_of_ble_eq_true rfl) (by first | exact Nat.le_of_ble_eq_true rfl | omega) (c_X6_order0 hT hX hP hv (fun T M hT hP => ?_))
        have e9 := hP.2.1
        have e10 := hP.2.2
        have e7 : T 5 7 = tx.length := by rw [hP.1 _ _ (by omega)]; exact hX.1
        refine g_if_ne 28 26 dX6_go_23 rfl rfl (by first | exact hT.r _ | exact hT.rT _ _ | exact inP_r | omega) (fun c23 => ?_) (fun c23 => ?_)
        · refine g_iinc2 31 (Nat.le_of_ble_eq_true rfl) (by first | exact c1_0 | exact c1_i | exact c1_r | exact c1_n | exact c1_v (by assumption) | exact c1_f) dX6_go_28 rfl ?_
          refine g_aload0 32 (by first | exact rv_r | exact rv_n | assumption | exact rv_f) dX6_go_31 rfl ?_
          refine g_getf 35 dX6_go_32 rfl fl_X6_182 hT.t (hT.f10) ?_
          refine g_if_ne 53 38 dX6_go_35 rfl rfl (by first | exact hT.r _ | exact hT.rT _ _ | exact inP_r | omega) (fun c35 => ?_) (fun c35 => ?_)
          · refine g_iconst 54 dX6_go_53 rfl ?_
            refine g_istore3 55 (Nat.le_of_ble_eq_true rfl) (by first | exact c1_0 | exact c1_i | exact c1_r | exact c1_n | exact c1_v (by assumption) | exact c1_f) dX6_go_54 rfl ?_
            refine g_iload3 56 dX6_go_55 rfl ?_
            refine g_if_eq 14 59 dX6_go_56 rfl rfl (by first | exact hT.r _ | exact hT.rT _ _ | exact inP_r | omega) (fun c56 => ?_) (fun c56 => ?_)
            · first | omega | exact l_goX (hQ _ _ _ hT hP)
            · omega
          · refine g_aload0 39 (by first | exact rv_r | exact rv_n | assumption | exact rv_f) dX6_go_38 rfl ?_
            refine g_getf 42 dX6_go_39 rfl fl_X6_179 hT.t (hT.f9) ?_
            refine g_aload0 43 (by first | exact rv_r | exact rv_n | assumption | exact rv_f) dX6_go_42 rfl ?_
            refine g_getf 46 dX6_go_43 rfl fl_X6_176 hT.t (hT.f7) ?_
            refine g_icmp_ge 53 49 dX6_go_46 rfl rfl (by first | exact hT.r _ | exact hT.rT _ _ | exact inP_r | omega) (by first | exact hT.r _ | exact hT.rT _ _ | exact inP_r | omega) (fun c46 => ?_) (fun c46 => ?_)
            · refine g_iconst 54 dX6_go_53 rfl ?_
              refine g_istore3 55 (Nat.le_of_ble_eq_true rfl) (by first | exact c1_0 | exact c1_i | exact c1_r | exact c1_n | exact c1_v (by assumption) | exact c1_f) dX6_go_54 rfl ?_
              refine g_iload3 56 dX6_go_55 rfl ?_
              refine g_if_eq 14 59 dX6_go_56 rfl rfl (by first | exact hT.r _ | exact hT.rT _ _ | exact inP_r | omega) (fun c56 => ?_) (fun c56 => ?_)
              · first | omega | exact l_goX (hQ _ _ _ hT hP)
              · omega
            · refine g_iconst 50 dX6_go_49 rfl ?_
              refine g_goto 54 dX6_go_50 rfl ?_
              refine g_istore3 55 (Nat.le_of_ble_eq_true rfl) (by first | exact c1_0 | exact c1_i | exact c1_r | exact c1_n | exact c1_v (by assumption) | exact c1_f) dX6_go_54 rfl ?_
              refine g_iload3 56 dX6_go_55 rfl ?_
              refine g_if_eq 14 59 dX6_go_56 rfl rfl (by first | exact hT.r _ | exact hT.rT _ _ | exact inP_r | omega) (fun c56 => ?_) (fun c56 => ?_)
              · first | omega | exact l_goX (hQ _ _ _ hT hP)
              · omega
        · omega
theorem c_X6_go0 (hX : TXt tx T0) (hT : Tw (kB K) M0 m s T M) (hP : ∀ p i, ¬ (p = 5 ∧ (i = 9 ∨ i = 10)) → T p i = T0 p i) (hQ : ∀ x T' M', Tw (kB K) M0 m s T' M' → TX T0 (readP tx) T' → Q (.inl (some (.int (ii x)))) M') : Go K fX6_go 7 k n 0 [some (.ref m), some (.int (ii 0)), none, none, none] [] M Q := by
  have h60 := hX.2.1
  refine g_aload0 1 (by first | exact rv_r | exact rv_n | assumption | exact rv_f) dX6_go_0 rfl ?_
  refine g_iconst 2 dX6_go_1 rfl ?_
  refine w_put9 5 dX6_go_2 rfl fl_X6_179 hT (fun M hT => ?_)
  refine g_aload0 6 (by first | exact rv_r | exact rv_n | assumption | exact rv_f) dX6_go_5 rfl ?_
  refine g_iconst 7 dX6_go_6 rfl ?_
  refine w_put10 10 dX6_go_7 rfl fl_X6_182 hT (by omega) (fun M hT => ?_)
  refine g_iconst 11 dX6_go_10 rfl ?_
  refine g_istore2 12 (Nat.le_of_ble_eq_true rfl) (by first | exact c1_0 | exact c1_i | exact c1_r | exact c1_n | exact c1_v (by assumption) | exact c1_f) dX6_go_11 rfl ?_
  refine g_iconst 13 dX6_go_12 rfl ?_
  refine g_istore3 14 (Nat.le_of_ble_eq_true rfl) (by first | exact c1_0 | exact c1_i | exact c1_r | exact c1_n | exact c1_v (by assumption) | exact c1_f) dX6_go_13 rfl ?_
  exact l_go0 hX 61 (0, 0) 0 _ _ _ hT ⟨fun p i hp => by rw [uT_ne (by omega), uT_ne (by omega)]; exact hP p i hp, by rw [uT_ne (by omega), uT_at, wr0], by rw [uT_at, wr0]⟩ ⟨by simp, by simp, by simp⟩ (by simp; omega) hQ
theorem l_go1 (hX : TXt tx T0) : ∀ (j : Nat) (ps : Int × Int) (x : Int) (s : Int → Int) (T : Nat → Int → Int) (M : Mem) (o : Option Value), Tw (kB K) M0 m s T M → TX T0 ps T → PSv tx ps → okT tx j ps → WW s → s 0 ≤ 9999 → (∀ T' M', Tw (kB K) M0 m (runF tx j ps s x).1 T' M' → (∀ p i, ¬ (p = 5 ∧ (i = 9 ∨ i = 10)) → T' p i = T0 p i) → Q (.inl (some (.int (ii (runF tx j ps s x).2)))) M') → Go K fX6_go 7 k n 14 [some (.ref m), some (.int (ii 1)), some (.int (ii x)), some (.int (ii 1)), o] [] M Q := by
  intro j
  induction j with
  | zero => intro ps x s T M o hT hP hv h; exact h.elim
  | succ j ih =>
    intro ps x s T M o hT hP hv h hW ht hQ
    have hp := parseP_v hv
    unfold okT at h
    have ho := parseP_ok h.1
    have hsv := signP_v (lo := 59) (hi := 59) (by decide) hp.1
    have h60 := hX.2.1
    have hps := hp.1.2.2
    have hss := hsv.2.2
    have hcr : canP s (parseP tx ps).1.1 (parseP tx ps).1.2 = 0 ∨ canP s (parseP tx ps).1.1 (parseP tx ps).1.2 = 1 := by unfold canP; (repeat' split) <;> omega
    unfold runF at hQ
    by_cases q : canP s (parseP tx ps).1.1 (parseP tx ps).1.2 = 0
    · rw [if_pos q] at hQ
      refine g_iload3 15 dX6_go_14 rfl ?_
      refine g_if_eq 85 18 dX6_go_15 rfl rfl (by first | exact hT.r _ | exact hT.rT _ _ | exact inP_r | omega) (fun c15 => ?_) (fun c15 => ?_)
      · refine g_iload2 86 dX6_go_85 rfl ?_
        refine g_iret dX6_go_86 rfl ?_
        first | omega | exact hQ _ _ hT hP.1
      · refine g_aload0 19 (by first | exact rv_r | exact rv_n | assumption | exact rv_f) dX6_go_18 rfl ?_
        refine g_iload1 20 dX6_go_19 rfl ?_
        refine k_V1z 23 dX6_go_20 rfl lk_X6_196 hT.t rfl (by first | rfl | exact rv_cat (by assumption) | exact rv_cat rv_f) (Nat.le_of_ble_eq_true rfl) (by first | exact Nat.le_of_ble_eq_true rfl | omega) (c_X6_order1 hT hX hP hv h.1 hW ht (fun T M hT hP => ?_))
        rw [if_pos q] at hT
        have e9 := hP.2.1
        have e10 := hP.2.2
        have e7 : T 5 7 = tx.length := by rw [hP.1 _ _ (by omega)]; exact hX.1
        refine g_if_ne 28 26 dX6_go_23 rfl rfl (by first | exact hT.r _ | exact hT.rT _ _ | exact inP_r | omega) (fun c23 => ?_) (fun c23 => ?_)
        · omega
        · refine g_iload2 27 dX6_go_26 rfl ?_
          refine g_iret dX6_go_27 rfl ?_
          first | omega | exact hQ _ _ hT hP.1
    · rw [if_neg q] at hQ
      have e := ww_exec hW ht hp.2 ho q
      by_cases q2 : (parseP tx ps).2.1 < tx.length
      · rw [if_pos q2] at hQ
        have h2 := h.2 q2
        refine g_iload3 15 dX6_go_14 rfl ?_
        refine g_if_eq 85 18 dX6_go_15 rfl rfl (by first | exact hT.r _ | exact hT.rT _ _ | exact inP_r | omega) (fun c15 => ?_) (fun c15 => ?_)
        · refine g_iload2 86 dX6_go_85 rfl ?_
          refine g_iret dX6_go_86 rfl ?_
          first | omega | exact hQ _ _ hT hP.1
        · refine g_aload0 19 (by first | exact rv_r | exact rv_n | assumption | exact rv_f) dX6_go_18 rfl ?_
          refine g_iload1 20 dX6_go_19 rfl ?_
          refine k_V1z 23 dX6_go_20 rfl lk_X6_196 hT.t rfl (by first | rfl | exact rv_cat (by assumption) | exact rv_cat rv_f) (Nat.le_of_ble_eq_true rfl) (by first | exact Nat.le_of_ble_eq_true rfl | omega) (c_X6_order1 hT hX hP hv h.1 hW ht (fun T M hT hP => ?_))
          rw [if_neg q] at hT
          have e9 := hP.2.1
          have e10 := hP.2.2
          have e7 : T 5 7 = tx.length := by rw [hP.1 _ _ (by omega)]; exact hX.1
          refine g_if_ne 28 26 dX6_go_23 rfl rfl (by first | exact hT.r _ | exact hT.rT _ _ | exact inP_r | omega) (fun c23 => ?_) (fun c23 => ?_)
          · refine g_iinc2 31 (Nat.le_of_ble_eq_true rfl) (by first | exact c1_0 | exact c1_i | exact c1_r | exact c1_n | exact c1_v (by assumption) | exact c1_f) dX6_go_28 rfl ?_
            refine g_aload0 32 (by first | exact rv_r | exact rv_n | assumption | exact rv_f) dX6_go_31 rfl ?_
            refine g_getf 35 dX6_go_32 rfl fl_X6_182 hT.t (hT.f10) ?_
            refine g_if_ne 53 38 dX6_go_35 rfl rfl (by first | exact hT.r _ | exact hT.rT _ _ | exact inP_r | omega) (fun c35 => ?_) (fun c35 => ?_)
            · refine g_iconst 54 dX6_go_53 rfl ?_
              refine g_istore3 55 (Nat.le_of_ble_eq_true rfl) (by first | exact c1_0 | exact c1_i | exact c1_r | exact c1_n | exact c1_v (by assumption) | exact c1_f) dX6_go_54 rfl ?_
              refine g_iload3 56 dX6_go_55 rfl ?_
              refine g_if_eq 14 59 dX6_go_56 rfl rfl (by first | exact hT.r _ | exact hT.rT _ _ | exact inP_r | omega) (fun c56 => ?_) (fun c56 => ?_)
              · first | omega | exact ih _ _ _ _ _ _ hT hP hsv h2.2 e.1 e.2 hQ
              · refine g_aload0 60 (by first | exact rv_r | exact rv_n | assumption | exact rv_f) dX6_go_59 rfl ?_
                refine g_bipush 62 (by rfl) dX6_go_60 rfl ?_
                refine g_bipush 64 (by rfl) dX6_go_62 rfl ?_
                refine k_V2z 67 dX6_go_64 rfl lk_X6_186 hT.t rfl (by first | rfl | exact rv_cat (by assumption) | exact rv_cat rv_f) (by first | rfl | exact rv_cat (by assumption) | exact rv_cat rv_f) (Nat.le_of_ble_eq_true rfl) (by first | exact Nat.le_of_ble_eq_true rfl | omega) (c_X6_sign hT hX hP hp.1 (by decide) (fun T M hT hP => ?_))
                have e10 := hP.2.2
                refine g_istore4 69 (Nat.le_of_ble_eq_true rfl) (by first | exact c1_0 | exact c1_i | exact c1_r | exact c1_n | exact c1_v (by assumption) | exact c1_f) dX6_go_67 rfl ?_
                refine g_aload0 70 (by first | exact rv_r | exact rv_n | assumption | exact rv_f) dX6_go_69 rfl ?_
                refine g_getf 73 dX6_go_70 rfl fl_X6_182 hT.t (hT.f10) ?_
                refine g_if_ne 80 76 dX6_go_73 rfl rfl (by first | exact hT.r _ | exact hT.rT _ _ | exact inP_r | omega) (fun c73 => ?_) (fun c73 => ?_)
                · refine g_iconst 81 dX6_go_80 rfl ?_
                  refine g_istore3 82 (Nat.le_of_ble_eq_true rfl) (by first | exact c1_0 | exact c1_i | exact c1_r | exact c1_n | exact c1_v (by assumption) | exact c1_f) dX6_go_81 rfl ?_
                  refine g_goto 14 dX6_go_82 rfl ?_
                  first | omega | exact ih _ _ _ _ _ _ hT hP hsv h2.2 e.1 e.2 hQ
                · refine g_iconst 77 dX6_go_76 rfl ?_
                  refine g_goto 81 dX6_go_77 rfl ?_
                  refine g_istore3 82 (Nat.le_of_ble_eq_true rfl) (by first | exact c1_0 | exact c1_i | exact c1_r | exact c1_n | exact c1_v (by assumption) | exact c1_f) dX6_go_81 rfl ?_
                  refine g_goto 14 dX6_go_82 rfl ?_
                  first | omega | exact ih _ _ _ _ _ _ hT hP hsv h2.2 e.1 e.2 hQ
            · refine g_aload0 39 (by first | exact rv_r | exact rv_n | assumption | exact rv_f) dX6_go_38 rfl ?_
              refine g_getf 42 dX6_go_39 rfl fl_X6_179 hT.t (hT.f9) ?_
              refine g_aload0 43 (by first | exact rv_r | exact rv_n | assumption | exact rv_f) dX6_go_42 rfl ?_
              refine g_getf 46 dX6_go_43 rfl fl_X6_176 hT.t (hT.f7) ?_
              refine g_icmp_ge 53 49 dX6_go_46 rfl rfl (by first | exact hT.r _ | exact hT.rT _ _ | exact inP_r | omega) (by first | exact hT.r _ | exact hT.rT _ _ | exact inP_r | omega) (fun c46 => ?_) (fun c46 => ?_)
              · refine g_iconst 54 dX6_go_53 rfl ?_
                refine g_istore3 55 (Nat.le_of_ble_eq_true rfl) (by first | exact c1_0 | exact c1_i | exact c1_r | exact c1_n | exact c1_v (by assumption) | exact c1_f) dX6_go_54 rfl ?_
                refine g_iload3 56 dX6_go_55 rfl ?_
                refine g_if_eq 14 59 dX6_go_56 rfl rfl (by first | exact hT.r _ | exact hT.rT _ _ | exact inP_r | omega) (fun c56 => ?_) (fun c56 => ?_)
                · first | omega | exact ih _ _ _ _ _ _ hT hP hsv h2.2 e.1 e.2 hQ
                · refine g_aload0 60 (by first | exact rv_r | exact rv_n | assumption | exact rv_f) dX6_go_59 rfl ?_
                  refine g_bipush 62 (by rfl) dX6_go_60 rfl ?_
                  refine g_bipush 64 (by rfl) dX6_go_62 rfl ?_
                  refine k_V2z 67 dX6_go_64 rfl lk_X6_186 hT.t rfl (by first | rfl | exact rv_cat (by assumption) | exact rv_cat rv_f) (by first | rfl | exact rv_cat (by assumption) | exact rv_cat rv_f) (Nat.le_of_ble_eq_true rfl) (by first | exact Nat.le_of_ble_eq_true rfl | omega) (c_X6_sign hT hX hP hp.1 (by decide) (fun T M hT hP => ?_))
                  have e10 := hP.2.2
                  refine g_istore4 69 (Nat.le_of_ble_eq_true rfl) (by first | exact c1_0 | exact c1_i | exact c1_r | exact c1_n | exact c1_v (by assumption) | exact c1_f) dX6_go_67 rfl ?_
                  refine g_aload0 70 (by first | exact rv_r | exact rv_n | assumption | exact rv_f) dX6_go_69 rfl ?_
                  refine g_getf 73 dX6_go_70 rfl fl_X6_182 hT.t (hT.f10) ?_
                  refine g_if_ne 80 76 dX6_go_73 rfl rfl (by first | exact hT.r _ | exact hT.rT _ _ | exact inP_r | omega) (fun c73 => ?_) (fun c73 => ?_)
                  · refine g_iconst 81 dX6_go_80 rfl ?_
                    refine g_istore3 82 (Nat.le_of_ble_eq_true rfl) (by first | exact c1_0 | exact c1_i | exact c1_r | exact c1_n | exact c1_v (by assumption) | exact c1_f) dX6_go_81 rfl ?_
                    refine g_goto 14 dX6_go_82 rfl ?_
                    first | omega | exact ih _ _ _ _ _ _ hT hP hsv h2.2 e.1 e.2 hQ
                  · refine g_iconst 77 dX6_go_76 rfl ?_
                    refine g_goto 81 dX6_go_77 rfl ?_
                    refine g_istore3 82 (Nat.le_of_ble_eq_true rfl) (by first | exact c1_0 | exact c1_i | exact c1_r | exact c1_n | exact c1_v (by assumption) | exact c1_f) dX6_go_81 rfl ?_
                    refine g_goto 14 dX6_go_82 rfl ?_
                    first | omega | exact ih _ _ _ _ _ _ hT hP hsv h2.2 e.1 e.2 hQ
              · refine g_iconst 50 dX6_go_49 rfl ?_
                refine g_goto 54 dX6_go_50 rfl ?_
                refine g_istore3 55 (Nat.le_of_ble_eq_true rfl) (by first | exact c1_0 | exact c1_i | exact c1_r | exact c1_n | exact c1_v (by assumption) | exact c1_f) dX6_go_54 rfl ?_
                refine g_iload3 56 dX6_go_55 rfl ?_
                refine g_if_eq 14 59 dX6_go_56 rfl rfl (by first | exact hT.r _ | exact hT.rT _ _ | exact inP_r | omega) (fun c56 => ?_) (fun c56 => ?_)
                · first | omega | exact ih _ _ _ _ _ _ hT hP hsv h2.2 e.1 e.2 hQ
                · refine g_aload0 60 (by first | exact rv_r | exact rv_n | assumption | exact rv_f) dX6_go_59 rfl ?_
                  refine g_bipush 62 (by rfl) dX6_go_60 rfl ?_
                  refine g_bipush 64 (by rfl) dX6_go_62 rfl ?_
                  refine k_V2z 67 dX6_go_64 rfl lk_X6_186 hT.t rfl (by first | rfl | exact rv_cat (by assumption) | exact rv_cat rv_f) (by first | rfl | exact rv_cat (by assumption) | exact rv_cat rv_f) (Nat.le_of_ble_eq_true rfl) (by first | exact Nat.le_of_ble_eq_true rfl | omega) (c_X6_sign hT hX hP hp.1 (by decide) (fun T M hT hP => ?_))
                  have e10 := hP.2.2
                  refine g_istore4 69 (Nat.le_of_ble_eq_true rfl) (by first | exact c1_0 | exact c1_i | exact c1_r | exact c1_n | exact c1_v (by assumption) | exact c1_f) dX6_go_67 rfl ?_
                  refine g_aload0 70 (by first | exact rv_r | exact rv_n | assumption | exact rv_f) dX6_go_69 rfl ?_
                  refine g_getf 73 dX6_go_70 rfl fl_X6_182 hT.t (hT.f10) ?_
                  refine g_if_ne 80 76 dX6_go_73 rfl rfl (by first | exact hT.r _ | exact hT.rT _ _ | exact inP_r | omega) (fun c73 => ?_) (fun c73 => ?_)
                  · refine g_iconst 81 dX6_go_80 rfl ?_
                    refine g_istore3 82 (Nat.le_of_ble_eq_true rfl) (by first | exact c1_0 | exact c1_i | exact c1_r | exact c1_n | exact c1_v (by assumption) | exact c1_f) dX6_go_81 rfl ?_
                    refine g_goto 14 dX6_go_82 rfl ?_
                    first | omega | exact ih _ _ _ _ _ _ hT hP hsv h2.2 e.1 e.2 hQ
                  · refine g_iconst 77 dX6_go_76 rfl ?_
                    refine g_goto 81 dX6_go_77 rfl ?_
                    refine g_istore3 82 (Nat.le_of_ble_eq_true rfl) (by first | exact c1_0 | exact c1_i | exact c1_r | exact c1_n | exact c1_v (by assumption) | exact c1_f) dX6_go_81 rfl ?_
                    refine g_goto 14 dX6_go_82 rfl ?_
                    first | omega | exact ih _ _ _ _ _ _ hT hP hsv h2.2 e.1 e.2 hQ
          · omega
      · rw [if_neg q2] at hQ
        refine g_iload3 15 dX6_go_14 rfl ?_
        refine g_if_eq 85 18 dX6_go_15 rfl rfl (by first | exact hT.r _ | exact hT.rT _ _ | exact inP_r | omega) (fun c15 => ?_) (fun c15 => ?_)
        · refine g_iload2 86 dX6_go_85 rfl ?_
          refine g_iret dX6_go_86 rfl ?_
          first | omega | exact hQ _ _ hT hP.1
        · refine g_aload0 19 (by first | exact rv_r | exact rv_n | assumption | exact rv_f) dX6_go_18 rfl ?_
          refine g_iload1 20 dX6_go_19 rfl ?_
          refine k_V1z 23 dX6_go_20 rfl lk_X6_196 hT.t rfl (by first | rfl | exact rv_cat (by assumption) | exact rv_cat rv_f) (Nat.le_of_ble_eq_true rfl) (by first | exact Nat.le_of_ble_eq_true rfl | omega) (c_X6_order1 hT hX hP hv h.1 hW ht (fun T M hT hP => ?_))
          rw [if_neg q] at hT
          have e9 := hP.2.1
          have e10 := hP.2.2
          have e7 : T 5 7 = tx.length := by rw [hP.1 _ _ (by omega)]; exact hX.1
          refine g_if_ne 28 26 dX6_go_23 rfl rfl (by first | exact hT.r _ | exact hT.rT _ _ | exact inP_r | omega) (fun c23 => ?_) (fun c23 => ?_)
          · refine g_iinc2 31 (Nat.le_of_ble_eq_true rfl) (by first | exact c1_0 | exact c1_i | exact c1_r | exact c1_n | exact c1_v (by assumption) | exact c1_f) dX6_go_28 rfl ?_
            refine g_aload0 32 (by first | exact rv_r | exact rv_n | assumption | exact rv_f) dX6_go_31 rfl ?_
            refine g_getf 35 dX6_go_32 rfl fl_X6_182 hT.t (hT.f10) ?_
            refine g_if_ne 53 38 dX6_go_35 rfl rfl (by first | exact hT.r _ | exact hT.rT _ _ | exact inP_r | omega) (fun c35 => ?_) (fun c35 => ?_)
            · refine g_iconst 54 dX6_go_53 rfl ?_
              refine g_istore3 55 (Nat.le_of_ble_eq_true rfl) (by first | exact c1_0 | exact c1_i | exact c1_r | exact c1_n | exact c1_v (by assumption) | exact c1_f) dX6_go_54 rfl ?_
              refine g_iload3 56 dX6_go_55 rfl ?_
              refine g_if_eq 14 59 dX6_go_56 rfl rfl (by first | exact hT.r _ | exact hT.rT _ _ | exact inP_r | omega) (fun c56 => ?_) (fun c56 => ?_)
              · first | omega | exact l_goX (hQ _ _ hT hP.1)
              · omega
            · refine g_aload0 39 (by first | exact rv_r | exact rv_n | assumption | exact rv_f) dX6_go_38 rfl ?_
              refine g_getf 42 dX6_go_39 rfl fl_X6_179 hT.t (hT.f9) ?_
              refine g_aload0 43 (by first | exact rv_r | exact rv_n | assumption | exact rv_f) dX6_go_42 rfl ?_
              refine g_getf 46 dX6_go_43 rfl fl_X6_176 hT.t (hT.f7) ?_
              refine g_icmp_ge 53 49 dX6_go_46 rfl rfl (by first | exact hT.r _ | exact hT.rT _ _ | exact inP_r | omega) (by first | exact hT.r _ | exact hT.rT _ _ | exact inP_r | omega) (fun c46 => ?_) (fun c46 => ?_)
              · refine g_iconst 54 dX6_go_53 rfl ?_
                refine g_istore3 55 (Nat.le_of_ble_eq_true rfl) (by first | exact c1_0 | exact c1_i | exact c1_r | exact c1_n | exact c1_v (by assumption) | exact c1_f) dX6_go_54 rfl ?_
                refine g_iload3 56 dX6_go_55 rfl ?_
                refine g_if_eq 14 59 dX6_go_56 rfl rfl (by first | exact hT.r _ | exact hT.rT _ _ | exact inP_r | omega) (fun c56 => ?_) (fun c56 => ?_)
                · first | omega | exact l_goX (hQ _ _ hT hP.1)
                · omega
              · refine g_iconst 50 dX6_go_49 rfl ?_
                refine g_goto 54 dX6_go_50 rfl ?_
                refine g_istore3 55 (Nat.le_of_ble_eq_true rfl) (by first | exact c1_0 | exact c1_i | exact c1_r | exact c1_n | exact c1_v (by assumption) | exact c1_f) dX6_go_54 rfl ?_
                refine g_iload3 56 dX6_go_55 rfl ?_
                refine g_if_eq 14 59 dX6_go_56 rfl rfl (by first | exact hT.r _ | exact hT.rT _ _ | exact inP_r | omega) (fun c56 => ?_) (fun c56 => ?_)
                · first | omega | exact l_goX (hQ _ _ hT hP.1)
                · omega
          · omega
theorem TXt.of {a : AS} {T : Nat → Int → Int} (h : Ta a T) : TXt a.2.2.2 T := h.2.2
theorem c_X6_isValid {th : Int} (hP : TP (kB K) M0 m th a M) (hV : AV a) (hQ : ∀ M', TP (kB K) M0 m (0) (a) M' → Q (.inl (some (.int (ii (if (readP a.2.2.2).2 = 0 then 1 else 0))))) M') : Go K fX6_isValid 8 k n 0 [some (.ref m), none] [] M Q := by
  obtain ⟨T, hT, hA, hth⟩ := hP
  have hW := hV.1.1
  have w1 := hW.2.1
  unfold W1 at w1
  refine g_aload0 1 (by first | exact rv_r | exact rv_n | assumption | exact rv_f) dX6_isValid_0 rfl ?_
  refine g_iconst 2 dX6_isValid_1 rfl ?_
  refine w_put8 5 dX6_isValid_2 rfl fl_X6_25 hT (fun M hT => ?_)
  refine g_aload0 6 (by first | exact rv_r | exact rv_n | assumption | exact rv_f) dX6_isValid_5 rfl ?_
  refine g_iconst 7 dX6_isValid_6 rfl ?_
  refine k_V1z 10 dX6_isValid_7 rfl lk_X6_200 hT.t rfl (by first | rfl | exact rv_cat (by assumption) | exact rv_cat rv_f) (Nat.le_of_ble_eq_true rfl) (by first | exact Nat.le_of_ble_eq_true rfl | omega) (c_X6_go0 (TXt.of hA.th) hT (fun _ _ _ => rfl) (fun x T' M hT hP => ?_))
  have e10 := hP.2.2
  have hA' : Ta a T' := hA.th.cg (fun p i _ u => hP.1 p i (by omega))
  have h8 : T' 5 8 = 0 := by rw [hP.1 _ _ (by omega), uT_at, wr0]
  refine g_istore1 11 (Nat.le_of_ble_eq_true rfl) (by first | exact c1_0 | exact c1_i | exact c1_r | exact c1_n | exact c1_v (by assumption) | exact c1_f) dX6_isValid_10 rfl ?_
  refine g_aload0 12 (by first | exact rv_r | exact rv_n | assumption | exact rv_f) dX6_isValid_11 rfl ?_
  refine g_getf 15 dX6_isValid_12 rfl fl_X6_182 hT.t (hT.f10) ?_
  refine g_if_ne 22 18 dX6_isValid_15 rfl rfl (by first | exact hT.r _ | exact hT.rT _ _ | exact inP_r | omega) (fun c15 => ?_) (fun c15 => ?_)
  · refine g_iconst 23 dX6_isValid_22 rfl ?_
    refine g_zret dX6_isValid_23 rfl (by first | rfl | exact zr inP_01 | exact zr (by omega) | exact zr (by assumption)) ?_
    refine tq hQ hT hA' rfl h8 ?_
    first | rw [if_pos (by omega)] | rw [if_neg (by omega)]
  · refine g_iconst 19 dX6_isValid_18 rfl ?_
    refine g_goto 23 dX6_isValid_19 rfl ?_
    refine g_zret dX6_isValid_23 rfl (by first | rfl | exact zr inP_01 | exact zr (by omega) | exact zr (by assumption)) ?_
    refine tq hQ hT hA' rfl h8 ?_
    first | rw [if_pos (by omega)] | rw [if_neg (by omega)]
theorem c_X6_errorPosition {th : Int} (hP : TP (kB K) M0 m th a M) (hV : AV a) (hQ : ∀ M', TP (kB K) M0 m (0) (a) M' → Q (.inl (some (.int (ii (if (readP a.2.2.2).2 = 0 then a.2.2.2.length else (readP a.2.2.2).1))))) M') : Go K fX6_errorPosition 8 k n 0 [some (.ref m), none] [] M Q := by
  obtain ⟨T, hT, hA, hth⟩ := hP
  have hW := hV.1.1
  have w1 := hW.2.1
  unfold W1 at w1
  refine g_aload0 1 (by first | exact rv_r | exact rv_n | assumption | exact rv_f) dX6_errorPosition_0 rfl ?_
  refine g_iconst 2 dX6_errorPosition_1 rfl ?_
  refine w_put8 5 dX6_errorPosition_2 rfl fl_X6_25 hT (fun M hT => ?_)
  refine g_aload0 6 (by first | exact rv_r | exact rv_n | assumption | exact rv_f) dX6_errorPosition_5 rfl ?_
  refine g_iconst 7 dX6_errorPosition_6 rfl ?_
  refine k_V1z 10 dX6_errorPosition_7 rfl lk_X6_200 hT.t rfl (by first | rfl | exact rv_cat (by assumption) | exact rv_cat rv_f) (Nat.le_of_ble_eq_true rfl) (by first | exact Nat.le_of_ble_eq_true rfl | omega) (c_X6_go0 (TXt.of hA.th) hT (fun _ _ _ => rfl) (fun x T' M hT hP => ?_))
  have e9 := hP.2.1
  have e10 := hP.2.2
  have hA' : Ta a T' := hA.th.cg (fun p i _ u => hP.1 p i (by omega))
  have h8 : T' 5 8 = 0 := by rw [hP.1 _ _ (by omega), uT_at, wr0]
  refine g_istore1 11 (Nat.le_of_ble_eq_true rfl) (by first | exact c1_0 | exact c1_i | exact c1_r | exact c1_n | exact c1_v (by assumption) | exact c1_f) dX6_errorPosition_10 rfl ?_
  refine g_aload0 12 (by first | exact rv_r | exact rv_n | assumption | exact rv_f) dX6_errorPosition_11 rfl ?_
  refine g_getf 15 dX6_errorPosition_12 rfl fl_X6_182 hT.t (hT.f10) ?_
  refine g_if_eq 25 18 dX6_errorPosition_15 rfl rfl (by first | exact hT.r _ | exact hT.rT _ _ | exact inP_r | omega) (fun c15 => ?_) (fun c15 => ?_)
  · refine g_aload0 26 (by first | exact rv_r | exact rv_n | assumption | exact rv_f) dX6_errorPosition_25 rfl ?_
    refine g_getf 29 dX6_errorPosition_26 rfl fl_X6_176 hT.t (hT.f7) ?_
    refine g_iret dX6_errorPosition_29 rfl ?_
    refine tq hQ hT hA' rfl h8 ?_
    first | (rw [if_pos (by omega)]; exact hA'.2.2.1) | (rw [if_neg (by omega)]; exact e9)
  · refine g_aload0 19 (by first | exact rv_r | exact rv_n | assumption | exact rv_f) dX6_errorPosition_18 rfl ?_
    refine g_getf 22 dX6_errorPosition_19 rfl fl_X6_179 hT.t (hT.f9) ?_
    refine g_goto 29 dX6_errorPosition_22 rfl ?_
    refine g_iret dX6_errorPosition_29 rfl ?_
    refine tq hQ hT hA' rfl h8 ?_
    first | (rw [if_pos (by omega)]; exact hA'.2.2.1) | (rw [if_neg (by omega)]; exact e9)
theorem c_X6_runText {th : Int} (hP : TP (kB K) M0 m th a M) (hV : AV a) (hQ : ∀ M', TP (kB K) M0 m (if (readP a.2.2.2).2 = 0 then 0 else 1) (if (readP a.2.2.2).2 = 0 then ((runF a.2.2.2 61 (0, 0) a.1 0).1, (saveA a).2) else a) M' → Q (.inl (some (.int (ii (if (readP a.2.2.2).2 = 0 then (runF a.2.2.2 61 (0, 0) a.1 0).2 else 0))))) M') : Go K fX6_runText 8 k n 0 [some (.ref m), none] [] M Q := by
  obtain ⟨T, hT, hA, hth⟩ := hP
  have hW := hV.1.1
  have w1 := hW.2.1
  unfold W1 at w1
  have h60 := hA.2.2.2.1
  by_cases q : (readP a.2.2.2).2 = 0
  · rw [if_pos q, if_pos q, if_pos q] at hQ
    have hok := goF_ok (tx := a.2.2.2) 61 (0, 0) ⟨by simp, by simp, by simp⟩ (by simp; omega) q
    refine g_aload0 1 (by first | exact rv_r | exact rv_n | assumption | exact rv_f) dX6_runText_0 rfl ?_
    refine g_iconst 2 dX6_runText_1 rfl ?_
    refine w_put8 5 dX6_runText_2 rfl fl_X6_25 hT (fun M hT => ?_)
    refine g_aload0 6 (by first | exact rv_r | exact rv_n | assumption | exact rv_f) dX6_runText_5 rfl ?_
    refine g_iconst 7 dX6_runText_6 rfl ?_
    refine k_V1z 10 dX6_runText_7 rfl lk_X6_200 hT.t rfl (by first | rfl | exact rv_cat (by assumption) | exact rv_cat rv_f) (Nat.le_of_ble_eq_true rfl) (by first | exact Nat.le_of_ble_eq_true rfl | omega) (c_X6_go0 (TXt.of hA.th) hT (fun _ _ _ => rfl) (fun x T' M hT hP => ?_))
    have e10 := hP.2.2
    have hA : Ta a T' := hA.th.cg (fun p i _ u => hP.1 p i (by omega))
    have h8 : T' 5 8 = 0 := by rw [hP.1 _ _ (by omega), uT_at, wr0]
    refine g_istore1 11 (Nat.le_of_ble_eq_true rfl) (by first | exact c1_0 | exact c1_i | exact c1_r | exact c1_n | exact c1_v (by assumption) | exact c1_f) dX6_runText_10 rfl ?_
    refine g_aload0 12 (by first | exact rv_r | exact rv_n | assumption | exact rv_f) dX6_runText_11 rfl ?_
    refine g_getf 15 dX6_runText_12 rfl fl_X6_182 hT.t (hT.f10) ?_
    refine g_if_eq 24 18 dX6_runText_15 rfl rfl (by first | exact hT.r _ | exact hT.rT _ _ | exact inP_r | omega) (fun c15 => ?_) (fun c15 => ?_)
    · refine g_aload0 25 (by first | exact rv_r | exact rv_n | assumption | exact rv_f) dX6_runText_24 rfl ?_
      refine k_V0z 28 dX6_runText_25 rfl lk_X6_107 hT.t rfl  (Nat.le_of_ble_eq_true rfl) (by first | exact Nat.le_of_ble_eq_true rfl | omega) (c_X6_save hT (by have hk := hA.1; omega) (fun T M hT hS => ?_))
      have hA := hA.save hS
      have hth := (hS.1 5 8 (by omega) (by omega)).trans h8
      refine g_aload0 29 (by first | exact rv_r | exact rv_n | assumption | exact rv_f) dX6_runText_28 rfl ?_
      refine g_iconst 30 dX6_runText_29 rfl ?_
      refine k_V1z (d' := 7) 33 dX6_runText_30 rfl lk_X6_200 hT.t rfl rfl (Nat.le_of_ble_eq_true rfl) (by omega) ?_
      refine g_aload0 1 (by first | exact rv_r | exact rv_n | assumption | exact rv_f) dX6_go_0 rfl ?_
      refine g_iconst 2 dX6_go_1 rfl ?_
      refine w_put9 5 dX6_go_2 rfl fl_X6_179 hT (fun M hT => ?_)
      refine g_aload0 6 (by first | exact rv_r | exact rv_n | assumption | exact rv_f) dX6_go_5 rfl ?_
      refine g_iconst 7 dX6_go_6 rfl ?_
      refine w_put10 10 dX6_go_7 rfl fl_X6_182 hT (by omega) (fun M hT => ?_)
      refine g_iconst 11 dX6_go_10 rfl ?_
      refine g_istore2 12 (Nat.le_of_ble_eq_true rfl) (by first | exact c1_0 | exact c1_i | exact c1_r | exact c1_n | exact c1_v (by assumption) | exact c1_f) dX6_go_11 rfl ?_
      refine g_iconst 13 dX6_go_12 rfl ?_
      refine g_istore3 14 (Nat.le_of_ble_eq_true rfl) (by first | exact c1_0 | exact c1_i | exact c1_r | exact c1_n | exact c1_v (by assumption) | exact c1_f) dX6_go_13 rfl ?_
      refine l_go1 (T0 := T) (TXt.of hA) 61 (0, 0) 0 _ _ _ _ hT ⟨fun p i hp => by rw [uT_ne (by omega), uT_ne (by omega)], by rw [uT_ne (by omega), uT_at, wr0], by rw [uT_at, wr0]⟩ ⟨by simp, by simp, by simp⟩ hok hW hV.1.2 fun T' M hT hP => ?_
      refine g_iret dX6_runText_33 rfl ?_
      exact tq3 hQ hT rfl (hA.cg (fun p i _ u => hP p i (by omega))) (by rw [hP _ _ (by omega)]; exact hth) rfl
    · omega
  · rw [if_neg q, if_neg q, if_neg q] at hQ
    refine g_aload0 1 (by first | exact rv_r | exact rv_n | assumption | exact rv_f) dX6_runText_0 rfl ?_
    refine g_iconst 2 dX6_runText_1 rfl ?_
    refine w_put8 5 dX6_runText_2 rfl fl_X6_25 hT (fun M hT => ?_)
    refine g_aload0 6 (by first | exact rv_r | exact rv_n | assumption | exact rv_f) dX6_runText_5 rfl ?_
    refine g_iconst 7 dX6_runText_6 rfl ?_
    refine k_V1z 10 dX6_runText_7 rfl lk_X6_200 hT.t rfl (by first | rfl | exact rv_cat (by assumption) | exact rv_cat rv_f) (Nat.le_of_ble_eq_true rfl) (by first | exact Nat.le_of_ble_eq_true rfl | omega) (c_X6_go0 (TXt.of hA.th) hT (fun _ _ _ => rfl) (fun x T' M hT hP => ?_))
    have e10 := hP.2.2
    have hA' : Ta a T' := hA.th.cg (fun p i _ u => hP.1 p i (by omega))
    refine g_istore1 11 (Nat.le_of_ble_eq_true rfl) (by first | exact c1_0 | exact c1_i | exact c1_r | exact c1_n | exact c1_v (by assumption) | exact c1_f) dX6_runText_10 rfl ?_
    refine g_aload0 12 (by first | exact rv_r | exact rv_n | assumption | exact rv_f) dX6_runText_11 rfl ?_
    refine g_getf 15 dX6_runText_12 rfl fl_X6_182 hT.t (hT.f10) ?_
    refine g_if_eq 24 18 dX6_runText_15 rfl rfl (by first | exact hT.r _ | exact hT.rT _ _ | exact inP_r | omega) (fun c15 => ?_) (fun c15 => ?_)
    · omega
    · refine g_aload0 19 (by first | exact rv_r | exact rv_n | assumption | exact rv_f) dX6_runText_18 rfl ?_
      refine g_iconst 20 dX6_runText_19 rfl ?_
      refine k_V1z 23 dX6_runText_20 rfl lk_X6_104 hT.t rfl (by first | rfl | exact rv_cat (by assumption) | exact rv_cat rv_f) (Nat.le_of_ble_eq_true rfl) (by first | exact Nat.le_of_ble_eq_true rfl | omega) (c_X6_throwing hT (fun M hT => ?_))
      refine g_iret dX6_runText_23 rfl ?_
      exact tq hQ hT hA'.th rfl (by simp only [uT_at, wr1]) rfl
end TWM
