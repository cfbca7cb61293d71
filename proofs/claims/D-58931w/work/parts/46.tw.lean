/-! ===== the twin's methods: texts ===== -/
def chrP (tx : List Int) (i : Int) : Int := tx.getD i.toNat 0
def signP (tx : List Int) (lo hi : Int) (ps : Int × Int) : Int × (Int × Int) :=
  let c := if ps.1 < tx.length ∧ ps.2 = 0 then chrP tx ps.1 else 0
  if ps.2 ≠ 0 ∨ inP c lo hi = 0 then (c, (ps.1, 1)) else (c, (ps.1 + 1, 0))
def stepW (tx : List Int) (ps : Int × Int) (x : Int) : Int × Int := if x = 0 then ps else (signP tx x x ps).2
def wordP (tx : List Int) (l : List Int) (ps : Int × Int) : Int × Int := l.foldl (stepW tx) ps
def kindB (tx : List Int) (c : Int) (ps : Int × Int) : Int × (Int × Int) :=
  if c = 101 then (0, wordP tx [120, 112, 114, 101, 115, 115] ps) else if c = 110 then (1, wordP tx [111, 98, 108, 101, 0, 0] ps)
  else if c = 112 then (if (if ps.1 < tx.length then chrP tx ps.1 else 0) = 111 then (6, wordP tx [111, 108, 101, 0, 0, 0] ps) else (2, wordP tx [108, 97, 105, 110, 0, 0] ps))
  else if c = 119 then (3, wordP tx [97, 105, 116, 0, 0, 0] ps) else if c = 98 then (4, wordP tx [101, 100, 0, 0, 0, 0] ps) else (5, wordP tx [97, 108, 108, 0, 0, 0] ps)
def kindP (tx : List Int) (ps : Int × Int) : Int × (Int × Int) :=
  let x := signP tx 98 119 ps
  if x.2.2 = 0 ∧ (x.1 = 101 ∨ x.1 = 110 ∨ x.1 = 112 ∨ x.1 = 119 ∨ x.1 = 98 ∨ x.1 = 99) then kindB tx x.1 x.2
  else (0, (x.2.1 - (if 98 ≤ x.1 ∧ x.1 ≤ 119 then 1 else 0), 1))
def parseP (tx : List Int) (ps : Int × Int) : (Int × Int) × (Int × Int) :=
  let a := kindP tx ps
  let b := signP tx 32 32 a.2
  let d := signP tx (if a.1 = 3 then 49 else 48) (if a.1 = 3 then 57 else if a.1 = 6 then 50 else 51) b.2
  if a.1 = 3 ∧ d.2.2 = 0 ∧ d.2.1 < tx.length ∧ inP (chrP tx d.2.1) 48 57 ≠ 0 then
    ((a.1, 10 * (d.1 - 48) + (signP tx 48 57 d.2).1 - 48), (signP tx 48 57 d.2).2)
  else ((a.1, d.1 - 48), d.2)
/-- a place in the text -/
def PSv (tx : List Int) (ps : Int × Int) : Prop := 0 ≤ ps.1 ∧ ps.1 ≤ tx.length ∧ (ps.2 = 0 ∨ ps.2 = 1)
def TXt (tx : List Int) (T : Nat → Int → Int) : Prop := T 5 7 = tx.length ∧ tx.length ≤ 60 ∧ ∀ (j : Nat) (c : Int), tx[j]? = some c → T 4 j = c
def TX (T0 : Nat → Int → Int) (ps : Int × Int) (T : Nat → Int → Int) : Prop := (∀ p i, ¬ (p = 5 ∧ (i = 9 ∨ i = 10)) → T p i = T0 p i) ∧ T 5 9 = ps.1 ∧ T 5 10 = ps.2
theorem TXt.at {tx : List Int} {T : Nat → Int → Int} (h : TXt tx T) {i : Int} (h0 : 0 ≤ i) (h1 : i < tx.length) : T 4 i = chrP tx i := by
  have e := h.2.2 i.toNat (tx[i.toNat]'(by omega)) (List.getElem?_eq_getElem (by omega))
  rw [show ((i.toNat : Nat) : Int) = i by omega] at e
  rw [e]
  unfold chrP
  rw [List.getD_eq_getElem?_getD, List.getElem?_eq_getElem (by omega)]
  rfl
theorem TX.put {T0 T : Nat → Int → Int} {ps : Int × Int} (h : TX T0 ps T) {a w v : Int} (ha : wr v = a) (hw : wr w = w) : TX T0 (a, w) (uT (uT T 5 10 w) 5 9 v) := by
  obtain ⟨h1, h2, h3⟩ := h
  refine ⟨fun p i hp => ?_, ?_, ?_⟩
  · rw [uT_ne (by omega), uT_ne (by omega)]; exact h1 p i hp
  · rw [uT_at]; exact ha
  · rw [uT_ne (by omega), uT_at]; exact hw
theorem inP_0 {lo hi : Int} (h : 1 ≤ lo) : inP 0 lo hi = 0 := by unfold inP; rw [if_neg (by omega)]
theorem signP_a {tx : List Int} {lo hi : Int} {ps : Int × Int} (hlo : 1 ≤ lo) (h : ¬ (ps.1 < tx.length ∧ ps.2 = 0)) : signP tx lo hi ps = (0, (ps.1, 1)) := by
  unfold signP
  rw [if_neg h]
  dsimp only
  rw [if_pos (Or.inr (inP_0 hlo))]
theorem signP_b {tx : List Int} {lo hi : Int} {ps : Int × Int} (h : ps.1 < tx.length ∧ ps.2 = 0) (h1 : inP (chrP tx ps.1) lo hi = 0) : signP tx lo hi ps = (chrP tx ps.1, (ps.1, 1)) := by
  unfold signP
  rw [if_pos h]
  dsimp only
  rw [if_pos (Or.inr h1)]
theorem signP_c {tx : List Int} {lo hi : Int} {ps : Int × Int} (h : ps.1 < tx.length ∧ ps.2 = 0) (h1 : inP (chrP tx ps.1) lo hi ≠ 0) : signP tx lo hi ps = (chrP tx ps.1, (ps.1 + 1, 0)) := by
  unfold signP
  rw [if_pos h]
  dsimp only
  rw [if_neg (by omega)]
theorem signP_v {tx : List Int} {lo hi : Int} {ps : Int × Int} (hlo : 1 ≤ lo) (h : PSv tx ps) : PSv tx (signP tx lo hi ps).2 := by
  unfold PSv at *
  by_cases q : ps.1 < tx.length ∧ ps.2 = 0
  · by_cases q2 : inP (chrP tx ps.1) lo hi = 0
    · rw [signP_b q q2]; dsimp only; omega
    · rw [signP_c q q2]; dsimp only; omega
  · rw [signP_a hlo q]; dsimp only; omega
section TWJ
variable {K : KT} {k n m : Nat} {M M0 : Mem} {Q : Res → Mem → Prop} {s : Int → Int} {T T0 : Nat → Int → Int} {tx : List Int} {ps : Int × Int}
theorem c_X6_sign (hT : Tw (kB K) M0 m s T M) (hX : TXt tx T0) (hP : TX T0 ps T) (hv : PSv tx ps) {lo hi : Int} (hlo : 1 ≤ lo ∧ lo ≤ 127 ∧ R32 hi) (hQ : ∀ T' M', Tw (kB K) M0 m s T' M' → TX T0 (signP tx lo hi ps).2 T' → Q (.inl (some (.int (ii (signP tx lo hi ps).1)))) M') : Go K fX6_sign 2 k n 0 [some (.ref m), some (.int (ii lo)), some (.int (ii hi)), none] [] M Q := by
  have e7 : T 5 7 = tx.length := by rw [hP.1 _ _ (by omega)]; exact hX.1
  have e9 := hP.2.1
  have e10 := hP.2.2
  have e4 : ∀ i : Int, 0 ≤ i → i < tx.length → T 4 i = chrP tx i := fun i h0 h1 => by rw [hP.1 _ _ (by omega)]; exact hX.at h0 h1
  have h60 := hX.2.1
  have hr4 := hT.rT 4
  obtain ⟨v0, v1, v2⟩ := hv
  have u9 : ∀ v, uT T 5 10 v 5 9 = ps.1 := fun v => by rw [uT_ne (by omega)]; exact e9
  have u10 : ∀ v, v = 0 ∨ v = 1 → uT T 5 10 v 5 10 = v := fun v hv => by rw [uT_at, wr_id (by omega)]
  have u10a := u10 0 (by omega)
  have u10b := u10 1 (by omega)
  by_cases q : ps.1 < tx.length ∧ ps.2 = 0
  · have ec := e4 ps.1 v0 q.1
    have hrc : R32 (chrP tx ps.1) := ec ▸ hr4 _
    by_cases q2 : inP (chrP tx ps.1) lo hi = 0
    · rw [signP_b q q2] at hQ
      refine g_aload0 1 (by first | exact rv_r | exact rv_n | assumption | exact rv_f) dX6_sign_0 rfl ?_
      refine g_getf 4 dX6_sign_1 rfl fl_X6_179 hT.t (hT.f9) ?_
      refine g_aload0 5 (by first | exact rv_r | exact rv_n | assumption | exact rv_f) dX6_sign_4 rfl ?_
      refine g_getf 8 dX6_sign_5 rfl fl_X6_176 hT.t (hT.f7) ?_
      refine g_icmp_ge 30 11 dX6_sign_8 rfl rfl (by first | exact hT.r _ | exact hT.rT _ _ | exact inP_r | omega) (by first | exact hT.r _ | exact hT.rT _ _ | exact inP_r | omega) (fun c8 => ?_) (fun c8 => ?_)
      · refine g_iconst 31 dX6_sign_30 rfl ?_
        refine g_istore3 32 (Nat.le_of_ble_eq_true rfl) (by first | exact c1_0 | exact c1_i | exact c1_r | exact c1_n | exact c1_v (by assumption) | exact c1_f) dX6_sign_31 rfl ?_
        refine g_aload0 33 (by first | exact rv_r | exact rv_n | assumption | exact rv_f) dX6_sign_32 rfl ?_
        refine g_aload0 34 (by first | exact rv_r | exact rv_n | assumption | exact rv_f) dX6_sign_33 rfl ?_
        refine g_getf 37 dX6_sign_34 rfl fl_X6_182 hT.t (hT.f10) ?_
        refine g_if_ne 49 40 dX6_sign_37 rfl rfl (by first | exact hT.r _ | exact hT.rT _ _ | exact inP_r | omega) (fun c37 => ?_) (fun c37 => ?_)
        · refine g_iconst 50 dX6_sign_49 rfl ?_
          refine g_goto 54 dX6_sign_50 rfl ?_
          refine w_put10 57 dX6_sign_54 rfl fl_X6_182 hT (by omega) (fun M hT => ?_)
          refine g_aload0 58 (by first | exact rv_r | exact rv_n | assumption | exact rv_f) dX6_sign_57 rfl ?_
          refine g_dup 59 (by first | rfl | exact rv_cat (by assumption) | exact rv_cat rv_f) dX6_sign_58 rfl ?_
          refine g_getf 62 dX6_sign_59 rfl fl_X6_179 hT.t (hT.f9) ?_
          refine g_aload0 63 (by first | exact rv_r | exact rv_n | assumption | exact rv_f) dX6_sign_62 rfl ?_
          refine g_getf 66 dX6_sign_63 rfl fl_X6_182 hT.t (hT.f10) ?_
          refine g_if_eq 73 69 dX6_sign_66 rfl rfl (by first | exact hT.r _ | exact hT.rT _ _ | exact inP_r | omega) (fun c66 => ?_) (fun c66 => ?_)
          · refine g_iconst 74 dX6_sign_73 rfl ?_
            refine g_iadd 75 dX6_sign_74 rfl ?_
            refine w_put9 78 dX6_sign_75 rfl fl_X6_179 hT (fun M hT => ?_)
            refine g_iload3 79 dX6_sign_78 rfl ?_
            refine g_iret dX6_sign_79 rfl ?_
            first | omega | ((try rw [e9, ec]); exact hQ _ _ hT (hP.put (by rw [u9, Int.add_zero]; exact wr_id (by omega)) wr1))
          · refine g_iconst 70 dX6_sign_69 rfl ?_
            refine g_goto 74 dX6_sign_70 rfl ?_
            refine g_iadd 75 dX6_sign_74 rfl ?_
            refine w_put9 78 dX6_sign_75 rfl fl_X6_179 hT (fun M hT => ?_)
            refine g_iload3 79 dX6_sign_78 rfl ?_
            refine g_iret dX6_sign_79 rfl ?_
            first | omega | ((try rw [e9, ec]); exact hQ _ _ hT (hP.put (by rw [u9, Int.add_zero]; exact wr_id (by omega)) wr1))
        · refine g_iload3 41 dX6_sign_40 rfl ?_
          refine g_iload1 42 dX6_sign_41 rfl ?_
          refine g_iload2 43 dX6_sign_42 rfl ?_
          refine k_S3z 46 dX6_sign_43 rfl lk_X6_29 rfl (by first | rfl | exact rv_cat (by assumption) | exact rv_cat rv_f) (by first | rfl | exact rv_cat (by assumption) | exact rv_cat rv_f) (by first | rfl | exact rv_cat (by assumption) | exact rv_cat rv_f) (Nat.le_of_ble_eq_true rfl) (by first | exact Nat.le_of_ble_eq_true rfl | omega) (c_X6_in (by first | decide | exact hr4 _) (by omega) (by omega) ?_)
          try rw [e9, ec]
          refine g_if_ne 53 49 dX6_sign_46 rfl rfl (by first | exact hT.r _ | exact hT.rT _ _ | exact inP_r | omega) (fun c46 => ?_) (fun c46 => ?_)
          · refine g_iconst 54 dX6_sign_53 rfl ?_
            refine w_put10 57 dX6_sign_54 rfl fl_X6_182 hT (by omega) (fun M hT => ?_)
            refine g_aload0 58 (by first | exact rv_r | exact rv_n | assumption | exact rv_f) dX6_sign_57 rfl ?_
            refine g_dup 59 (by first | rfl | exact rv_cat (by assumption) | exact rv_cat rv_f) dX6_sign_58 rfl ?_
            refine g_getf 62 dX6_sign_59 rfl fl_X6_179 hT.t (hT.f9) ?_
            refine g_aload0 63 (by first | exact rv_r | exact rv_n | assumption | exact rv_f) dX6_sign_62 rfl ?_
            refine g_getf 66 dX6_sign_63 rfl fl_X6_182 hT.t (hT.f10) ?_
            refine g_if_eq 73 69 dX6_sign_66 rfl rfl (by first | exact hT.r _ | exact hT.rT _ _ | exact inP_r | omega) (fun c66 => ?_) (fun c66 => ?_)
            · refine g_iconst 74 dX6_sign_73 rfl ?_
              refine g_iadd 75 dX6_sign_74 rfl ?_
              refine w_put9 78 dX6_sign_75 rfl fl_X6_179 hT (fun M hT => ?_)
              refine g_iload3 79 dX6_sign_78 rfl ?_
              refine g_iret dX6_sign_79 rfl ?_
              first | omega | ((try rw [e9, ec]); exact hQ _ _ hT (hP.put (by rw [u9, Int.add_zero]; exact wr_id (by omega)) wr1))
            · refine g_iconst 70 dX6_sign_69 rfl ?_
              refine g_goto 74 dX6_sign_70 rfl ?_
              refine g_iadd 75 dX6_sign_74 rfl ?_
              refine w_put9 78 dX6_sign_75 rfl fl_X6_179 hT (fun M hT => ?_)
              refine g_iload3 79 dX6_sign_78 rfl ?_
              refine g_iret dX6_sign_79 rfl ?_
              first | omega | ((try rw [e9, ec]); exact hQ _ _ hT (hP.put (by rw [u9, Int.add_zero]; exact wr_id (by omega)) wr1))
          · refine g_iconst 50 dX6_sign_49 rfl ?_
            refine g_goto 54 dX6_sign_50 rfl ?_
            refine w_put10 57 dX6_sign_54 rfl fl_X6_182 hT (by omega) (fun M hT => ?_)
            refine g_aload0 58 (by first | exact rv_r | exact rv_n | assumption | exact rv_f) dX6_sign_57 rfl ?_
            refine g_dup 59 (by first | rfl | exact rv_cat (by assumption) | exact rv_cat rv_f) dX6_sign_58 rfl ?_
            refine g_getf 62 dX6_sign_59 rfl fl_X6_179 hT.t (hT.f9) ?_
            refine g_aload0 63 (by first | exact rv_r | exact rv_n | assumption | exact rv_f) dX6_sign_62 rfl ?_
            refine g_getf 66 dX6_sign_63 rfl fl_X6_182 hT.t (hT.f10) ?_
            refine g_if_eq 73 69 dX6_sign_66 rfl rfl (by first | exact hT.r _ | exact hT.rT _ _ | exact inP_r | omega) (fun c66 => ?_) (fun c66 => ?_)
            · refine g_iconst 74 dX6_sign_73 rfl ?_
              refine g_iadd 75 dX6_sign_74 rfl ?_
              refine w_put9 78 dX6_sign_75 rfl fl_X6_179 hT (fun M hT => ?_)
              refine g_iload3 79 dX6_sign_78 rfl ?_
              refine g_iret dX6_sign_79 rfl ?_
              first | omega | ((try rw [e9, ec]); exact hQ _ _ hT (hP.put (by rw [u9, Int.add_zero]; exact wr_id (by omega)) wr1))
            · refine g_iconst 70 dX6_sign_69 rfl ?_
              refine g_goto 74 dX6_sign_70 rfl ?_
              refine g_iadd 75 dX6_sign_74 rfl ?_
              refine w_put9 78 dX6_sign_75 rfl fl_X6_179 hT (fun M hT => ?_)
              refine g_iload3 79 dX6_sign_78 rfl ?_
              refine g_iret dX6_sign_79 rfl ?_
              first | omega | ((try rw [e9, ec]); exact hQ _ _ hT (hP.put (by rw [u9, Int.add_zero]; exact wr_id (by omega)) wr1))
      · refine g_aload0 12 (by first | exact rv_r | exact rv_n | assumption | exact rv_f) dX6_sign_11 rfl ?_
        refine g_getf 15 dX6_sign_12 rfl fl_X6_182 hT.t (hT.f10) ?_
        refine g_if_ne 30 18 dX6_sign_15 rfl rfl (by first | exact hT.r _ | exact hT.rT _ _ | exact inP_r | omega) (fun c15 => ?_) (fun c15 => ?_)
        · refine g_iconst 31 dX6_sign_30 rfl ?_
          refine g_istore3 32 (Nat.le_of_ble_eq_true rfl) (by first | exact c1_0 | exact c1_i | exact c1_r | exact c1_n | exact c1_v (by assumption) | exact c1_f) dX6_sign_31 rfl ?_
          refine g_aload0 33 (by first | exact rv_r | exact rv_n | assumption | exact rv_f) dX6_sign_32 rfl ?_
          refine g_aload0 34 (by first | exact rv_r | exact rv_n | assumption | exact rv_f) dX6_sign_33 rfl ?_
          refine g_getf 37 dX6_sign_34 rfl fl_X6_182 hT.t (hT.f10) ?_
          refine g_if_ne 49 40 dX6_sign_37 rfl rfl (by first | exact hT.r _ | exact hT.rT _ _ | exact inP_r | omega) (fun c37 => ?_) (fun c37 => ?_)
          · refine g_iconst 50 dX6_sign_49 rfl ?_
            refine g_goto 54 dX6_sign_50 rfl ?_
            refine w_put10 57 dX6_sign_54 rfl fl_X6_182 hT (by omega) (fun M hT => ?_)
            refine g_aload0 58 (by first | exact rv_r | exact rv_n | assumption | exact rv_f) dX6_sign_57 rfl ?_
            refine g_dup 59 (by first | rfl | exact rv_cat (by assumption) | exact rv_cat rv_f) dX6_sign_58 rfl ?_
            refine g_getf 62 dX6_sign_59 rfl fl_X6_179 hT.t (hT.f9) ?_
            refine g_aload0 63 (by first | exact rv_r | exact rv_n | assumption | exact rv_f) dX6_sign_62 rfl ?_
            refine g_getf 66 dX6_sign_63 rfl fl_X6_182 hT.t (hT.f10) ?_
            refine g_if_eq 73 69 dX6_sign_66 rfl rfl (by first | exact hT.r _ | exact hT.rT _ _ | exact inP_r | omega) (fun c66 => ?_) (fun c66 => ?_)
            · refine g_iconst 74 dX6_sign_73 rfl ?_
              refine g_iadd 75 dX6_sign_74 rfl ?_
              refine w_put9 78 dX6_sign_75 rfl fl_X6_179 hT (fun M hT => ?_)
              refine g_iload3 79 dX6_sign_78 rfl ?_
              refine g_iret dX6_sign_79 rfl ?_
              first | omega | ((try rw [e9, ec]); exact hQ _ _ hT (hP.put (by rw [u9, Int.add_zero]; exact wr_id (by omega)) wr1))
            · refine g_iconst 70 dX6_sign_69 rfl ?_
              refine g_goto 74 dX6_sign_70 rfl ?_
              refine g_iadd 75 dX6_sign_74 rfl ?_
              refine w_put9 78 dX6_sign_75 rfl fl_X6_179 hT (fun M hT => ?_)
              refine g_iload3 79 dX6_sign_78 rfl ?_
              refine g_iret dX6_sign_79 rfl ?_
              first | omega | ((try rw [e9, ec]); exact hQ _ _ hT (hP.put (by rw [u9, Int.add_zero]; exact wr_id (by omega)) wr1))
          · refine g_iload3 41 dX6_sign_40 rfl ?_
            refine g_iload1 42 dX6_sign_41 rfl ?_
            refine g_iload2 43 dX6_sign_42 rfl ?_
            refine k_S3z 46 dX6_sign_43 rfl lk_X6_29 rfl (by first | rfl | exact rv_cat (by assumption) | exact rv_cat rv_f) (by first | rfl | exact rv_cat (by assumption) | exact rv_cat rv_f) (by first | rfl | exact rv_cat (by assumption) | exact rv_cat rv_f) (Nat.le_of_ble_eq_true rfl) (by first | exact Nat.le_of_ble_eq_true rfl | omega) (c_X6_in (by first | decide | exact hr4 _) (by omega) (by omega) ?_)
            try rw [e9, ec]
            refine g_if_ne 53 49 dX6_sign_46 rfl rfl (by first | exact hT.r _ | exact hT.rT _ _ | exact inP_r | omega) (fun c46 => ?_) (fun c46 => ?_)
            · refine g_iconst 54 dX6_sign_53 rfl ?_
              refine w_put10 57 dX6_sign_54 rfl fl_X6_182 hT (by omega) (fun M hT => ?_)
              refine g_aload0 58 (by first | exact rv_r | exact rv_n | assumption | exact rv_f) dX6_sign_57 rfl ?_
              refine g_dup 59 (by first | rfl | exact rv_cat (by assumption) | exact rv_cat rv_f) dX6_sign_58 rfl ?_
              refine g_getf 62 dX6_sign_59 rfl fl_X6_179 hT.t (hT.f9) ?_
              refine g_aload0 63 (by first | exact rv_r | exact rv_n | assumption | exact rv_f) dX6_sign_62 rfl ?_
              refine g_getf 66 dX6_sign_63 rfl fl_X6_182 hT.t (hT.f10) ?_
              refine g_if_eq 73 69 dX6_sign_66 rfl rfl (by first | exact hT.r _ | exact hT.rT _ _ | exact inP_r | omega) (fun c66 => ?_) (fun c66 => ?_)
              · refine g_iconst 74 dX6_sign_73 rfl ?_
                refine g_iadd 75 dX6_sign_74 rfl ?_
                refine w_put9 78 dX6_sign_75 rfl fl_X6_179 hT (fun M hT => ?_)
                refine g_iload3 79 dX6_sign_78 rfl ?_
                refine g_iret dX6_sign_79 rfl ?_
                first | omega | ((try rw [e9, ec]); exact hQ _ _ hT (hP.put (by rw [u9, Int.add_zero]; exact wr_id (by omega)) wr1))
              · refine g_iconst 70 dX6_sign_69 rfl ?_
                refine g_goto 74 dX6_sign_70 rfl ?_
                refine g_iadd 75 dX6_sign_74 rfl ?_
                refine w_put9 78 dX6_sign_75 rfl fl_X6_179 hT (fun M hT => ?_)
                refine g_iload3 79 dX6_sign_78 rfl ?_
                refine g_iret dX6_sign_79 rfl ?_
                first | omega | ((try rw [e9, ec]); exact hQ _ _ hT (hP.put (by rw [u9, Int.add_zero]; exact wr_id (by omega)) wr1))
            · refine g_iconst 50 dX6_sign_49 rfl ?_
              refine g_goto 54 dX6_sign_50 rfl ?_
              refine w_put10 57 dX6_sign_54 rfl fl_X6_182 hT (by omega) (fun M hT => ?_)
              refine g_aload0 58 (by first | exact rv_r | exact rv_n | assumption | exact rv_f) dX6_sign_57 rfl ?_
              refine g_dup 59 (by first | rfl | exact rv_cat (by assumption) | exact rv_cat rv_f) dX6_sign_58 rfl ?_
              refine g_getf 62 dX6_sign_59 rfl fl_X6_179 hT.t (hT.f9) ?_
              refine g_aload0 63 (by first | exact rv_r | exact rv_n | assumption | exact rv_f) dX6_sign_62 rfl ?_
              refine g_getf 66 dX6_sign_63 rfl fl_X6_182 hT.t (hT.f10) ?_
              refine g_if_eq 73 69 dX6_sign_66 rfl rfl (by first | exact hT.r _ | exact hT.rT _ _ | exact inP_r | omega) (fun c66 => ?_) (fun c66 => ?_)
              · refine g_iconst 74 dX6_sign_73 rfl ?_
                refine g_iadd 75 dX6_sign_74 rfl ?_
                refine w_put9 78 dX6_sign_75 rfl fl_X6_179 hT (fun M hT => ?_)
                refine g_iload3 79 dX6_sign_78 rfl ?_
                refine g_iret dX6_sign_79 rfl ?_
                first | omega | ((try rw [e9, ec]); exact hQ _ _ hT (hP.put (by rw [u9, Int.add_zero]; exact wr_id (by omega)) wr1))
              · refine g_iconst 70 dX6_sign_69 rfl ?_
                refine g_goto 74 dX6_sign_70 rfl ?_
                refine g_iadd 75 dX6_sign_74 rfl ?_
                refine w_put9 78 dX6_sign_75 rfl fl_X6_179 hT (fun M hT => ?_)
                refine g_iload3 79 dX6_sign_78 rfl ?_
                refine g_iret dX6_sign_79 rfl ?_
                first | omega | ((try rw [e9, ec]); exact hQ _ _ hT (hP.put (by rw [u9, Int.add_zero]; exact wr_id (by omega)) wr1))
        · refine g_aload0 19 (by first | exact rv_r | exact rv_n | assumption | exact rv_f) dX6_sign_18 rfl ?_
          refine g_getf 22 dX6_sign_19 rfl fl_X6_22 hT.t (hT.f6) ?_
          refine g_aload0 23 (by first | exact rv_r | exact rv_n | assumption | exact rv_f) dX6_sign_22 rfl ?_
          refine g_getf 26 dX6_sign_23 rfl fl_X6_179 hT.t (hT.f9) ?_
          refine g_iald 27 dX6_sign_26 rfl hT.a4 (by omega) (by omega) (by omega) (hT.e4 (by omega) (by omega)) ?_
          refine g_goto 31 dX6_sign_27 rfl ?_
          refine g_istore3 32 (Nat.le_of_ble_eq_true rfl) (by first | exact c1_0 | exact c1_i | exact c1_r | exact c1_n | exact c1_v (by assumption) | exact c1_f) dX6_sign_31 rfl ?_
          refine g_aload0 33 (by first | exact rv_r | exact rv_n | assumption | exact rv_f) dX6_sign_32 rfl ?_
          refine g_aload0 34 (by first | exact rv_r | exact rv_n | assumption | exact rv_f) dX6_sign_33 rfl ?_
          refine g_getf 37 dX6_sign_34 rfl fl_X6_182 hT.t (hT.f10) ?_
          refine g_if_ne 49 40 dX6_sign_37 rfl rfl (by first | exact hT.r _ | exact hT.rT _ _ | exact inP_r | omega) (fun c37 => ?_) (fun c37 => ?_)
          · refine g_iconst 50 dX6_sign_49 rfl ?_
            refine g_goto 54 dX6_sign_50 rfl ?_
            refine w_put10 57 dX6_sign_54 rfl fl_X6_182 hT (by omega) (fun M hT => ?_)
            refine g_aload0 58 (by first | exact rv_r | exact rv_n | assumption | exact rv_f) dX6_sign_57 rfl ?_
            refine g_dup 59 (by first | rfl | exact rv_cat (by assumption) | exact rv_cat rv_f) dX6_sign_58 rfl ?_
            refine g_getf 62 dX6_sign_59 rfl fl_X6_179 hT.t (hT.f9) ?_
            refine g_aload0 63 (by first | exact rv_r | exact rv_n | assumption | exact rv_f) dX6_sign_62 rfl ?_
            refine g_getf 66 dX6_sign_63 rfl fl_X6_182 hT.t (hT.f10) ?_
            refine g_if_eq 73 69 dX6_sign_66 rfl rfl (by first | exact hT.r _ | exact hT.rT _ _ | exact inP_r | omega) (fun c66 => ?_) (fun c66 => ?_)
            · refine g_iconst 74 dX6_sign_73 rfl ?_
              refine g_iadd 75 dX6_sign_74 rfl ?_
              refine w_put9 78 dX6_sign_75 rfl fl_X6_179 hT (fun M hT => ?_)
              refine g_iload3 79 dX6_sign_78 rfl ?_
              refine g_iret dX6_sign_79 rfl ?_
              first | omega | ((try rw [e9, ec]); exact hQ _ _ hT (hP.put (by rw [u9, Int.add_zero]; exact wr_id (by omega)) wr1))
            · refine g_iconst 70 dX6_sign_69 rfl ?_
              refine g_goto 74 dX6_sign_70 rfl ?_
              refine g_iadd 75 dX6_sign_74 rfl ?_
              refine w_put9 78 dX6_sign_75 rfl fl_X6_179 hT (fun M hT => ?_)
              refine g_iload3 79 dX6_sign_78 rfl ?_
              refine g_iret dX6_sign_79 rfl ?_
              first | omega | ((try rw [e9, ec]); exact hQ _ _ hT (hP.put (by rw [u9, Int.add_zero]; exact wr_id (by omega)) wr1))
          · refine g_iload3 41 dX6_sign_40 rfl ?_
            refine g_iload1 42 dX6_sign_41 rfl ?_
            refine g_iload2 43 dX6_sign_42 rfl ?_
            refine k_S3z 46 dX6_sign_43 rfl lk_X6_29 rfl (by first | rfl | exact rv_cat (by assumption) | exact rv_cat rv_f) (by first | rfl | exact rv_cat (by assumption) | exact rv_cat rv_f) (by first | rfl | exact rv_cat (by assumption) | exact rv_cat rv_f) (Nat.le_of_ble_eq_true rfl) (by first | exact Nat.le_of_ble_eq_true rfl | omega) (c_X6_in (by first | decide | exact hr4 _) (by omega) (by omega) ?_)
            try rw [e9, ec]
            refine g_if_ne 53 49 dX6_sign_46 rfl rfl (by first | exact hT.r _ | exact hT.rT _ _ | exact inP_r | omega) (fun c46 => ?_) (fun c46 => ?_)
            · refine g_iconst 54 dX6_sign_53 rfl ?_
              refine w_put10 57 dX6_sign_54 rfl fl_X6_182 hT (by omega) (fun M hT => ?_)
              refine g_aload0 58 (by first | exact rv_r | exact rv_n | assumption | exact rv_f) dX6_sign_57 rfl ?_
              refine g_dup 59 (by first | rfl | exact rv_cat (by assumption) | exact rv_cat rv_f) dX6_sign_58 rfl ?_
              refine g_getf 62 dX6_sign_59 rfl fl_X6_179 hT.t (hT.f9) ?_
              refine g_aload0 63 (by first | exact rv_r | exact rv_n | assumption | exact rv_f) dX6_sign_62 rfl ?_
              refine g_getf 66 dX6_sign_63 rfl fl_X6_182 hT.t (hT.f10) ?_
              refine g_if_eq 73 69 dX6_sign_66 rfl rfl (by first | exact hT.r _ | exact hT.rT _ _ | exact inP_r | omega) (fun c66 => ?_) (fun c66 => ?_)
              · refine g_iconst 74 dX6_sign_73 rfl ?_
                refine g_iadd 75 dX6_sign_74 rfl ?_
                refine w_put9 78 dX6_sign_75 rfl fl_X6_179 hT (fun M hT => ?_)
                refine g_iload3 79 dX6_sign_78 rfl ?_
                refine g_iret dX6_sign_79 rfl ?_
                first | omega | ((try rw [e9, ec]); exact hQ _ _ hT (hP.put (by rw [u9, Int.add_zero]; exact wr_id (by omega)) wr1))
              · refine g_iconst 70 dX6_sign_69 rfl ?_
                refine g_goto 74 dX6_sign_70 rfl ?_
                refine g_iadd 75 dX6_sign_74 rfl ?_
                refine w_put9 78 dX6_sign_75 rfl fl_X6_179 hT (fun M hT => ?_)
                refine g_iload3 79 dX6_sign_78 rfl ?_
                refine g_iret dX6_sign_79 rfl ?_
                first | omega | ((try rw [e9, ec]); exact hQ _ _ hT (hP.put (by rw [u9, Int.add_zero]; exact wr_id (by omega)) wr1))
            · refine g_iconst 50 dX6_sign_49 rfl ?_
              refine g_goto 54 dX6_sign_50 rfl ?_
              refine w_put10 57 dX6_sign_54 rfl fl_X6_182 hT (by omega) (fun M hT => ?_)
              refine g_aload0 58 (by first | exact rv_r | exact rv_n | assumption | exact rv_f) dX6_sign_57 rfl ?_
              refine g_dup 59 (by first | rfl | exact rv_cat (by assumption) | exact rv_cat rv_f) dX6_sign_58 rfl ?_
              refine g_getf 62 dX6_sign_59 rfl fl_X6_179 hT.t (hT.f9) ?_
              refine g_aload0 63 (by first | exact rv_r | exact rv_n | assumption | exact rv_f) dX6_sign_62 rfl ?_
              refine g_getf 66 dX6_sign_63 rfl fl_X6_182 hT.t (hT.f10) ?_
              refine g_if_eq 73 69 dX6_sign_66 rfl rfl (by first | exact hT.r _ | exact hT.rT _ _ | exact inP_r | omega) (fun c66 => ?_) (fun c66 => ?_)
              · refine g_iconst 74 dX6_sign_73 rfl ?_
                refine g_iadd 75 dX6_sign_74 rfl ?_
                refine w_put9 78 dX6_sign_75 rfl fl_X6_179 hT (fun M hT => ?_)
                refine g_iload3 79 dX6_sign_78 rfl ?_
                refine g_iret dX6_sign_79 rfl ?_
                first | omega | ((try rw [e9, ec]); exact hQ _ _ hT (hP.put (by rw [u9, Int.add_zero]; exact wr_id (by omega)) wr1))
              · refine g_iconst 70 dX6_sign_69 rfl ?_
                refine g_goto 74 dX6_sign_70 rfl ?_
                refine g_iadd 75 dX6_sign_74 rfl ?_
                refine w_put9 78 dX6_sign_75 rfl fl_X6_179 hT (fun M hT => ?_)
                refine g_iload3 79 dX6_sign_78 rfl ?_
                refine g_iret dX6_sign_79 rfl ?_
                first | omega | ((try rw [e9, ec]); exact hQ _ _ hT (hP.put (by rw [u9, Int.add_zero]; exact wr_id (by omega)) wr1))
    · rw [signP_c q q2] at hQ
      refine g_aload0 1 (by first | exact rv_r | exact rv_n | assumption | exact rv_f) dX6_sign_0 rfl ?_
      refine g_getf 4 dX6_sign_1 rfl fl_X6_179 hT.t (hT.f9) ?_
      refine g_aload0 5 (by first | exact rv_r | exact rv_n | assumption | exact rv_f) dX6_sign_4 rfl ?_
      refine g_getf 8 dX6_sign_5 rfl fl_X6_176 hT.t (hT.f7) ?_
      refine g_icmp_ge 30 11 dX6_sign_8 rfl rfl (by first | exact hT.r _ | exact hT.rT _ _ | exact inP_r | omega) (by first | exact hT.r _ | exact hT.rT _ _ | exact inP_r | omega) (fun c8 => ?_) (fun c8 => ?_)
      · refine g_iconst 31 dX6_sign_30 rfl ?_
        refine g_istore3 32 (Nat.le_of_ble_eq_true rfl) (by first | exact c1_0 | exact c1_i | exact c1_r | exact c1_n | exact c1_v (by assumption) | exact c1_f) dX6_sign_31 rfl ?_
        refine g_aload0 33 (by first | exact rv_r | exact rv_n | assumption | exact rv_f) dX6_sign_32 rfl ?_
        refine g_aload0 34 (by first | exact rv_r | exact rv_n | assumption | exact rv_f) dX6_sign_33 rfl ?_
        refine g_getf 37 dX6_sign_34 rfl fl_X6_182 hT.t (hT.f10) ?_
        refine g_if_ne 49 40 dX6_sign_37 rfl rfl (by first | exact hT.r _ | exact hT.rT _ _ | exact inP_r | omega) (fun c37 => ?_) (fun c37 => ?_)
        · refine g_iconst 50 dX6_sign_49 rfl ?_
          refine g_goto 54 dX6_sign_50 rfl ?_
          refine w_put10 57 dX6_sign_54 rfl fl_X6_182 hT (by omega) (fun M hT => ?_)
          refine g_aload0 58 (by first | exact rv_r | exact rv_n | assumption | exact rv_f) dX6_sign_57 rfl ?_
          refine g_dup 59 (by first | rfl | exact rv_cat (by assumption) | exact rv_cat rv_f) dX6_sign_58 rfl ?_
          refine g_getf 62 dX6_sign_59 rfl fl_X6_179 hT.t (hT.f9) ?_
          refine g_aload0 63 (by first | exact rv_r | exact rv_n | assumption | exact rv_f) dX6_sign_62 rfl ?_
          refine g_getf 66 dX6_sign_63 rfl fl_X6_182 hT.t (hT.f10) ?_
          refine g_if_eq 73 69 dX6_sign_66 rfl rfl (by first | exact hT.r _ | exact hT.rT _ _ | exact inP_r | omega) (fun c66 => ?_) (fun c66 => ?_)
          · refine g_iconst 74 dX6_sign_73 rfl ?_
            refine g_iadd 75 dX6_sign_74 rfl ?_
            refine w_put9 78 dX6_sign_75 rfl fl_X6_179 hT (fun M hT => ?_)
            refine g_iload3 79 dX6_sign_78 rfl ?_
            refine g_iret dX6_sign_79 rfl ?_
            first | omega | ((try rw [e9, ec]); exact hQ _ _ hT (hP.put (by rw [u9]; exact wr_id (by omega)) wr0))
          · refine g_iconst 70 dX6_sign_69 rfl ?_
            refine g_goto 74 dX6_sign_70 rfl ?_
            refine g_iadd 75 dX6_sign_74 rfl ?_
            refine w_put9 78 dX6_sign_75 rfl fl_X6_179 hT (fun M hT => ?_)
            refine g_iload3 79 dX6_sign_78 rfl ?_
            refine g_iret dX6_sign_79 rfl ?_
            first | omega | ((try rw [e9, ec]); exact hQ _ _ hT (hP.put (by rw [u9]; exact wr_id (by omega)) wr0))
        · refine g_iload3 41 dX6_sign_40 rfl ?_
          refine g_iload1 42 dX6_sign_41 rfl ?_
          refine g_iload2 43 dX6_sign_42 rfl ?_
          refine k_S3z 46 dX6_sign_43 rfl lk_X6_29 rfl (by first | rfl | exact rv_cat (by assumption) | exact rv_cat rv_f) (by first | rfl | exact rv_cat (by assumption) | exact rv_cat rv_f) (by first | rfl | exact rv_cat (by assumption) | exact rv_cat rv_f) (Nat.le_of_ble_eq_true rfl) (by first | exact Nat.le_of_ble_eq_true rfl | omega) (c_X6_in (by first | decide | exact hr4 _) (by omega) (by omega) ?_)
          try rw [e9, ec]
          refine g_if_ne 53 49 dX6_sign_46 rfl rfl (by first | exact hT.r _ | exact hT.rT _ _ | exact inP_r | omega) (fun c46 => ?_) (fun c46 => ?_)
          · refine g_iconst 54 dX6_sign_53 rfl ?_
            refine w_put10 57 dX6_sign_54 rfl fl_X6_182 hT (by omega) (fun M hT => ?_)
            refine g_aload0 58 (by first | exact rv_r | exact rv_n | assumption | exact rv_f) dX6_sign_57 rfl ?_
            refine g_dup 59 (by first | rfl | exact rv_cat (by assumption) | exact rv_cat rv_f) dX6_sign_58 rfl ?_
            refine g_getf 62 dX6_sign_59 rfl fl_X6_179 hT.t (hT.f9) ?_
            refine g_aload0 63 (by first | exact rv_r | exact rv_n | assumption | exact rv_f) dX6_sign_62 rfl ?_
            refine g_getf 66 dX6_sign_63 rfl fl_X6_182 hT.t (hT.f10) ?_
            refine g_if_eq 73 69 dX6_sign_66 rfl rfl (by first | exact hT.r _ | exact hT.rT _ _ | exact inP_r | omega) (fun c66 => ?_) (fun c66 => ?_)
            · refine g_iconst 74 dX6_sign_73 rfl ?_
              refine g_iadd 75 dX6_sign_74 rfl ?_
              refine w_put9 78 dX6_sign_75 rfl fl_X6_179 hT (fun M hT => ?_)
              refine g_iload3 79 dX6_sign_78 rfl ?_
              refine g_iret dX6_sign_79 rfl ?_
              first | omega | ((try rw [e9, ec]); exact hQ _ _ hT (hP.put (by rw [u9]; exact wr_id (by omega)) wr0))
            · refine g_iconst 70 dX6_sign_69 rfl ?_
              refine g_goto 74 dX6_sign_70 rfl ?_
              refine g_iadd 75 dX6_sign_74 rfl ?_
              refine w_put9 78 dX6_sign_75 rfl fl_X6_179 hT (fun M hT => ?_)
              refine g_iload3 79 dX6_sign_78 rfl ?_
              refine g_iret dX6_sign_79 rfl ?_
              first | omega | ((try rw [e9, ec]); exact hQ _ _ hT (hP.put (by rw [u9]; exact wr_id (by omega)) wr0))
          · refine g_iconst 50 dX6_sign_49 rfl ?_
            refine g_goto 54 dX6_sign_50 rfl ?_
            refine w_put10 57 dX6_sign_54 rfl fl_X6_182 hT (by omega) (fun M hT => ?_)
            refine g_aload0 58 (by first | exact rv_r | exact rv_n | assumption | exact rv_f) dX6_sign_57 rfl ?_
            refine g_dup 59 (by first | rfl | exact rv_cat (by assumption) | exact rv_cat rv_f) dX6_sign_58 rfl ?_
            refine g_getf 62 dX6_sign_59 rfl fl_X6_179 hT.t (hT.f9) ?_
            refine g_aload0 63 (by first | exact rv_r | exact rv_n | assumption | exact rv_f) dX6_sign_62 rfl ?_
            refine g_getf 66 dX6_sign_63 rfl fl_X6_182 hT.t (hT.f10) ?_
            refine g_if_eq 73 69 dX6_sign_66 rfl rfl (by first | exact hT.r _ | exact hT.rT _ _ | exact inP_r | omega) (fun c66 => ?_) (fun c66 => ?_)
            · refine g_iconst 74 dX6_sign_73 rfl ?_
              refine g_iadd 75 dX6_sign_74 rfl ?_
              refine w_put9 78 dX6_sign_75 rfl fl_X6_179 hT (fun M hT => ?_)
              refine g_iload3 79 dX6_sign_78 rfl ?_
              refine g_iret dX6_sign_79 rfl ?_
              first | omega | ((try rw [e9, ec]); exact hQ _ _ hT (hP.put (by rw [u9]; exact wr_id (by omega)) wr0))
            · refine g_iconst 70 dX6_sign_69 rfl ?_
              refine g_goto 74 dX6_sign_70 rfl ?_
              refine g_iadd 75 dX6_sign_74 rfl ?_
              refine w_put9 78 dX6_sign_75 rfl fl_X6_179 hT (fun M hT => ?_)
              refine g_iload3 79 dX6_sign_78 rfl ?_
              refine g_iret dX6_sign_79 rfl ?_
              first | omega | ((try rw [e9, ec]); exact hQ _ _ hT (hP.put (by rw [u9]; exact wr_id (by omega)) wr0))
      · refine g_aload0 12 (by first | exact rv_r | exact rv_n | assumption | exact rv_f) dX6_sign_11 rfl ?_
        refine g_getf 15 dX6_sign_12 rfl fl_X6_182 hT.t (hT.f10) ?_
        refine g_if_ne 30 18 dX6_sign_15 rfl rfl (by first | exact hT.r _ | exact hT.rT _ _ | exact inP_r | omega) (fun c15 => ?_) (fun c15 => ?_)
        · refine g_iconst 31 dX6_sign_30 rfl ?_
          refine g_istore3 32 (Nat.le_of_ble_eq_true rfl) (by first | exact c1_0 | exact c1_i | exact c1_r | exact c1_n | exact c1_v (by assumption) | exact c1_f) dX6_sign_31 rfl ?_
          refine g_aload0 33 (by first | exact rv_r | exact rv_n | assumption | exact rv_f) dX6_sign_32 rfl ?_
          refine g_aload0 34 (by first | exact rv_r | exact rv_n | assumption | exact rv_f) dX6_sign_33 rfl ?_
          refine g_getf 37 dX6_sign_34 rfl fl_X6_182 hT.t (hT.f10) ?_
          refine g_if_ne 49 40 dX6_sign_37 rfl rfl (by first | exact hT.r _ | exact hT.rT _ _ | exact inP_r | omega) (fun c37 => ?_) (fun c37 => ?_)
          · refine g_iconst 50 dX6_sign_49 rfl ?_
            refine g_goto 54 dX6_sign_50 rfl ?_
            refine w_put10 57 dX6_sign_54 rfl fl_X6_182 hT (by omega) (fun M hT => ?_)
            refine g_aload0 58 (by first | exact rv_r | exact rv_n | assumption | exact rv_f) dX6_sign_57 rfl ?_
            refine g_dup 59 (by first | rfl | exact rv_cat (by assumption) | exact rv_cat rv_f) dX6_sign_58 rfl ?_
            refine g_getf 62 dX6_sign_59 rfl fl_X6_179 hT.t (hT.f9) ?_
            refine g_aload0 63 (by first | exact rv_r | exact rv_n | assumption | exact rv_f) dX6_sign_62 rfl ?_
            refine g_getf 66 dX6_sign_63 rfl fl_X6_182 hT.t (hT.f10) ?_
            refine g_if_eq 73 69 dX6_sign_66 rfl rfl (by first | exact hT.r _ | exact hT.rT _ _ | exact inP_r | omega) (fun c66 => ?_) (fun c66 => ?_)
            · refine g_iconst 74 dX6_sign_73 rfl ?_
              refine g_iadd 75 dX6_sign_74 rfl ?_
              refine w_put9 78 dX6_sign_75 rfl fl_X6_179 hT (fun M hT => ?_)
              refine g_iload3 79 dX6_sign_78 rfl ?_
              refine g_iret dX6_sign_79 rfl ?_
              first | omega | ((try rw [e9, ec]); exact hQ _ _ hT (hP.put (by rw [u9]; exact wr_id (by omega)) wr0))
            · refine g_iconst 70 dX6_sign_69 rfl ?_
              refine g_goto 74 dX6_sign_70 rfl ?_
              refine g_iadd 75 dX6_sign_74 rfl ?_
              refine w_put9 78 dX6_sign_75 rfl fl_X6_179 hT (fun M hT => ?_)
              refine g_iload3 79 dX6_sign_78 rfl ?_
              refine g_iret dX6_sign_79 rfl ?_
              first | omega | ((try rw [e9, ec]); exact hQ _ _ hT (hP.put (by rw [u9]; exact wr_id (by omega)) wr0))
          · refine g_iload3 41 dX6_sign_40 rfl ?_
            refine g_iload1 42 dX6_sign_41 rfl ?_
            refine g_iload2 43 dX6_sign_42 rfl ?_
            refine k_S3z 46 dX6_sign_43 rfl lk_X6_29 rfl (by first | rfl | exact rv_cat (by assumption) | exact rv_cat rv_f) (by first | rfl | exact rv_cat (by assumption) | exact rv_cat rv_f) (by first | rfl | exact rv_cat (by assumption) | exact rv_cat rv_f) (Nat.le_of_ble_eq_true rfl) (by first | exact Nat.le_of_ble_eq_true rfl | omega) (c_X6_in (by first | decide | exact hr4 _) (by omega) (by omega) ?_)
            try rw [e9, ec]
            refine g_if_ne 53 49 dX6_sign_46 rfl rfl (by first | exact hT.r _ | exact hT.rT _ _ | exact inP_r | omega) (fun c46 => ?_) (fun c46 => ?_)
            · refine g_iconst 54 dX6_sign_53 rfl ?_
              refine w_put10 57 dX6_sign_54 rfl fl_X6_182 hT (by omega) (fun M hT => ?_)
              refine g_aload0 58 (by first | exact rv_r | exact rv_n | assumption | exact rv_f) dX6_sign_57 rfl ?_
              refine g_dup 59 (by first | rfl | exact rv_cat (by assumption) | exact rv_cat rv_f) dX6_sign_58 rfl ?_
              refine g_getf 62 dX6_sign_59 rfl fl_X6_179 hT.t (hT.f9) ?_
              refine g_aload0 63 (by first | exact rv_r | exact rv_n | assumption | exact rv_f) dX6_sign_62 rfl ?_
              refine g_getf 66 dX6_sign_63 rfl fl_X6_182 hT.t (hT.f10) ?_
              refine g_if_eq 73 69 dX6_sign_66 rfl rfl (by first | exact hT.r _ | exact hT.rT _ _ | exact inP_r | omega) (fun c66 => ?_) (fun c66 => ?_)
              · refine g_iconst 74 dX6_sign_73 rfl ?_
                refine g_iadd 75 dX6_sign_74 rfl ?_
                refine w_put9 78 dX6_sign_75 rfl fl_X6_179 hT (fun M hT => ?_)
                refine g_iload3 79 dX6_sign_78 rfl ?_
                refine g_iret dX6_sign_79 rfl ?_
                first | omega | ((try rw [e9, ec]); exact hQ _ _ hT (hP.put (by rw [u9]; exact wr_id (by omega)) wr0))
              · refine g_iconst 70 dX6_sign_69 rfl ?_
                refine g_goto 74 dX6_sign_70 rfl ?_
                refine g_iadd 75 dX6_sign_74 rfl ?_
                refine w_put9 78 dX6_sign_75 rfl fl_X6_179 hT (fun M hT => ?_)
                refine g_iload3 79 dX6_sign_78 rfl ?_
                refine g_iret dX6_sign_79 rfl ?_
                first | omega | ((try rw [e9, ec]); exact hQ _ _ hT (hP.put (by rw [u9]; exact wr_id (by omega)) wr0))
            · refine g_iconst 50 dX6_sign_49 rfl ?_
              refine g_goto 54 dX6_sign_50 rfl ?_
              refine w_put10 57 dX6_sign_54 rfl fl_X6_182 hT (by omega) (fun M hT => ?_)
              refine g_aload0 58 (by first | exact rv_r | exact rv_n | assumption | exact rv_f) dX6_sign_57 rfl ?_
              refine g_dup 59 (by first | rfl | exact rv_cat (by assumption) | exact rv_cat rv_f) dX6_sign_58 rfl ?_
              refine g_getf 62 dX6_sign_59 rfl fl_X6_179 hT.t (hT.f9) ?_
              refine g_aload0 63 (by first | exact rv_r | exact rv_n | assumption | exact rv_f) dX6_sign_62 rfl ?_
              refine g_getf 66 dX6_sign_63 rfl fl_X6_182 hT.t (hT.f10) ?_
              refine g_if_eq 73 69 dX6_sign_66 rfl rfl (by first | exact hT.r _ | exact hT.rT _ _ | exact inP_r | omega) (fun c66 => ?_) (fun c66 => ?_)
              · refine g_iconst 74 dX6_sign_73 rfl ?_
                refine g_iadd 75 dX6_sign_74 rfl ?_
                refine w_put9 78 dX6_sign_75 rfl fl_X6_179 hT (fun M hT => ?_)
                refine g_iload3 79 dX6_sign_78 rfl ?_
                refine g_iret dX6_sign_79 rfl ?_
                first | omega | ((try rw [e9, ec]); exact hQ _ _ hT (hP.put (by rw [u9]; exact wr_id (by omega)) wr0))
              · refine g_iconst 70 dX6_sign_69 rfl ?_
                refine g_goto 74 dX6_sign_70 rfl ?_
                refine g_iadd 75 dX6_sign_74 rfl ?_
                refine w_put9 78 dX6_sign_75 rfl fl_X6_179 hT (fun M hT => ?_)
                refine g_iload3 79 dX6_sign_78 rfl ?_
                refine g_iret dX6_sign_79 rfl ?_
                first | omega | ((try rw [e9, ec]); exact hQ _ _ hT (hP.put (by rw [u9]; exact wr_id (by omega)) wr0))
        · refine g_aload0 19 (by first | exact rv_r | exact rv_n | assumption | exact rv_f) dX6_sign_18 rfl ?_
          refine g_getf 22 dX6_sign_19 rfl fl_X6_22 hT.t (hT.f6) ?_
          refine g_aload0 23 (by first | exact rv_r | exact rv_n | assumption | exact rv_f) dX6_sign_22 rfl ?_
          refine g_getf 26 dX6_sign_23 rfl fl_X6_179 hT.t (hT.f9) ?_
          refine g_iald 27 dX6_sign_26 rfl hT.a4 (by omega) (by omega) (by omega) (hT.e4 (by omega) (by omega)) ?_
          refine g_goto 31 dX6_sign_27 rfl ?_
          refine g_istore3 32 (Nat.le_of_ble_eq_true rfl) (by first | exact c1_0 | exact c1_i | exact c1_r | exact c1_n | exact c1_v (by assumption) | exact c1_f) dX6_sign_31 rfl ?_
          refine g_aload0 33 (by first | exact rv_r | exact rv_n | assumption | exact rv_f) dX6_sign_32 rfl ?_
          refine g_aload0 34 (by first | exact rv_r | exact rv_n | assumption | exact rv_f) dX6_sign_33 rfl ?_
          refine g_getf 37 dX6_sign_34 rfl fl_X6_182 hT.t (hT.f10) ?_
          refine g_if_ne 49 40 dX6_sign_37 rfl rfl (by first | exact hT.r _ | exact hT.rT _ _ | exact inP_r | omega) (fun c37 => ?_) (fun c37 => ?_)
          · refine g_iconst 50 dX6_sign_49 rfl ?_
            refine g_goto 54 dX6_sign_50 rfl ?_
            refine w_put10 57 dX6_sign_54 rfl fl_X6_182 hT (by omega) (fun M hT => ?_)
            refine g_aload0 58 (by first | exact rv_r | exact rv_n | assumption | exact rv_f) dX6_sign_57 rfl ?_
            refine g_dup 59 (by first | rfl | exact rv_cat (by assumption) | exact rv_cat rv_f) dX6_sign_58 rfl ?_
            refine g_getf 62 dX6_sign_59 rfl fl_X6_179 hT.t (hT.f9) ?_
            refine g_aload0 63 (by first | exact rv_r | exact rv_n | assumption | exact rv_f) dX6_sign_62 rfl ?_
            refine g_getf 66 dX6_sign_63 rfl fl_X6_182 hT.t (hT.f10) ?_
            refine g_if_eq 73 69 dX6_sign_66 rfl rfl (by first | exact hT.r _ | exact hT.rT _ _ | exact inP_r | omega) (fun c66 => ?_) (fun c66 => ?_)
            · refine g_iconst 74 dX6_sign_73 rfl ?_
              refine g_iadd 75 dX6_sign_74 rfl ?_
              refine w_put9 78 dX6_sign_75 rfl fl_X6_179 hT (fun M hT => ?_)
              refine g_iload3 79 dX6_sign_78 rfl ?_
              refine g_iret dX6_sign_79 rfl ?_
              first | omega | ((try rw [e9, ec]); exact hQ _ _ hT (hP.put (by rw [u9]; exact wr_id (by omega)) wr0))
            · refine g_iconst 70 dX6_sign_69 rfl ?_
              refine g_goto 74 dX6_sign_70 rfl ?_
              refine g_iadd 75 dX6_sign_74 rfl ?_
              refine w_put9 78 dX6_sign_75 rfl fl_X6_179 hT (fun M hT => ?_)
              refine g_iload3 79 dX6_sign_78 rfl ?_
              refine g_iret dX6_sign_79 rfl ?_
              first | omega | ((try rw [e9, ec]); exact hQ _ _ hT (hP.put (by rw [u9]; exact wr_id (by omega)) wr0))
          · refine g_iload3 41 dX6_sign_40 rfl ?_
            refine g_iload1 42 dX6_sign_41 rfl ?_
            refine g_iload2 43 dX6_sign_42 rfl ?_
            refine k_S3z 46 dX6_sign_43 rfl lk_X6_29 rfl (by first | rfl | exact rv_cat (by assumption) | exact rv_cat rv_f) (by first | rfl | exact rv_cat (by assumption) | exact rv_cat rv_f) (by first | rfl | exact rv_cat (by assumption) | exact rv_cat rv_f) (Nat.le_of_ble_eq_true rfl) (by first | exact Nat.le_of_ble_eq_true rfl | omega) (c_X6_in (by first | decide | exact hr4 _) (by omega) (by omega) ?_)
            try rw [e9, ec]
            refine g_if_ne 53 49 dX6_sign_46 rfl rfl (by first | exact hT.r _ | exact hT.rT _ _ | exact inP_r | omega) (fun c46 => ?_) (fun c46 => ?_)
            · refine g_iconst 54 dX6_sign_53 rfl ?_
              refine w_put10 57 dX6_sign_54 rfl fl_X6_182 hT (by omega) (fun M hT => ?_)
              refine g_aload0 58 (by first | exact rv_r | exact rv_n | assumption | exact rv_f) dX6_sign_57 rfl ?_
              refine g_dup 59 (by first | rfl | exact rv_cat (by assumption) | exact rv_cat rv_f) dX6_sign_58 rfl ?_
              refine g_getf 62 dX6_sign_59 rfl fl_X6_179 hT.t (hT.f9) ?_
              refine g_aload0 63 (by first | exact rv_r | exact rv_n | assumption | exact rv_f) dX6_sign_62 rfl ?_
              refine g_getf 66 dX6_sign_63 rfl fl_X6_182 hT.t (hT.f10) ?_
              refine g_if_eq 73 69 dX6_sign_66 rfl rfl (by first | exact hT.r _ | exact hT.rT _ _ | exact inP_r | omega) (fun c66 => ?_) (fun c66 => ?_)
              · refine g_iconst 74 dX6_sign_73 rfl ?_
                refine g_iadd 75 dX6_sign_74 rfl ?_
                refine w_put9 78 dX6_sign_75 rfl fl_X6_179 hT (fun M hT => ?_)
                refine g_iload3 79 dX6_sign_78 rfl ?_
                refine g_iret dX6_sign_79 rfl ?_
                first | omega | ((try rw [e9, ec]); exact hQ _ _ hT (hP.put (by rw [u9]; exact wr_id (by omega)) wr0))
              · refine g_iconst 70 dX6_sign_69 rfl ?_
                refine g_goto 74 dX6_sign_70 rfl ?_
                refine g_iadd 75 dX6_sign_74 rfl ?_
                refine w_put9 78 dX6_sign_75 rfl fl_X6_179 hT (fun M hT => ?_)
                refine g_iload3 79 dX6_sign_78 rfl ?_
                refine g_iret dX6_sign_79 rfl ?_
                first | omega | ((try rw [e9, ec]); exact hQ _ _ hT (hP.put (by rw [u9]; exact wr_id (by omega)) wr0))
            · refine g_iconst 50 dX6_sign_49 rfl ?_
              refine g_goto 54 dX6_sign_50 rfl ?_
              refine w_put10 57 dX6_sign_54 rfl fl_X6_182 hT (by omega) (fun M hT => ?_)
              refine g_aload0 58 (by first | exact rv_r | exact rv_n | assumption | exact rv_f) dX6_sign_57 rfl ?_
              refine g_dup 59 (by first | rfl | exact rv_cat (by assumption) | exact rv_cat rv_f) dX6_sign_58 rfl ?_
              refine g_getf 62 dX6_sign_59 rfl fl_X6_179 hT.t (hT.f9) ?_
              refine g_aload0 63 (by first | exact rv_r | exact rv_n | assumption | exact rv_f) dX6_sign_62 rfl ?_
              refine g_getf 66 dX6_sign_63 rfl fl_X6_182 hT.t (hT.f10) ?_
              refine g_if_eq 73 69 dX6_sign_66 rfl rfl (by first | exact hT.r _ | exact hT.rT _ _ | exact inP_r | omega) (fun c66 => ?_) (fun c66 => ?_)
              · refine g_iconst 74 dX6_sign_73 rfl ?_
                refine g_iadd 75 dX6_sign_74 rfl ?_
                refine w_put9 78 dX6_sign_75 rfl fl_X6_179 hT (fun M hT => ?_)
                refine g_iload3 79 dX6_sign_78 rfl ?_
                refine g_iret dX6_sign_79 rfl ?_
                first | omega | ((try rw [e9, ec]); exact hQ _ _ hT (hP.put (by rw [u9]; exact wr_id (by omega)) wr0))
              · refine g_iconst 70 dX6_sign_69 rfl ?_
                refine g_goto 74 dX6_sign_70 rfl ?_
                refine g_iadd 75 dX6_sign_74 rfl ?_
                refine w_put9 78 dX6_sign_75 rfl fl_X6_179 hT (fun M hT => ?_)
                refine g_iload3 79 dX6_sign_78 rfl ?_
                refine g_iret dX6_sign_79 rfl ?_
                first | omega | ((try rw [e9, ec]); exact hQ _ _ hT (hP.put (by rw [u9]; exact wr_id (by omega)) wr0))
  · rw [signP_a hlo.1 q] at hQ
    have i0 := inP_0 (hi := hi) hlo.1
    refine g_aload0 1 (by first | exact rv_r | exact rv_n | assumption | exact rv_f) dX6_sign_0 rfl ?_
    refine g_getf 4 dX6_sign_1 rfl fl_X6_179 hT.t (hT.f9) ?_
    refine g_aload0 5 (by first | exact rv_r | exact rv_n | assumption | exact rv_f) dX6_sign_4 rfl ?_
    refine g_getf 8 dX6_sign_5 rfl fl_X6_176 hT.t (hT.f7) ?_
    refine g_icmp_ge 30 11 dX6_sign_8 rfl rfl (by first | exact hT.r _ | exact hT.rT _ _ | exact inP_r | omega) (by first | exact hT.r _ | exact hT.rT _ _ | exact inP_r | omega) (fun c8 => ?_) (fun c8 => ?_)
    · refine g_iconst 31 dX6_sign_30 rfl ?_
      refine g_istore3 32 (Nat.le_of_ble_eq_true rfl) (by first | exact c1_0 | exact c1_i | exact c1_r | exact c1_n | exact c1_v (by assumption) | exact c1_f) dX6_sign_31 rfl ?_
      refine g_aload0 33 (by first | exact rv_r | exact rv_n | assumption | exact rv_f) dX6_sign_32 rfl ?_
      refine g_aload0 34 (by first | exact rv_r | exact rv_n | assumption | exact rv_f) dX6_sign_33 rfl ?_
      refine g_getf 37 dX6_sign_34 rfl fl_X6_182 hT.t (hT.f10) ?_
      refine g_if_ne 49 40 dX6_sign_37 rfl rfl (by first | exact hT.r _ | exact hT.rT _ _ | exact inP_r | omega) (fun c37 => ?_) (fun c37 => ?_)
      · refine g_iconst 50 dX6_sign_49 rfl ?_
        refine g_goto 54 dX6_sign_50 rfl ?_
        refine w_put10 57 dX6_sign_54 rfl fl_X6_182 hT (by omega) (fun M hT => ?_)
        refine g_aload0 58 (by first | exact rv_r | exact rv_n | assumption | exact rv_f) dX6_sign_57 rfl ?_
        refine g_dup 59 (by first | rfl | exact rv_cat (by assumption) | exact rv_cat rv_f) dX6_sign_58 rfl ?_
        refine g_getf 62 dX6_sign_59 rfl fl_X6_179 hT.t (hT.f9) ?_
        refine g_aload0 63 (by first | exact rv_r | exact rv_n | assumption | exact rv_f) dX6_sign_62 rfl ?_
        refine g_getf 66 dX6_sign_63 rfl fl_X6_182 hT.t (hT.f10) ?_
        refine g_if_eq 73 69 dX6_sign_66 rfl rfl (by first | exact hT.r _ | exact hT.rT _ _ | exact inP_r | omega) (fun c66 => ?_) (fun c66 => ?_)
        · refine g_iconst 74 dX6_sign_73 rfl ?_
          refine g_iadd 75 dX6_sign_74 rfl ?_
          refine w_put9 78 dX6_sign_75 rfl fl_X6_179 hT (fun M hT => ?_)
          refine g_iload3 79 dX6_sign_78 rfl ?_
          refine g_iret dX6_sign_79 rfl ?_
          first | omega | exact hQ _ _ hT (hP.put (by rw [u9, Int.add_zero]; exact wr_id (by omega)) wr1)
        · refine g_iconst 70 dX6_sign_69 rfl ?_
          refine g_goto 74 dX6_sign_70 rfl ?_
          refine g_iadd 75 dX6_sign_74 rfl ?_
          refine w_put9 78 dX6_sign_75 rfl fl_X6_179 hT (fun M hT => ?_)
          refine g_iload3 79 dX6_sign_78 rfl ?_
          refine g_iret dX6_sign_79 rfl ?_
          first | omega | exact hQ _ _ hT (hP.put (by rw [u9, Int.add_zero]; exact wr_id (by omega)) wr1)
      · refine g_iload3 41 dX6_sign_40 rfl ?_
        refine g_iload1 42 dX6_sign_41 rfl ?_
        refine g_iload2 43 dX6_sign_42 rfl ?_
        refine k_S3z 46 dX6_sign_43 rfl lk_X6_29 rfl (by first | rfl | exact rv_cat (by assumption) | exact rv_cat rv_f) (by first | rfl | exact rv_cat (by assumption) | exact rv_cat rv_f) (by first | rfl | exact rv_cat (by assumption) | exact rv_cat rv_f) (Nat.le_of_ble_eq_true rfl) (by first | exact Nat.le_of_ble_eq_true rfl | omega) (c_X6_in (by first | decide | exact hr4 _) (by omega) (by omega) ?_)
        refine g_if_ne 53 49 dX6_sign_46 rfl rfl (by first | exact hT.r _ | exact hT.rT _ _ | exact inP_r | omega) (fun c46 => ?_) (fun c46 => ?_)
        · refine g_iconst 54 dX6_sign_53 rfl ?_
          refine w_put10 57 dX6_sign_54 rfl fl_X6_182 hT (by omega) (fun M hT => ?_)
          refine g_aload0 58 (by first | exact rv_r | exact rv_n | assumption | exact rv_f) dX6_sign_57 rfl ?_
          refine g_dup 59 (by first | rfl | exact rv_cat (by assumption) | exact rv_cat rv_f) dX6_sign_58 rfl ?_
          refine g_getf 62 dX6_sign_59 rfl fl_X6_179 hT.t (hT.f9) ?_
          refine g_aload0 63 (by first | exact rv_r | exact rv_n | assumption | exact rv_f) dX6_sign_62 rfl ?_
          refine g_getf 66 dX6_sign_63 rfl fl_X6_182 hT.t (hT.f10) ?_
          refine g_if_eq 73 69 dX6_sign_66 rfl rfl (by first | exact hT.r _ | exact hT.rT _ _ | exact inP_r | omega) (fun c66 => ?_) (fun c66 => ?_)
          · refine g_iconst 74 dX6_sign_73 rfl ?_
            refine g_iadd 75 dX6_sign_74 rfl ?_
            refine w_put9 78 dX6_sign_75 rfl fl_X6_179 hT (fun M hT => ?_)
            refine g_iload3 79 dX6_sign_78 rfl ?_
            refine g_iret dX6_sign_79 rfl ?_
            first | omega | exact hQ _ _ hT (hP.put (by rw [u9, Int.add_zero]; exact wr_id (by omega)) wr1)
          · refine g_iconst 70 dX6_sign_69 rfl ?_
            refine g_goto 74 dX6_sign_70 rfl ?_
            refine g_iadd 75 dX6_sign_74 rfl ?_
            refine w_put9 78 dX6_sign_75 rfl fl_X6_179 hT (fun M hT => ?_)
            refine g_iload3 79 dX6_sign_78 rfl ?_
            refine g_iret dX6_sign_79 rfl ?_
            first | omega | exact hQ _ _ hT (hP.put (by rw [u9, Int.add_zero]; exact wr_id (by omega)) wr1)
        · refine g_iconst 50 dX6_sign_49 rfl ?_
          refine g_goto 54 dX6_sign_50 rfl ?_
          refine w_put10 57 dX6_sign_54 rfl fl_X6_182 hT (by omega) (fun M hT => ?_)
          refine g_aload0 58 (by first | exact rv_r | exact rv_n | assumption | exact rv_f) dX6_sign_57 rfl ?_
          refine g_dup 59 (by first | rfl | exact rv_cat (by assumption) | exact rv_cat rv_f) dX6_sign_58 rfl ?_
          refine g_getf 62 dX6_sign_59 rfl fl_X6_179 hT.t (hT.f9) ?_
          refine g_aload0 63 (by first | exact rv_r | exact rv_n | assumption | exact rv_f) dX6_sign_62 rfl ?_
          refine g_getf 66 dX6_sign_63 rfl fl_X6_182 hT.t (hT.f10) ?_
          refine g_if_eq 73 69 dX6_sign_66 rfl rfl (by first | exact hT.r _ | exact hT.rT _ _ | exact inP_r | omega) (fun c66 => ?_) (fun c66 => ?_)
          · refine g_iconst 74 dX6_sign_73 rfl ?_
            refine g_iadd 75 dX6_sign_74 rfl ?_
            refine w_put9 78 dX6_sign_75 rfl fl_X6_179 hT (fun M hT => ?_)
            refine g_iload3 79 dX6_sign_78 rfl ?_
            refine g_iret dX6_sign_79 rfl ?_
            first | omega | exact hQ _ _ hT (hP.put (by rw [u9, Int.add_zero]; exact wr_id (by omega)) wr1)
          · refine g_iconst 70 dX6_sign_69 rfl ?_
            refine g_goto 74 dX6_sign_70 rfl ?_
            refine g_iadd 75 dX6_sign_74 rfl ?_
            refine w_put9 78 dX6_sign_75 rfl fl_X6_179 hT (fun M hT => ?_)
            refine g_iload3 79 dX6_sign_78 rfl ?_
            refine g_iret dX6_sign_79 rfl ?_
            first | omega | exact hQ _ _ hT (hP.put (by rw [u9, Int.add_zero]; exact wr_id (by omega)) wr1)
    · refine g_aload0 12 (by first | exact rv_r | exact rv_n | assumption | exact rv_f) dX6_sign_11 rfl ?_
      refine g_getf 15 dX6_sign_12 rfl fl_X6_182 hT.t (hT.f10) ?_
      refine g_if_ne 30 18 dX6_sign_15 rfl rfl (by first | exact hT.r _ | exact hT.rT _ _ | exact inP_r | omega) (fun c15 => ?_) (fun c15 => ?_)
      · refine g_iconst 31 dX6_sign_30 rfl ?_
        refine g_istore3 32 (Nat.le_of_ble_eq_true rfl) (by first | exact c1_0 | exact c1_i | exact c1_r | exact c1_n | exact c1_v (by assumption) | exact c1_f) dX6_sign_31 rfl ?_
        refine g_aload0 33 (by first | exact rv_r | exact rv_n | assumption | exact rv_f) dX6_sign_32 rfl ?_
        refine g_aload0 34 (by first | exact rv_r | exact rv_n | assumption | exact rv_f) dX6_sign_33 rfl ?_
        refine g_getf 37 dX6_sign_34 rfl fl_X6_182 hT.t (hT.f10) ?_
        refine g_if_ne 49 40 dX6_sign_37 rfl rfl (by first | exact hT.r _ | exact hT.rT _ _ | exact inP_r | omega) (fun c37 => ?_) (fun c37 => ?_)
        · refine g_iconst 50 dX6_sign_49 rfl ?_
          refine g_goto 54 dX6_sign_50 rfl ?_
          refine w_put10 57 dX6_sign_54 rfl fl_X6_182 hT (by omega) (fun M hT => ?_)
          refine g_aload0 58 (by first | exact rv_r | exact rv_n | assumption | exact rv_f) dX6_sign_57 rfl ?_
          refine g_dup 59 (by first | rfl | exact rv_cat (by assumption) | exact rv_cat rv_f) dX6_sign_58 rfl ?_
          refine g_getf 62 dX6_sign_59 rfl fl_X6_179 hT.t (hT.f9) ?_
          refine g_aload0 63 (by first | exact rv_r | exact rv_n | assumption | exact rv_f) dX6_sign_62 rfl ?_
          refine g_getf 66 dX6_sign_63 rfl fl_X6_182 hT.t (hT.f10) ?_
          refine g_if_eq 73 69 dX6_sign_66 rfl rfl (by first | exact hT.r _ | exact hT.rT _ _ | exact inP_r | omega) (fun c66 => ?_) (fun c66 => ?_)
          · refine g_iconst 74 dX6_sign_73 rfl ?_
            refine g_iadd 75 dX6_sign_74 rfl ?_
            refine w_put9 78 dX6_sign_75 rfl fl_X6_179 hT (fun M hT => ?_)
            refine g_iload3 79 dX6_sign_78 rfl ?_
            refine g_iret dX6_sign_79 rfl ?_
            first | omega | exact hQ _ _ hT (hP.put (by rw [u9, Int.add_zero]; exact wr_id (by omega)) wr1)
          · refine g_iconst 70 dX6_sign_69 rfl ?_
            refine g_goto 74 dX6_sign_70 rfl ?_
            refine g_iadd 75 dX6_sign_74 rfl ?_
            refine w_put9 78 dX6_sign_75 rfl fl_X6_179 hT (fun M hT => ?_)
            refine g_iload3 79 dX6_sign_78 rfl ?_
            refine g_iret dX6_sign_79 rfl ?_
            first | omega | exact hQ _ _ hT (hP.put (by rw [u9, Int.add_zero]; exact wr_id (by omega)) wr1)
        · refine g_iload3 41 dX6_sign_40 rfl ?_
          refine g_iload1 42 dX6_sign_41 rfl ?_
          refine g_iload2 43 dX6_sign_42 rfl ?_
          refine k_S3z 46 dX6_sign_43 rfl lk_X6_29 rfl (by first | rfl | exact rv_cat (by assumption) | exact rv_cat rv_f) (by first | rfl | exact rv_cat (by assumption) | exact rv_cat rv_f) (by first | rfl | exact rv_cat (by assumption) | exact rv_cat rv_f) (Nat.le_of_ble_eq_true rfl) (by first | exact Nat.le_of_ble_eq_true rfl | omega) (c_X6_in (by first | decide | exact hr4 _) (by omega) (by omega) ?_)
          refine g_if_ne 53 49 dX6_sign_46 rfl rfl (by first | exact hT.r _ | exact hT.rT _ _ | exact inP_r | omega) (fun c46 => ?_) (fun c46 => ?_)
          · refine g_iconst 54 dX6_sign_53 rfl ?_
            refine w_put10 57 dX6_sign_54 rfl fl_X6_182 hT (by omega) (fun M hT => ?_)
            refine g_aload0 58 (by first | exact rv_r | exact rv_n | assumption | exact rv_f) dX6_sign_57 rfl ?_
            refine g_dup 59 (by first | rfl | exact rv_cat (by assumption) | exact rv_cat rv_f) dX6_sign_58 rfl ?_
            refine g_getf 62 dX6_sign_59 rfl fl_X6_179 hT.t (hT.f9) ?_
            refine g_aload0 63 (by first | exact rv_r | exact rv_n | assumption | exact rv_f) dX6_sign_62 rfl ?_
            refine g_getf 66 dX6_sign_63 rfl fl_X6_182 hT.t (hT.f10) ?_
            refine g_if_eq 73 69 dX6_sign_66 rfl rfl (by first | exact hT.r _ | exact hT.rT _ _ | exact inP_r | omega) (fun c66 => ?_) (fun c66 => ?_)
            · refine g_iconst 74 dX6_sign_73 rfl ?_
              refine g_iadd 75 dX6_sign_74 rfl ?_
              refine w_put9 78 dX6_sign_75 rfl fl_X6_179 hT (fun M hT => ?_)
              refine g_iload3 79 dX6_sign_78 rfl ?_
              refine g_iret dX6_sign_79 rfl ?_
              first | omega | exact hQ _ _ hT (hP.put (by rw [u9, Int.add_zero]; exact wr_id (by omega)) wr1)
            · refine g_iconst 70 dX6_sign_69 rfl ?_
              refine g_goto 74 dX6_sign_70 rfl ?_
              refine g_iadd 75 dX6_sign_74 rfl ?_
              refine w_put9 78 dX6_sign_75 rfl fl_X6_179 hT (fun M hT => ?_)
              refine g_iload3 79 dX6_sign_78 rfl ?_
              refine g_iret dX6_sign_79 rfl ?_
              first | omega | exact hQ _ _ hT (hP.put (by rw [u9, Int.add_zero]; exact wr_id (by omega)) wr1)
          · refine g_iconst 50 dX6_sign_49 rfl ?_
            refine g_goto 54 dX6_sign_50 rfl ?_
            refine w_put10 57 dX6_sign_54 rfl fl_X6_182 hT (by omega) (fun M hT => ?_)
            refine g_aload0 58 (by first | exact rv_r | exact rv_n | assumption | exact rv_f) dX6_sign_57 rfl ?_
            refine g_dup 59 (by first | rfl | exact rv_cat (by assumption) | exact rv_cat rv_f) dX6_sign_58 rfl ?_
            refine g_getf 62 dX6_sign_59 rfl fl_X6_179 hT.t (hT.f9) ?_
            refine g_aload0 63 (by first | exact rv_r | exact rv_n | assumption | exact rv_f) dX6_sign_62 rfl ?_
            refine g_getf 66 dX6_sign_63 rfl fl_X6_182 hT.t (hT.f10) ?_
            refine g_if_eq 73 69 dX6_sign_66 rfl rfl (by first | exact hT.r _ | exact hT.rT _ _ | exact inP_r | omega) (fun c66 => ?_) (fun c66 => ?_)
            · refine g_iconst 74 dX6_sign_73 rfl ?_
              refine g_iadd 75 dX6_sign_74 rfl ?_
              refine w_put9 78 dX6_sign_75 rfl fl_X6_179 hT (fun M hT => ?_)
              refine g_iload3 79 dX6_sign_78 rfl ?_
              refine g_iret dX6_sign_79 rfl ?_
              first | omega | exact hQ _ _ hT (hP.put (by rw [u9, Int.add_zero]; exact wr_id (by omega)) wr1)
            · refine g_iconst 70 dX6_sign_69 rfl ?_
              refine g_goto 74 dX6_sign_70 rfl ?_
              refine g_iadd 75 dX6_sign_74 rfl ?_
              refine w_put9 78 dX6_sign_75 rfl fl_X6_179 hT (fun M hT => ?_)
              refine g_iload3 79 dX6_sign_78 rfl ?_
              refine g_iret dX6_sign_79 rfl ?_
              first | omega | exact hQ _ _ hT (hP.put (by rw [u9, Int.add_zero]; exact wr_id (by omega)) wr1)
      · refine g_aload0 19 (by first | exact rv_r | exact rv_n | assumption | exact rv_f) dX6_sign_18 rfl ?_
        refine g_getf 22 dX6_sign_19 rfl fl_X6_22 hT.t (hT.f6) ?_
        refine g_aload0 23 (by first | exact rv_r | exact rv_n | assumption | exact rv_f) dX6_sign_22 rfl ?_
        refine g_getf 26 dX6_sign_23 rfl fl_X6_179 hT.t (hT.f9) ?_
        refine g_iald 27 dX6_sign_26 rfl hT.a4 (by omega) (by omega) (by omega) (hT.e4 (by omega) (by omega)) ?_
        refine g_goto 31 dX6_sign_27 rfl ?_
        refine g_istore3 32 (Nat.le_of_ble_eq_true rfl) (by first | exact c1_0 | exact c1_i | exact c1_r | exact c1_n | exact c1_v (by assumption) | exact c1_f) dX6_sign_31 rfl ?_
        refine g_aload0 33 (by first | exact rv_r | exact rv_n | assumption | exact rv_f) dX6_sign_32 rfl ?_
        refine g_aload0 34 (by first | exact rv_r | exact rv_n | assumption | exact rv_f) dX6_sign_33 rfl ?_
        refine g_getf 37 dX6_sign_34 rfl fl_X6_182 hT.t (hT.f10) ?_
        refine g_if_ne 49 40 dX6_sign_37 rfl rfl (by first | exact hT.r _ | exact hT.rT _ _ | exact inP_r | omega) (fun c37 => ?_) (fun c37 => ?_)
        · refine g_iconst 50 dX6_sign_49 rfl ?_
          refine g_goto 54 dX6_sign_50 rfl ?_
          refine w_put10 57 dX6_sign_54 rfl fl_X6_182 hT (by omega) (fun M hT => ?_)
          refine g_aload0 58 (by first | exact rv_r | exact rv_n | assumption | exact rv_f) dX6_sign_57 rfl ?_
          refine g_dup 59 (by first | rfl | exact rv_cat (by assumption) | exact rv_cat rv_f) dX6_sign_58 rfl ?_
          refine g_getf 62 dX6_sign_59 rfl fl_X6_179 hT.t (hT.f9) ?_
          refine g_aload0 63 (by first | exact rv_r | exact rv_n | assumption | exact rv_f) dX6_sign_62 rfl ?_
          refine g_getf 66 dX6_sign_63 rfl fl_X6_182 hT.t (hT.f10) ?_
          refine g_if_eq 73 69 dX6_sign_66 rfl rfl (by first | exact hT.r _ | exact hT.rT _ _ | exact inP_r | omega) (fun c66 => ?_) (fun c66 => ?_)
          · refine g_iconst 74 dX6_sign_73 rfl ?_
            refine g_iadd 75 dX6_sign_74 rfl ?_
            refine w_put9 78 dX6_sign_75 rfl fl_X6_179 hT (fun M hT => ?_)
            refine g_iload3 79 dX6_sign_78 rfl ?_
            refine g_iret dX6_sign_79 rfl ?_
            first | omega | exact hQ _ _ hT (hP.put (by rw [u9, Int.add_zero]; exact wr_id (by omega)) wr1)
          · refine g_iconst 70 dX6_sign_69 rfl ?_
            refine g_goto 74 dX6_sign_70 rfl ?_
            refine g_iadd 75 dX6_sign_74 rfl ?_
            refine w_put9 78 dX6_sign_75 rfl fl_X6_179 hT (fun M hT => ?_)
            refine g_iload3 79 dX6_sign_78 rfl ?_
            refine g_iret dX6_sign_79 rfl ?_
            first | omega | exact hQ _ _ hT (hP.put (by rw [u9, Int.add_zero]; exact wr_id (by omega)) wr1)
        · refine g_iload3 41 dX6_sign_40 rfl ?_
          refine g_iload1 42 dX6_sign_41 rfl ?_
          refine g_iload2 43 dX6_sign_42 rfl ?_
          refine k_S3z 46 dX6_sign_43 rfl lk_X6_29 rfl (by first | rfl | exact rv_cat (by assumption) | exact rv_cat rv_f) (by first | rfl | exact rv_cat (by assumption) | exact rv_cat rv_f) (by first | rfl | exact rv_cat (by assumption) | exact rv_cat rv_f) (Nat.le_of_ble_eq_true rfl) (by first | exact Nat.le_of_ble_eq_true rfl | omega) (c_X6_in (by first | decide | exact hr4 _) (by omega) (by omega) ?_)
          refine g_if_ne 53 49 dX6_sign_46 rfl rfl (by first | exact hT.r _ | exact hT.rT _ _ | exact inP_r | omega) (fun c46 => ?_) (fun c46 => ?_)
          · refine g_iconst 54 dX6_sign_53 rfl ?_
            refine w_put10 57 dX6_sign_54 rfl fl_X6_182 hT (by omega) (fun M hT => ?_)
            refine g_aload0 58 (by first | exact rv_r | exact rv_n | assumption | exact rv_f) dX6_sign_57 rfl ?_
            refine g_dup 59 (by first | rfl | exact rv_cat (by assumption) | exact rv_cat rv_f) dX6_sign_58 rfl ?_
            refine g_getf 62 dX6_sign_59 rfl fl_X6_179 hT.t (hT.f9) ?_
            refine g_aload0 63 (by first | exact rv_r | exact rv_n | assumption | exact rv_f) dX6_sign_62 rfl ?_
            refine g_getf 66 dX6_sign_63 rfl fl_X6_182 hT.t (hT.f10) ?_
            refine g_if_eq 73 69 dX6_sign_66 rfl rfl (by first | exact hT.r _ | exact hT.rT _ _ | exact inP_r | omega) (fun c66 => ?_) (fun c66 => ?_)
            · refine g_iconst 74 dX6_sign_73 rfl ?_
              refine g_iadd 75 dX6_sign_74 rfl ?_
              refine w_put9 78 dX6_sign_75 rfl fl_X6_179 hT (fun M hT => ?_)
              refine g_iload3 79 dX6_sign_78 rfl ?_
              refine g_iret dX6_sign_79 rfl ?_
              first | omega | exact hQ _ _ hT (hP.put (by rw [u9, Int.add_zero]; exact wr_id (by omega)) wr1)
            · refine g_iconst 70 dX6_sign_69 rfl ?_
              refine g_goto 74 dX6_sign_70 rfl ?_
              refine g_iadd 75 dX6_sign_74 rfl ?_
              refine w_put9 78 dX6_sign_75 rfl fl_X6_179 hT (fun M hT => ?_)
              refine g_iload3 79 dX6_sign_78 rfl ?_
              refine g_iret dX6_sign_79 rfl ?_
              first | omega | exact hQ _ _ hT (hP.put (by rw [u9, Int.add_zero]; exact wr_id (by omega)) wr1)
          · refine g_iconst 50 dX6_sign_49 rfl ?_
            refine g_goto 54 dX6_sign_50 rfl ?_
            refine w_put10 57 dX6_sign_54 rfl fl_X6_182 hT (by omega) (fun M hT => ?_)
            refine g_aload0 58 (by first | exact rv_r | exact rv_n | assumption | exact rv_f) dX6_sign_57 rfl ?_
            refine g_dup 59 (by first | rfl | exact rv_cat (by assumption) | exact rv_cat rv_f) dX6_sign_58 rfl ?_
            refine g_getf 62 dX6_sign_59 rfl fl_X6_179 hT.t (hT.f9) ?_
            refine g_aload0 63 (by first | exact rv_r | exact rv_n | assumption | exact rv_f) dX6_sign_62 rfl ?_
            refine g_getf 66 dX6_sign_63 rfl fl_X6_182 hT.t (hT.f10) ?_
            refine g_if_eq 73 69 dX6_sign_66 rfl rfl (by first | exact hT.r _ | exact hT.rT _ _ | exact inP_r | omega) (fun c66 => ?_) (fun c66 => ?_)
            · refine g_iconst 74 dX6_sign_73 rfl ?_
              refine g_iadd 75 dX6_sign_74 rfl ?_
              refine w_put9 78 dX6_sign_75 rfl fl_X6_179 hT (fun M hT => ?_)
              refine g_iload3 79 dX6_sign_78 rfl ?_
              refine g_iret dX6_sign_79 rfl ?_
              first | omega | exact hQ _ _ hT (hP.put (by rw [u9, Int.add_zero]; exact wr_id (by omega)) wr1)
            · refine g_iconst 70 dX6_sign_69 rfl ?_
              refine g_goto 74 dX6_sign_70 rfl ?_
              refine g_iadd 75 dX6_sign_74 rfl ?_
              refine w_put9 78 dX6_sign_75 rfl fl_X6_179 hT (fun M hT => ?_)
              refine g_iload3 79 dX6_sign_78 rfl ?_
              refine g_iret dX6_sign_79 rfl ?_
              first | omega | exact hQ _ _ hT (hP.put (by rw [u9, Int.add_zero]; exact wr_id (by omega)) wr1)
theorem l_word100 (hX : TXt tx T0) {a b c d e f : Int} (hb : 0 ≤ b ∧ b ≤ 127) (hc : 0 ≤ c ∧ c ≤ 127) (hd : 0 ≤ d ∧ d ≤ 127) (he : 0 ≤ e ∧ e ≤ 127) (hf : 0 ≤ f ∧ f ≤ 127) (T : Nat → Int → Int) (M : Mem) (ps : Int × Int) (z : Int) (o : Option Value) (hT : Tw (kB K) M0 m s T M) (hP : TX T0 ps T) (hv : PSv tx ps) (hQ : ∀ T' M', Tw (kB K) M0 m s T' M' → TX T0 (wordP tx [] ps) T' → Q (.inl none) M') : Go K fX6_word 3 k n 100 [some (.ref m), some (.int (ii a)), some (.int (ii b)), some (.int (ii c)), some (.int (ii d)), some (.int (ii e)), some (.int (ii f)), o] [.int (ii z)] M Q := by
  refine g_istore7 102 (Nat.le_of_ble_eq_true rfl) (by first | exact c1_0 | exact c1_i | exact c1_r | exact c1_n | exact c1_v (by assumption) | exact c1_f) dX6_word_100 rfl ?_
  refine g_vret dX6_word_102 rfl ?_
  exact hQ _ _ hT hP
theorem l_word80 (hX : TXt tx T0) {a b c d e f : Int} (hb : 0 ≤ b ∧ b ≤ 127) (hc : 0 ≤ c ∧ c ≤ 127) (hd : 0 ≤ d ∧ d ≤ 127) (he : 0 ≤ e ∧ e ≤ 127) (hf : 0 ≤ f ∧ f ≤ 127) (T : Nat → Int → Int) (M : Mem) (ps : Int × Int) (z : Int) (o : Option Value) (hT : Tw (kB K) M0 m s T M) (hP : TX T0 ps T) (hv : PSv tx ps) (hQ : ∀ T' M', Tw (kB K) M0 m s T' M' → TX T0 (wordP tx [f] ps) T' → Q (.inl none) M') : Go K fX6_word 3 k n 80 [some (.ref m), some (.int (ii a)), some (.int (ii b)), some (.int (ii c)), some (.int (ii d)), some (.int (ii e)), some (.int (ii f)), o] [.int (ii z)] M Q := by
  by_cases q : f = 0
  · have e1 : wordP tx [f] ps = wordP tx [] ps := by unfold wordP; rw [List.foldl_cons, stepW, if_pos q]
    rw [e1] at hQ
    refine g_istore7 82 (Nat.le_of_ble_eq_true rfl) (by first | exact c1_0 | exact c1_i | exact c1_r | exact c1_n | exact c1_v (by assumption) | exact c1_f) dX6_word_80 rfl ?_
    refine g_iload6 84 dX6_word_82 rfl ?_
    refine g_if_ne 92 87 dX6_word_84 rfl rfl (by first | exact hT.r _ | exact hT.rT _ _ | exact inP_r | omega) (fun c84 => ?_) (fun c84 => ?_)
    · omega
    · refine g_iload7 89 dX6_word_87 rfl ?_
      refine g_goto 100 dX6_word_89 rfl ?_
      exact l_word100 hX hb hc hd he hf _ _ _ _ _ hT hP hv hQ
  · have e1 : wordP tx [f] ps = wordP tx [] (signP tx f f ps).2 := by unfold wordP; rw [List.foldl_cons, stepW, if_neg q]
    rw [e1] at hQ
    refine g_istore7 82 (Nat.le_of_ble_eq_true rfl) (by first | exact c1_0 | exact c1_i | exact c1_r | exact c1_n | exact c1_v (by assumption) | exact c1_f) dX6_word_80 rfl ?_
    refine g_iload6 84 dX6_word_82 rfl ?_
    refine g_if_ne 92 87 dX6_word_84 rfl rfl (by first | exact hT.r _ | exact hT.rT _ _ | exact inP_r | omega) (fun c84 => ?_) (fun c84 => ?_)
    · refine g_aload0 93 (by first | exact rv_r | exact rv_n | assumption | exact rv_f) dX6_word_92 rfl ?_
      refine g_iload6 95 dX6_word_93 rfl ?_
      refine g_iload6 97 dX6_word_95 rfl ?_
      refine k_V2z 100 dX6_word_97 rfl lk_X6_186 hT.t rfl (by first | rfl | exact rv_cat (by assumption) | exact rv_cat rv_f) (by first | rfl | exact rv_cat (by assumption) | exact rv_cat rv_f) (Nat.le_of_ble_eq_true rfl) (by first | exact Nat.le_of_ble_eq_true rfl | omega) (c_X6_sign hT hX hP hv (by omega) (fun T M hT hP' => ?_))
      first | omega | exact l_word100 hX hb hc hd he hf _ _ _ _ _ hT hP' (signP_v (by omega) hv) hQ
    · refine g_iload7 89 dX6_word_87 rfl ?_
      refine g_goto 100 dX6_word_89 rfl ?_
      first | omega | exact l_word100 hX hb hc hd he hf _ _ _ _ _ hT hP' (signP_v (by omega) hv) hQ
theorem l_word60 (hX : TXt tx T0) {a b c d e f : Int} (hb : 0 ≤ b ∧ b ≤ 127) (hc : 0 ≤ c ∧ c ≤ 127) (hd : 0 ≤ d ∧ d ≤ 127) (he : 0 ≤ e ∧ e ≤ 127) (hf : 0 ≤ f ∧ f ≤ 127) (T : Nat → Int → Int) (M : Mem) (ps : Int × Int) (z : Int) (o : Option Value) (hT : Tw (kB K) M0 m s T M) (hP : TX T0 ps T) (hv : PSv tx ps) (hQ : ∀ T' M', Tw (kB K) M0 m s T' M' → TX T0 (wordP tx [e, f] ps) T' → Q (.inl none) M') : Go K fX6_word 3 k n 60 [some (.ref m), some (.int (ii a)), some (.int (ii b)), some (.int (ii c)), some (.int (ii d)), some (.int (ii e)), some (.int (ii f)), o] [.int (ii z)] M Q := by
  by_cases q : e = 0
  · have e1 : wordP tx [e, f] ps = wordP tx [f] ps := by unfold wordP; rw [List.foldl_cons, stepW, if_pos q]
    rw [e1] at hQ
    refine g_istore7 62 (Nat.le_of_ble_eq_true rfl) (by first | exact c1_0 | exact c1_i | exact c1_r | exact c1_n | exact c1_v (by assumption) | exact c1_f) dX6_word_60 rfl ?_
    refine g_iload5 64 dX6_word_62 rfl ?_
    refine g_if_ne 72 67 dX6_word_64 rfl rfl (by first | exact hT.r _ | exact hT.rT _ _ | exact inP_r | omega) (fun c64 => ?_) (fun c64 => ?_)
    · omega
    · refine g_iload7 69 dX6_word_67 rfl ?_
      refine g_goto 80 dX6_word_69 rfl ?_
      exact l_word80 hX hb hc hd he hf _ _ _ _ _ hT hP hv hQ
  · have e1 : wordP tx [e, f] ps = wordP tx [f] (signP tx e e ps).2 := by unfold wordP; rw [List.foldl_cons, stepW, if_neg q]
    rw [e1] at hQ
    refine g_istore7 62 (Nat.le_of_ble_eq_true rfl) (by first | exact c1_0 | exact c1_i | exact c1_r | exact c1_n | exact c1_v (by assumption) | exact c1_f) dX6_word_60 rfl ?_
    refine g_iload5 64 dX6_word_62 rfl ?_
    refine g_if_ne 72 67 dX6_word_64 rfl rfl (by first | exact hT.r _ | exact hT.rT _ _ | exact inP_r | omega) (fun c64 => ?_) (fun c64 => ?_)
    · refine g_aload0 73 (by first | exact rv_r | exact rv_n | assumption | exact rv_f) dX6_word_72 rfl ?_
      refine g_iload5 75 dX6_word_73 rfl ?_
      refine g_iload5 77 dX6_word_75 rfl ?_
      refine k_V2z 80 dX6_word_77 rfl lk_X6_186 hT.t rfl (by first | rfl | exact rv_cat (by assumption) | exact rv_cat rv_f) (by first | rfl | exact rv_cat (by assumption) | exact rv_cat rv_f) (Nat.le_of_ble_eq_true rfl) (by first | exact Nat.le_of_ble_eq_true rfl | omega) (c_X6_sign hT hX hP hv (by omega) (fun T M hT hP' => ?_))
      first | omega | exact l_word80 hX hb hc hd he hf _ _ _ _ _ hT hP' (signP_v (by omega) hv) hQ
    · refine g_iload7 69 dX6_word_67 rfl ?_
      refine g_goto 80 dX6_word_69 rfl ?_
      first | omega | exact l_word80 hX hb hc hd he hf _ _ _ _ _ hT hP' (signP_v (by omega) hv) hQ
theorem l_word40 (hX : TXt tx T0) {a b c d e f : Int} (hb : 0 ≤ b ∧ b ≤ 127) (hc : 0 ≤ c ∧ c ≤ 127) (hd : 0 ≤ d ∧ d ≤ 127) (he : 0 ≤ e ∧ e ≤ 127) (hf : 0 ≤ f ∧ f ≤ 127) (T : Nat → Int → Int) (M : Mem) (ps : Int × Int) (z : Int) (o : Option Value) (hT : Tw (kB K) M0 m s T M) (hP : TX T0 ps T) (hv : PSv tx ps) (hQ : ∀ T' M', Tw (kB K) M0 m s T' M' → TX T0 (wordP tx [d, e, f] ps) T' → Q (.inl none) M') : Go K fX6_word 3 k n 40 [some (.ref m), some (.int (ii a)), some (.int (ii b)), some (.int (ii c)), some (.int (ii d)), some (.int (ii e)), some (.int (ii f)), o] [.int (ii z)] M Q := by
  by_cases q : d = 0
  · have e1 : wordP tx [d, e, f] ps = wordP tx [e, f] ps := by unfold wordP; rw [List.foldl_cons, stepW, if_pos q]
    rw [e1] at hQ
    refine g_istore7 42 (Nat.le_of_ble_eq_true rfl) (by first | exact c1_0 | exact c1_i | exact c1_r | exact c1_n | exact c1_v (by assumption) | exact c1_f) dX6_word_40 rfl ?_
    refine g_iload4 44 dX6_word_42 rfl ?_
    refine g_if_ne 52 47 dX6_word_44 rfl rfl (by first | exact hT.r _ | exact hT.rT _ _ | exact inP_r | omega) (fun c44 => ?_) (fun c44 => ?_)
    · omega
    · refine g_iload7 49 dX6_word_47 rfl ?_
      refine g_goto 60 dX6_word_49 rfl ?_
      exact l_word60 hX hb hc hd he hf _ _ _ _ _ hT hP hv hQ
  · have e1 : wordP tx [d, e, f] ps = wordP tx [e, f] (signP tx d d ps).2 := by unfold wordP; rw [List.foldl_cons, stepW, if_neg q]
    rw [e1] at hQ
    refine g_istore7 42 (Nat.le_of_ble_eq_true rfl) (by first | exact c1_0 | exact c1_i | exact c1_r | exact c1_n | exact c1_v (by assumption) | exact c1_f) dX6_word_40 rfl ?_
    refine g_iload4 44 dX6_word_42 rfl ?_
    refine g_if_ne 52 47 dX6_word_44 rfl rfl (by first | exact hT.r _ | exact hT.rT _ _ | exact inP_r | omega) (fun c44 => ?_) (fun c44 => ?_)
    · refine g_aload0 53 (by first | exact rv_r | exact rv_n | assumption | exact rv_f) dX6_word_52 rfl ?_
      refine g_iload4 55 dX6_word_53 rfl ?_
      refine g_iload4 57 dX6_word_55 rfl ?_
      refine k_V2z 60 dX6_word_57 rfl lk_X6_186 hT.t rfl (by first | rfl | exact rv_cat (by assumption) | exact rv_cat rv_f) (by first | rfl | exact rv_cat (by assumption) | exact rv_cat rv_f) (Nat.le_of_ble_eq_true rfl) (by first | exact Nat.le_of_ble_eq_true rfl | omega) (c_X6_sign hT hX hP hv (by omega) (fun T M hT hP' => ?_))
      first | omega | exact l_word60 hX hb hc hd he hf _ _ _ _ _ hT hP' (signP_v (by omega) hv) hQ
    · refine g_iload7 49 dX6_word_47 rfl ?_
      refine g_goto 60 dX6_word_49 rfl ?_
      first | omega | exact l_word60 hX hb hc hd he hf _ _ _ _ _ hT hP' (signP_v (by omega) hv) hQ
theorem l_word23 (hX : TXt tx T0) {a b c d e f : Int} (hb : 0 ≤ b ∧ b ≤ 127) (hc : 0 ≤ c ∧ c ≤ 127) (hd : 0 ≤ d ∧ d ≤ 127) (he : 0 ≤ e ∧ e ≤ 127) (hf : 0 ≤ f ∧ f ≤ 127) (T : Nat → Int → Int) (M : Mem) (ps : Int × Int) (z : Int) (o : Option Value) (hT : Tw (kB K) M0 m s T M) (hP : TX T0 ps T) (hv : PSv tx ps) (hQ : ∀ T' M', Tw (kB K) M0 m s T' M' → TX T0 (wordP tx [c, d, e, f] ps) T' → Q (.inl none) M') : Go K fX6_word 3 k n 23 [some (.ref m), some (.int (ii a)), some (.int (ii b)), some (.int (ii c)), some (.int (ii d)), some (.int (ii e)), some (.int (ii f)), o] [.int (ii z)] M Q := by
  by_cases q : c = 0
  · have e1 : wordP tx [c, d, e, f] ps = wordP tx [d, e, f] ps := by unfold wordP; rw [List.foldl_cons, stepW, if_pos q]
    rw [e1] at hQ
    refine g_istore7 25 (Nat.le_of_ble_eq_true rfl) (by first | exact c1_0 | exact c1_i | exact c1_r | exact c1_n | exact c1_v (by assumption) | exact c1_f) dX6_word_23 rfl ?_
    refine g_iload3 26 dX6_word_25 rfl ?_
    refine g_if_ne 34 29 dX6_word_26 rfl rfl (by first | exact hT.r _ | exact hT.rT _ _ | exact inP_r | omega) (fun c26 => ?_) (fun c26 => ?_)
    · omega
    · refine g_iload7 31 dX6_word_29 rfl ?_
      refine g_goto 40 dX6_word_31 rfl ?_
      exact l_word40 hX hb hc hd he hf _ _ _ _ _ hT hP hv hQ
  · have e1 : wordP tx [c, d, e, f] ps = wordP tx [d, e, f] (signP tx c c ps).2 := by unfold wordP; rw [List.foldl_cons, stepW, if_neg q]
    rw [e1] at hQ
    refine g_istore7 25 (Nat.le_of_ble_eq_true rfl) (by first | exact c1_0 | exact c1_i | exact c1_r | exact c1_n | exact c1_v (by assumption) | exact c1_f) dX6_word_23 rfl ?_
    refine g_iload3 26 dX6_word_25 rfl ?_
    refine g_if_ne 34 29 dX6_word_26 rfl rfl (by first | exact hT.r _ | exact hT.rT _ _ | exact inP_r | omega) (fun c26 => ?_) (fun c26 => ?_)
    · refine g_aload0 35 (by first | exact rv_r | exact rv_n | assumption | exact rv_f) dX6_word_34 rfl ?_
      refine g_iload3 36 dX6_word_35 rfl ?_
      refine g_iload3 37 dX6_word_36 rfl ?_
      refine k_V2z 40 dX6_word_37 rfl lk_X6_186 hT.t rfl (by first | rfl | exact rv_cat (by assumption) | exact rv_cat rv_f) (by first | rfl | exact rv_cat (by assumption) | exact rv_cat rv_f) (Nat.le_of_ble_eq_true rfl) (by first | exact Nat.le_of_ble_eq_true rfl | omega) (c_X6_sign hT hX hP hv (by omega) (fun T M hT hP' => ?_))
      first | omega | exact l_word40 hX hb hc hd he hf _ _ _ _ _ hT hP' (signP_v (by omega) hv) hQ
    · refine g_iload7 31 dX6_word_29 rfl ?_
      refine g_goto 40 dX6_word_31 rfl ?_
      first | omega | exact l_word40 hX hb hc hd he hf _ _ _ _ _ hT hP' (signP_v (by omega) hv) hQ
theorem c_X6_word (hT : Tw (kB K) M0 m s T M) (hX : TXt tx T0) (hP : TX T0 ps T) (hv : PSv tx ps) {a b c d e f : Int} (ha : 1 ≤ a ∧ a ≤ 127) (hb : 0 ≤ b ∧ b ≤ 127) (hc : 0 ≤ c ∧ c ≤ 127) (hd : 0 ≤ d ∧ d ≤ 127) (he : 0 ≤ e ∧ e ≤ 127) (hf : 0 ≤ f ∧ f ≤ 127) (hQ : ∀ T' M', Tw (kB K) M0 m s T' M' → TX T0 (wordP tx [a, b, c, d, e, f] ps) T' → Q (.inl none) M') : Go K fX6_word 3 k n 0 [some (.ref m), some (.int (ii a)), some (.int (ii b)), some (.int (ii c)), some (.int (ii d)), some (.int (ii e)), some (.int (ii f)), none] [] M Q := by
  have e1 : wordP tx [a, b, c, d, e, f] ps = wordP tx [b, c, d, e, f] (signP tx a a ps).2 := by unfold wordP; rw [List.foldl_cons, stepW, if_neg (by omega)]
  have hv1 : PSv tx (signP tx a a ps).2 := signP_v ha.1 hv
  by_cases q : b = 0
  · have e2 : wordP tx [b, c, d, e, f] (signP tx a a ps).2 = wordP tx [c, d, e, f] (signP tx a a ps).2 := by unfold wordP; rw [List.foldl_cons, stepW, if_pos q]
    rw [e1, e2] at hQ
    refine g_aload0 1 (by first | exact rv_r | exact rv_n | assumption | exact rv_f) dX6_word_0 rfl ?_
    refine g_iload1 2 dX6_word_1 rfl ?_
    refine g_iload1 3 dX6_word_2 rfl ?_
    refine k_V2z 6 dX6_word_3 rfl lk_X6_186 hT.t rfl (by first | rfl | exact rv_cat (by assumption) | exact rv_cat rv_f) (by first | rfl | exact rv_cat (by assumption) | exact rv_cat rv_f) (Nat.le_of_ble_eq_true rfl) (by first | exact Nat.le_of_ble_eq_true rfl | omega) (c_X6_sign hT hX hP hv (by omega) (fun T M hT hP' => ?_))
    refine g_istore7 8 (Nat.le_of_ble_eq_true rfl) (by first | exact c1_0 | exact c1_i | exact c1_r | exact c1_n | exact c1_v (by assumption) | exact c1_f) dX6_word_6 rfl ?_
    refine g_iload2 9 dX6_word_8 rfl ?_
    refine g_if_ne 17 12 dX6_word_9 rfl rfl (by first | exact hT.r _ | exact hT.rT _ _ | exact inP_r | omega) (fun c9 => ?_) (fun c9 => ?_)
    · omega
    · refine g_iload7 14 dX6_word_12 rfl ?_
      refine g_goto 23 dX6_word_14 rfl ?_
      exact l_word23 hX hb hc hd he hf _ _ _ _ _ hT hP' hv1 hQ
  · have e2 : wordP tx [b, c, d, e, f] (signP tx a a ps).2 = wordP tx [c, d, e, f] (signP tx b b (signP tx a a ps).2).2 := by unfold wordP; rw [List.foldl_cons, stepW, if_neg q]
    rw [e1, e2] at hQ
    refine g_aload0 1 (by first | exact rv_r | exact rv_n | assumption | exact rv_f) dX6_word_0 rfl ?_
    refine g_iload1 2 dX6_word_1 rfl ?_
    refine g_iload1 3 dX6_word_2 rfl ?_
    refine k_V2z 6 dX6_word_3 rfl lk_X6_186 hT.t rfl (by first | rfl | exact rv_cat (by assumption) | exact rv_cat rv_f) (by first | rfl | exact rv_cat (by assumption) | exact rv_cat rv_f) (Nat.le_of_ble_eq_true rfl) (by first | exact Nat.le_of_ble_eq_true rfl | omega) (c_X6_sign hT hX hP hv (by omega) (fun T M hT hP' => ?_))
    refine g_istore7 8 (Nat.le_of_ble_eq_true rfl) (by first | exact c1_0 | exact c1_i | exact c1_r | exact c1_n | exact c1_v (by assumption) | exact c1_f) dX6_word_6 rfl ?_
    refine g_iload2 9 dX6_word_8 rfl ?_
    refine g_if_ne 17 12 dX6_word_9 rfl rfl (by first | exact hT.r _ | exact hT.rT _ _ | exact inP_r | omega) (fun c9 => ?_) (fun c9 => ?_)
    · refine g_aload0 18 (by first | exact rv_r | exact rv_n | assumption | exact rv_f) dX6_word_17 rfl ?_
      refine g_iload2 19 dX6_word_18 rfl ?_
      refine g_iload2 20 dX6_word_19 rfl ?_
      refine k_V2z 23 dX6_word_20 rfl lk_X6_186 hT.t rfl (by first | rfl | exact rv_cat (by assumption) | exact rv_cat rv_f) (by first | rfl | exact rv_cat (by assumption) | exact rv_cat rv_f) (Nat.le_of_ble_eq_true rfl) (by first | exact Nat.le_of_ble_eq_true rfl | omega) (c_X6_sign hT hX hP' hv1 (by omega) (fun T M hT hP'' => ?_))
      first | omega | exact l_word23 hX hb hc hd he hf _ _ _ _ _ hT hP'' (signP_v (by omega) hv1) hQ
    · refine g_iload7 14 dX6_word_12 rfl ?_
      refine g_goto 23 dX6_word_14 rfl ?_
      first | omega | exact l_word23 hX hb hc hd he hf _ _ _ _ _ hT hP'' (signP_v (by omega) hv1) hQ
end TWJ
