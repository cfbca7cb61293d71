/-! ===== the twin's methods: kinds, orders, the whole text ===== -/
theorem kq {B m : Nat} {M M0 : Mem} {Q : Res → Mem → Prop} {s : Int → Int} {T T0 : Nat → Int → Int} {r : Int × (Int × Int)} {v : Int} {p : Int × Int} (hQ : ∀ T' M', Tw B M0 m s T' M' → TX T0 r.2 T' → Q (.inl (some (.int (ii r.1)))) M') (hT : Tw B M0 m s T M) (hP : TX T0 p T) (e : r = (v, p)) : Q (.inl (some (.int (ii v)))) M := by
  subst e
  exact hQ T M hT hP
theorem signP_i {tx : List Int} {lo hi : Int} {ps : Int × Int} (hlo : 1 ≤ lo) (h : (signP tx lo hi ps).2.2 = 0) : lo ≤ (signP tx lo hi ps).1 ∧ (signP tx lo hi ps).1 ≤ hi ∧ ps.2 = 0 ∧ ps.1 < tx.length ∧ (signP tx lo hi ps).1 = chrP tx ps.1 ∧ (signP tx lo hi ps).2.1 = ps.1 + 1 := by
  by_cases q : ps.1 < tx.length ∧ ps.2 = 0
  · by_cases q2 : inP (chrP tx ps.1) lo hi = 0
    · rw [signP_b q q2] at h; cases h
    · rw [signP_c q q2]
      have := inP_ne q2
      exact ⟨this.1, this.2, q.2, q.1, rfl, rfl⟩
  · rw [signP_a hlo q] at h; cases h
theorem wordP_v {tx : List Int} : ∀ (l : List Int) (ps : Int × Int), (∀ x ∈ l, 0 ≤ x) → PSv tx ps → PSv tx (wordP tx l ps)
  | [], _, _, h => h
  | x :: l, ps, hx, h => by
    unfold wordP
    rw [List.foldl_cons]
    refine wordP_v l _ (fun y hy => hx y (List.mem_cons_of_mem _ hy)) ?_
    unfold stepW
    by_cases q : x = 0
    · rw [if_pos q]; exact h
    · rw [if_neg q]
      have := hx x List.mem_cons_self
      exact signP_v (by omega) h
theorem kindB_v {tx : List Int} {c : Int} {ps : Int × Int} (h : PSv tx ps) : PSv tx (kindB tx c ps).2 ∧ 0 ≤ (kindB tx c ps).1 ∧ (kindB tx c ps).1 ≤ 6 := by
  unfold kindB
  (repeat' split) <;> (dsimp only; exact ⟨wordP_v _ _ (by decide) h, by decide, by decide⟩)
theorem kindP_v {tx : List Int} {ps : Int × Int} (h : PSv tx ps) : PSv tx (kindP tx ps).2 ∧ 0 ≤ (kindP tx ps).1 ∧ (kindP tx ps).1 ≤ 6 := by
  have h1 := signP_v (lo := 98) (hi := 119) (by decide) h
  have hi := @signP_i tx 98 119 ps (by decide)
  unfold kindP
  dsimp only
  by_cases q : (signP tx 98 119 ps).2.2 = 0 ∧ ((signP tx 98 119 ps).1 = 101 ∨ (signP tx 98 119 ps).1 = 110 ∨ (signP tx 98 119 ps).1 = 112 ∨ (signP tx 98 119 ps).1 = 119 ∨ (signP tx 98 119 ps).1 = 98 ∨ (signP tx 98 119 ps).1 = 99)
  · rw [if_pos q]; exact kindB_v h1
  · rw [if_neg q]
    dsimp only
    refine ⟨⟨?_, ?_, Or.inr rfl⟩, by decide, by decide⟩
    · dsimp only
      split
      · rename_i z
        by_cases q3 : (signP tx 98 119 ps).2.2 = 0
        · have := hi q3; have := h.1; omega
        · have e : signP tx 98 119 ps = (0, (ps.1, 1)) ∨ signP tx 98 119 ps = (chrP tx ps.1, (ps.1, 1)) := by
            by_cases a : ps.1 < tx.length ∧ ps.2 = 0
            · by_cases b : inP (chrP tx ps.1) 98 119 = 0
              · exact Or.inr (signP_b a b)
              · rw [signP_c a b] at q3; exact absurd rfl q3
            · exact Or.inl (signP_a (by decide) a)
          rcases e with e | e
          · rw [e] at z; omega
          · exfalso
            by_cases a : ps.1 < tx.length ∧ ps.2 = 0
            · by_cases b : inP (chrP tx ps.1) 98 119 = 0
              · rw [signP_b a b] at z
                unfold inP at b
                rw [if_pos z] at b
                omega
              · rw [signP_c a b] at q3; exact absurd rfl q3
            · rw [signP_a (by decide) a] at z; omega
      · have := h1.1; omega
    · dsimp only
      have := h1.2.1
      split <;> omega
theorem parseP_v {tx : List Int} {ps : Int × Int} (h : PSv tx ps) : PSv tx (parseP tx ps).2 ∧ 0 ≤ (parseP tx ps).1.1 ∧ (parseP tx ps).1.1 ≤ 6 := by
  have a := kindP_v h
  have b := signP_v (lo := 32) (hi := 32) (by decide) a.1
  have d : PSv tx (signP tx (if (kindP tx ps).1 = 3 then 49 else 48) (if (kindP tx ps).1 = 3 then 57 else if (kindP tx ps).1 = 6 then 50 else 51) (signP tx 32 32 (kindP tx ps).2).2).2 := signP_v (by split <;> omega) b
  unfold parseP
  dsimp only
  generalize signP tx (if (kindP tx ps).1 = 3 then 49 else 48) (if (kindP tx ps).1 = 3 then 57 else if (kindP tx ps).1 = 6 then 50 else 51) (signP tx 32 32 (kindP tx ps).2).2 = dd at *
  split
  · exact ⟨signP_v (by decide) d, a.2⟩
  · exact ⟨d, a.2⟩
/-- what an order says, if nothing is wrong -/
theorem parseP_ok {tx : List Int} {ps : Int × Int} (h : (parseP tx ps).2.2 = 0) : ((parseP tx ps).1.1 = 3 ∧ 1 ≤ (parseP tx ps).1.2 ∧ (parseP tx ps).1.2 ≤ 99) ∨ ((parseP tx ps).1.1 ≠ 3 ∧ 0 ≤ (parseP tx ps).1.2 ∧ (parseP tx ps).1.2 ≤ 3 ∧ ((parseP tx ps).1.1 = 6 → (parseP tx ps).1.2 ≤ 2)) := by
  unfold parseP at h ⊢
  dsimp only at h ⊢
  generalize (signP tx 32 32 (kindP tx ps).2).2 = p2 at *
  generalize (kindP tx ps).1 = kd at *
  by_cases q : kd = 3
  · have i1 := @signP_i tx (if kd = 3 then 49 else 48) (if kd = 3 then 57 else if kd = 6 then 50 else 51) p2 (by split <;> omega)
    rw [if_pos q, if_pos q] at *
    generalize signP tx 49 57 p2 = d at *
    have i2 := @signP_i tx 48 57 d.2 (by decide)
    by_cases q2 : kd = 3 ∧ d.2.2 = 0 ∧ d.2.1 < tx.length ∧ inP (chrP tx d.2.1) 48 57 ≠ 0
    · rw [if_pos q2] at h ⊢
      have a := i1 q2.2.1
      have b := i2 h
      left
      dsimp only
      omega
    · rw [if_neg q2] at h ⊢
      have a := i1 h
      left
      dsimp only
      omega
  · have i1 := @signP_i tx (if kd = 3 then 49 else 48) (if kd = 3 then 57 else if kd = 6 then 50 else 51) p2 (by split <;> omega)
    rw [if_neg (fun z => q z.1)] at h ⊢
    have a := i1 h
    right
    dsimp only
    rw [if_neg q, if_neg q] at *
    by_cases q6 : kd = 6
    · rw [if_pos q6] at *; omega
    · rw [if_neg q6] at *; omega
section TWK
variable {K : KT} {k n m : Nat} {M M0 : Mem} {Q : Res → Mem → Prop} {s : Int → Int} {T T0 : Nat → Int → Int} {tx : List Int} {ps : Int × Int}
theorem l_kind2 (hX : TXt tx T0) (hT : Tw (kB K) M0 m s T M) {c : Int} (hP : TX T0 ps T) (hv : PSv tx ps) (h0 : ps.2 = 0) (hc : c = 101 ∨ c = 110 ∨ c = 112 ∨ c = 119 ∨ c = 98 ∨ c = 99) (hQ : ∀ T' M', Tw (kB K) M0 m s T' M' → TX T0 (kindB tx c ps).2 T' → Q (.inl (some (.int (ii (kindB tx c ps).1)))) M') : Go K fX6_kind 4 k n 103 [some (.ref m), some (.int (ii c)), none] [] M Q := by
  have e7 : T 5 7 = tx.length := by rw [hP.1 _ _ (by omega)]; exact hX.1
  have e9 := hP.2.1
  have e4 : ∀ i : Int, 0 ≤ i → i < tx.length → T 4 i = chrP tx i := fun i h0 h1 => by rw [hP.1 _ _ (by omega)]; exact hX.at h0 h1
  obtain ⟨v0, v1, v2⟩ := id hv
  have h60 := hX.2.1
  have tail : ∀ nx, c = 112 → nx = (if ps.1 < tx.length then chrP tx ps.1 else 0) → R32 nx → Go K fX6_kind 4 k n 179 [some (.ref m), some (.int (ii c)), none] [.int (ii nx)] M Q := by
    intro nx hc2 hnx hnr
    refine g_istore2 180 (Nat.le_of_ble_eq_true rfl) (by first | exact c1_0 | exact c1_i | exact c1_r | exact c1_n | exact c1_v (by assumption) | exact c1_f) dX6_kind_179 rfl ?_
    refine g_iload2 181 dX6_kind_180 rfl ?_
    refine g_bipush 183 (by rfl) dX6_kind_181 rfl ?_
    refine g_icmp_ne 202 186 dX6_kind_183 rfl rfl (by first | exact hT.r _ | exact hT.rT _ _ | exact inP_r | omega) (by first | exact hT.r _ | exact hT.rT _ _ | exact inP_r | omega) (fun c183 => ?_) (fun c183 => ?_)
    · refine g_aload0 203 (by first | exact rv_r | exact rv_n | assumption | exact rv_f) dX6_kind_202 rfl ?_
      refine g_bipush 205 (by rfl) dX6_kind_203 rfl ?_
      refine g_bipush 207 (by rfl) dX6_kind_205 rfl ?_
      refine g_bipush 209 (by rfl) dX6_kind_207 rfl ?_
      refine g_bipush 211 (by rfl) dX6_kind_209 rfl ?_
      refine g_iconst 212 dX6_kind_211 rfl ?_
      refine g_iconst 213 dX6_kind_212 rfl ?_
      refine k_V6z 216 dX6_kind_213 rfl lk_X6_189 hT.t rfl (by first | rfl | exact rv_cat (by assumption) | exact rv_cat rv_f) (by first | rfl | exact rv_cat (by assumption) | exact rv_cat rv_f) (by first | rfl | exact rv_cat (by assumption) | exact rv_cat rv_f) (by first | rfl | exact rv_cat (by assumption) | exact rv_cat rv_f) (by first | rfl | exact rv_cat (by assumption) | exact rv_cat rv_f) (by first | rfl | exact rv_cat (by assumption) | exact rv_cat rv_f) (Nat.le_of_ble_eq_true rfl) (by first | exact Nat.le_of_ble_eq_true rfl | omega) (c_X6_word hT hX hP hv (by decide) (by decide) (by decide) (by decide) (by decide) (by decide) (fun T M hT hP => ?_))
      refine g_iconst 217 dX6_kind_216 rfl ?_
      refine g_iret dX6_kind_217 rfl ?_
      refine kq hQ hT hP ?_
      unfold kindB
      rw [if_neg (by omega), if_neg (by omega), if_pos hc2, ← hnx]
      first | rw [if_pos (by omega)] | rw [if_neg (by omega)]
    · refine g_aload0 187 (by first | exact rv_r | exact rv_n | assumption | exact rv_f) dX6_kind_186 rfl ?_
      refine g_bipush 189 (by rfl) dX6_kind_187 rfl ?_
      refine g_bipush 191 (by rfl) dX6_kind_189 rfl ?_
      refine g_bipush 193 (by rfl) dX6_kind_191 rfl ?_
      refine g_iconst 194 dX6_kind_193 rfl ?_
      refine g_iconst 195 dX6_kind_194 rfl ?_
      refine g_iconst 196 dX6_kind_195 rfl ?_
      refine k_V6z 199 dX6_kind_196 rfl lk_X6_189 hT.t rfl (by first | rfl | exact rv_cat (by assumption) | exact rv_cat rv_f) (by first | rfl | exact rv_cat (by assumption) | exact rv_cat rv_f) (by first | rfl | exact rv_cat (by assumption) | exact rv_cat rv_f) (by first | rfl | exact rv_cat (by assumption) | exact rv_cat rv_f) (by first | rfl | exact rv_cat (by assumption) | exact rv_cat rv_f) (by first | rfl | exact rv_cat (by assumption) | exact rv_cat rv_f) (Nat.le_of_ble_eq_true rfl) (by first | exact Nat.le_of_ble_eq_true rfl | omega) (c_X6_word hT hX hP hv (by decide) (by decide) (by decide) (by decide) (by decide) (by decide) (fun T M hT hP => ?_))
      refine g_bipush 201 (by rfl) dX6_kind_199 rfl ?_
      refine g_iret dX6_kind_201 rfl ?_
      refine kq hQ hT hP ?_
      unfold kindB
      rw [if_neg (by omega), if_neg (by omega), if_pos hc2, ← hnx]
      first | rw [if_pos (by omega)] | rw [if_neg (by omega)]
  refine g_iload1 104 dX6_kind_103 rfl ?_
  refine g_bipush 106 (by rfl) dX6_kind_104 rfl ?_
  refine g_icmp_ne 127 109 dX6_kind_106 rfl rfl (by first | exact hT.r _ | exact hT.rT _ _ | exact inP_r | omega) (by first | exact hT.r _ | exact hT.rT _ _ | exact inP_r | omega) (fun c106 => ?_) (fun c106 => ?_)
  · refine g_iload1 128 dX6_kind_127 rfl ?_
    refine g_bipush 130 (by rfl) dX6_kind_128 rfl ?_
    refine g_icmp_ne 149 133 dX6_kind_130 rfl rfl (by first | exact hT.r _ | exact hT.rT _ _ | exact inP_r | omega) (by first | exact hT.r _ | exact hT.rT _ _ | exact inP_r | omega) (fun c130 => ?_) (fun c130 => ?_)
    · refine g_iload1 150 dX6_kind_149 rfl ?_
      refine g_bipush 152 (by rfl) dX6_kind_150 rfl ?_
      refine g_icmp_ne 218 155 dX6_kind_152 rfl rfl (by first | exact hT.r _ | exact hT.rT _ _ | exact inP_r | omega) (by first | exact hT.r _ | exact hT.rT _ _ | exact inP_r | omega) (fun c152 => ?_) (fun c152 => ?_)
      · refine g_iload1 219 dX6_kind_218 rfl ?_
        refine g_bipush 221 (by rfl) dX6_kind_219 rfl ?_
        refine g_icmp_ne 239 224 dX6_kind_221 rfl rfl (by first | exact hT.r _ | exact hT.rT _ _ | exact inP_r | omega) (by first | exact hT.r _ | exact hT.rT _ _ | exact inP_r | omega) (fun c221 => ?_) (fun c221 => ?_)
        · refine g_iload1 240 dX6_kind_239 rfl ?_
          refine g_bipush 242 (by rfl) dX6_kind_240 rfl ?_
          refine g_icmp_ne 259 245 dX6_kind_242 rfl rfl (by first | exact hT.r _ | exact hT.rT _ _ | exact inP_r | omega) (by first | exact hT.r _ | exact hT.rT _ _ | exact inP_r | omega) (fun c242 => ?_) (fun c242 => ?_)
          · refine g_aload0 260 (by first | exact rv_r | exact rv_n | assumption | exact rv_f) dX6_kind_259 rfl ?_
            refine g_bipush 262 (by rfl) dX6_kind_260 rfl ?_
            refine g_bipush 264 (by rfl) dX6_kind_262 rfl ?_
            refine g_bipush 266 (by rfl) dX6_kind_264 rfl ?_
            refine g_iconst 267 dX6_kind_266 rfl ?_
            refine g_iconst 268 dX6_kind_267 rfl ?_
            refine g_iconst 269 dX6_kind_268 rfl ?_
            refine k_V6z 272 dX6_kind_269 rfl lk_X6_189 hT.t rfl (by first | rfl | exact rv_cat (by assumption) | exact rv_cat rv_f) (by first | rfl | exact rv_cat (by assumption) | exact rv_cat rv_f) (by first | rfl | exact rv_cat (by assumption) | exact rv_cat rv_f) (by first | rfl | exact rv_cat (by assumption) | exact rv_cat rv_f) (by first | rfl | exact rv_cat (by assumption) | exact rv_cat rv_f) (by first | rfl | exact rv_cat (by assumption) | exact rv_cat rv_f) (Nat.le_of_ble_eq_true rfl) (by first | exact Nat.le_of_ble_eq_true rfl | omega) (c_X6_word hT hX hP hv (by decide) (by decide) (by decide) (by decide) (by decide) (by decide) (fun T M hT hP => ?_))
            refine g_iconst 273 dX6_kind_272 rfl ?_
            refine g_iret dX6_kind_273 rfl ?_
            refine kq hQ hT hP ?_
            unfold kindB
            (repeat (first | rw [if_pos (by omega)] | rw [if_neg (by omega)]))
          · refine g_aload0 246 (by first | exact rv_r | exact rv_n | assumption | exact rv_f) dX6_kind_245 rfl ?_
            refine g_bipush 248 (by rfl) dX6_kind_246 rfl ?_
            refine g_bipush 250 (by rfl) dX6_kind_248 rfl ?_
            refine g_iconst 251 dX6_kind_250 rfl ?_
            refine g_iconst 252 dX6_kind_251 rfl ?_
            refine g_iconst 253 dX6_kind_252 rfl ?_
            refine g_iconst 254 dX6_kind_253 rfl ?_
            refine k_V6z 257 dX6_kind_254 rfl lk_X6_189 hT.t rfl (by first | rfl | exact rv_cat (by assumption) | exact rv_cat rv_f) (by first | rfl | exact rv_cat (by assumption) | exact rv_cat rv_f) (by first | rfl | exact rv_cat (by assumption) | exact rv_cat rv_f) (by first | rfl | exact rv_cat (by assumption) | exact rv_cat rv_f) (by first | rfl | exact rv_cat (by assumption) | exact rv_cat rv_f) (by first | rfl | exact rv_cat (by assumption) | exact rv_cat rv_f) (Nat.le_of_ble_eq_true rfl) (by first | exact Nat.le_of_ble_eq_true rfl | omega) (c_X6_word hT hX hP hv (by decide) (by decide) (by decide) (by decide) (by decide) (by decide) (fun T M hT hP => ?_))
            refine g_iconst 258 dX6_kind_257 rfl ?_
            refine g_iret dX6_kind_258 rfl ?_
            refine kq hQ hT hP ?_
            unfold kindB
            (repeat (first | rw [if_pos (by omega)] | rw [if_neg (by omega)]))
        · refine g_aload0 225 (by first | exact rv_r | exact rv_n | assumption | exact rv_f) dX6_kind_224 rfl ?_
          refine g_bipush 227 (by rfl) dX6_kind_225 rfl ?_
          refine g_bipush 229 (by rfl) dX6_kind_227 rfl ?_
          refine g_bipush 231 (by rfl) dX6_kind_229 rfl ?_
          refine g_iconst 232 dX6_kind_231 rfl ?_
          refine g_iconst 233 dX6_kind_232 rfl ?_
          refine g_iconst 234 dX6_kind_233 rfl ?_
          refine k_V6z 237 dX6_kind_234 rfl lk_X6_189 hT.t rfl (by first | rfl | exact rv_cat (by assumption) | exact rv_cat rv_f) (by first | rfl | exact rv_cat (by assumption) | exact rv_cat rv_f) (by first | rfl | exact rv_cat (by assumption) | exact rv_cat rv_f) (by first | rfl | exact rv_cat (by assumption) | exact rv_cat rv_f) (by first | rfl | exact rv_cat (by assumption) | exact rv_cat rv_f) (by first | rfl | exact rv_cat (by assumption) | exact rv_cat rv_f) (Nat.le_of_ble_eq_true rfl) (by first | exact Nat.le_of_ble_eq_true rfl | omega) (c_X6_word hT hX hP hv (by decide) (by decide) (by decide) (by decide) (by decide) (by decide) (fun T M hT hP => ?_))
          refine g_iconst 238 dX6_kind_237 rfl ?_
          refine g_iret dX6_kind_238 rfl ?_
          refine kq hQ hT hP ?_
          unfold kindB
          (repeat (first | rw [if_pos (by omega)] | rw [if_neg (by omega)]))
      · refine g_aload0 156 (by first | exact rv_r | exact rv_n | assumption | exact rv_f) dX6_kind_155 rfl ?_
        refine g_getf 159 dX6_kind_156 rfl fl_X6_179 hT.t (hT.f9) ?_
        refine g_aload0 160 (by first | exact rv_r | exact rv_n | assumption | exact rv_f) dX6_kind_159 rfl ?_
        refine g_getf 163 dX6_kind_160 rfl fl_X6_176 hT.t (hT.f7) ?_
        refine g_icmp_ge 178 166 dX6_kind_163 rfl rfl (by first | exact hT.r _ | exact hT.rT _ _ | exact inP_r | omega) (by first | exact hT.r _ | exact hT.rT _ _ | exact inP_r | omega) (fun c163 => ?_) (fun c163 => ?_)
        · refine g_iconst 179 dX6_kind_178 rfl ?_
          first | omega | exact tail _ (by omega) (by rw [if_neg (by omega)]) (by decide) | exact tail _ (by omega) (by rw [if_pos (by omega), e9, e4 _ v0 (by omega)]) (hT.rT _ _)
        · refine g_aload0 167 (by first | exact rv_r | exact rv_n | assumption | exact rv_f) dX6_kind_166 rfl ?_
          refine g_getf 170 dX6_kind_167 rfl fl_X6_22 hT.t (hT.f6) ?_
          refine g_aload0 171 (by first | exact rv_r | exact rv_n | assumption | exact rv_f) dX6_kind_170 rfl ?_
          refine g_getf 174 dX6_kind_171 rfl fl_X6_179 hT.t (hT.f9) ?_
          refine g_iald 175 dX6_kind_174 rfl hT.a4 (by omega) (by omega) (by omega) (hT.e4 (by omega) (by omega)) ?_
          refine g_goto 179 dX6_kind_175 rfl ?_
          first | omega | exact tail _ (by omega) (by rw [if_neg (by omega)]) (by decide) | exact tail _ (by omega) (by rw [if_pos (by omega), e9, e4 _ v0 (by omega)]) (hT.rT _ _)
    · refine g_aload0 134 (by first | exact rv_r | exact rv_n | assumption | exact rv_f) dX6_kind_133 rfl ?_
      refine g_bipush 136 (by rfl) dX6_kind_134 rfl ?_
      refine g_bipush 138 (by rfl) dX6_kind_136 rfl ?_
      refine g_bipush 140 (by rfl) dX6_kind_138 rfl ?_
      refine g_bipush 142 (by rfl) dX6_kind_140 rfl ?_
      refine g_iconst 143 dX6_kind_142 rfl ?_
      refine g_iconst 144 dX6_kind_143 rfl ?_
      refine k_V6z 147 dX6_kind_144 rfl lk_X6_189 hT.t rfl (by first | rfl | exact rv_cat (by assumption) | exact rv_cat rv_f) (by first | rfl | exact rv_cat (by assumption) | exact rv_cat rv_f) (by first | rfl | exact rv_cat (by assumption) | exact rv_cat rv_f) (by first | rfl | exact rv_cat (by assumption) | exact rv_cat rv_f) (by first | rfl | exact rv_cat (by assumption) | exact rv_cat rv_f) (by first | rfl | exact rv_cat (by assumption) | exact rv_cat rv_f) (Nat.le_of_ble_eq_true rfl) (by first | exact Nat.le_of_ble_eq_true rfl | omega) (c_X6_word hT hX hP hv (by decide) (by decide) (by decide) (by decide) (by decide) (by decide) (fun T M hT hP => ?_))
      refine g_iconst 148 dX6_kind_147 rfl ?_
      refine g_iret dX6_kind_148 rfl ?_
      refine kq hQ hT hP ?_
      unfold kindB
      (repeat (first | rw [if_pos (by omega)] | rw [if_neg (by omega)]))
  · refine g_aload0 110 (by first | exact rv_r | exact rv_n | assumption | exact rv_f) dX6_kind_109 rfl ?_
    refine g_bipush 112 (by rfl) dX6_kind_110 rfl ?_
    refine g_bipush 114 (by rfl) dX6_kind_112 rfl ?_
    refine g_bipush 116 (by rfl) dX6_kind_114 rfl ?_
    refine g_bipush 118 (by rfl) dX6_kind_116 rfl ?_
    refine g_bipush 120 (by rfl) dX6_kind_118 rfl ?_
    refine g_bipush 122 (by rfl) dX6_kind_120 rfl ?_
    refine k_V6z 125 dX6_kind_122 rfl lk_X6_189 hT.t rfl (by first | rfl | exact rv_cat (by assumption) | exact rv_cat rv_f) (by first | rfl | exact rv_cat (by assumption) | exact rv_cat rv_f) (by first | rfl | exact rv_cat (by assumption) | exact rv_cat rv_f) (by first | rfl | exact rv_cat (by assumption) | exact rv_cat rv_f) (by first | rfl | exact rv_cat (by assumption) | exact rv_cat rv_f) (by first | rfl | exact rv_cat (by assumption) | exact rv_cat rv_f) (Nat.le_of_ble_eq_true rfl) (by first | exact Nat.le_of_ble_eq_true rfl | omega) (c_X6_word hT hX hP hv (by decide) (by decide) (by decide) (by decide) (by decide) (by decide) (fun T M hT hP => ?_))
    refine g_iconst 126 dX6_kind_125 rfl ?_
    refine g_iret dX6_kind_126 rfl ?_
    refine kq hQ hT hP ?_
    unfold kindB
    (repeat (first | rw [if_pos (by omega)] | rw [if_neg (by omega)]))
theorem l_kind1 (hX : TXt tx T0) (hT : Tw (kB K) M0 m s T M) {c : Int} (hP : TX T0 ps T) (hv : PSv tx ps) (h0 : ps.2 = 0) (hc : c = 101 ∨ c = 110 ∨ c = 112 ∨ c = 119 ∨ c = 98 ∨ c = 99) (hQ : ∀ T' M', Tw (kB K) M0 m s T' M' → TX T0 (kindB tx c ps).2 T' → Q (.inl (some (.int (ii (kindB tx c ps).1)))) M') : Go K fX6_kind 4 k n 58 [some (.ref m), some (.int (ii c)), none] [.int (ii 0), .ref m] M Q := by
  have e9 := hP.2.1
  have h60 := hX.2.1
  obtain ⟨v0, v1, v2⟩ := id hv
  have u9 : uT T 5 10 0 5 9 = ps.1 := by rw [uT_ne (by omega)]; exact e9
  have u10 : uT T 5 10 0 5 10 = 0 := by rw [uT_at, wr0]
  have u10' : uT (uT T 5 10 0) 5 9 (uT T 5 10 0 5 9 - 0) 5 10 = 0 := by rw [uT_ne (by omega)]; exact u10
  have hP2 : TX T0 ps (uT (uT T 5 10 0) 5 9 (uT T 5 10 0 5 9 - 0)) := by
    have := hP.put (a := ps.1) (w := 0) (v := uT T 5 10 0 5 9 - 0) (by rw [u9, Int.sub_zero]; exact wr_id (by omega)) wr0
    rw [show ps = (ps.1, 0) by rw [← h0]]
    exact this
  refine w_put10 61 dX6_kind_58 rfl fl_X6_182 hT (by omega) (fun M hT => ?_)
  refine g_aload0 62 (by first | exact rv_r | exact rv_n | assumption | exact rv_f) dX6_kind_61 rfl ?_
  refine g_dup 63 (by first | rfl | exact rv_cat (by assumption) | exact rv_cat rv_f) dX6_kind_62 rfl ?_
  refine g_getf 66 dX6_kind_63 rfl fl_X6_179 hT.t (hT.f9) ?_
  refine g_aload0 67 (by first | exact rv_r | exact rv_n | assumption | exact rv_f) dX6_kind_66 rfl ?_
  refine g_getf 70 dX6_kind_67 rfl fl_X6_182 hT.t (hT.f10) ?_
  refine g_if_eq 89 73 dX6_kind_70 rfl rfl (by first | exact hT.r _ | exact hT.rT _ _ | exact inP_r | omega) (fun c70 => ?_) (fun c70 => ?_)
  · refine g_iconst 90 dX6_kind_89 rfl ?_
    refine g_isub 91 dX6_kind_90 rfl ?_
    refine w_put9 94 dX6_kind_91 rfl fl_X6_179 hT (fun M hT => ?_)
    refine g_aload0 95 (by first | exact rv_r | exact rv_n | assumption | exact rv_f) dX6_kind_94 rfl ?_
    refine g_getf 98 dX6_kind_95 rfl fl_X6_182 hT.t (hT.f10) ?_
    refine g_if_eq 103 101 dX6_kind_98 rfl rfl (by first | exact hT.r _ | exact hT.rT _ _ | exact inP_r | omega) (fun c98 => ?_) (fun c98 => ?_)
    · first | omega | exact l_kind2 hX hT hP2 hv h0 hc hQ
    · omega
  · refine g_iload1 74 dX6_kind_73 rfl ?_
    refine g_bipush 76 (by rfl) dX6_kind_74 rfl ?_
    refine g_icmp_lt 89 79 dX6_kind_76 rfl rfl (by first | exact hT.r _ | exact hT.rT _ _ | exact inP_r | omega) (by first | exact hT.r _ | exact hT.rT _ _ | exact inP_r | omega) (fun c76 => ?_) (fun c76 => ?_)
    · refine g_iconst 90 dX6_kind_89 rfl ?_
      refine g_isub 91 dX6_kind_90 rfl ?_
      refine w_put9 94 dX6_kind_91 rfl fl_X6_179 hT (fun M hT => ?_)
      refine g_aload0 95 (by first | exact rv_r | exact rv_n | assumption | exact rv_f) dX6_kind_94 rfl ?_
      refine g_getf 98 dX6_kind_95 rfl fl_X6_182 hT.t (hT.f10) ?_
      refine g_if_eq 103 101 dX6_kind_98 rfl rfl (by first | exact hT.r _ | exact hT.rT _ _ | exact inP_r | omega) (fun c98 => ?_) (fun c98 => ?_)
      · first | omega | exact l_kind2 hX hT hP2 hv h0 hc hQ
      · omega
    · refine g_iload1 80 dX6_kind_79 rfl ?_
      refine g_bipush 82 (by rfl) dX6_kind_80 rfl ?_
      refine g_icmp_gt 89 85 dX6_kind_82 rfl rfl (by first | exact hT.r _ | exact hT.rT _ _ | exact inP_r | omega) (by first | exact hT.r _ | exact hT.rT _ _ | exact inP_r | omega) (fun c82 => ?_) (fun c82 => ?_)
      · refine g_iconst 90 dX6_kind_89 rfl ?_
        refine g_isub 91 dX6_kind_90 rfl ?_
        refine w_put9 94 dX6_kind_91 rfl fl_X6_179 hT (fun M hT => ?_)
        refine g_aload0 95 (by first | exact rv_r | exact rv_n | assumption | exact rv_f) dX6_kind_94 rfl ?_
        refine g_getf 98 dX6_kind_95 rfl fl_X6_182 hT.t (hT.f10) ?_
        refine g_if_eq 103 101 dX6_kind_98 rfl rfl (by first | exact hT.r _ | exact hT.rT _ _ | exact inP_r | omega) (fun c98 => ?_) (fun c98 => ?_)
        · first | omega | exact l_kind2 hX hT hP2 hv h0 hc hQ
        · omega
      · omega
theorem l_kind1b (hX : TXt tx T0) (hT : Tw (kB K) M0 m s T M) {c : Int} (hc : R32 c) (hP : TX T0 ps T) (hv : PSv tx ps) (hQ : ∀ T' M', Tw (kB K) M0 m s T' M' → TX T0 (ps.1 - (if 98 ≤ c ∧ c ≤ 119 then 1 else 0), 1) T' → Q (.inl (some (.int (ii 0)))) M') : Go K fX6_kind 4 k n 58 [some (.ref m), some (.int (ii c)), none] [.int (ii 1), .ref m] M Q := by
  have e9 := hP.2.1
  have h60 := hX.2.1
  obtain ⟨v0, v1, v2⟩ := id hv
  have u9 : uT T 5 10 1 5 9 = ps.1 := by rw [uT_ne (by omega)]; exact e9
  have u10 : uT T 5 10 1 5 10 = 1 := by rw [uT_at, wr1]
  have u10' : ∀ v, uT (uT T 5 10 1) 5 9 v 5 10 = 1 := fun v => by rw [uT_ne (by omega)]; exact u10
  have u10a := u10' (uT T 5 10 1 5 9 - 0)
  have u10b := u10' (uT T 5 10 1 5 9 - 1)
  refine w_put10 61 dX6_kind_58 rfl fl_X6_182 hT (by omega) (fun M hT => ?_)
  refine g_aload0 62 (by first | exact rv_r | exact rv_n | assumption | exact rv_f) dX6_kind_61 rfl ?_
  refine g_dup 63 (by first | rfl | exact rv_cat (by assumption) | exact rv_cat rv_f) dX6_kind_62 rfl ?_
  refine g_getf 66 dX6_kind_63 rfl fl_X6_179 hT.t (hT.f9) ?_
  refine g_aload0 67 (by first | exact rv_r | exact rv_n | assumption | exact rv_f) dX6_kind_66 rfl ?_
  refine g_getf 70 dX6_kind_67 rfl fl_X6_182 hT.t (hT.f10) ?_
  refine g_if_eq 89 73 dX6_kind_70 rfl rfl (by first | exact hT.r _ | exact hT.rT _ _ | exact inP_r | omega) (fun c70 => ?_) (fun c70 => ?_)
  · refine g_iconst 90 dX6_kind_89 rfl ?_
    refine g_isub 91 dX6_kind_90 rfl ?_
    refine w_put9 94 dX6_kind_91 rfl fl_X6_179 hT (fun M hT => ?_)
    refine g_aload0 95 (by first | exact rv_r | exact rv_n | assumption | exact rv_f) dX6_kind_94 rfl ?_
    refine g_getf 98 dX6_kind_95 rfl fl_X6_182 hT.t (hT.f10) ?_
    refine g_if_eq 103 101 dX6_kind_98 rfl rfl (by first | exact hT.r _ | exact hT.rT _ _ | exact inP_r | omega) (fun c98 => ?_) (fun c98 => ?_)
    · omega
    · refine g_iconst 102 dX6_kind_101 rfl ?_
      refine g_iret dX6_kind_102 rfl ?_
      first | omega | (rw [if_neg (by omega)] at hQ; exact hQ _ _ hT (hP.put (by rw [u9]; exact wr_id (by omega)) wr1)) | (rw [if_pos (by omega)] at hQ; exact hQ _ _ hT (hP.put (by rw [u9]; exact wr_id (by omega)) wr1))
  · refine g_iload1 74 dX6_kind_73 rfl ?_
    refine g_bipush 76 (by rfl) dX6_kind_74 rfl ?_
    refine g_icmp_lt 89 79 dX6_kind_76 rfl rfl (by first | exact hT.r _ | exact hT.rT _ _ | exact inP_r | omega) (by first | exact hT.r _ | exact hT.rT _ _ | exact inP_r | omega) (fun c76 => ?_) (fun c76 => ?_)
    · refine g_iconst 90 dX6_kind_89 rfl ?_
      refine g_isub 91 dX6_kind_90 rfl ?_
      refine w_put9 94 dX6_kind_91 rfl fl_X6_179 hT (fun M hT => ?_)
      refine g_aload0 95 (by first | exact rv_r | exact rv_n | assumption | exact rv_f) dX6_kind_94 rfl ?_
      refine g_getf 98 dX6_kind_95 rfl fl_X6_182 hT.t (hT.f10) ?_
      refine g_if_eq 103 101 dX6_kind_98 rfl rfl (by first | exact hT.r _ | exact hT.rT _ _ | exact inP_r | omega) (fun c98 => ?_) (fun c98 => ?_)
      · omega
      · refine g_iconst 102 dX6_kind_101 rfl ?_
        refine g_iret dX6_kind_102 rfl ?_
        first | omega | (rw [if_neg (by omega)] at hQ; exact hQ _ _ hT (hP.put (by rw [u9]; exact wr_id (by omega)) wr1)) | (rw [if_pos (by omega)] at hQ; exact hQ _ _ hT (hP.put (by rw [u9]; exact wr_id (by omega)) wr1))
    · refine g_iload1 80 dX6_kind_79 rfl ?_
      refine g_bipush 82 (by rfl) dX6_kind_80 rfl ?_
      refine g_icmp_gt 89 85 dX6_kind_82 rfl rfl (by first | exact hT.r _ | exact hT.rT _ _ | exact inP_r | omega) (by first | exact hT.r _ | exact hT.rT _ _ | exact inP_r | omega) (fun c82 => ?_) (fun c82 => ?_)
      · refine g_iconst 90 dX6_kind_89 rfl ?_
        refine g_isub 91 dX6_kind_90 rfl ?_
        refine w_put9 94 dX6_kind_91 rfl fl_X6_179 hT (fun M hT => ?_)
        refine g_aload0 95 (by first | exact rv_r | exact rv_n | assumption | exact rv_f) dX6_kind_94 rfl ?_
        refine g_getf 98 dX6_kind_95 rfl fl_X6_182 hT.t (hT.f10) ?_
        refine g_if_eq 103 101 dX6_kind_98 rfl rfl (by first | exact hT.r _ | exact hT.rT _ _ | exact inP_r | omega) (fun c98 => ?_) (fun c98 => ?_)
        · omega
        · refine g_iconst 102 dX6_kind_101 rfl ?_
          refine g_iret dX6_kind_102 rfl ?_
          first | omega | (rw [if_neg (by omega)] at hQ; exact hQ _ _ hT (hP.put (by rw [u9]; exact wr_id (by omega)) wr1)) | (rw [if_pos (by omega)] at hQ; exact hQ _ _ hT (hP.put (by rw [u9]; exact wr_id (by omega)) wr1))
      · refine g_iconst 86 dX6_kind_85 rfl ?_
        refine g_goto 90 dX6_kind_86 rfl ?_
        refine g_isub 91 dX6_kind_90 rfl ?_
        refine w_put9 94 dX6_kind_91 rfl fl_X6_179 hT (fun M hT => ?_)
        refine g_aload0 95 (by first | exact rv_r | exact rv_n | assumption | exact rv_f) dX6_kind_94 rfl ?_
        refine g_getf 98 dX6_kind_95 rfl fl_X6_182 hT.t (hT.f10) ?_
        refine g_if_eq 103 101 dX6_kind_98 rfl rfl (by first | exact hT.r _ | exact hT.rT _ _ | exact inP_r | omega) (fun c98 => ?_) (fun c98 => ?_)
        · omega
        · refine g_iconst 102 dX6_kind_101 rfl ?_
          refine g_iret dX6_kind_102 rfl ?_
          first | omega | (rw [if_neg (by omega)] at hQ; exact hQ _ _ hT (hP.put (by rw [u9]; exact wr_id (by omega)) wr1)) | (rw [if_pos (by omega)] at hQ; exact hQ _ _ hT (hP.put (by rw [u9]; exact wr_id (by omega)) wr1))
theorem c_X6_kind (hT : Tw (kB K) M0 m s T M) (hX : TXt tx T0) (hP : TX T0 ps T) (hv : PSv tx ps) (hQ : ∀ T' M', Tw (kB K) M0 m s T' M' → TX T0 (kindP tx ps).2 T' → Q (.inl (some (.int (ii (kindP tx ps).1)))) M') : Go K fX6_kind 4 k n 0 [some (.ref m), none, none] [] M Q := by
  have h1 := signP_v (lo := 98) (hi := 119) (by decide) hv
  have hi := @signP_i tx 98 119 ps (by decide)
  have h60 := hX.2.1
  have hr4 := hT.rT 4
  have hc : R32 (signP tx 98 119 ps).1 := by
    unfold signP
    dsimp only
    by_cases q : ps.1 < tx.length ∧ ps.2 = 0
    · rw [if_pos q]
      have e4 : T 4 ps.1 = chrP tx ps.1 := by rw [hP.1 _ _ (by omega)]; exact hX.at hv.1 q.1
      rw [← e4]
      split <;> exact hr4 _
    · rw [if_neg q]
      split <;> (dsimp only; decide)
  unfold kindP at hQ
  dsimp only at hQ
  generalize hx : signP tx 98 119 ps = x at *
  obtain ⟨v0, v1, v2⟩ := id h1
  by_cases q : x.2.2 = 0 ∧ (x.1 = 101 ∨ x.1 = 110 ∨ x.1 = 112 ∨ x.1 = 119 ∨ x.1 = 98 ∨ x.1 = 99)
  · rw [if_pos q] at hQ
    refine g_aload0 1 (by first | exact rv_r | exact rv_n | assumption | exact rv_f) dX6_kind_0 rfl ?_
    refine g_bipush 3 (by rfl) dX6_kind_1 rfl ?_
    refine g_bipush 5 (by rfl) dX6_kind_3 rfl ?_
    refine k_V2z 8 dX6_kind_5 rfl lk_X6_186 hT.t rfl (by first | rfl | exact rv_cat (by assumption) | exact rv_cat rv_f) (by first | rfl | exact rv_cat (by assumption) | exact rv_cat rv_f) (Nat.le_of_ble_eq_true rfl) (by first | exact Nat.le_of_ble_eq_true rfl | omega) (c_X6_sign hT hX hP hv (by decide) (fun T M hT hP => ?_))
    rw [hx] at hP ⊢
    have e9 := hP.2.1
    have e10 := hP.2.2
    refine g_istore1 9 (Nat.le_of_ble_eq_true rfl) (by first | exact c1_0 | exact c1_i | exact c1_r | exact c1_n | exact c1_v (by assumption) | exact c1_f) dX6_kind_8 rfl ?_
    refine g_aload0 10 (by first | exact rv_r | exact rv_n | assumption | exact rv_f) dX6_kind_9 rfl ?_
    refine g_aload0 11 (by first | exact rv_r | exact rv_n | assumption | exact rv_f) dX6_kind_10 rfl ?_
    refine g_getf 14 dX6_kind_11 rfl fl_X6_182 hT.t (hT.f10) ?_
    refine g_if_ne 53 17 dX6_kind_14 rfl rfl (by first | exact hT.r _ | exact hT.rT _ _ | exact inP_r | omega) (fun c14 => ?_) (fun c14 => ?_)
    · refine g_iconst 54 dX6_kind_53 rfl ?_
      refine g_goto 58 dX6_kind_54 rfl ?_
      first | omega | exact l_kind1 hX hT hP h1 q.1 q.2 hQ
    · refine g_iload1 18 dX6_kind_17 rfl ?_
      refine g_bipush 20 (by rfl) dX6_kind_18 rfl ?_
      refine g_icmp_eq 57 23 dX6_kind_20 rfl rfl (by first | exact hT.r _ | exact hT.rT _ _ | exact inP_r | omega) (by first | exact hT.r _ | exact hT.rT _ _ | exact inP_r | omega) (fun c20 => ?_) (fun c20 => ?_)
      · refine g_iconst 58 dX6_kind_57 rfl ?_
        first | omega | exact l_kind1 hX hT hP h1 q.1 q.2 hQ
      · refine g_iload1 24 dX6_kind_23 rfl ?_
        refine g_bipush 26 (by rfl) dX6_kind_24 rfl ?_
        refine g_icmp_eq 57 29 dX6_kind_26 rfl rfl (by first | exact hT.r _ | exact hT.rT _ _ | exact inP_r | omega) (by first | exact hT.r _ | exact hT.rT _ _ | exact inP_r | omega) (fun c26 => ?_) (fun c26 => ?_)
        · refine g_iconst 58 dX6_kind_57 rfl ?_
          first | omega | exact l_kind1 hX hT hP h1 q.1 q.2 hQ
        · refine g_iload1 30 dX6_kind_29 rfl ?_
          refine g_bipush 32 (by rfl) dX6_kind_30 rfl ?_
          refine g_icmp_eq 57 35 dX6_kind_32 rfl rfl (by first | exact hT.r _ | exact hT.rT _ _ | exact inP_r | omega) (by first | exact hT.r _ | exact hT.rT _ _ | exact inP_r | omega) (fun c32 => ?_) (fun c32 => ?_)
          · refine g_iconst 58 dX6_kind_57 rfl ?_
            first | omega | exact l_kind1 hX hT hP h1 q.1 q.2 hQ
          · refine g_iload1 36 dX6_kind_35 rfl ?_
            refine g_bipush 38 (by rfl) dX6_kind_36 rfl ?_
            refine g_icmp_eq 57 41 dX6_kind_38 rfl rfl (by first | exact hT.r _ | exact hT.rT _ _ | exact inP_r | omega) (by first | exact hT.r _ | exact hT.rT _ _ | exact inP_r | omega) (fun c38 => ?_) (fun c38 => ?_)
            · refine g_iconst 58 dX6_kind_57 rfl ?_
              first | omega | exact l_kind1 hX hT hP h1 q.1 q.2 hQ
            · refine g_iload1 42 dX6_kind_41 rfl ?_
              refine g_bipush 44 (by rfl) dX6_kind_42 rfl ?_
              refine g_icmp_eq 57 47 dX6_kind_44 rfl rfl (by first | exact hT.r _ | exact hT.rT _ _ | exact inP_r | omega) (by first | exact hT.r _ | exact hT.rT _ _ | exact inP_r | omega) (fun c44 => ?_) (fun c44 => ?_)
              · refine g_iconst 58 dX6_kind_57 rfl ?_
                first | omega | exact l_kind1 hX hT hP h1 q.1 q.2 hQ
              · refine g_iload1 48 dX6_kind_47 rfl ?_
                refine g_bipush 50 (by rfl) dX6_kind_48 rfl ?_
                refine g_icmp_eq 57 53 dX6_kind_50 rfl rfl (by first | exact hT.r _ | exact hT.rT _ _ | exact inP_r | omega) (by first | exact hT.r _ | exact hT.rT _ _ | exact inP_r | omega) (fun c50 => ?_) (fun c50 => ?_)
                · refine g_iconst 58 dX6_kind_57 rfl ?_
                  first | omega | exact l_kind1 hX hT hP h1 q.1 q.2 hQ
                · refine g_iconst 54 dX6_kind_53 rfl ?_
                  refine g_goto 58 dX6_kind_54 rfl ?_
                  first | omega | exact l_kind1 hX hT hP h1 q.1 q.2 hQ
  · rw [if_neg q] at hQ
    refine g_aload0 1 (by first | exact rv_r | exact rv_n | assumption | exact rv_f) dX6_kind_0 rfl ?_
    refine g_bipush 3 (by rfl) dX6_kind_1 rfl ?_
    refine g_bipush 5 (by rfl) dX6_kind_3 rfl ?_
    refine k_V2z 8 dX6_kind_5 rfl lk_X6_186 hT.t rfl (by first | rfl | exact rv_cat (by assumption) | exact rv_cat rv_f) (by first | rfl | exact rv_cat (by assumption) | exact rv_cat rv_f) (Nat.le_of_ble_eq_true rfl) (by first | exact Nat.le_of_ble_eq_true rfl | omega) (c_X6_sign hT hX hP hv (by decide) (fun T M hT hP => ?_))
    rw [hx] at hP ⊢
    have e9 := hP.2.1
    have e10 := hP.2.2
    refine g_istore1 9 (Nat.le_of_ble_eq_true rfl) (by first | exact c1_0 | exact c1_i | exact c1_r | exact c1_n | exact c1_v (by assumption) | exact c1_f) dX6_kind_8 rfl ?_
    refine g_aload0 10 (by first | exact rv_r | exact rv_n | assumption | exact rv_f) dX6_kind_9 rfl ?_
    refine g_aload0 11 (by first | exact rv_r | exact rv_n | assumption | exact rv_f) dX6_kind_10 rfl ?_
    refine g_getf 14 dX6_kind_11 rfl fl_X6_182 hT.t (hT.f10) ?_
    refine g_if_ne 53 17 dX6_kind_14 rfl rfl (by first | exact hT.r _ | exact hT.rT _ _ | exact inP_r | omega) (fun c14 => ?_) (fun c14 => ?_)
    · refine g_iconst 54 dX6_kind_53 rfl ?_
      refine g_goto 58 dX6_kind_54 rfl ?_
      first | omega | exact l_kind1b hX hT hc hP h1 hQ
    · refine g_iload1 18 dX6_kind_17 rfl ?_
      refine g_bipush 20 (by rfl) dX6_kind_18 rfl ?_
      refine g_icmp_eq 57 23 dX6_kind_20 rfl rfl (by first | exact hT.r _ | exact hT.rT _ _ | exact inP_r | omega) (by first | exact hT.r _ | exact hT.rT _ _ | exact inP_r | omega) (fun c20 => ?_) (fun c20 => ?_)
      · refine g_iconst 58 dX6_kind_57 rfl ?_
        first | omega | exact l_kind1b hX hT hc hP h1 hQ
      · refine g_iload1 24 dX6_kind_23 rfl ?_
        refine g_bipush 26 (by rfl) dX6_kind_24 rfl ?_
        refine g_icmp_eq 57 29 dX6_kind_26 rfl rfl (by first | exact hT.r _ | exact hT.rT _ _ | exact inP_r | omega) (by first | exact hT.r _ | exact hT.rT _ _ | exact inP_r | omega) (fun c26 => ?_) (fun c26 => ?_)
        · refine g_iconst 58 dX6_kind_57 rfl ?_
          first | omega | exact l_kind1b hX hT hc hP h1 hQ
        · refine g_iload1 30 dX6_kind_29 rfl ?_
          refine g_bipush 32 (by rfl) dX6_kind_30 rfl ?_
          refine g_icmp_eq 57 35 dX6_kind_32 rfl rfl (by first | exact hT.r _ | exact hT.rT _ _ | exact inP_r | omega) (by first | exact hT.r _ | exact hT.rT _ _ | exact inP_r | omega) (fun c32 => ?_) (fun c32 => ?_)
          · refine g_iconst 58 dX6_kind_57 rfl ?_
            first | omega | exact l_kind1b hX hT hc hP h1 hQ
          · refine g_iload1 36 dX6_kind_35 rfl ?_
            refine g_bipush 38 (by rfl) dX6_kind_36 rfl ?_
            refine g_icmp_eq 57 41 dX6_kind_38 rfl rfl (by first | exact hT.r _ | exact hT.rT _ _ | exact inP_r | omega) (by first | exact hT.r _ | exact hT.rT _ _ | exact inP_r | omega) (fun c38 => ?_) (fun c38 => ?_)
            · refine g_iconst 58 dX6_kind_57 rfl ?_
              first | omega | exact l_kind1b hX hT hc hP h1 hQ
            · refine g_iload1 42 dX6_kind_41 rfl ?_
              refine g_bipush 44 (by rfl) dX6_kind_42 rfl ?_
              refine g_icmp_eq 57 47 dX6_kind_44 rfl rfl (by first | exact hT.r _ | exact hT.rT _ _ | exact inP_r | omega) (by first | exact hT.r _ | exact hT.rT _ _ | exact inP_r | omega) (fun c44 => ?_) (fun c44 => ?_)
              · refine g_iconst 58 dX6_kind_57 rfl ?_
                first | omega | exact l_kind1b hX hT hc hP h1 hQ
              · refine g_iload1 48 dX6_kind_47 rfl ?_
                refine g_bipush 50 (by rfl) dX6_kind_48 rfl ?_
                refine g_icmp_eq 57 53 dX6_kind_50 rfl rfl (by first | exact hT.r _ | exact hT.rT _ _ | exact inP_r | omega) (by first | exact hT.r _ | exact hT.rT _ _ | exact inP_r | omega) (fun c50 => ?_) (fun c50 => ?_)
                · refine g_iconst 58 dX6_kind_57 rfl ?_
                  first | omega | exact l_kind1b hX hT hc hP h1 hQ
                · refine g_iconst 54 dX6_kind_53 rfl ?_
                  refine g_goto 58 dX6_kind_54 rfl ?_
                  first | omega | exact l_kind1b hX hT hc hP h1 hQ
end TWK
