/-! ===== the JDK: ArrayList made, searched, shortened ===== -/
section JC
variable {K : KT} {k n : Nat} {M : Mem} {Q : Res → Mem → Prop} {l ar cap : Nat} {xs : List Value}
theorem c_J0_init {b : Nat} (hQ : Q (.inl none) M) : Go K fJ0_init 2 k n 0 [some (.ref b)] [] M Q := by
  refine g_aload0 1 (by first | exact rv_r | exact rv_n | assumption | exact rv_f) dJ0_init_0 rfl ?_
  refine g_objInit 4 dJ0_init_1 rfl q167 q134 q135 (Nat.le_of_ble_eq_true rfl) (Nat.le_of_ble_eq_true rfl) ?_
  refine g_vret dJ0_init_4 rfl ?_
  exact hQ
theorem c_J1_init (ht : mT M l = some (.inl 11)) (hb : kB K ≤ l) (hQ : Q (.inl none) (setF M 11 0 l (.int (ii 0)))) : Go K fJ1_init 3 k n 0 [some (.ref l)] [] M Q := by
  refine g_aload0 1 (by first | exact rv_r | exact rv_n | assumption | exact rv_f) dJ1_init_0 rfl ?_
  refine k_I0z 4 dJ1_init_1 rfl lk_J1_1 rfl  (Nat.le_of_ble_eq_true rfl) (by first | exact Nat.le_of_ble_eq_true rfl | omega) (c_J0_init ?_)
  refine g_aload0 5 (by first | exact rv_r | exact rv_n | assumption | exact rv_f) dJ1_init_4 rfl ?_
  refine g_iconst 6 dJ1_init_5 rfl ?_
  refine g_putf 9 dJ1_init_6 rfl fl_J1_7 (by (repeat (first | refine mT_setF.trans ?_ | refine mT_setE.trans ?_ | refine mT_setA.trans ?_ | refine (mT_newA_old (by first | assumption | (apply Ne.symm; assumption) | omega | decide)).trans ?_ | refine (mT_newO_old (by first | assumption | (apply Ne.symm; assumption) | omega | decide)).trans ?_)); first | assumption | exact mT_newA_new | exact mT_newO_new) (by first | assumption | omega) ft_i ?_
  refine g_vret dJ1_init_9 rfl ?_
  exact hQ
theorem c_J2_init (ht : mT M l = some (.inl 11)) (hb : kB K ≤ l) (hl : l < mN M) (h2 : mF M 11 2 l = .int (ii 0)) (hQ : ∀ M', ALp K M' l (kC K 4) 0 [] → Fr (fun a => a = l) M M' → mN M' = mN M → Q (.inl none) M') : Go K fJ2_init 4 k n 0 [some (.ref l)] [] M Q := by
  refine g_cm fun hcm hag hbn => ?_
  have hlt := hcm.1 4 (by decide)
  have h4 : mT M (kC K 4) = some (.inr (3, 0)) := (hag _ hlt).1.trans hcm.2.2.2.1
  refine g_aload0 1 (by first | exact rv_r | exact rv_n | assumption | exact rv_f) dJ2_init_0 rfl ?_
  refine k_I0z 4 dJ2_init_1 rfl lk_J2_1 rfl  (Nat.le_of_ble_eq_true rfl) (by first | exact Nat.le_of_ble_eq_true rfl | omega) (c_J1_init ht hb ?_)
  refine g_aload0 5 (by first | exact rv_r | exact rv_n | assumption | exact rv_f) dJ2_init_4 rfl ?_
  refine g_gets 8 (q := ("java/util/ArrayList", "DEFAULTCAPACITY_EMPTY_ELEMENTDATA", "[Ljava/lang/Object;", .ref (kC K 4))) (ref := "") dJ2_init_5 rfl q168 (by simp [statS]) ?_
  refine g_putf 11 dJ2_init_8 rfl fl_J2_9 (by (repeat (first | refine mT_setF.trans ?_ | refine mT_setE.trans ?_ | refine mT_setA.trans ?_ | refine (mT_newA_old (by first | assumption | (apply Ne.symm; assumption) | omega | decide)).trans ?_ | refine (mT_newO_old (by first | assumption | (apply Ne.symm; assumption) | omega | decide)).trans ?_)); first | assumption | exact mT_newA_new | exact mT_newO_new) (by first | assumption | omega) (ft_a (by first | exact rv_r | exact rv_n | assumption | exact rv_f)) ?_
  refine g_vret dJ2_init_11 rfl ?_
  refine hQ _ ⟨⟨ht, hb, hl⟩, ⟨0, ?_⟩, mF_setF_self, ?_, ⟨h4, by show kC K 4 < mN M; omega⟩, ⟨Nat.le_refl _, by decide⟩, fun i hi => by simp at hi, ⟨fun z => by omega, fun _ => rfl⟩, fun x hx => by simp at hx⟩ ((Fr.setF (S := fun a => a = l) rfl).trans (Fr.setF (S := fun a => a = l) rfl) (fun _ _ h => h) (fun _ _ h => h)) rfl
  · exact (mF_setF_k (by decide)).trans mF_setF_self
  · exact ((mF_setF_k (by decide)).trans (mF_setF_k (by decide))).trans h2
/-- equals of objects of one's own classes: one and the same -/
theorem c_J36_equals {a b : Nat} (hQ : Q (.inl (some (.int (ii (if a = b then 1 else 0))))) M) : Go K fJ36_equals 1 k n 0 [some (.ref a), some (.ref b)] [] M Q := by
  refine g_aload0 1 (by first | exact rv_r | exact rv_n | assumption | exact rv_f) dJ36_equals_0 rfl ?_
  refine g_aload1 2 (by first | exact rv_r | exact rv_n | assumption | exact rv_f) dJ36_equals_1 rfl ?_
  refine g_acmp_ne 9 5 dJ36_equals_2 rfl rfl rv_r rv_r (fun c => ?_) (fun c => ?_)
  · rw [if_neg (fun z => c (by rw [z]))] at hQ
    refine g_iconst 10 dJ36_equals_9 rfl ?_
    refine g_zret dJ36_equals_10 rfl (by first | rfl | exact zr inP_01 | exact zr (by omega) | exact zr (by assumption)) ?_
    exact hQ
  · rw [if_pos (by cases c; rfl)] at hQ
    refine g_iconst 6 dJ36_equals_5 rfl ?_
    refine g_goto 10 dJ36_equals_6 rfl ?_
    refine g_zret dJ36_equals_10 rfl (by first | rfl | exact zr inP_01 | exact zr (by omega) | exact zr (by assumption)) ?_
    exact hQ
end JC
