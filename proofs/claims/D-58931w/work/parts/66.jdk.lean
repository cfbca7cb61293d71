/-! ===== the JDK: PriorityQueue, up the heap ===== -/
theorem ushr1 {c : Int} (h : 0 ≤ c ∧ c ≤ 60) : ((ii c).toUInt32 >>> ((ii 1).toUInt32 &&& Int32.toUInt32 31)).toInt32 = ii (c / 2) := by
  have key : ∀ b : Fin 61, ((ii (b.val : Int)).toUInt32 >>> ((ii 1).toUInt32 &&& Int32.toUInt32 31)).toInt32 = ii ((b.val : Int) / 2) := by decide +kernel
  have := key ⟨c.toNat, by omega⟩
  simpa only [show ((c.toNat : Nat) : Int) = c by omega] using this
/-- nothing but elements of one array differ -/
def EA (ar : Nat) (M M' : Mem) : Prop := (∀ a, mT M' a = mT M a) ∧ mN M' = mN M ∧ (∀ c j a, mF M' c j a = mF M c j a) ∧ ∀ a i, a ≠ ar → mE M' a i = mE M a i
theorem EA.rfl {ar : Nat} {M : Mem} : EA ar M M := ⟨fun _ => Eq.refl _, Eq.refl _, fun _ _ _ => Eq.refl _, fun _ _ _ => Eq.refl _⟩
theorem EA.trans {ar : Nat} {M M' M'' : Mem} (h : EA ar M M') (g : EA ar M' M'') : EA ar M M'' := ⟨fun a => (g.1 a).trans (h.1 a), g.2.1.trans h.2.1, fun c j a => (g.2.2.1 c j a).trans (h.2.2.1 c j a), fun a i q => (g.2.2.2 a i q).trans (h.2.2.2 a i q)⟩
theorem EA.set {ar i : Nat} {M : Mem} {v : Value} : EA ar M (setE M ar i v) := ⟨fun _ => Eq.refl _, Eq.refl _, fun _ _ _ => Eq.refl _, fun _ _ q => mE_setE_a q⟩
theorem EA.fr {ar : Nat} {M M' : Mem} (h : EA ar M M') : Fr (fun a => a = ar) M M' := ⟨Nat.le_of_eq h.2.1.symm, fun a _ => ⟨h.1 a, fun q => ⟨fun c k => h.2.2.1 c k a, fun i => h.2.2.2 a i q⟩⟩⟩
theorem KEY.ea {ar ci a : Nat} {κ : Nat → Int} {M M' : Mem} (h : KEY M ci κ a) (g : EA ar M M') : KEY M' ci κ a := by
  obtain ⟨⟨h1, h2⟩, w, nu, f1, f2, h3⟩ := h
  exact ⟨⟨(g.1 a).trans h1, by rw [g.2.1]; exact h2⟩, w, nu, (g.2.2.1 _ _ _).trans f1, (g.2.2.1 _ _ _).trans f2, h3⟩
theorem asgK {ci : Nat} (h : ci = 7 ∨ ci = 4) : ASG ci 3 := by rcases h with rfl | rfl; exact asg7; exact asg4
section JF
variable {K : KT} {k n : Nat} {M : Mem} {Q : Res → Mem → Prop} {κ : Nat → Int} {ci ar cap : Nat}
theorem l_siftUp (hci : ci = 7 ∨ ci = 4) {N x : Nat} (hN : N < cap) (hN2 : N ≤ 40) (hb : kB K ≤ ar) : ∀ (j h : Nat) (e : Nat → Nat) (M : Mem) (o4 o5 : Option Value), h ≤ j → h ≤ N → mT M ar = some (.inr (3, cap)) → cap ≤ 1000 → (∀ i, i < N + 1 → i ≠ h → mE M ar i = .ref (e i)) → (∀ i, i < N + 1 → i ≠ h → KEY M ci κ (e i)) → KEY M ci κ x → upI κ (N + 1) h x e → C1 o4 → (∀ M' v, EA ar M M' → (∀ i, i < N + 1 → mE M' ar i = .ref (v i)) → heapN κ (N + 1) v → SM (N + 1) (upN e h x) v → (∀ i, N < i → mE M' ar i = mE M ar i) → Q (.inl none) M') → Go K fJ4_siftUpComparable 5 k n 5 [some (.int (ii h)), some (.ref x), some (.ref ar), some (.ref x), o4, o5] [] M Q := by
  have fin : ∀ (h : Nat) (e : Nat → Nat) (M : Mem) (o4 o5 : Option Value), h ≤ N → mT M ar = some (.inr (3, cap)) → cap ≤ 1000 → (∀ i, i < N + 1 → i ≠ h → mE M ar i = .ref (e i)) → KEY M ci κ x → heapN κ (N + 1) (upN e h x) → (∀ M' v, EA ar M M' → (∀ i, i < N + 1 → mE M' ar i = .ref (v i)) → heapN κ (N + 1) v → SM (N + 1) (upN e h x) v → (∀ i, N < i → mE M' ar i = mE M ar i) → Q (.inl none) M') → Go K fJ4_siftUpComparable 5 k n 47 [some (.int (ii h)), some (.ref x), some (.ref ar), some (.ref x), o4, o5] [] M Q := by
    intro h e M o4 o5 hh ht hc he hx hp hQ
    have hxt := hx.1.1
    refine g_aload2 48 (by first | exact rv_r | exact rv_n | assumption | exact rv_f) dJ4_siftUpComparable_47 rfl ?_
    refine g_iload0 49 dJ4_siftUpComparable_48 rfl ?_
    refine g_aload3 50 (by first | exact rv_r | exact rv_n | assumption | exact rv_f) dJ4_siftUpComparable_49 rfl ?_
    refine g_aast 51 dJ4_siftUpComparable_50 rfl (by (repeat (first | refine mT_setF.trans ?_ | refine mT_setE.trans ?_ | refine mT_setA.trans ?_ | refine (mT_newA_old (by first | assumption | (apply Ne.symm; assumption) | omega | decide)).trans ?_ | refine (mT_newO_old (by first | assumption | (apply Ne.symm; assumption) | omega | decide)).trans ?_)); first | assumption | exact mT_newA_new | exact mT_newO_new) (by first | assumption | omega) (by omega) (by omega) (by omega) (by (repeat (first | refine mT_setF.trans ?_ | refine mT_setE.trans ?_ | refine mT_setA.trans ?_ | refine (mT_newA_old (by first | assumption | (apply Ne.symm; assumption) | omega | decide)).trans ?_ | refine (mT_newO_old (by first | assumption | (apply Ne.symm; assumption) | omega | decide)).trans ?_)); first | assumption | exact mT_newA_new | exact mT_newO_new) (asgK hci) ?_
    refine g_vret dJ4_siftUpComparable_51 rfl ?_
    refine hQ _ (upN e h x) EA.set (fun i hi => ?_) hp SM.rfl (fun i hi => mE_setE_i (by omega))
    by_cases q : i = h
    · subst q
      rw [upN_at]; exact mE_setE_self
    · rw [upN_ne q]
      exact (mE_setE_i (by omega)).trans (he i hi q)
  intro j
  induction j with
  | zero =>
    intro h e M o4 o5 hj hh ht hc he hk hx hu hc1 hQ
    obtain rfl : h = 0 := by omega
    refine g_iload0 6 dJ4_siftUpComparable_5 rfl ?_
    refine g_if_le 47 9 dJ4_siftUpComparable_6 rfl rfl (by omega) (fun c6 => ?_) (fun c6 => by omega)
    exact fin 0 e M o4 o5 hh ht hc he hx (hu.done (Or.inl rfl)) hQ
  | succ j ih =>
    intro h e M o4 o5 hj hh ht hc he hk hx hu hc1 hQ
    by_cases q0 : h = 0
    · subst q0
      refine g_iload0 6 dJ4_siftUpComparable_5 rfl ?_
      refine g_if_le 47 9 dJ4_siftUpComparable_6 rfl rfl (by omega) (fun c6 => ?_) (fun c6 => by omega)
      exact fin 0 e M o4 o5 hh ht hc he hx (hu.done (Or.inl rfl)) hQ
    · have hp : (h - 1) / 2 < h := by omega
      have ep : ((h : Int) - 1) / 2 = (((h - 1) / 2 : Nat) : Int) := by omega
      have hkp := hk ((h - 1) / 2) (by omega) (by omega)
      have hep := he ((h - 1) / 2) (by omega) (by omega)
      refine g_iload0 6 dJ4_siftUpComparable_5 rfl ?_
      refine g_if_le 47 9 dJ4_siftUpComparable_6 rfl rfl (by omega) (fun c6 => by omega) (fun c6 => ?_)
      refine g_iload0 10 dJ4_siftUpComparable_9 rfl ?_
      refine g_iconst 11 dJ4_siftUpComparable_10 rfl ?_
      refine g_isub 12 dJ4_siftUpComparable_11 rfl ?_
      refine g_iconst 13 dJ4_siftUpComparable_12 rfl ?_
      refine g_iushr 14 (ushr1 (by omega)) dJ4_siftUpComparable_13 rfl ?_
      rw [ep]
      refine g_istore4 16 (Nat.le_of_ble_eq_true rfl) (by first | exact c1_0 | exact c1_i | exact c1_r | exact c1_n | exact c1_v (by assumption) | exact c1_f) dJ4_siftUpComparable_14 rfl ?_
      refine g_aload2 17 (by first | exact rv_r | exact rv_n | assumption | exact rv_f) dJ4_siftUpComparable_16 rfl ?_
      refine g_iload4 19 dJ4_siftUpComparable_17 rfl ?_
      refine g_aald 20 dJ4_siftUpComparable_19 rfl (by (repeat (first | refine mT_setF.trans ?_ | refine mT_setE.trans ?_ | refine mT_setA.trans ?_ | refine (mT_newA_old (by first | assumption | (apply Ne.symm; assumption) | omega | decide)).trans ?_ | refine (mT_newO_old (by first | assumption | (apply Ne.symm; assumption) | omega | decide)).trans ?_)); first | assumption | exact mT_newA_new | exact mT_newO_new) (by first | exact Nat.le_of_ble_eq_true rfl | omega) (by omega) (by omega) (by omega) (hep) ?_
      refine g_astore5 22 (Nat.le_of_ble_eq_true rfl) (by first | exact c1_0 | exact c1_i | exact c1_r | exact c1_n | exact c1_v (by assumption) | exact c1_f) (by first | exact rv_r | exact rv_n | assumption | exact rv_f) dJ4_siftUpComparable_20 rfl ?_
      refine g_aload3 23 (by first | exact rv_r | exact rv_n | assumption | exact rv_f) dJ4_siftUpComparable_22 rfl ?_
      refine g_aload5 25 (by first | exact rv_r | exact rv_n | assumption | exact rv_f) dJ4_siftUpComparable_23 rfl ?_
      refine l_cmp rfl dJ4_siftUpComparable_25 hci hx hkp (Nat.le_of_ble_eq_true rfl) (Nat.le_of_ble_eq_true rfl) ?_
      have hcr : R32 (cmpP (κ x) (κ (e ((h - 1) / 2)))) := by unfold cmpP; (repeat' split) <;> decide
      refine g_if_lt 36 33 dJ4_siftUpComparable_30 rfl rfl (by omega) (fun c30 => ?_) (fun c30 => ?_)
      · have hlt : κ x < κ (e ((h - 1) / 2)) := by unfold cmpP at c30; (repeat' split at c30) <;> omega
        have hpt := hkp.1.1
        refine g_aload2 37 (by first | exact rv_r | exact rv_n | assumption | exact rv_f) dJ4_siftUpComparable_36 rfl ?_
        refine g_iload0 38 dJ4_siftUpComparable_37 rfl ?_
        refine g_aload5 40 (by first | exact rv_r | exact rv_n | assumption | exact rv_f) dJ4_siftUpComparable_38 rfl ?_
        refine g_aast 41 dJ4_siftUpComparable_40 rfl (by (repeat (first | refine mT_setF.trans ?_ | refine mT_setE.trans ?_ | refine mT_setA.trans ?_ | refine (mT_newA_old (by first | assumption | (apply Ne.symm; assumption) | omega | decide)).trans ?_ | refine (mT_newO_old (by first | assumption | (apply Ne.symm; assumption) | omega | decide)).trans ?_)); first | assumption | exact mT_newA_new | exact mT_newO_new) (by first | assumption | omega) (by omega) (by omega) (by omega) (by (repeat (first | refine mT_setF.trans ?_ | refine mT_setE.trans ?_ | refine mT_setA.trans ?_ | refine (mT_newA_old (by first | assumption | (apply Ne.symm; assumption) | omega | decide)).trans ?_ | refine (mT_newO_old (by first | assumption | (apply Ne.symm; assumption) | omega | decide)).trans ?_)); first | assumption | exact mT_newA_new | exact mT_newO_new) (asgK hci) ?_
        refine g_iload4 43 dJ4_siftUpComparable_41 rfl ?_
        refine g_istore0 44 (Nat.le_of_ble_eq_true rfl) dJ4_siftUpComparable_43 rfl ?_
        refine g_goto 5 dJ4_siftUpComparable_44 rfl ?_
        have ea : EA ar M (setE M ar (h : Int).toNat (.ref (e ((h - 1) / 2)))) := EA.set
        refine ih ((h - 1) / 2) (upN e h (e ((h - 1) / 2))) _ _ _ (by omega) (by omega) ht hc (fun i hi hne => ?_) (fun i hi hne => ?_) (hx.ea ea) (hu.step (by omega) hlt) (by exact c1_i) (fun M' v a1 a2 a3 a4 a5 => ?_)
        · by_cases q : i = h
          · subst q
            rw [upN_at]; exact mE_setE_self
          · rw [upN_ne q]
            exact (mE_setE_i (by omega)).trans (he i hi q)
        · by_cases q : i = h
          · subst q
            rw [upN_at]; exact hkp.ea ea
          · rw [upN_ne q]
            exact (hk i hi q).ea ea
        · refine hQ M' v (ea.trans a1) a2 a3 (SM.trans (SM.swap (p := h) (q := (h - 1) / 2) (by omega) (by omega) ?_ ?_ ?_) a4) (fun i hi => (a5 i hi).trans (mE_setE_i (by omega)))
          · rw [upN_ne (by omega), upN_at, upN_ne (by omega)]
          · rw [upN_at, upN_at]
          · intro i hi n1 n2
            rw [upN_ne n2, upN_ne n1, upN_ne n1]
      · have hle : κ (e ((h - 1) / 2)) ≤ κ x := by unfold cmpP at c30; (repeat' split at c30) <;> omega
        refine g_goto 47 dJ4_siftUpComparable_33 rfl ?_
        exact fin h e M _ _ hh ht hc he hx (hu.done (Or.inr hle)) hQ
end JF
