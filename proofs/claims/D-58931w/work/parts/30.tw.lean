/-! ===== the twin's memory: its five arrays behind it, its numbers ===== -/
def wr (z : Int) : Int := (ii z).toInt
theorem ii_wr (z : Int) : ii (wr z) = ii z := ii_of _
theorem wr_r (z : Int) : R32 (wr z) := ii_r _
theorem wr_id {z : Int} (h : R32 z) : wr z = z := ii_toInt h
def up (s : Int → Int) (i v : Int) : Int → Int := fun j => if j = i then wr v else s j
theorem up_at {s : Int → Int} {i v : Int} : up s i v i = wr v := if_pos rfl
theorem up_ne {s : Int → Int} {i j v : Int} (h : j ≠ i) : up s i v j = s j := if_neg h
theorem up_r {s : Int → Int} {i v : Int} (h : ∀ j, R32 (s j)) : ∀ j, R32 (up s i v j) := fun j => by
  unfold up; split
  · exact wr_r _
  · exact h j
def uT (T : Nat → Int → Int) (q : Nat) (i v : Int) : Nat → Int → Int := fun p j => if p = q ∧ j = i then wr v else T p j
theorem uT_at {T : Nat → Int → Int} {q : Nat} {i v : Int} : uT T q i v q i = wr v := if_pos ⟨rfl, rfl⟩
theorem uT_ne {T : Nat → Int → Int} {p q : Nat} {i j v : Int} (h : ¬ (p = q ∧ j = i)) : uT T q i v p j = T p j := if_neg h
theorem uT_r {T : Nat → Int → Int} {q : Nat} {i v : Int} (h : ∀ p j, R32 (T p j)) : ∀ p j, R32 (uT T q i v p j) := fun p j => by
  unfold uT; split
  · exact wr_r _
  · exact h p j
/-- the arrays' sizes: 1 before, 2 kept, 3 aside, 4 buffer -/
def szT (q : Nat) : Nat := if q = 1 then 1350 else if q = 4 then 60 else 270
/-- which field keeps an array -/
def fiT (q : Nat) : Nat := if q = 1 then 1 else if q = 2 then 3 else if q = 3 then 5 else 6
/-- the twin at m holds s and T (T q: its array q; T 5: its numbers by field); all else is as in M0 -/
def Tw (B : Nat) (M0 : Mem) (m : Nat) (s : Int → Int) (T : Nat → Int → Int) (M : Mem) : Prop :=
  (B ≤ m ∧ mN M = mN M0 ∧ (∀ a, mT M a = mT M0 a) ∧ ∀ a, (a < m ∨ m + 6 ≤ a) → (∀ c k, mF M c k a = mF M0 c k a) ∧ ∀ i, mE M a i = mE M0 a i) ∧
  (mT M m = some (.inl 5) ∧ mF M 5 0 m = .ref (m + 1) ∧ mT M (m + 1) = some (.inr (0, 270)) ∧ ∀ q, 1 ≤ q → q ≤ 4 → mF M 5 (fiT q) m = .ref (m + 1 + q) ∧ mT M (m + 1 + q) = some (.inr (0, szT q))) ∧
  (∀ i : Int, 0 ≤ i → i < 270 → mE M (m + 1) i.toNat = .int (ii (s i))) ∧ (∀ q, 1 ≤ q → q ≤ 4 → ∀ i : Int, 0 ≤ i → i < szT q → mE M (m + 1 + q) i.toNat = .int (ii (T q i))) ∧
  (∀ j : Nat, (j = 2 ∨ j = 4 ∨ j = 7 ∨ j = 8 ∨ j = 9 ∨ j = 10) → mF M 5 j m = .int (ii (T 5 j))) ∧ (∀ i, R32 (s i)) ∧ ∀ p i, R32 (T p i)
section TW
variable {K : KT} {f : FI} {d k n pc B m : Nat} {L : List (Option Value)} {st : List Value} {M M0 : Mem} {Q : Res → Mem → Prop} {s : Int → Int} {T : Nat → Int → Int}
theorem Tw.t (h : Tw B M0 m s T M) : mT M m = some (.inl 5) := h.2.1.1
theorem Tw.f0 (h : Tw B M0 m s T M) : mF M 5 0 m = .ref (m + 1) := h.2.1.2.1
theorem Tw.f1 (h : Tw B M0 m s T M) : mF M 5 1 m = .ref (m + 1 + 1) := (h.2.1.2.2.2 1 (by decide) (by decide)).1
theorem Tw.f3 (h : Tw B M0 m s T M) : mF M 5 3 m = .ref (m + 1 + 2) := (h.2.1.2.2.2 2 (by decide) (by decide)).1
theorem Tw.f5 (h : Tw B M0 m s T M) : mF M 5 5 m = .ref (m + 1 + 3) := (h.2.1.2.2.2 3 (by decide) (by decide)).1
theorem Tw.f6 (h : Tw B M0 m s T M) : mF M 5 6 m = .ref (m + 1 + 4) := (h.2.1.2.2.2 4 (by decide) (by decide)).1
theorem Tw.a0 (h : Tw B M0 m s T M) : mT M (m + 1) = some (.inr (0, 270)) := h.2.1.2.2.1
theorem Tw.a1 (h : Tw B M0 m s T M) : mT M (m + 1 + 1) = some (.inr (0, 1350)) := (h.2.1.2.2.2 1 (by decide) (by decide)).2
theorem Tw.a2 (h : Tw B M0 m s T M) : mT M (m + 1 + 2) = some (.inr (0, 270)) := (h.2.1.2.2.2 2 (by decide) (by decide)).2
theorem Tw.a3 (h : Tw B M0 m s T M) : mT M (m + 1 + 3) = some (.inr (0, 270)) := (h.2.1.2.2.2 3 (by decide) (by decide)).2
theorem Tw.a4 (h : Tw B M0 m s T M) : mT M (m + 1 + 4) = some (.inr (0, 60)) := (h.2.1.2.2.2 4 (by decide) (by decide)).2
theorem Tw.e0 (h : Tw B M0 m s T M) {i : Int} (h0 : 0 ≤ i) (h1 : i < 270) : mE M (m + 1) i.toNat = .int (ii (s i)) := h.2.2.1 i h0 h1
theorem Tw.e1 (h : Tw B M0 m s T M) {i : Int} (h0 : 0 ≤ i) (h1 : i < 1350) : mE M (m + 1 + 1) i.toNat = .int (ii (T 1 i)) := h.2.2.2.1 1 (by decide) (by decide) i h0 (by simpa [szT] using h1)
theorem Tw.e2 (h : Tw B M0 m s T M) {i : Int} (h0 : 0 ≤ i) (h1 : i < 270) : mE M (m + 1 + 2) i.toNat = .int (ii (T 2 i)) := h.2.2.2.1 2 (by decide) (by decide) i h0 (by simpa [szT] using h1)
theorem Tw.e3 (h : Tw B M0 m s T M) {i : Int} (h0 : 0 ≤ i) (h1 : i < 270) : mE M (m + 1 + 3) i.toNat = .int (ii (T 3 i)) := h.2.2.2.1 3 (by decide) (by decide) i h0 (by simpa [szT] using h1)
theorem Tw.e4 (h : Tw B M0 m s T M) {i : Int} (h0 : 0 ≤ i) (h1 : i < 60) : mE M (m + 1 + 4) i.toNat = .int (ii (T 4 i)) := h.2.2.2.1 4 (by decide) (by decide) i h0 (by simpa [szT] using h1)
theorem Tw.f2 (h : Tw B M0 m s T M) : mF M 5 2 m = .int (ii (T 5 2)) := h.2.2.2.2.1 2 (by decide)
theorem Tw.f4 (h : Tw B M0 m s T M) : mF M 5 4 m = .int (ii (T 5 4)) := h.2.2.2.2.1 4 (by decide)
theorem Tw.f7 (h : Tw B M0 m s T M) : mF M 5 7 m = .int (ii (T 5 7)) := h.2.2.2.2.1 7 (by decide)
theorem Tw.f8 (h : Tw B M0 m s T M) : mF M 5 8 m = .int (ii (T 5 8)) := h.2.2.2.2.1 8 (by decide)
theorem Tw.f9 (h : Tw B M0 m s T M) : mF M 5 9 m = .int (ii (T 5 9)) := h.2.2.2.2.1 9 (by decide)
theorem Tw.f10 (h : Tw B M0 m s T M) : mF M 5 10 m = .int (ii (T 5 10)) := h.2.2.2.2.1 10 (by decide)
theorem Tw.r (h : Tw B M0 m s T M) (i : Int) : R32 (s i) := h.2.2.2.2.2.1 i
theorem Tw.rT (h : Tw B M0 m s T M) (q : Nat) (i : Int) : R32 (T q i) := h.2.2.2.2.2.2 q i
theorem Tw.b (h : Tw B M0 m s T M) : B ≤ m := h.1.1
theorem Tw.cast {s' : Int → Int} {T' : Nat → Int → Int} (h : Tw B M0 m s T M) (e1 : s = s') (e2 : T = T') : Tw B M0 m s' T' M := e1 ▸ e2 ▸ h
theorem Tw.casts {s' : Int → Int} (h : Tw B M0 m s T M) (e1 : s = s') : Tw B M0 m s' T M := e1 ▸ h
theorem Tw.put0 (h : Tw B M0 m s T M) {i v : Int} (h0 : 0 ≤ i) : Tw B M0 m (up s i v) T (setE M (m + 1) i.toNat (.int (ii v))) := by
  obtain ⟨⟨a1, a2, a3, a4⟩, b, c, g, e, r1, r2⟩ := h
  refine ⟨⟨a1, a2, a3, fun a ha => ⟨(a4 a ha).1, fun j => (mE_setE_a (by omega)).trans ((a4 a ha).2 j)⟩⟩, b, fun j h2 h3 => ?_, fun q q1 q2 j h2 h3 => (mE_setE_a (by omega)).trans (g q q1 q2 j h2 h3), e, up_r r1, r2⟩
  by_cases hj : j = i
  · subst hj
    rw [mE_setE_self, up_at, ii_wr]
  · rw [mE_setE_i (by omega), up_ne hj]
    exact c j h2 h3
theorem Tw.put (h : Tw B M0 m s T M) {q : Nat} (q1 : 1 ≤ q) (q2 : q ≤ 4) {i v : Int} (h0 : 0 ≤ i) : Tw B M0 m s (uT T q i v) (setE M (m + 1 + q) i.toNat (.int (ii v))) := by
  obtain ⟨⟨a1, a2, a3, a4⟩, b, c, g, e, r1, r2⟩ := h
  refine ⟨⟨a1, a2, a3, fun a ha => ⟨(a4 a ha).1, fun j => (mE_setE_a (by omega)).trans ((a4 a ha).2 j)⟩⟩, b, fun j h2 h3 => (mE_setE_a (by omega)).trans (c j h2 h3), fun p p1 p2 j h2 h3 => ?_, fun j hj => ?_, r1, uT_r r2⟩
  · by_cases hp : p = q
    · subst hp
      by_cases hj : j = i
      · subst hj
        rw [mE_setE_self, uT_at, ii_wr]
      · rw [mE_setE_i (by omega), uT_ne (fun z => hj z.2)]
        exact g p p1 p2 j h2 h3
    · rw [mE_setE_a (by omega), uT_ne (fun z => hp z.1)]
      exact g p p1 p2 j h2 h3
  · rw [uT_ne (by omega)]
    exact e j hj
theorem Tw.putF (h : Tw B M0 m s T M) {j : Nat} (hj : j = 2 ∨ j = 4 ∨ j = 7 ∨ j = 8 ∨ j = 9 ∨ j = 10) {v : Int} : Tw B M0 m s (uT T 5 j v) (setF M 5 j m (.int (ii v))) := by
  obtain ⟨⟨a1, a2, a3, a4⟩, ⟨b1, b2, b3, b4⟩, c, g, e, r1, r2⟩ := h
  refine ⟨⟨a1, a2, a3, fun a ha => ⟨fun c k => (mF_setF_a (by omega)).trans ((a4 a ha).1 c k), (a4 a ha).2⟩⟩, ⟨b1, (mF_setF_k (by omega)).trans b2, b3, fun q q1 q2 => ⟨(mF_setF_k (by unfold fiT; (repeat' split) <;> omega)).trans (b4 q q1 q2).1, (b4 q q1 q2).2⟩⟩, c, fun q q1 q2 i h2 h3 => (g q q1 q2 i h2 h3).trans ?_, fun i hi => ?_, r1, uT_r r2⟩
  · rw [uT_ne (by omega)]
  · by_cases hij : i = j
    · subst hij
      rw [mF_setF_self, uT_at, ii_wr]
    · rw [mF_setF_k hij, uT_ne (by omega)]
      exact e i hi
theorem w_ias0 (pc' : Nat) {i v : Int} (hdg : decode (fC f) pc = .ok (.iastore, 1)) (hp : pc + 1 = pc') (hT : Tw (kB K) M0 m s T M) (h0 : 0 ≤ i) (h1 : i < 270) (h : ∀ M', Tw (kB K) M0 m (up s i v) T M' → Go K f d k n pc' L st M' Q) : Go K f d k n pc L (.int (ii v) :: .int (ii i) :: .ref (m + 1) :: st) M Q :=
  g_iast pc' hdg hp hT.a0 (Nat.le_trans hT.b (by omega)) h0 (by omega) (by omega) (h _ (hT.put0 h0))
theorem w_iasq (pc' : Nat) {i v : Int} (q : Nat) (q1 : 1 ≤ q) (q2 : q ≤ 4) (hdg : decode (fC f) pc = .ok (.iastore, 1)) (hp : pc + 1 = pc') (hT : Tw (kB K) M0 m s T M) (h0 : 0 ≤ i) (h1 : i < szT q) (h : ∀ M', Tw (kB K) M0 m s (uT T q i v) M' → Go K f d k n pc' L st M' Q) : Go K f d k n pc L (.int (ii v) :: .int (ii i) :: .ref (m + 1 + q) :: st) M Q :=
  g_iast pc' hdg hp (hT.2.1.2.2.2 q q1 q2).2 (Nat.le_trans hT.b (by omega)) h0 h1 (by unfold szT at h1; (repeat' split at h1) <;> omega) (h _ (hT.put q1 q2 h0))
theorem w_ias1 (pc' : Nat) {i v : Int} (hdg : decode (fC f) pc = .ok (.iastore, 1)) (hp : pc + 1 = pc') (hT : Tw (kB K) M0 m s T M) (h0 : 0 ≤ i) (h1 : i < 1350) (h : ∀ M', Tw (kB K) M0 m s (uT T 1 i v) M' → Go K f d k n pc' L st M' Q) : Go K f d k n pc L (.int (ii v) :: .int (ii i) :: .ref (m + 1 + 1) :: st) M Q :=
  w_iasq pc' 1 (by decide) (by decide) hdg hp hT h0 (by simpa [szT] using h1) h
theorem w_ias2 (pc' : Nat) {i v : Int} (hdg : decode (fC f) pc = .ok (.iastore, 1)) (hp : pc + 1 = pc') (hT : Tw (kB K) M0 m s T M) (h0 : 0 ≤ i) (h1 : i < 270) (h : ∀ M', Tw (kB K) M0 m s (uT T 2 i v) M' → Go K f d k n pc' L st M' Q) : Go K f d k n pc L (.int (ii v) :: .int (ii i) :: .ref (m + 1 + 2) :: st) M Q :=
  w_iasq pc' 2 (by decide) (by decide) hdg hp hT h0 (by simpa [szT] using h1) h
theorem w_ias3 (pc' : Nat) {i v : Int} (hdg : decode (fC f) pc = .ok (.iastore, 1)) (hp : pc + 1 = pc') (hT : Tw (kB K) M0 m s T M) (h0 : 0 ≤ i) (h1 : i < 270) (h : ∀ M', Tw (kB K) M0 m s (uT T 3 i v) M' → Go K f d k n pc' L st M' Q) : Go K f d k n pc L (.int (ii v) :: .int (ii i) :: .ref (m + 1 + 3) :: st) M Q :=
  w_iasq pc' 3 (by decide) (by decide) hdg hp hT h0 (by simpa [szT] using h1) h
theorem w_ias4 (pc' : Nat) {i v : Int} (hdg : decode (fC f) pc = .ok (.iastore, 1)) (hp : pc + 1 = pc') (hT : Tw (kB K) M0 m s T M) (h0 : 0 ≤ i) (h1 : i < 60) (h : ∀ M', Tw (kB K) M0 m s (uT T 4 i v) M' → Go K f d k n pc' L st M' Q) : Go K f d k n pc L (.int (ii v) :: .int (ii i) :: .ref (m + 1 + 4) :: st) M Q :=
  w_iasq pc' 4 (by decide) (by decide) hdg hp hT h0 (by simpa [szT] using h1) h
theorem w_putq (pc' : Nat) {ix : Nat} {v : Int} (j : Nat) (hj : j = 2 ∨ j = 4 ∨ j = 7 ∨ j = 8 ∨ j = 9 ∨ j = 10) {ty : FieldType} (hv : FT ty (.int (ii v))) (hdg : decode (fC f) pc = .ok (.putfield ix, 3)) (hp : pc + 3 = pc') (hl : FL (fO f) ix 5 j ty false) (hT : Tw (kB K) M0 m s T M) (h : ∀ M', Tw (kB K) M0 m s (uT T 5 j v) M' → Go K f d k n pc' L st M' Q) : Go K f d k n pc L (.int (ii v) :: .ref m :: st) M Q :=
  g_putf pc' hdg hp hl hT.t hT.b hv (h _ (hT.putF hj))
theorem w_put2 (pc' : Nat) {ix : Nat} {v : Int} (hdg : decode (fC f) pc = .ok (.putfield ix, 3)) (hp : pc + 3 = pc') (hl : FL (fO f) ix 5 2 .int false) (hT : Tw (kB K) M0 m s T M) (h : ∀ M', Tw (kB K) M0 m s (uT T 5 2 v) M' → Go K f d k n pc' L st M' Q) : Go K f d k n pc L (.int (ii v) :: .ref m :: st) M Q := w_putq pc' 2 (by decide) ft_i hdg hp hl hT h
theorem w_put7 (pc' : Nat) {ix : Nat} {v : Int} (hdg : decode (fC f) pc = .ok (.putfield ix, 3)) (hp : pc + 3 = pc') (hl : FL (fO f) ix 5 7 .int false) (hT : Tw (kB K) M0 m s T M) (h : ∀ M', Tw (kB K) M0 m s (uT T 5 7 v) M' → Go K f d k n pc' L st M' Q) : Go K f d k n pc L (.int (ii v) :: .ref m :: st) M Q := w_putq pc' 7 (by decide) ft_i hdg hp hl hT h
theorem w_put8 (pc' : Nat) {ix : Nat} {v : Int} (hdg : decode (fC f) pc = .ok (.putfield ix, 3)) (hp : pc + 3 = pc') (hl : FL (fO f) ix 5 8 .int false) (hT : Tw (kB K) M0 m s T M) (h : ∀ M', Tw (kB K) M0 m s (uT T 5 8 v) M' → Go K f d k n pc' L st M' Q) : Go K f d k n pc L (.int (ii v) :: .ref m :: st) M Q := w_putq pc' 8 (by decide) ft_i hdg hp hl hT h
theorem w_put9 (pc' : Nat) {ix : Nat} {v : Int} (hdg : decode (fC f) pc = .ok (.putfield ix, 3)) (hp : pc + 3 = pc') (hl : FL (fO f) ix 5 9 .int false) (hT : Tw (kB K) M0 m s T M) (h : ∀ M', Tw (kB K) M0 m s (uT T 5 9 v) M' → Go K f d k n pc' L st M' Q) : Go K f d k n pc L (.int (ii v) :: .ref m :: st) M Q := w_putq pc' 9 (by decide) ft_i hdg hp hl hT h
theorem w_put4 (pc' : Nat) {ix : Nat} {v : Int} (hdg : decode (fC f) pc = .ok (.putfield ix, 3)) (hp : pc + 3 = pc') (hl : FL (fO f) ix 5 4 .boolean false) (hT : Tw (kB K) M0 m s T M) (hv : v = 0 ∨ v = 1) (h : ∀ M', Tw (kB K) M0 m s (uT T 5 4 v) M' → Go K f d k n pc' L st M' Q) : Go K f d k n pc L (.int (ii v) :: .ref m :: st) M Q := w_putq pc' 4 (by decide) (ft_z hv) hdg hp hl hT h
theorem w_put10 (pc' : Nat) {ix : Nat} {v : Int} (hdg : decode (fC f) pc = .ok (.putfield ix, 3)) (hp : pc + 3 = pc') (hl : FL (fO f) ix 5 10 .boolean false) (hT : Tw (kB K) M0 m s T M) (hv : v = 0 ∨ v = 1) (h : ∀ M', Tw (kB K) M0 m s (uT T 5 10 v) M' → Go K f d k n pc' L st M' Q) : Go K f d k n pc L (.int (ii v) :: .ref m :: st) M Q := w_putq pc' 10 (by decide) (ft_z hv) hdg hp hl hT h
theorem lq {a b : Int} (h : Q (.inl (some (.int (ii a)))) M) (e : b = a) : Q (.inl (some (.int (ii b)))) M := e ▸ h
end TW
