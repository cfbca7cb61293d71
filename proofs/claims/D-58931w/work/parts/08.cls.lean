/-! ===== the claim's classes and arrays by number; the memory seen from above ===== -/
def tyNo : u_T := fun _ => ("", "", "", false)
def clS : List vw_C := [(RX1, TX1, 5), (RX2, TX2, 16), (RX3, TX3, 4), (RX4, TX4, 3), (RX5, TX5, 5), (RX6, TX6, 11), (RX7, TX7, 6), (RX8, TX8, 4), ("PostChaiseYard$ByMiles", tyNo, 0), (RX10, TX10, 3), (RX11, TX11, 2), (RJ2, TJ2, 3), (RJ4, TJ4, 4), (RJ10, TJ10, 9), (RJ23, TJ23, 6), (RJ33, TJ33, 1), (RJ24, TJ24, 3), (RJ26, TJ26, 4), (RJ18, TJ18, 4), (RJ17, TJ17, 1), ("PostChaiseYard$Status", tyNo, 0), ("java/lang/Object", tyNo, 0)]
def clN (ci : Nat) : String := (clS.getD ci ("", tyNo, 0)).1
def clF (ci : Nat) : Nat := (clS.getD ci ("", tyNo, 0)).2.2
/-- the arrays' kinds -/
def atS : List FieldType := [.int, .byte, .long, .object "java/lang/Object", .object "PostChaiseYard$Status", .object "java/lang/String", .object "java/lang/Integer"]
abbrev Tag : Type := Nat ⊕ (Nat × Nat)
/-- what is known of each address; fields by class and place; arrays' elements; how many cells -/
abbrev Mem : Type := (Nat → Option Tag) × (Nat → Nat → Nat → Value) × (Nat → Nat → Value) × Nat
def mT (M : Mem) (a : Nat) : Option Tag := M.1 a
def mF (M : Mem) (ci k a : Nat) : Value := M.2.1 ci k a
def mE (M : Mem) (a i : Nat) : Value := M.2.2.1 a i
def mN (M : Mem) : Nat := M.2.2.2
def setF (M : Mem) (ci k a : Nat) (v : Value) : Mem := (M.1, fun c j b => if c = ci ∧ j = k ∧ b = a then v else M.2.1 c j b, M.2.2.1, M.2.2.2)
def setE (M : Mem) (a i : Nat) (v : Value) : Mem := (M.1, M.2.1, fun b j => if b = a ∧ j = i then v else M.2.2.1 b j, M.2.2.2)
/-- a whole array's elements anew -/
def setA (M : Mem) (a : Nat) (f : Nat → Value) : Mem := (M.1, M.2.1, fun b j => if b = a then f j else M.2.2.1 b j, M.2.2.2)
/-- a new object, a new array: at the address mN M -/
def newO (M : Mem) (ci : Nat) (f : Nat → Value) : Mem := (fun a => if a = M.2.2.2 then some (.inl ci) else M.1 a, fun c j b => if c = ci ∧ b = M.2.2.2 then f j else M.2.1 c j b, M.2.2.1, M.2.2.2 + 1)
def newA (M : Mem) (ti n : Nat) (v : Value) : Mem := (fun a => if a = M.2.2.2 then some (.inr (ti, n)) else M.1 a, M.2.1, fun b j => if b = M.2.2.2 then v else M.2.2.1 b j, M.2.2.2 + 1)
/-- more cells that nothing is known of (an exception's) -/
def more (M : Mem) (n : Nat) : Mem := (M.1, M.2.1, M.2.2.1, n)
theorem mT_setF {M : Mem} {ci k a b : Nat} {v : Value} : mT (setF M ci k a v) b = mT M b := rfl
theorem mE_setF {M : Mem} {ci k a b i : Nat} {v : Value} : mE (setF M ci k a v) b i = mE M b i := rfl
theorem mN_setF {M : Mem} {ci k a : Nat} {v : Value} : mN (setF M ci k a v) = mN M := rfl
theorem mT_setE {M : Mem} {a i b : Nat} {v : Value} : mT (setE M a i v) b = mT M b := rfl
theorem mF_setE {M : Mem} {a i b c j : Nat} {v : Value} : mF (setE M a i v) c j b = mF M c j b := rfl
theorem mN_setE {M : Mem} {a i : Nat} {v : Value} : mN (setE M a i v) = mN M := rfl
theorem mT_setA {M : Mem} {a b : Nat} {f : Nat → Value} : mT (setA M a f) b = mT M b := rfl
theorem mF_setA {M : Mem} {a b c j : Nat} {f : Nat → Value} : mF (setA M a f) c j b = mF M c j b := rfl
theorem mN_setA {M : Mem} {a : Nat} {f : Nat → Value} : mN (setA M a f) = mN M := rfl
theorem mE_setA {M : Mem} {a b i : Nat} {f : Nat → Value} : mE (setA M a f) b i = if b = a then f i else mE M b i := rfl
theorem mF_setF {M : Mem} {ci k a c j b : Nat} {v : Value} : mF (setF M ci k a v) c j b = if c = ci ∧ j = k ∧ b = a then v else mF M c j b := rfl
theorem mE_setE {M : Mem} {a i b j : Nat} {v : Value} : mE (setE M a i v) b j = if b = a ∧ j = i then v else mE M b j := rfl
theorem mF_setF_self {M : Mem} {ci k a : Nat} {v : Value} : mF (setF M ci k a v) ci k a = v := if_pos ⟨rfl, rfl, rfl⟩
theorem mF_setF_c {M : Mem} {ci k a c j b : Nat} {v : Value} (h : c ≠ ci) : mF (setF M ci k a v) c j b = mF M c j b := if_neg fun q => h q.1
theorem mF_setF_k {M : Mem} {ci k a c j b : Nat} {v : Value} (h : j ≠ k) : mF (setF M ci k a v) c j b = mF M c j b := if_neg fun q => h q.2.1
theorem mF_setF_a {M : Mem} {ci k a c j b : Nat} {v : Value} (h : b ≠ a) : mF (setF M ci k a v) c j b = mF M c j b := if_neg fun q => h q.2.2
theorem mE_setE_self {M : Mem} {a i : Nat} {v : Value} : mE (setE M a i v) a i = v := if_pos ⟨rfl, rfl⟩
theorem mE_setE_a {M : Mem} {a i b j : Nat} {v : Value} (h : b ≠ a) : mE (setE M a i v) b j = mE M b j := if_neg fun q => h q.1
theorem mE_setE_i {M : Mem} {a i b j : Nat} {v : Value} (h : j ≠ i) : mE (setE M a i v) b j = mE M b j := if_neg fun q => h q.2
theorem mN_newO {M : Mem} {ci : Nat} {f : Nat → Value} : mN (newO M ci f) = mN M + 1 := rfl
theorem mE_newO {M : Mem} {ci b i : Nat} {f : Nat → Value} : mE (newO M ci f) b i = mE M b i := rfl
theorem mT_newO {M : Mem} {ci b : Nat} {f : Nat → Value} : mT (newO M ci f) b = if b = mN M then some (.inl ci) else mT M b := rfl
theorem mF_newO {M : Mem} {ci c j b : Nat} {f : Nat → Value} : mF (newO M ci f) c j b = if c = ci ∧ b = mN M then f j else mF M c j b := rfl
theorem mN_newA {M : Mem} {ti n : Nat} {v : Value} : mN (newA M ti n v) = mN M + 1 := rfl
theorem mF_newA {M : Mem} {ti n c j b : Nat} {v : Value} : mF (newA M ti n v) c j b = mF M c j b := rfl
theorem mT_newA {M : Mem} {ti n b : Nat} {v : Value} : mT (newA M ti n v) b = if b = mN M then some (.inr (ti, n)) else mT M b := rfl
theorem mE_newA {M : Mem} {ti n b i : Nat} {v : Value} : mE (newA M ti n v) b i = if b = mN M then v else mE M b i := rfl
theorem mT_newO_new {M : Mem} {ci : Nat} {f : Nat → Value} : mT (newO M ci f) (mN M) = some (.inl ci) := if_pos rfl
theorem mT_newO_old {M : Mem} {ci b : Nat} {f : Nat → Value} (h : b ≠ mN M) : mT (newO M ci f) b = mT M b := if_neg h
theorem mF_newO_new {M : Mem} {ci j : Nat} {f : Nat → Value} : mF (newO M ci f) ci j (mN M) = f j := if_pos ⟨rfl, rfl⟩
theorem mF_newO_old {M : Mem} {ci c j b : Nat} {f : Nat → Value} (h : b ≠ mN M) : mF (newO M ci f) c j b = mF M c j b := if_neg fun q => h q.2
theorem mT_newA_new {M : Mem} {ti n : Nat} {v : Value} : mT (newA M ti n v) (mN M) = some (.inr (ti, n)) := if_pos rfl
theorem mT_newA_old {M : Mem} {ti n b : Nat} {v : Value} (h : b ≠ mN M) : mT (newA M ti n v) b = mT M b := if_neg h
theorem mE_newA_new {M : Mem} {ti n i : Nat} {v : Value} : mE (newA M ti n v) (mN M) i = v := if_pos rfl
theorem mE_newA_old {M : Mem} {ti n b i : Nat} {v : Value} (h : b ≠ mN M) : mE (newA M ti n v) b i = mE M b i := if_neg h
/-- an int as the machine has it, of a whole number -/
def ii (z : Int) : Int32 := Int32.ofInt z
abbrev R32 (z : Int) : Prop := -2147483648 ≤ z ∧ z < 2147483648
theorem ii_toInt {z : Int} (h : R32 z) : (ii z).toInt = z := Int32.toInt_ofInt_of_le (by have := h.1; simpa using this) (by have := h.2; simpa using this)
theorem ii_of (x : Int32) : ii x.toInt = x := Int32.ofInt_toInt x
theorem ii_r (x : Int32) : R32 x.toInt := ⟨by simpa using Int32.minValue_le_toInt x, by have := Int32.toInt_lt x; simpa using this⟩
theorem ii_ex (x : Int32) : ∃ z, x = ii z ∧ R32 z := ⟨x.toInt, (ii_of x).symm, ii_r x⟩
theorem ii_add (a b : Int) : ii a + ii b = ii (a + b) := (Int32.ofInt_add a b).symm
theorem ii_sub (a b : Int) : ii a - ii b = ii (a - b) := (Int32.ofInt_sub a b).symm
theorem ii_mul (a b : Int) : ii a * ii b = ii (a * b) := (Int32.ofInt_mul a b).symm
theorem ii_neg (a : Int) : - ii a = ii (- a) := (Int32.ofInt_neg (a := a)).symm
theorem ii_inj {a b : Int} (ha : R32 a) (hb : R32 b) : ii a = ii b ↔ a = b := ⟨fun h => by rw [← ii_toInt ha, ← ii_toInt hb, h], fun h => by rw [h]⟩
theorem ii_lt {a b : Int} (ha : R32 a) (hb : R32 b) : ii a < ii b ↔ a < b := by rw [Int32.lt_iff_toInt_lt, ii_toInt ha, ii_toInt hb]
theorem ii_le {a b : Int} (ha : R32 a) (hb : R32 b) : ii a ≤ ii b ↔ a ≤ b := by rw [Int32.le_iff_toInt_le, ii_toInt ha, ii_toInt hb]
theorem ii_nat {a : Int} (h0 : 0 ≤ a) (h : a < 2147483648) : (ii a).toNatClampNeg = a.toNat := by
  show (ii a).toInt.toNat = _
  rw [ii_toInt ⟨by omega, h⟩]
