/-! ===== leaves of the yard: plain numbers ===== -/
def milesP (r : Int) : Int := if r = 0 then 6 else if r = 1 then 9 else if r = 2 then 12 else 16
def fareP (rk r : Int) : Int := (if rk = 0 then 28 else if rk = 1 then 21 else 14) * milesP r
section LEAF
variable {K : KT} {k n : Nat} {M : Mem} {Q : Res → Mem → Prop}
theorem c_X1_milesOf {r : Int} (hr : R32 r) (hQ : Q (.inl (some (.int (ii (milesP r))))) M) : Go K fX1_milesOf 1 k n 0 [some (.int (ii r))] [] M Q := by
  refine g_iload0 1 dX1_milesOf_0 rfl ?_
  rcases (show (r < 0 ∨ 2 < r) ∨ r = 0 ∨ r = 1 ∨ r = 2 by omega) with h | h | h | h
  · refine g_tableOut 37 dX1_milesOf_1 hr h rfl ?_
    rw [show milesP r = 16 by unfold milesP; rw [if_neg (by omega), if_neg (by omega), if_neg (by omega)]] at hQ
    refine g_bipush 39 (by rfl) dX1_milesOf_37 rfl ?_
    refine g_iret dX1_milesOf_39 rfl ?_
    exact hQ
  · subst h
    refine g_tableIn 28 dX1_milesOf_1 hr (by decide) (by decide) rfl rfl ?_
    refine g_bipush 30 (by rfl) dX1_milesOf_28 rfl ?_
    refine g_iret dX1_milesOf_30 rfl ?_
    exact hQ
  · subst h
    refine g_tableIn 31 dX1_milesOf_1 hr (by decide) (by decide) rfl rfl ?_
    refine g_bipush 33 (by rfl) dX1_milesOf_31 rfl ?_
    refine g_iret dX1_milesOf_33 rfl ?_
    exact hQ
  · subst h
    refine g_tableIn 34 dX1_milesOf_1 hr (by decide) (by decide) rfl rfl ?_
    refine g_bipush 36 (by rfl) dX1_milesOf_34 rfl ?_
    refine g_iret dX1_milesOf_36 rfl ?_
    exact hQ
theorem c_X8_fare {a : Nat} {rk r : Int} (ht : mT M a = some (.inl 7)) (h1 : mF M 7 1 a = .int (ii rk)) (h2 : mF M 7 2 a = .int (ii r)) (hk : R32 rk) (hr : R32 r) (hQ : Q (.inl (some (.int (ii (fareP rk r))))) M) : Go K fX8_fare 2 k n 0 [some (.ref a), none] [] M Q := by
  have tail : ∀ z : Int, z * milesP r = fareP rk r → Go K fX8_fare 2 k n 27 [some (.ref a), none] [.int (ii z)] M Q := by
    intro z hz
    refine g_istore1 28 (Nat.le_of_ble_eq_true rfl) (by first | exact c1_0 | exact c1_i | exact c1_r | exact c1_n | exact c1_v (by assumption) | exact c1_f) dX8_fare_27 rfl ?_
    refine g_iload1 29 dX8_fare_28 rfl ?_
    refine g_aload0 30 (by first | exact rv_r | exact rv_n | assumption | exact rv_f) dX8_fare_29 rfl ?_
    refine g_getf 33 dX8_fare_30 rfl fl_X8_16 (by assumption) (by assumption) ?_
    refine k_SN1z 36 dX8_fare_33 rfl lk_X8_22 rfl (by first | rfl | exact rv_cat (by assumption) | exact rv_cat rv_f) (Nat.le_of_ble_eq_true rfl) (by first | exact Nat.le_of_ble_eq_true rfl | omega) (c_X1_milesOf hr ?_)
    refine g_imul 37 dX8_fare_36 rfl ?_
    refine g_iret dX8_fare_37 rfl ?_
    rw [hz]
    exact hQ
  refine g_aload0 1 (by first | exact rv_r | exact rv_n | assumption | exact rv_f) dX8_fare_0 rfl ?_
  refine g_getf 4 dX8_fare_1 rfl fl_X8_13 (by assumption) (by assumption) ?_
  refine g_if_ne 12 7 dX8_fare_4 rfl rfl (by omega) (fun c4 => ?_) (fun c4 => ?_)
  · refine g_aload0 13 (by first | exact rv_r | exact rv_n | assumption | exact rv_f) dX8_fare_12 rfl ?_
    refine g_getf 16 dX8_fare_13 rfl fl_X8_13 (by assumption) (by assumption) ?_
    refine g_iconst 17 dX8_fare_16 rfl ?_
    refine g_icmp_ne 25 20 dX8_fare_17 rfl rfl (by omega) (by omega) (fun c17 => ?_) (fun c17 => ?_)
    · refine g_bipush 27 (by rfl) dX8_fare_25 rfl ?_
      exact tail 14 (by unfold fareP; rw [if_neg (by omega), if_neg (by omega)])
    · refine g_bipush 22 (by rfl) dX8_fare_20 rfl ?_
      refine g_goto 27 dX8_fare_22 rfl ?_
      exact tail 21 (by unfold fareP; rw [if_neg (by omega), if_pos (by omega)])
  · refine g_bipush 9 (by rfl) dX8_fare_7 rfl ?_
    refine g_goto 27 dX8_fare_9 rfl ?_
    exact tail 28 (by unfold fareP; rw [if_pos (by omega)])
end LEAF
