/-! DOUBLE: isNaN, doubleToLongBits -/
set_option maxHeartbeats 4000000 in
theorem c_isNaN {E : Ev} {h : HP} {x : UInt64} (d k : Nat) : Call E yJ37_isNaN d k [.double x] h (rP h (if Op.cmpValue (FP.dcmp x x) .l = 0 then nI 0 else nI 1)) := by
  refine Call.of [.double x, dum] q1796 (by decide) pn_J37 (Nat.le_of_ble_eq_true rfl) rfl ?_
  refine z_dload0 0 dJ37_isNaN_0 ?_
  refine z_dload0 1 dJ37_isNaN_1 ?_
  refine z_dcmp 2 dJ37_isNaN_2 ?_
  refine z_ifeq 3 10 dJ37_isNaN_3 (by decide) (fun c_3 => ?_) (fun c_3 => ?_)
  · refine z_iconst 10 (nI 0) dJ37_isNaN_10 kI0 ?_
    refine z_zreturn 11 rfl (by decide) dJ37_isNaN_11 ?_
    exact rP_of (by first | exact (if_pos c_3).symm | exact (if_neg c_3).symm)
  · refine z_iconst 6 (nI 1) dJ37_isNaN_6 kI1 ?_
    refine z_goto 7 11 dJ37_isNaN_7 (by decide) ?_
    refine z_zreturn 11 rfl (by decide) dJ37_isNaN_11 ?_
    exact rP_of (by first | exact (if_pos c_3).symm | exact (if_neg c_3).symm)

set_option maxHeartbeats 4000000 in
theorem c_dlb {E : Ev} {h : HP} {x : UInt64} (d k : Nat) (hd : 1 ≤ d) : Call E yJ37_doubleToLongBits d k [.double x] h (rL fun y h' => h' = h ∧ y = dlB x) := by
  refine Call.of [.double x, dum] q1793 (by decide) pn_J37 (Nat.le_of_ble_eq_true rfl) rfl ?_
  refine z_dload0 0 dJ37_doubleToLongBits_0 ?_
  refine z_S1 (k' := k) 1 sJ37_122 dJ37_doubleToLongBits_1 (c_isNaN (d - 1) 0) (by omega) (by omega) (Nat.le_of_ble_eq_true rfl) (aft_P ?_)
  refine z_ifne 4 12 dJ37_doubleToLongBits_4 (by decide) (fun c_4 => ?_) (fun c_4 => ?_)
  · refine z_ldc2 12 (9221120237041090560 : Int64) q1800 dJ37_doubleToLongBits_12 ?_
    refine z_lreturn 15 rfl dJ37_doubleToLongBits_15 ?_
    exact ⟨_, rfl, rfl, by unfold dlB; first | (rw [if_pos]; by_cases q : Op.cmpValue (FP.dcmp x x) .l = 0; exact q; rw [if_neg q] at c_4; exact absurd c_4 (by decide)) | (rw [if_neg]; intro q; rw [if_pos q] at c_4; exact c_4 rfl)⟩
  · refine z_dload0 7 dJ37_doubleToLongBits_7 ?_
    refine z_d2l 8 q1797 dJ37_doubleToLongBits_8 (by omega) (Nat.le_of_ble_eq_true rfl) ?_
    refine z_lreturn 11 rfl dJ37_doubleToLongBits_11 ?_
    exact ⟨_, rfl, rfl, by unfold dlB; first | (rw [if_pos]; by_cases q : Op.cmpValue (FP.dcmp x x) .l = 0; exact q; rw [if_neg q] at c_4; exact absurd c_4 (by decide)) | (rw [if_neg]; intro q; rw [if_pos q] at c_4; exact c_4 rfl)⟩

