/-! JOB, OUTING, INTEGER -/
/-- a comparison's answer for keys a, b -/
def Cm (x : Int32) (a b : Nat) : Prop := (x < 0 ↔ a < b) ∧ (x = 0 ↔ a = b)
theorem Cm.neg {x : Int32} {a b : Nat} (h : Cm x a b) (q : a < b) : x < 0 := h.1.mpr q
theorem Cm.le {x : Int32} {a b : Nat} (h : Cm x a b) : x ≤ 0 ↔ a ≤ b := by
  rw [Int32.le_iff_toInt_le, Nat.le_iff_lt_or_eq, ← h.1, ← h.2, Int32.lt_iff_toInt_lt, ← Int32.toInt_inj]
  have : (0 : Int32).toInt = 0 := rfl
  omega
theorem Cm.gt {x : Int32} {a b : Nat} (h : Cm x a b) : 0 < x ↔ b < a := by
  have := h.le
  rw [Int32.le_iff_toInt_le] at this
  rw [Int32.lt_iff_toInt_lt]
  omega
theorem Cm.ge {x : Int32} {a b : Nat} (h : Cm x a b) : 0 ≤ x ↔ b ≤ a := by
  have := h.1
  rw [Int32.lt_iff_toInt_lt] at this
  rw [Int32.le_iff_toInt_le]
  omega
theorem sub_sg {a b : Nat} (ha : a < 2 ^ 30) (hb : b < 2 ^ 30) : (nI a - nI b < 0 ↔ a < b) ∧ (nI a - nI b = 0 ↔ a = b) := by
  have h := pk_sub_toInt ha hb
  have h0 : (0 : Int32).toInt = 0 := rfl
  rw [Int32.lt_iff_toInt_lt, ← Int32.toInt_inj, h, h0]
  omega
/-- a job's picture: place, kind, rank, day -/
def JobAt (h : HP) (j p q : Nat) (r y : Int32) : Prop := h.kd j = 3 ∧ h.mm j 0 = .int (nI p) ∧ h.mm j 1 = .int (nI q) ∧ h.mm j 2 = .int r ∧ h.mm j 3 = .int y
def OutAt (h : HP) (o y c g n : Nat) : Prop := h.kd o = 4 ∧ h.mm o 0 = .int (nI y) ∧ h.mm o 1 = .int (nI c) ∧ h.mm o 2 = .int (nI g) ∧ h.mm o 3 = .int (nI n)
/-- a job's key in the order; an outing's -/
def kJ (r y p q : Nat) : Nat := (r * 4096 + y) * 16 + (2 * p + q)
def kO (y c n : Nat) : Nat := (y * 128 + (127 - c)) * 1048576 + n
set_option maxHeartbeats 4000000 in
theorem c_jobCmp2 {E : Ev} {h : HP} {a b r y p q r2 y2 p2 q2 : Nat} (d k : Nat) (br : r < 2) (br2 : r2 < 2) (by1 : y < 4096) (by2 : y2 < 4096) (bp : p < 8) (bp2 : p2 < 8) (bq : q < 2) (bq2 : q2 < 2) (X : JobAt h a p q (nI r) (nI y)) (Y : JobAt h b p2 q2 (nI r2) (nI y2)) : Call E yX4_compareTo_2 d k [.ref a, .ref b] h (rI fun x h' => h' = h ∧ Cm x (kJ r y p q) (kJ r2 y2 p2 q2)) := by
  have s1 := pk_sub_toInt (a := r) (b := r2) (by omega) (by omega)
  have s2 := pk_sub_toInt (a := y) (b := y2) (by omega) (by omega)
  have s3 := pk_sub_toInt (a := p) (b := p2) (by omega) (by omega)
  have s4 := pk_sub_toInt (a := q) (b := q2) (by omega) (by omega)
  refine Call.of [.ref a, .ref b, dum] q1152 (by decide) pn_X4 (Nat.le_of_ble_eq_true rfl) rfl ?_
  first | refine z_aload0 0 dX4_compareTo_2_0 ?_ | refine z_aload0N 0 dX4_compareTo_2_0 ?_ | refine z_aload0o 0 dX4_compareTo_2_0 ?_
  refine z_get 1 gX4_16 dX4_compareTo_2_1 X.1 X.2.2.2.1 ?_
  first | refine z_aload1 4 dX4_compareTo_2_4 ?_ | refine z_aload1N 4 dX4_compareTo_2_4 ?_ | refine z_aload1o 4 dX4_compareTo_2_4 ?_
  refine z_get 5 gX4_16 dX4_compareTo_2_5 Y.1 Y.2.2.2.1 ?_
  refine z_isub 8 dX4_compareTo_2_8 ?_
  refine z_istore2 9 dX4_compareTo_2_9 rfl ?_
  refine z_iload2 10 dX4_compareTo_2_10 ?_
  refine z_ifne 11 26 dX4_compareTo_2_11 (by decide) (fun n1 => ?_) (fun z1 => ?_)
  · refine z_iload2 26 dX4_compareTo_2_26 ?_
    refine z_istore2 27 dX4_compareTo_2_27 rfl ?_
    refine z_iload2 28 dX4_compareTo_2_28 ?_
    refine z_ifne 29 44 dX4_compareTo_2_29 (by decide) (fun n2 => ?_) (fun z2 => ?_)
    · refine z_iload2 44 dX4_compareTo_2_44 ?_
      refine z_istore2 45 dX4_compareTo_2_45 rfl ?_
      refine z_iload2 46 dX4_compareTo_2_46 ?_
      refine z_ifne 47 62 dX4_compareTo_2_47 (by decide) (fun n3 => ?_) (fun z3 => ?_)
      · refine z_iload2 62 dX4_compareTo_2_62 ?_
        refine z_ireturn 63 rfl dX4_compareTo_2_63 ?_
        refine ⟨_, rfl, rfl, ?_⟩
        unfold Cm kJ
        have h0 : (0 : Int32).toInt = 0 := rfl
        try simp only [← Int32.toInt_inj, s1, s2, s3, s4, h0, ne_eq] at n1
        try simp only [← Int32.toInt_inj, s1, s2, s3, s4, h0, ne_eq] at z1
        try simp only [← Int32.toInt_inj, s1, s2, s3, s4, h0, ne_eq] at n2
        try simp only [← Int32.toInt_inj, s1, s2, s3, s4, h0, ne_eq] at z2
        try simp only [← Int32.toInt_inj, s1, s2, s3, s4, h0, ne_eq] at n3
        try simp only [← Int32.toInt_inj, s1, s2, s3, s4, h0, ne_eq] at z3
        simp only [Int32.lt_iff_toInt_lt, ← Int32.toInt_inj, s1, s2, s3, s4, h0]
        constructor <;> omega
      · first | refine z_aload0 50 dX4_compareTo_2_50 ?_ | refine z_aload0N 50 dX4_compareTo_2_50 ?_ | refine z_aload0o 50 dX4_compareTo_2_50 ?_
        refine z_get 51 gX4_13 dX4_compareTo_2_51 X.1 X.2.2.1 ?_
        first | refine z_aload1 54 dX4_compareTo_2_54 ?_ | refine z_aload1N 54 dX4_compareTo_2_54 ?_ | refine z_aload1o 54 dX4_compareTo_2_54 ?_
        refine z_get 55 gX4_13 dX4_compareTo_2_55 Y.1 Y.2.2.1 ?_
        refine z_isub 58 dX4_compareTo_2_58 ?_
        refine z_goto 59 63 dX4_compareTo_2_59 (by decide) ?_
        refine z_ireturn 63 rfl dX4_compareTo_2_63 ?_
        refine ⟨_, rfl, rfl, ?_⟩
        unfold Cm kJ
        have h0 : (0 : Int32).toInt = 0 := rfl
        try simp only [← Int32.toInt_inj, s1, s2, s3, s4, h0, ne_eq] at n1
        try simp only [← Int32.toInt_inj, s1, s2, s3, s4, h0, ne_eq] at z1
        try simp only [← Int32.toInt_inj, s1, s2, s3, s4, h0, ne_eq] at n2
        try simp only [← Int32.toInt_inj, s1, s2, s3, s4, h0, ne_eq] at z2
        try simp only [← Int32.toInt_inj, s1, s2, s3, s4, h0, ne_eq] at n3
        try simp only [← Int32.toInt_inj, s1, s2, s3, s4, h0, ne_eq] at z3
        simp only [Int32.lt_iff_toInt_lt, ← Int32.toInt_inj, s1, s2, s3, s4, h0]
        constructor <;> omega
    · first | refine z_aload0 32 dX4_compareTo_2_32 ?_ | refine z_aload0N 32 dX4_compareTo_2_32 ?_ | refine z_aload0o 32 dX4_compareTo_2_32 ?_
      refine z_get 33 gX4_7 dX4_compareTo_2_33 X.1 X.2.1 ?_
      first | refine z_aload1 36 dX4_compareTo_2_36 ?_ | refine z_aload1N 36 dX4_compareTo_2_36 ?_ | refine z_aload1o 36 dX4_compareTo_2_36 ?_
      refine z_get 37 gX4_7 dX4_compareTo_2_37 Y.1 Y.2.1 ?_
      refine z_isub 40 dX4_compareTo_2_40 ?_
      refine z_goto 41 45 dX4_compareTo_2_41 (by decide) ?_
      refine z_istore2 45 dX4_compareTo_2_45 rfl ?_
      refine z_iload2 46 dX4_compareTo_2_46 ?_
      refine z_ifne 47 62 dX4_compareTo_2_47 (by decide) (fun n3 => ?_) (fun z3 => ?_)
      · refine z_iload2 62 dX4_compareTo_2_62 ?_
        refine z_ireturn 63 rfl dX4_compareTo_2_63 ?_
        refine ⟨_, rfl, rfl, ?_⟩
        unfold Cm kJ
        have h0 : (0 : Int32).toInt = 0 := rfl
        try simp only [← Int32.toInt_inj, s1, s2, s3, s4, h0, ne_eq] at n1
        try simp only [← Int32.toInt_inj, s1, s2, s3, s4, h0, ne_eq] at z1
        try simp only [← Int32.toInt_inj, s1, s2, s3, s4, h0, ne_eq] at n2
        try simp only [← Int32.toInt_inj, s1, s2, s3, s4, h0, ne_eq] at z2
        try simp only [← Int32.toInt_inj, s1, s2, s3, s4, h0, ne_eq] at n3
        try simp only [← Int32.toInt_inj, s1, s2, s3, s4, h0, ne_eq] at z3
        simp only [Int32.lt_iff_toInt_lt, ← Int32.toInt_inj, s1, s2, s3, s4, h0]
        constructor <;> omega
      · first | refine z_aload0 50 dX4_compareTo_2_50 ?_ | refine z_aload0N 50 dX4_compareTo_2_50 ?_ | refine z_aload0o 50 dX4_compareTo_2_50 ?_
        refine z_get 51 gX4_13 dX4_compareTo_2_51 X.1 X.2.2.1 ?_
        first | refine z_aload1 54 dX4_compareTo_2_54 ?_ | refine z_aload1N 54 dX4_compareTo_2_54 ?_ | refine z_aload1o 54 dX4_compareTo_2_54 ?_
        refine z_get 55 gX4_13 dX4_compareTo_2_55 Y.1 Y.2.2.1 ?_
        refine z_isub 58 dX4_compareTo_2_58 ?_
        refine z_goto 59 63 dX4_compareTo_2_59 (by decide) ?_
        refine z_ireturn 63 rfl dX4_compareTo_2_63 ?_
        refine ⟨_, rfl, rfl, ?_⟩
        unfold Cm kJ
        have h0 : (0 : Int32).toInt = 0 := rfl
        try simp only [← Int32.toInt_inj, s1, s2, s3, s4, h0, ne_eq] at n1
        try simp only [← Int32.toInt_inj, s1, s2, s3, s4, h0, ne_eq] at z1
        try simp only [← Int32.toInt_inj, s1, s2, s3, s4, h0, ne_eq] at n2
        try simp only [← Int32.toInt_inj, s1, s2, s3, s4, h0, ne_eq] at z2
        try simp only [← Int32.toInt_inj, s1, s2, s3, s4, h0, ne_eq] at n3
        try simp only [← Int32.toInt_inj, s1, s2, s3, s4, h0, ne_eq] at z3
        simp only [Int32.lt_iff_toInt_lt, ← Int32.toInt_inj, s1, s2, s3, s4, h0]
        constructor <;> omega
  · first | refine z_aload0 14 dX4_compareTo_2_14 ?_ | refine z_aload0N 14 dX4_compareTo_2_14 ?_ | refine z_aload0o 14 dX4_compareTo_2_14 ?_
    refine z_get 15 gX4_19 dX4_compareTo_2_15 X.1 X.2.2.2.2 ?_
    first | refine z_aload1 18 dX4_compareTo_2_18 ?_ | refine z_aload1N 18 dX4_compareTo_2_18 ?_ | refine z_aload1o 18 dX4_compareTo_2_18 ?_
    refine z_get 19 gX4_19 dX4_compareTo_2_19 Y.1 Y.2.2.2.2 ?_
    refine z_isub 22 dX4_compareTo_2_22 ?_
    refine z_goto 23 27 dX4_compareTo_2_23 (by decide) ?_
    refine z_istore2 27 dX4_compareTo_2_27 rfl ?_
    refine z_iload2 28 dX4_compareTo_2_28 ?_
    refine z_ifne 29 44 dX4_compareTo_2_29 (by decide) (fun n2 => ?_) (fun z2 => ?_)
    · refine z_iload2 44 dX4_compareTo_2_44 ?_
      refine z_istore2 45 dX4_compareTo_2_45 rfl ?_
      refine z_iload2 46 dX4_compareTo_2_46 ?_
      refine z_ifne 47 62 dX4_compareTo_2_47 (by decide) (fun n3 => ?_) (fun z3 => ?_)
      · refine z_iload2 62 dX4_compareTo_2_62 ?_
        refine z_ireturn 63 rfl dX4_compareTo_2_63 ?_
        refine ⟨_, rfl, rfl, ?_⟩
        unfold Cm kJ
        have h0 : (0 : Int32).toInt = 0 := rfl
        try simp only [← Int32.toInt_inj, s1, s2, s3, s4, h0, ne_eq] at n1
        try simp only [← Int32.toInt_inj, s1, s2, s3, s4, h0, ne_eq] at z1
        try simp only [← Int32.toInt_inj, s1, s2, s3, s4, h0, ne_eq] at n2
        try simp only [← Int32.toInt_inj, s1, s2, s3, s4, h0, ne_eq] at z2
        try simp only [← Int32.toInt_inj, s1, s2, s3, s4, h0, ne_eq] at n3
        try simp only [← Int32.toInt_inj, s1, s2, s3, s4, h0, ne_eq] at z3
        simp only [Int32.lt_iff_toInt_lt, ← Int32.toInt_inj, s1, s2, s3, s4, h0]
        constructor <;> omega
      · first | refine z_aload0 50 dX4_compareTo_2_50 ?_ | refine z_aload0N 50 dX4_compareTo_2_50 ?_ | refine z_aload0o 50 dX4_compareTo_2_50 ?_
        refine z_get 51 gX4_13 dX4_compareTo_2_51 X.1 X.2.2.1 ?_
        first | refine z_aload1 54 dX4_compareTo_2_54 ?_ | refine z_aload1N 54 dX4_compareTo_2_54 ?_ | refine z_aload1o 54 dX4_compareTo_2_54 ?_
        refine z_get 55 gX4_13 dX4_compareTo_2_55 Y.1 Y.2.2.1 ?_
        refine z_isub 58 dX4_compareTo_2_58 ?_
        refine z_goto 59 63 dX4_compareTo_2_59 (by decide) ?_
        refine z_ireturn 63 rfl dX4_compareTo_2_63 ?_
        refine ⟨_, rfl, rfl, ?_⟩
        unfold Cm kJ
        have h0 : (0 : Int32).toInt = 0 := rfl
        try simp only [← Int32.toInt_inj, s1, s2, s3, s4, h0, ne_eq] at n1
        try simp only [← Int32.toInt_inj, s1, s2, s3, s4, h0, ne_eq] at z1
        try simp only [← Int32.toInt_inj, s1, s2, s3, s4, h0, ne_eq] at n2
        try simp only [← Int32.toInt_inj, s1, s2, s3, s4, h0, ne_eq] at z2
        try simp only [← Int32.toInt_inj, s1, s2, s3, s4, h0, ne_eq] at n3
        try simp only [← Int32.toInt_inj, s1, s2, s3, s4, h0, ne_eq] at z3
        simp only [Int32.lt_iff_toInt_lt, ← Int32.toInt_inj, s1, s2, s3, s4, h0]
        constructor <;> omega
    · first | refine z_aload0 32 dX4_compareTo_2_32 ?_ | refine z_aload0N 32 dX4_compareTo_2_32 ?_ | refine z_aload0o 32 dX4_compareTo_2_32 ?_
      refine z_get 33 gX4_7 dX4_compareTo_2_33 X.1 X.2.1 ?_
      first | refine z_aload1 36 dX4_compareTo_2_36 ?_ | refine z_aload1N 36 dX4_compareTo_2_36 ?_ | refine z_aload1o 36 dX4_compareTo_2_36 ?_
      refine z_get 37 gX4_7 dX4_compareTo_2_37 Y.1 Y.2.1 ?_
      refine z_isub 40 dX4_compareTo_2_40 ?_
      refine z_goto 41 45 dX4_compareTo_2_41 (by decide) ?_
      refine z_istore2 45 dX4_compareTo_2_45 rfl ?_
      refine z_iload2 46 dX4_compareTo_2_46 ?_
      refine z_ifne 47 62 dX4_compareTo_2_47 (by decide) (fun n3 => ?_) (fun z3 => ?_)
      · refine z_iload2 62 dX4_compareTo_2_62 ?_
        refine z_ireturn 63 rfl dX4_compareTo_2_63 ?_
        refine ⟨_, rfl, rfl, ?_⟩
        unfold Cm kJ
        have h0 : (0 : Int32).toInt = 0 := rfl
        try simp only [← Int32.toInt_inj, s1, s2, s3, s4, h0, ne_eq] at n1
        try simp only [← Int32.toInt_inj, s1, s2, s3, s4, h0, ne_eq] at z1
        try simp only [← Int32.toInt_inj, s1, s2, s3, s4, h0, ne_eq] at n2
        try simp only [← Int32.toInt_inj, s1, s2, s3, s4, h0, ne_eq] at z2
        try simp only [← Int32.toInt_inj, s1, s2, s3, s4, h0, ne_eq] at n3
        try simp only [← Int32.toInt_inj, s1, s2, s3, s4, h0, ne_eq] at z3
        simp only [Int32.lt_iff_toInt_lt, ← Int32.toInt_inj, s1, s2, s3, s4, h0]
        constructor <;> omega
      · first | refine z_aload0 50 dX4_compareTo_2_50 ?_ | refine z_aload0N 50 dX4_compareTo_2_50 ?_ | refine z_aload0o 50 dX4_compareTo_2_50 ?_
        refine z_get 51 gX4_13 dX4_compareTo_2_51 X.1 X.2.2.1 ?_
        first | refine z_aload1 54 dX4_compareTo_2_54 ?_ | refine z_aload1N 54 dX4_compareTo_2_54 ?_ | refine z_aload1o 54 dX4_compareTo_2_54 ?_
        refine z_get 55 gX4_13 dX4_compareTo_2_55 Y.1 Y.2.2.1 ?_
        refine z_isub 58 dX4_compareTo_2_58 ?_
        refine z_goto 59 63 dX4_compareTo_2_59 (by decide) ?_
        refine z_ireturn 63 rfl dX4_compareTo_2_63 ?_
        refine ⟨_, rfl, rfl, ?_⟩
        unfold Cm kJ
        have h0 : (0 : Int32).toInt = 0 := rfl
        try simp only [← Int32.toInt_inj, s1, s2, s3, s4, h0, ne_eq] at n1
        try simp only [← Int32.toInt_inj, s1, s2, s3, s4, h0, ne_eq] at z1
        try simp only [← Int32.toInt_inj, s1, s2, s3, s4, h0, ne_eq] at n2
        try simp only [← Int32.toInt_inj, s1, s2, s3, s4, h0, ne_eq] at z2
        try simp only [← Int32.toInt_inj, s1, s2, s3, s4, h0, ne_eq] at n3
        try simp only [← Int32.toInt_inj, s1, s2, s3, s4, h0, ne_eq] at z3
        simp only [Int32.lt_iff_toInt_lt, ← Int32.toInt_inj, s1, s2, s3, s4, h0]
        constructor <;> omega

set_option maxHeartbeats 4000000 in
theorem c_jobCmp {E : Ev} {h : HP} {a b r y p q r2 y2 p2 q2 : Nat} (d k : Nat) (hd1 : 1 ≤ d) (br : r < 2) (br2 : r2 < 2) (by1 : y < 4096) (by2 : y2 < 4096) (bp : p < 8) (bp2 : p2 < 8) (bq : q < 2) (bq2 : q2 < 2) (X : JobAt h a p q (nI r) (nI y)) (Y : JobAt h b p2 q2 (nI r2) (nI y2)) : Call E yX4_compareTo d k [.ref a, .ref b] h (rI fun x h' => h' = h ∧ Cm x (kJ r y p q) (kJ r2 y2 p2 q2)) := by
  refine Call.of [.ref a, .ref b] q1147 (by decide) pn_X4 (Nat.le_of_ble_eq_true rfl) rfl ?_
  first | refine z_aload0 0 dX4_compareTo_0 ?_ | refine z_aload0N 0 dX4_compareTo_0 ?_ | refine z_aload0o 0 dX4_compareTo_0 ?_
  first | refine z_aload1 1 dX4_compareTo_1 ?_ | refine z_aload1N 1 dX4_compareTo_1 ?_ | refine z_aload1o 1 dX4_compareTo_1 ?_
  refine z_castY 2 (ci := 3) ok_3.1 q1148 (Or.inl rfl) dX4_compareTo_2 Y.1 ?_
  refine z_V1 (k' := k) 5 vX4_22 dX4_compareTo_5 X.1 (c_jobCmp2 (d - 1) 0 br br2 by1 by2 bp bp2 bq bq2 X Y) (by omega) (by omega) (Nat.le_of_ble_eq_true rfl) (aft_I fun x h' hq => ?_)
  obtain ⟨rfl, hq⟩ := hq
  refine z_ireturn 8 rfl dX4_compareTo_8 ?_
  exact ⟨_, rfl, rfl, hq⟩

set_option maxHeartbeats 4000000 in
theorem c_outCmp2 {E : Ev} {h : HP} {a b y c g n y2 c2 g2 n2 : Nat} (d k : Nat) (b1 : y < 4096) (b2 : y2 < 4096) (b3 : c < 128) (b4 : c2 < 128) (b5 : n < 1048576) (b6 : n2 < 1048576) (X : OutAt h a y c g n) (Y : OutAt h b y2 c2 g2 n2) : Call E yX6_compareTo_2 d k [.ref a, .ref b] h (rI fun x h' => h' = h ∧ Cm x (kO y c n) (kO y2 c2 n2)) := by
  have s1 := pk_sub_toInt (a := y) (b := y2) (by omega) (by omega)
  have s2 := pk_sub_toInt (a := c2) (b := c) (by omega) (by omega)
  have s3 := pk_sub_toInt (a := n) (b := n2) (by omega) (by omega)
  refine Call.of [.ref a, .ref b, dum] q1163 (by decide) pn_X6 (Nat.le_of_ble_eq_true rfl) rfl ?_
  first | refine z_aload0 0 dX6_compareTo_2_0 ?_ | refine z_aload0N 0 dX6_compareTo_2_0 ?_ | refine z_aload0o 0 dX6_compareTo_2_0 ?_
  refine z_get 1 gX6_7 dX6_compareTo_2_1 X.1 X.2.1 ?_
  first | refine z_aload1 4 dX6_compareTo_2_4 ?_ | refine z_aload1N 4 dX6_compareTo_2_4 ?_ | refine z_aload1o 4 dX6_compareTo_2_4 ?_
  refine z_get 5 gX6_7 dX6_compareTo_2_5 Y.1 Y.2.1 ?_
  refine z_isub 8 dX6_compareTo_2_8 ?_
  refine z_istore2 9 dX6_compareTo_2_9 rfl ?_
  refine z_iload2 10 dX6_compareTo_2_10 ?_
  refine z_ifne 11 26 dX6_compareTo_2_11 (by decide) (fun n1 => ?_) (fun z1 => ?_)
  · refine z_iload2 26 dX6_compareTo_2_26 ?_
    refine z_istore2 27 dX6_compareTo_2_27 rfl ?_
    refine z_iload2 28 dX6_compareTo_2_28 ?_
    refine z_ifne 29 44 dX6_compareTo_2_29 (by decide) (fun n2 => ?_) (fun z2 => ?_)
    · refine z_iload2 44 dX6_compareTo_2_44 ?_
      refine z_ireturn 45 rfl dX6_compareTo_2_45 ?_
      refine ⟨_, rfl, rfl, ?_⟩
      unfold Cm kO
      have h0 : (0 : Int32).toInt = 0 := rfl
      try simp only [← Int32.toInt_inj, s1, s2, s3, h0, ne_eq] at n1
      try simp only [← Int32.toInt_inj, s1, s2, s3, h0, ne_eq] at z1
      try simp only [← Int32.toInt_inj, s1, s2, s3, h0, ne_eq] at n2
      try simp only [← Int32.toInt_inj, s1, s2, s3, h0, ne_eq] at z2
      try simp only [← Int32.toInt_inj, s1, s2, s3, h0, ne_eq] at n3
      try simp only [← Int32.toInt_inj, s1, s2, s3, h0, ne_eq] at z3
      simp only [Int32.lt_iff_toInt_lt, ← Int32.toInt_inj, s1, s2, s3, h0]
      constructor <;> omega
    · first | refine z_aload0 32 dX6_compareTo_2_32 ?_ | refine z_aload0N 32 dX6_compareTo_2_32 ?_ | refine z_aload0o 32 dX6_compareTo_2_32 ?_
      refine z_get 33 gX6_19 dX6_compareTo_2_33 X.1 X.2.2.2.2 ?_
      first | refine z_aload1 36 dX6_compareTo_2_36 ?_ | refine z_aload1N 36 dX6_compareTo_2_36 ?_ | refine z_aload1o 36 dX6_compareTo_2_36 ?_
      refine z_get 37 gX6_19 dX6_compareTo_2_37 Y.1 Y.2.2.2.2 ?_
      refine z_isub 40 dX6_compareTo_2_40 ?_
      refine z_goto 41 45 dX6_compareTo_2_41 (by decide) ?_
      refine z_ireturn 45 rfl dX6_compareTo_2_45 ?_
      refine ⟨_, rfl, rfl, ?_⟩
      unfold Cm kO
      have h0 : (0 : Int32).toInt = 0 := rfl
      try simp only [← Int32.toInt_inj, s1, s2, s3, h0, ne_eq] at n1
      try simp only [← Int32.toInt_inj, s1, s2, s3, h0, ne_eq] at z1
      try simp only [← Int32.toInt_inj, s1, s2, s3, h0, ne_eq] at n2
      try simp only [← Int32.toInt_inj, s1, s2, s3, h0, ne_eq] at z2
      try simp only [← Int32.toInt_inj, s1, s2, s3, h0, ne_eq] at n3
      try simp only [← Int32.toInt_inj, s1, s2, s3, h0, ne_eq] at z3
      simp only [Int32.lt_iff_toInt_lt, ← Int32.toInt_inj, s1, s2, s3, h0]
      constructor <;> omega
  · first | refine z_aload1 14 dX6_compareTo_2_14 ?_ | refine z_aload1N 14 dX6_compareTo_2_14 ?_ | refine z_aload1o 14 dX6_compareTo_2_14 ?_
    refine z_get 15 gX6_13 dX6_compareTo_2_15 Y.1 Y.2.2.1 ?_
    first | refine z_aload0 18 dX6_compareTo_2_18 ?_ | refine z_aload0N 18 dX6_compareTo_2_18 ?_ | refine z_aload0o 18 dX6_compareTo_2_18 ?_
    refine z_get 19 gX6_13 dX6_compareTo_2_19 X.1 X.2.2.1 ?_
    refine z_isub 22 dX6_compareTo_2_22 ?_
    refine z_goto 23 27 dX6_compareTo_2_23 (by decide) ?_
    refine z_istore2 27 dX6_compareTo_2_27 rfl ?_
    refine z_iload2 28 dX6_compareTo_2_28 ?_
    refine z_ifne 29 44 dX6_compareTo_2_29 (by decide) (fun n2 => ?_) (fun z2 => ?_)
    · refine z_iload2 44 dX6_compareTo_2_44 ?_
      refine z_ireturn 45 rfl dX6_compareTo_2_45 ?_
      refine ⟨_, rfl, rfl, ?_⟩
      unfold Cm kO
      have h0 : (0 : Int32).toInt = 0 := rfl
      try simp only [← Int32.toInt_inj, s1, s2, s3, h0, ne_eq] at n1
      try simp only [← Int32.toInt_inj, s1, s2, s3, h0, ne_eq] at z1
      try simp only [← Int32.toInt_inj, s1, s2, s3, h0, ne_eq] at n2
      try simp only [← Int32.toInt_inj, s1, s2, s3, h0, ne_eq] at z2
      try simp only [← Int32.toInt_inj, s1, s2, s3, h0, ne_eq] at n3
      try simp only [← Int32.toInt_inj, s1, s2, s3, h0, ne_eq] at z3
      simp only [Int32.lt_iff_toInt_lt, ← Int32.toInt_inj, s1, s2, s3, h0]
      constructor <;> omega
    · first | refine z_aload0 32 dX6_compareTo_2_32 ?_ | refine z_aload0N 32 dX6_compareTo_2_32 ?_ | refine z_aload0o 32 dX6_compareTo_2_32 ?_
      refine z_get 33 gX6_19 dX6_compareTo_2_33 X.1 X.2.2.2.2 ?_
      first | refine z_aload1 36 dX6_compareTo_2_36 ?_ | refine z_aload1N 36 dX6_compareTo_2_36 ?_ | refine z_aload1o 36 dX6_compareTo_2_36 ?_
      refine z_get 37 gX6_19 dX6_compareTo_2_37 Y.1 Y.2.2.2.2 ?_
      refine z_isub 40 dX6_compareTo_2_40 ?_
      refine z_goto 41 45 dX6_compareTo_2_41 (by decide) ?_
      refine z_ireturn 45 rfl dX6_compareTo_2_45 ?_
      refine ⟨_, rfl, rfl, ?_⟩
      unfold Cm kO
      have h0 : (0 : Int32).toInt = 0 := rfl
      try simp only [← Int32.toInt_inj, s1, s2, s3, h0, ne_eq] at n1
      try simp only [← Int32.toInt_inj, s1, s2, s3, h0, ne_eq] at z1
      try simp only [← Int32.toInt_inj, s1, s2, s3, h0, ne_eq] at n2
      try simp only [← Int32.toInt_inj, s1, s2, s3, h0, ne_eq] at z2
      try simp only [← Int32.toInt_inj, s1, s2, s3, h0, ne_eq] at n3
      try simp only [← Int32.toInt_inj, s1, s2, s3, h0, ne_eq] at z3
      simp only [Int32.lt_iff_toInt_lt, ← Int32.toInt_inj, s1, s2, s3, h0]
      constructor <;> omega

set_option maxHeartbeats 4000000 in
theorem c_outCmp {E : Ev} {h : HP} {a b y c g n y2 c2 g2 n2 : Nat} (d k : Nat) (hd1 : 1 ≤ d) (b1 : y < 4096) (b2 : y2 < 4096) (b3 : c < 128) (b4 : c2 < 128) (b5 : n < 1048576) (b6 : n2 < 1048576) (X : OutAt h a y c g n) (Y : OutAt h b y2 c2 g2 n2) : Call E yX6_compareTo d k [.ref a, .ref b] h (rI fun x h' => h' = h ∧ Cm x (kO y c n) (kO y2 c2 n2)) := by
  refine Call.of [.ref a, .ref b] q1158 (by decide) pn_X6 (Nat.le_of_ble_eq_true rfl) rfl ?_
  first | refine z_aload0 0 dX6_compareTo_0 ?_ | refine z_aload0N 0 dX6_compareTo_0 ?_ | refine z_aload0o 0 dX6_compareTo_0 ?_
  first | refine z_aload1 1 dX6_compareTo_1 ?_ | refine z_aload1N 1 dX6_compareTo_1 ?_ | refine z_aload1o 1 dX6_compareTo_1 ?_
  refine z_castY 2 (ci := 4) ok_4.1 q1159 (Or.inl rfl) dX6_compareTo_2 Y.1 ?_
  refine z_V1 (k' := k) 5 vX6_22 dX6_compareTo_5 X.1 (c_outCmp2 (d - 1) 0 b1 b2 b3 b4 b5 b6 X Y) (by omega) (by omega) (Nat.le_of_ble_eq_true rfl) (aft_I fun x h' hq => ?_)
  obtain ⟨rfl, hq⟩ := hq
  refine z_ireturn 8 rfl dX6_compareTo_8 ?_
  exact ⟨_, rfl, rfl, hq⟩
