/-! THE REFERENCE: days, what is put aside, what would be -/
theorem MdS.day {h0 h : HP} {m : Nat} {A P : Nat → Nat} {X X2 : Nat → Nat → Nat} {hs : Int64} {FL D K : Nat → Nat} (s : Scr [7, 8, 9] X X2) (T : MdTo h0 m A P (stx (stx (stx X2 7 FL) 8 D) 9 K) hs h) : MdS [7, 8, 9] h0 m A P X hs h := ⟨_, ((s.stx FL (by decide)).stx D (by decide)).stx K (by decide), T⟩
set_option maxHeartbeats 4000000 in
theorem m_days {E : Ev} {h : HP} {m : Nat} {A P : Nat → Nat} {X : Nat → Nat → Nat} {hs : Int64} (T0 : MdAt h m A P X hs) {n : Nat} (W : WF P) (hn : P 5 + n < 4096) (d k : Nat) (hd : 5 ≤ d) : Call E yX5_days d k [.ref m, .int (nI n)] h (rI fun x h' => x = nI (dsP n P 8) - nI (P 8) ∧ MdS [7, 8, 9] h m A (dsP n P) X hs h') := by
  have T := T0.to
  refine Call.of [.ref m, .int (nI n), dum, dum] q2274 (by decide) pn_X5 (Nat.le_of_ble_eq_true rfl) rfl ?_
  refine z_aload0 0 dX5_days_0 ?_
  refine z_get 1 gX5_7 dX5_days_1 T.kd (T.rf 1 rfl) ?_
  refine z_bipush 4 (nI 8) dX5_days_4 kB8 ?_
  refine z_iald (n := 204) 6 (8) dX5_days_6 (T.ak 1 rfl rfl) (T.al 1 rfl rfl) (rfl) ((by omega)) (by decide) (T.at1 (by omega)) ?_
  refine z_istore2 7 dX5_days_7 rfl ?_
  refine z_iconst 8 (nI 0) dX5_days_8 kI0 ?_
  refine z_istore3 9 dX5_days_9 rfl ?_
  refine lpH 10 n (fun i => [.ref m, .int (nI n), .int (nI (P 8)), .int (nI i)]) (fun i h9 => MdS [7, 8, 9] h m A (dsP i P) X hs h9) (fun _ => k) (by rw [dsP_0]; exact T.S) (fun h_1 V => ?_) (fun i h_1 hi V ih => ?_)
  · obtain ⟨X2, S9, T⟩ := V
    refine z_iload3 10 dX5_days_10 ?_
    refine z_iload1 11 dX5_days_11 ?_
    refine z_icgeN 12 25 dX5_days_12 (by decide) (by omega) (by omega) (fun c_12 => ?_) (fun c_12 => absurd c_12 (by omega))
    refine z_aload0 25 dX5_days_25 ?_
    refine z_get 26 gX5_7 dX5_days_26 T.kd (T.rf 1 rfl) ?_
    refine z_bipush 29 (nI 8) dX5_days_29 kB8 ?_
    refine z_iald (n := 204) 31 (8) dX5_days_31 (T.ak 1 rfl rfl) (T.al 1 rfl rfl) (rfl) ((by omega)) (by decide) (T.at1 (by omega)) ?_
    refine z_iload2 32 dX5_days_32 ?_
    refine z_isub 33 dX5_days_33 ?_
    refine z_ireturn 34 rfl dX5_days_34 ?_
    exact ⟨_, rfl, rfl, X2, S9, T⟩
  · obtain ⟨X2, S9, T⟩ := V
    have Wi := (dsP_W W i (by omega)).1
    refine z_iload3 10 dX5_days_10 ?_
    refine z_iload1 11 dX5_days_11 ?_
    refine z_icgeN 12 25 dX5_days_12 (by decide) (by omega) (by omega) (fun c_12 => absurd c_12 (by omega)) (fun c_12 => ?_)
    refine z_aload0 15 dX5_days_15 ?_
    refine z_V0 (k' := k) 16 vX5_118 dX5_days_16 T.kd (m_day T.1 Wi (d - 1) 0 (by omega)) (by omega) (by omega) (Nat.le_of_ble_eq_true rfl) (aft_V fun h_d hq => ?_)
    obtain ⟨FL, D, K, T1⟩ := hq
    rw [← dsP_s] at T1
    have T := T.trans T1
    have S10 := ((S9.stx FL (f := 7) (by decide)).stx D (f := 8) (by decide)).stx K (f := 9) (by decide)
    refine z_iinc3 19 ((nI (i + 1))) dX5_days_19 (nI_add _ _) rfl ?_
    refine z_goto 22 10 dX5_days_22 (by decide) ?_
    exact ih _ ⟨_, S10, T⟩

set_option maxHeartbeats 4000000 in
theorem m_putAside {E : Ev} {h : HP} {m : Nat} {A P : Nat → Nat} {X : Nat → Nat → Nat} {hs : Int64} (T0 : MdAt h m A P X hs)  (d k : Nat) : Call E yX5_putAside d k [.ref m] h (rV (MdTo h m A P (stx X 2 P) hs)) := by
  have T := T0.to
  refine Call.of [.ref m, dum] q2449 (by decide) pn_X5 (Nat.le_of_ble_eq_true rfl) rfl ?_
  refine z_iconst 0 (nI 0) dX5_putAside_0 kI0 ?_
  refine z_istore1 1 dX5_putAside_1 rfl ?_
  refine lpB 2 (204) (fun i Y => upx Y 2 i (P i)) (X) ((itN 204 (fun i Y => upx Y 2 i (P i)) X)) (rfl) (fun i a => [.ref m, .int (nI i)]) (fun i a h9 => MdTo h m A P a hs h9) (fun _ _ => True) (fun _ => k) (T) (trivial) (fun _ _ _ _ => trivial) (fun h_1 T hJ => ?_) (fun i a h_1 hi_i hJ T ih_i => ?_)
  · have T : MdTo h m A P (itN 204 (fun i Y => upx Y 2 i (P i)) X) hs h_1 := T
    refine z_iload1 2 dX5_putAside_2 ?_
    refine z_sipush 3 (nI 204) dX5_putAside_3 kS204 ?_
    refine z_icgeN 6 27 dX5_putAside_6 (by decide) (by omega) (by omega) (fun c_6 => ?_) (fun c_6 => absurd c_6 (by omega))
    refine z_return 27 rfl dX5_putAside_27 ?_
    have e : itN 204 (fun i Y => upx Y 2 i (P i)) X = stx X 2 (fun j => if j < 204 then P j else X 2 j) := itN_fill 204 2 P X
    rw [e] at T
    exact ⟨rfl, T.reX P (c := 204) rfl rfl (fun j hj => by rw [if_pos hj])⟩
  · refine z_iload1 2 dX5_putAside_2 ?_
    refine z_sipush 3 (nI 204) dX5_putAside_3 kS204 ?_
    refine z_icgeN 6 27 dX5_putAside_6 (by decide) (by omega) (by omega) (fun c_6 => absurd c_6 (by omega)) (fun c_6 => ?_)
    refine z_aload0 9 dX5_putAside_9 ?_
    refine z_get 10 gX5_13 dX5_putAside_10 T.kd (T.rf 2 rfl) ?_
    refine z_iload1 13 dX5_putAside_13 ?_
    refine z_aload0 14 dX5_putAside_14 ?_
    refine z_get 15 gX5_7 dX5_putAside_15 T.kd (T.rf 1 rfl) ?_
    refine z_iload1 18 dX5_putAside_18 ?_
    refine z_iald (n := 204) 19 (i) dX5_putAside_19 (T.ak 1 rfl rfl) (T.al 1 rfl rfl) (rfl) ((by omega)) (by decide) (T.at1 (by omega)) ?_
    refine z_iast (n := 204) 20 (i) dX5_putAside_20 (T.ak 2 rfl rfl) (T.al 2 rfl rfl) (rfl) ((by omega)) (by decide) ?_
    have T := T.putX 2 i (P i) rfl (by decide)
    refine z_iinc1 21 ((nI (i + 1))) dX5_putAside_21 (nI_add _ _) rfl ?_
    refine z_goto 24 2 dX5_putAside_24 (by decide) ?_
    exact ih_i (upx a 2 i (P i)) _ (by rfl) T

set_option maxHeartbeats 4000000 in
theorem m_takeBack {E : Ev} {h : HP} {m : Nat} {A P : Nat → Nat} {X : Nat → Nat → Nat} {hs : Int64} (T0 : MdAt h m A P X hs)  (d k : Nat) : Call E yX5_takeBack d k [.ref m] h (rV (MdTo h m A (X 2) X hs)) := by
  have T := T0.to
  refine Call.of [.ref m, dum] q2453 (by decide) pn_X5 (Nat.le_of_ble_eq_true rfl) rfl ?_
  refine z_iconst 0 (nI 0) dX5_takeBack_0 kI0 ?_
  refine z_istore1 1 dX5_takeBack_1 rfl ?_
  refine lpB 2 (204) (fun i Q => upn Q i (X 2 i)) (P) ((itN 204 (fun i Q => upn Q i (X 2 i)) P)) (rfl) (fun i a => [.ref m, .int (nI i)]) (fun i a h9 => MdTo h m A a X hs h9) (fun _ _ => True) (fun _ => k) (T) (trivial) (fun _ _ _ _ => trivial) (fun h_1 T hJ => ?_) (fun i a h_1 hi_i hJ T ih_i => ?_)
  · have T : MdTo h m A (itN 204 (fun i Q => upn Q i (X 2 i)) P) X hs h_1 := T
    refine z_iload1 2 dX5_takeBack_2 ?_
    refine z_sipush 3 (nI 204) dX5_takeBack_3 kS204 ?_
    refine z_icgeN 6 27 dX5_takeBack_6 (by decide) (by omega) (by omega) (fun c_6 => ?_) (fun c_6 => absurd c_6 (by omega))
    refine z_return 27 rfl dX5_takeBack_27 ?_
    have e : itN 204 (fun i Q => upn Q i (X 2 i)) P = fun j => if j < 204 then X 2 j else P j := itN_fil1 204 (X 2) P
    rw [e] at T
    exact ⟨rfl, T.asP (fun j hj => by rw [if_pos hj])⟩
  · refine z_iload1 2 dX5_takeBack_2 ?_
    refine z_sipush 3 (nI 204) dX5_takeBack_3 kS204 ?_
    refine z_icgeN 6 27 dX5_takeBack_6 (by decide) (by omega) (by omega) (fun c_6 => absurd c_6 (by omega)) (fun c_6 => ?_)
    refine z_aload0 9 dX5_takeBack_9 ?_
    refine z_get 10 gX5_7 dX5_takeBack_10 T.kd (T.rf 1 rfl) ?_
    refine z_iload1 13 dX5_takeBack_13 ?_
    refine z_aload0 14 dX5_takeBack_14 ?_
    refine z_get 15 gX5_13 dX5_takeBack_15 T.kd (T.rf 2 rfl) ?_
    refine z_iload1 18 dX5_takeBack_18 ?_
    refine z_iald (n := 204) 19 (i) dX5_takeBack_19 (T.ak 2 rfl rfl) (T.al 2 rfl rfl) (rfl) ((by omega)) (by decide) (T.at 2 rfl (by decide) (c := 204) rfl (by omega)) ?_
    refine z_iast (n := 204) 20 (i) dX5_takeBack_20 (T.ak 1 rfl rfl) (T.al 1 rfl rfl) (rfl) ((by omega)) (by decide) ?_
    have T := T.put1 i (X 2 i)
    refine z_iinc1 21 ((nI (i + 1))) dX5_takeBack_21 (nI_add _ _) rfl ?_
    refine z_goto 24 2 dX5_takeBack_24 (by decide) ?_
    exact ih_i (upn a i (X 2 i)) _ (by rfl) T

set_option maxHeartbeats 4000000 in
theorem m_plans {E : Ev} {h : HP} {m : Nat} {A P : Nat → Nat} {X : Nat → Nat → Nat} {hs : Int64} (T0 : MdAt h m A P X hs) {y c g : Nat} (h7 : P 7 ≤ 16) (d k : Nat) : Call E yX5_plans d k [.ref m, .int (nI y), .int (nI c), .int (nI g)] h (rV (MdTo h m A (plP P y c g) X hs)) := by
  have T := T0.to
  refine Call.of [.ref m, .int (nI y), .int (nI c), .int (nI g), dum] q2247 (by decide) pn_X5 (Nat.le_of_ble_eq_true rfl) rfl ?_
  refine z_sipush 0 (nI 153) dX5_plans_0 kS153 ?_
  refine z_iconst 3 (nI 3) dX5_plans_3 kI3 ?_
  refine z_aload0 4 dX5_plans_4 ?_
  refine z_get 5 gX5_7 dX5_plans_5 T.kd (T.rf 1 rfl) ?_
  refine z_bipush 8 (nI 7) dX5_plans_8 kB7 ?_
  refine z_iald (n := 204) 10 (7) dX5_plans_10 (T.ak 1 rfl rfl) (T.al 1 rfl rfl) (rfl) ((by omega)) (by decide) (T.at1 (by omega)) ?_
  refine z_imulN 11 dX5_plans_11 ?_
  refine z_iaddN 12 dX5_plans_12 ?_
  refine z_istore4 13 dX5_plans_13 rfl ?_
  refine z_aload0 15 dX5_plans_15 ?_
  refine z_get 16 gX5_7 dX5_plans_16 T.kd (T.rf 1 rfl) ?_
  refine z_iload4 19 dX5_plans_19 ?_
  refine z_iconst 21 (nI 0) dX5_plans_21 kI0 ?_
  refine z_iaddN 22 dX5_plans_22 ?_
  refine z_iload1 23 dX5_plans_23 ?_
  refine z_iast (n := 204) 24 (153 + 3 * (P 7) + 0) dX5_plans_24 (T.ak 1 rfl rfl) (T.al 1 rfl rfl) (rfl) ((by omega)) (by decide) ?_
  have T := T.put1 (153 + 3 * (P 7) + 0) y
  refine z_aload0 25 dX5_plans_25 ?_
  refine z_get 26 gX5_7 dX5_plans_26 T.kd (T.rf 1 rfl) ?_
  refine z_iload4 29 dX5_plans_29 ?_
  refine z_iconst 31 (nI 1) dX5_plans_31 kI1 ?_
  refine z_iaddN 32 dX5_plans_32 ?_
  refine z_iload2 33 dX5_plans_33 ?_
  refine z_iast (n := 204) 34 (153 + 3 * (P 7) + 1) dX5_plans_34 (T.ak 1 rfl rfl) (T.al 1 rfl rfl) (rfl) ((by omega)) (by decide) ?_
  have T := T.put1 (153 + 3 * (P 7) + 1) c
  refine z_aload0 35 dX5_plans_35 ?_
  refine z_get 36 gX5_7 dX5_plans_36 T.kd (T.rf 1 rfl) ?_
  refine z_iload4 39 dX5_plans_39 ?_
  refine z_iconst 41 (nI 2) dX5_plans_41 kI2 ?_
  refine z_iaddN 42 dX5_plans_42 ?_
  refine z_iload3 43 dX5_plans_43 ?_
  refine z_iast (n := 204) 44 (153 + 3 * (P 7) + 2) dX5_plans_44 (T.ak 1 rfl rfl) (T.al 1 rfl rfl) (rfl) ((by omega)) (by decide) ?_
  have T := T.put1 (153 + 3 * (P 7) + 2) g
  refine z_aload0 45 dX5_plans_45 ?_
  refine z_get 46 gX5_7 dX5_plans_46 T.kd (T.rf 1 rfl) ?_
  refine z_bipush 49 (nI 7) dX5_plans_49 kB7 ?_
  refine z_dup2 51 dX5_plans_51 rfl rfl ?_
  refine z_iald (n := 204) 52 (7) dX5_plans_52 (T.ak 1 rfl rfl) (T.al 1 rfl rfl) (rfl) ((by omega)) (by decide) (T.at1 (by omega)) ?_
  refine z_iconst 53 (nI 1) dX5_plans_53 kI1 ?_
  refine z_iaddN 54 dX5_plans_54 ?_
  refine z_iast (n := 204) 55 (7) dX5_plans_55 (T.ak 1 rfl rfl) (T.al 1 rfl rfl) (rfl) ((by omega)) (by decide) ?_
  have T := T.put1 7 ((upn (upn (upn P (153 + 3 * (P 7) + 0) y) (153 + 3 * (P 7) + 1) c) (153 + 3 * (P 7) + 2) g) 7 + 1)
  refine z_return 56 rfl dX5_plans_56 ?_
  exact ⟨rfl, T⟩

set_option maxHeartbeats 4000000 in
theorem m_isUsedUp {E : Ev} {h : HP} {m : Nat} {A P : Nat → Nat} {X : Nat → Nat → Nat} {hs : Int64} (T0 : MdAt h m A P X hs) {pl : Nat} (hp : pl < 8) (B : Bd P) (d k : Nat) (hd : 1 ≤ d) : Call E yX5_isUsedUp d k [.ref m, .int (nI pl)] h (rP h (nI (bN (isU P pl)))) := by
  have T := T0.to
  have b1 := B.of (w := 1) hp (by omega)
  have b2 := B.of (w := 2) hp (by omega)
  have b6 := B.of (w := 6) hp (by omega)
  refine Call.of [.ref m, .int (nI pl)] q2481 (by decide) pn_X5 (Nat.le_of_ble_eq_true rfl) rfl ?_
  refine z_aload0 0 dX5_isUsedUp_0 ?_
  refine z_iload1 1 dX5_isUsedUp_1 ?_
  refine z_bipush 2 (nI 6) dX5_isUsedUp_2 kB6 ?_
  refine z_V2 (k' := k) 4 vX5_46 dX5_isUsedUp_4 T.kd (m_of T.1 (by omega) (by omega) (d - 1) 0) (by omega) (by omega) (Nat.le_of_ble_eq_true rfl) (aft_P (x := (nI (ofP P pl 6))) ?_)
  refine z_iconst 7 (nI 1) dX5_isUsedUp_7 kI1 ?_
  refine z_icneN 8 32 dX5_isUsedUp_8 (by decide) (by omega) (by omega) (fun c_8 => ?_) (fun c_8 => ?_)
  · refine z_iconst 32 (nI 0) dX5_isUsedUp_32 kI0 ?_
    refine z_zreturn 33 rfl (by decide) dX5_isUsedUp_33 ?_
    exact rP_of (congrArg nI (by simp only [bN, isU]; grind))
  · refine z_aload0 11 dX5_isUsedUp_11 ?_
    refine z_iload1 12 dX5_isUsedUp_12 ?_
    refine z_iconst 13 (nI 2) dX5_isUsedUp_13 kI2 ?_
    refine z_V2 (k' := k) 14 vX5_46 dX5_isUsedUp_14 T.kd (m_of T.1 (by omega) (by omega) (d - 1) 0) (by omega) (by omega) (Nat.le_of_ble_eq_true rfl) (aft_P (x := (nI (ofP P pl 2))) ?_)
    refine z_iconst 17 (nI 4) dX5_isUsedUp_17 kI4 ?_
    refine z_aload0 18 dX5_isUsedUp_18 ?_
    refine z_iload1 19 dX5_isUsedUp_19 ?_
    refine z_iconst 20 (nI 1) dX5_isUsedUp_20 kI1 ?_
    refine z_V2 (k' := k) 21 vX5_46 dX5_isUsedUp_21 T.kd (m_of T.1 (by omega) (by omega) (d - 1) 0) (by omega) (by omega) (Nat.le_of_ble_eq_true rfl) (aft_P (x := (nI (ofP P pl 1))) ?_)
    refine z_imulN 24 dX5_isUsedUp_24 ?_
    refine z_icneN 25 32 dX5_isUsedUp_25 (by decide) (by omega) (by omega) (fun c_25 => ?_) (fun c_25 => ?_)
    · refine z_iconst 32 (nI 0) dX5_isUsedUp_32 kI0 ?_
      refine z_zreturn 33 rfl (by decide) dX5_isUsedUp_33 ?_
      exact rP_of (congrArg nI (by simp only [bN, isU]; grind))
    · refine z_iconst 28 (nI 1) dX5_isUsedUp_28 kI1 ?_
      refine z_goto 29 33 dX5_isUsedUp_29 (by decide) ?_
      refine z_zreturn 33 rfl (by decide) dX5_isUsedUp_33 ?_
      exact rP_of (congrArg nI (by simp only [bN, isU]; grind))

set_option maxHeartbeats 4000000 in
theorem m_passed {E : Ev} {h : HP} {m : Nat} {A P : Nat → Nat} {X : Nat → Nat → Nat} {hs : Int64} (T0 : MdAt h m A P X hs) {n u : Nat} (hu : u < 4) (W : WF P) (hn : P 5 + n < 4096) (d k : Nat) (hd : 6 ≤ d) : Call E yX5_passed d k [.ref m, .int (nI n), .int (nI u)] h (rI fun x h' => x = pdV P n u ∧ MdS [2, 7, 8, 9] h m A P X hs h') := by
  have T := T0.to
  refine Call.of [.ref m, .int (nI n), .int (nI u), dum, dum, dum] q2445 (by decide) pn_X5 (Nat.le_of_ble_eq_true rfl) rfl ?_
  refine z_aload0 0 dX5_passed_0 ?_
  refine z_V0 (k' := k) 1 vX5_201 dX5_passed_1 T.kd (m_putAside T.1  (d - 1) 0) (by omega) (by omega) (Nat.le_of_ble_eq_true rfl) (aft_V fun h_1 hq => ?_)
  have T : MdTo h m A P (stx X 2 P) hs h_1 := T.trans hq
  refine z_aload0 4 dX5_passed_4 ?_
  refine z_get 5 gX5_7 dX5_passed_5 T.kd (T.rf 1 rfl) ?_
  refine z_bipush 8 (nI 10) dX5_passed_8 kB10 ?_
  refine z_iald (n := 204) 10 (10) dX5_passed_10 (T.ak 1 rfl rfl) (T.al 1 rfl rfl) (rfl) ((by omega)) (by decide) (T.at1 (by omega)) ?_
  refine z_istore3 11 dX5_passed_11 rfl ?_
  have WD := (dsP_W W n hn).1
  refine z_aload0 12 dX5_passed_12 ?_
  refine z_iload1 13 dX5_passed_13 ?_
  refine z_V1 (k' := k) 14 vX5_143 dX5_passed_14 T.kd (m_days (n := n) T.1 W (hn) (d - 1) 0 (by omega)) (by omega) (by omega) (Nat.le_of_ble_eq_true rfl) (aft_I fun x_d1 h_d1 hq => ?_)
  obtain ⟨hx, X1, S1, T1⟩ := hq
  subst hx
  have T : MdTo h m A (dsP n P) X1 hs h_d1 := T.trans T1
  refine z_istore4 17 dX5_passed_17 rfl ?_
  refine z_iload2 19 dX5_passed_19 ?_
  refine z_ifneN 20 28 dX5_passed_20 (by decide) (by omega) (fun c_20 => ?_) (fun c_20 => ?_)
  · refine z_iload2 28 dX5_passed_28 ?_
    refine z_iconst 29 (nI 1) dX5_passed_29 kI1 ?_
    refine z_icneN 30 45 dX5_passed_30 (by decide) (by omega) (by omega) (fun c_30 => ?_) (fun c_30 => ?_)
    · refine z_iload2 45 dX5_passed_45 ?_
      refine z_iconst 46 (nI 2) dX5_passed_46 kI2 ?_
      refine z_icneN 47 57 dX5_passed_47 (by decide) (by omega) (by omega) (fun c_47 => ?_) (fun c_47 => ?_)
      · refine z_aload0 57 dX5_passed_57 ?_
        refine z_V0 (k' := k) 58 vX5_192 dX5_passed_58 T.kd (m_open T.1 (WD.h6) (WD.B) (d - 1) 0 (by omega)) (by omega) (by omega) (Nat.le_of_ble_eq_true rfl) (aft_P (x := (nI (opP (dsP n P)))) ?_)
        refine z_istore5 61 dX5_passed_61 rfl ?_
        refine z_aload0 63 dX5_passed_63 ?_
        refine z_V0 (k' := k) 64 vX5_204 dX5_passed_64 T.kd (m_takeBack T.1  (d - 1) 0) (by omega) (by omega) (Nat.le_of_ble_eq_true rfl) (aft_V fun h_2 hq => ?_)
        have T : MdTo h m A (X1 2) X1 hs h_2 := T.trans hq
        refine z_iload5 67 dX5_passed_67 ?_
        refine z_ireturn 69 rfl dX5_passed_69 ?_
        have e2 : X1 2 = P := (S1 2 (by decide)).trans (stx_s X 2 P)
        exact ⟨_, rfl, by simp only [pdV]; first | (rw [if_pos (by omega)]; done) | (rw [if_neg (by omega), if_pos (by omega)]; done) | (rw [if_neg (by omega), if_neg (by omega), if_pos (by omega)]; done) | (rw [if_neg (by omega), if_neg (by omega), if_neg (by omega)]; done), X1, (((Scr.refl [2, 7, 8, 9] X).stx P (by decide)).trans (S1.mono (by decide))), e2 ▸ T⟩
      · refine z_aload0 50 dX5_passed_50 ?_
        refine z_V0 (k' := k) 51 vX5_195 dX5_passed_51 T.kd (m_jobs T.1  (d - 1) 0 (by omega)) (by omega) (by omega) (Nat.le_of_ble_eq_true rfl) (aft_P (x := (nI (jsP (dsP n P)))) ?_)
        refine z_goto 54 61 dX5_passed_54 (by decide) ?_
        refine z_istore5 61 dX5_passed_61 rfl ?_
        refine z_aload0 63 dX5_passed_63 ?_
        refine z_V0 (k' := k) 64 vX5_204 dX5_passed_64 T.kd (m_takeBack T.1  (d - 1) 0) (by omega) (by omega) (Nat.le_of_ble_eq_true rfl) (aft_V fun h_3 hq => ?_)
        have T : MdTo h m A (X1 2) X1 hs h_3 := T.trans hq
        refine z_iload5 67 dX5_passed_67 ?_
        refine z_ireturn 69 rfl dX5_passed_69 ?_
        have e2 : X1 2 = P := (S1 2 (by decide)).trans (stx_s X 2 P)
        exact ⟨_, rfl, by simp only [pdV]; first | (rw [if_pos (by omega)]; done) | (rw [if_neg (by omega), if_pos (by omega)]; done) | (rw [if_neg (by omega), if_neg (by omega), if_pos (by omega)]; done) | (rw [if_neg (by omega), if_neg (by omega), if_neg (by omega)]; done), X1, (((Scr.refl [2, 7, 8, 9] X).stx P (by decide)).trans (S1.mono (by decide))), e2 ▸ T⟩
    · refine z_aload0 33 dX5_passed_33 ?_
      refine z_get 34 gX5_7 dX5_passed_34 T.kd (T.rf 1 rfl) ?_
      refine z_bipush 37 (nI 10) dX5_passed_37 kB10 ?_
      refine z_iald (n := 204) 39 (10) dX5_passed_39 (T.ak 1 rfl rfl) (T.al 1 rfl rfl) (rfl) ((by omega)) (by decide) (T.at1 (by omega)) ?_
      refine z_iload3 40 dX5_passed_40 ?_
      refine z_isub 41 dX5_passed_41 ?_
      refine z_goto 42 61 dX5_passed_42 (by decide) ?_
      refine z_istore5 61 dX5_passed_61 rfl ?_
      refine z_aload0 63 dX5_passed_63 ?_
      refine z_V0 (k' := k) 64 vX5_204 dX5_passed_64 T.kd (m_takeBack T.1  (d - 1) 0) (by omega) (by omega) (Nat.le_of_ble_eq_true rfl) (aft_V fun h_4 hq => ?_)
      have T : MdTo h m A (X1 2) X1 hs h_4 := T.trans hq
      refine z_iload5 67 dX5_passed_67 ?_
      refine z_ireturn 69 rfl dX5_passed_69 ?_
      have e2 : X1 2 = P := (S1 2 (by decide)).trans (stx_s X 2 P)
      exact ⟨_, rfl, by simp only [pdV]; first | (rw [if_pos (by omega)]; done) | (rw [if_neg (by omega), if_pos (by omega)]; done) | (rw [if_neg (by omega), if_neg (by omega), if_pos (by omega)]; done) | (rw [if_neg (by omega), if_neg (by omega), if_neg (by omega)]; done), X1, (((Scr.refl [2, 7, 8, 9] X).stx P (by decide)).trans (S1.mono (by decide))), e2 ▸ T⟩
  · refine z_iload4 23 dX5_passed_23 ?_
    refine z_goto 25 61 dX5_passed_25 (by decide) ?_
    refine z_istore5 61 dX5_passed_61 rfl ?_
    refine z_aload0 63 dX5_passed_63 ?_
    refine z_V0 (k' := k) 64 vX5_204 dX5_passed_64 T.kd (m_takeBack T.1  (d - 1) 0) (by omega) (by omega) (Nat.le_of_ble_eq_true rfl) (aft_V fun h_5 hq => ?_)
    have T : MdTo h m A (X1 2) X1 hs h_5 := T.trans hq
    refine z_iload5 67 dX5_passed_67 ?_
    refine z_ireturn 69 rfl dX5_passed_69 ?_
    have e2 : X1 2 = P := (S1 2 (by decide)).trans (stx_s X 2 P)
    exact ⟨_, rfl, by simp only [pdV]; first | (rw [if_pos (by omega)]; done) | (rw [if_neg (by omega), if_pos (by omega)]; done) | (rw [if_neg (by omega), if_neg (by omega), if_pos (by omega)]; done) | (rw [if_neg (by omega), if_neg (by omega), if_neg (by omega)]; done), X1, (((Scr.refl [2, 7, 8, 9] X).stx P (by decide)).trans (S1.mono (by decide))), e2 ▸ T⟩

set_option maxHeartbeats 4000000 in
theorem m_moreThirst {E : Ev} {h : HP} {m : Nat} {A P : Nat → Nat} {X : Nat → Nat → Nat} {hs : Int64} (T0 : MdAt h m A P X hs) {c g : Nat} (hc : 1 ≤ c ∧ c ≤ 99) (hg : g < 8) (W : WF P) (h7 : P 7 ≤ 16) (h5 : P 5 + 1 < 4096) (d k : Nat) (hd : 6 ≤ d) : Call E yX5_moreThirst d k [.ref m, .int (nI c), .int (nI g)] h (rI fun x h' => x = mtV P c g ∧ MdS [2, 7, 8, 9] h m A P X hs h') := by
  have T := T0.to
  have W2 : WF (mtQ P c g) := W.plan h7 (Nat.le_refl _) (by omega) hc hg
  refine Call.of [.ref m, .int (nI c), .int (nI g), dum, dum] q2461 (by decide) pn_X5 (Nat.le_of_ble_eq_true rfl) rfl ?_
  refine z_aload0 0 dX5_moreThirst_0 ?_
  refine z_V0 (k' := k) 1 vX5_201 dX5_moreThirst_1 T.kd (m_putAside T.1  (d - 1) 0) (by omega) (by omega) (Nat.le_of_ble_eq_true rfl) (aft_V fun h_1 hq => ?_)
  have T : MdTo h m A P (stx X 2 P) hs h_1 := T.trans hq
  refine z_aload0 4 dX5_moreThirst_4 ?_
  refine z_iconst 5 (nI 1) dX5_moreThirst_5 kI1 ?_
  refine z_V1 (k' := k) 6 vX5_143 dX5_moreThirst_6 T.kd (m_days (n := 1) T.1 W (h5) (d - 1) 0 (by omega)) (by omega) (by omega) (Nat.le_of_ble_eq_true rfl) (aft_I fun x_d1 h_d1 hq => ?_)
  obtain ⟨hx, X1, S1, T1⟩ := hq
  subst hx
  have T : MdTo h m A (dsP 1 P) X1 hs h_d1 := T.trans T1
  refine z_istore3 9 dX5_moreThirst_9 rfl ?_
  refine z_aload0 10 dX5_moreThirst_10 ?_
  refine z_V0 (k' := k) 11 vX5_204 dX5_moreThirst_11 T.kd (m_takeBack T.1  (d - 1) 0) (by omega) (by omega) (Nat.le_of_ble_eq_true rfl) (aft_V fun h_2 hq => ?_)
  have T : MdTo h m A P X1 hs h_2 := by have q := T.trans hq; rw [(S1 2 (by decide)).trans (stx_s X 2 P)] at q; exact q
  refine z_aload0 14 dX5_moreThirst_14 ?_
  refine z_aload0 15 dX5_moreThirst_15 ?_
  refine z_get 16 gX5_7 dX5_moreThirst_16 T.kd (T.rf 1 rfl) ?_
  refine z_iconst 19 (nI 5) dX5_moreThirst_19 kI5 ?_
  refine z_iald (n := 204) 20 (5) dX5_moreThirst_20 (T.ak 1 rfl rfl) (T.al 1 rfl rfl) (rfl) ((by omega)) (by decide) (T.at1 (by omega)) ?_
  refine z_iload1 21 dX5_moreThirst_21 ?_
  refine z_iload2 22 dX5_moreThirst_22 ?_
  refine z_V3 (k' := k) 23 vX5_137 dX5_moreThirst_23 T.kd (m_plans T.1 (h7) (d - 1) 0) (by omega) (by omega) (Nat.le_of_ble_eq_true rfl) (aft_V fun h_3 hq => ?_)
  have T : MdTo h m A (mtQ P c g) X1 hs h_3 := T.trans hq
  have q5 : mtQ P c g 5 = P 5 := plP_lo P _ _ _ 5 (by omega)
  refine z_aload0 26 dX5_moreThirst_26 ?_
  refine z_iconst 27 (nI 1) dX5_moreThirst_27 kI1 ?_
  refine z_V1 (k' := k) 28 vX5_143 dX5_moreThirst_28 T.kd (m_days (n := 1) T.1 W2 (by omega) (d - 1) 0 (by omega)) (by omega) (by omega) (Nat.le_of_ble_eq_true rfl) (aft_I fun x_d2 h_d2 hq => ?_)
  obtain ⟨hx, X2, S2, T1⟩ := hq
  subst hx
  have T : MdTo h m A (dsP 1 (mtQ P c g)) X2 hs h_d2 := T.trans T1
  refine z_istore4 31 dX5_moreThirst_31 rfl ?_
  refine z_aload0 33 dX5_moreThirst_33 ?_
  refine z_V0 (k' := k) 34 vX5_204 dX5_moreThirst_34 T.kd (m_takeBack T.1  (d - 1) 0) (by omega) (by omega) (Nat.le_of_ble_eq_true rfl) (aft_V fun h_4 hq => ?_)
  have T : MdTo h m A P X2 hs h_4 := by have q := T.trans hq; rw [(S2 2 (by decide)).trans ((S1 2 (by decide)).trans (stx_s X 2 P))] at q; exact q
  refine z_iload4 37 dX5_moreThirst_37 ?_
  refine z_iload3 39 dX5_moreThirst_39 ?_
  refine z_isub 40 dX5_moreThirst_40 ?_
  refine z_ireturn 41 rfl dX5_moreThirst_41 ?_
  exact ⟨_, rfl, rfl, X2, ((Scr.refl [2, 7, 8, 9] X).stx P (by decide)).trans ((S1.mono (by decide)).trans (S2.mono (by decide))), T⟩

set_option maxHeartbeats 4000000 in
theorem m_gateFor {E : Ev} {h : HP} {m : Nat} {A P : Nat → Nat} {X : Nat → Nat → Nat} {hs : Int64} (T0 : MdAt h m A P X hs) {c : Nat} (hc : 1 ≤ c ∧ c ≤ 99) (W : WF P) (h7 : P 7 ≤ 16) (h5 : P 5 + 1 < 4096) (d k : Nat) (hd : 7 ≤ d) : Call E yX5_gateFor d k [.ref m, .int (nI c)] h (rI fun x h' => x = nI (gtP P c) ∧ MdS [2, 7, 8, 9] h m A P X hs h') := by
  have T := T0.to
  refine Call.of [.ref m, .int (nI c), dum, dum, dum, dum] q2469 (by decide) pn_X5 (Nat.le_of_ble_eq_true rfl) rfl ?_
  refine z_iconst 0 (nI 0) dX5_gateFor_0 kI0 ?_
  refine z_istore2 1 dX5_gateFor_1 rfl ?_
  refine z_aload0 2 dX5_gateFor_2 ?_
  refine z_iload1 3 dX5_gateFor_3 ?_
  refine z_iconst 4 (nI 0) dX5_gateFor_4 kI0 ?_
  refine z_V2 (k' := k) 5 vX5_210 dX5_gateFor_5 T.kd (m_moreThirst T.1 (hc) (by decide) (W) (h7) (h5) (d - 1) 0 (by omega)) (by omega) (by omega) (Nat.le_of_ble_eq_true rfl) (aft_I fun x_1 h_1 hq => ?_)
  obtain ⟨hx, X1, S1, T1⟩ := hq
  subst hx
  have T : MdTo h m A P X1 hs h_1 := T.trans T1
  refine z_istore3 8 dX5_gateFor_8 rfl ?_
  refine z_iconst 9 (nI 1) dX5_gateFor_9 kI1 ?_
  refine z_istore4 10 dX5_gateFor_10 rfl ?_
  refine lpB 12 7 (gtS P c) (0, mtV P c 0) (itN 7 (gtS P c) (0, mtV P c 0)) rfl (fun i s => [.ref m, .int (nI c), .int (nI s.1), .int s.2, .int (nI (1 + i)), dum]) (fun _ _ h9 => MdS [2, 7, 8, 9] h m A P X hs h9) (fun _ _ => True) (fun _ => k) ⟨_, S1, T⟩ trivial (fun _ _ _ _ => trivial) (fun h_9 V _ => ?_) (fun i s h_9 hi _ V ih => ?_)
  · obtain ⟨X9, S9, T⟩ := V
    show Z E _ _ _ _ h_9 12 [.ref m, .int (nI c), .int (nI (gtP P c)), .int (itN 7 (gtS P c) (0, mtV P c 0)).2, .int (nI 8), dum] []
    refine z_iload4 12 dX5_gateFor_12 ?_
    refine z_bipush 14 (nI 8) dX5_gateFor_14 kB8 ?_
    refine z_icgeN 16 60 dX5_gateFor_16 (by decide) (by omega) (by omega) (fun c_16 => ?_) (fun c_16 => absurd c_16 (by omega))
    refine z_iload2 60 dX5_gateFor_60 ?_
    refine z_ireturn 61 rfl dX5_gateFor_61 ?_
    exact ⟨_, rfl, rfl, X9, S9, T⟩
  · obtain ⟨X9, S9, T⟩ := V
    obtain ⟨b, l⟩ := s
    show Z E _ _ _ _ h_9 12 [.ref m, .int (nI c), .int (nI b), .int l, .int (nI (1 + i)), dum] []
    refine z_iload4 12 dX5_gateFor_12 ?_
    refine z_bipush 14 (nI 8) dX5_gateFor_14 kB8 ?_
    refine z_icgeN 16 60 dX5_gateFor_16 (by decide) (by omega) (by omega) (fun c_16 => absurd c_16 (by omega)) (fun c_16 => ?_)
    refine z_aload0 19 dX5_gateFor_19 ?_
    refine z_iload1 20 dX5_gateFor_20 ?_
    refine z_iload4 21 dX5_gateFor_21 ?_
    refine z_V2 (k' := k) 23 vX5_210 dX5_gateFor_23 T.kd (m_moreThirst T.1 (hc) (by omega) (W) (h7) (h5) (d - 1) 0 (by omega)) (by omega) (by omega) (Nat.le_of_ble_eq_true rfl) (aft_I fun x_2 h_2 hq => ?_)
    obtain ⟨hx, X2, S2, T1⟩ := hq
    subst hx
    have T : MdTo h m A P X2 hs h_2 := T.trans T1
    refine z_istore5 26 dX5_gateFor_26 rfl ?_
    refine z_iload5 28 dX5_gateFor_28 ?_
    refine z_iload3 30 dX5_gateFor_30 ?_
    refine z_icge 31 39 dX5_gateFor_31 (by decide) (fun c_31 => ?_) (fun c_31 => ?_)
    · refine z_iload2 39 dX5_gateFor_39 ?_
      refine z_istore2 40 dX5_gateFor_40 rfl ?_
      refine z_iload5 41 dX5_gateFor_41 ?_
      refine z_iload3 43 dX5_gateFor_43 ?_
      refine z_icge 44 52 dX5_gateFor_44 (by decide) (fun c_44 => ?_) (fun c_44 => ?_)
      · refine z_iload3 52 dX5_gateFor_52 ?_
        refine z_istore3 53 dX5_gateFor_53 rfl ?_
        refine z_iinc4 54 ((nI (1 + i + 1))) dX5_gateFor_54 (nI_add _ _) rfl ?_
        refine z_goto 57 12 dX5_gateFor_57 (by decide) ?_
        refine z_fog 5 ?_
        exact ih (b, l) _ (by simp only [gtS]; first | (rw [if_neg (Int32.not_lt.mpr c_31), if_neg (Int32.not_lt.mpr c_31)]; done) | (rw [if_pos (Int32.not_le.mp c_31), if_pos (Int32.not_le.mp c_31)]; done) | exact absurd c_31 c_44 | exact absurd c_44 c_31) ⟨_, S9.trans S2, T⟩
      · refine z_iload5 47 dX5_gateFor_47 ?_
        refine z_goto 49 53 dX5_gateFor_49 (by decide) ?_
        refine z_istore3 53 dX5_gateFor_53 rfl ?_
        refine z_iinc4 54 ((nI (1 + i + 1))) dX5_gateFor_54 (nI_add _ _) rfl ?_
        refine z_goto 57 12 dX5_gateFor_57 (by decide) ?_
        refine z_fog 5 ?_
        exact ih (b, (mtV P c (1 + i))) _ (by simp only [gtS]; first | (rw [if_neg (Int32.not_lt.mpr c_31), if_neg (Int32.not_lt.mpr c_31)]; done) | (rw [if_pos (Int32.not_le.mp c_31), if_pos (Int32.not_le.mp c_31)]; done) | exact absurd c_31 c_44 | exact absurd c_44 c_31) ⟨_, S9.trans S2, T⟩
    · refine z_iload4 34 dX5_gateFor_34 ?_
      refine z_goto 36 40 dX5_gateFor_36 (by decide) ?_
      refine z_istore2 40 dX5_gateFor_40 rfl ?_
      refine z_iload5 41 dX5_gateFor_41 ?_
      refine z_iload3 43 dX5_gateFor_43 ?_
      refine z_icge 44 52 dX5_gateFor_44 (by decide) (fun c_44 => ?_) (fun c_44 => ?_)
      · refine z_iload3 52 dX5_gateFor_52 ?_
        refine z_istore3 53 dX5_gateFor_53 rfl ?_
        refine z_iinc4 54 ((nI (1 + i + 1))) dX5_gateFor_54 (nI_add _ _) rfl ?_
        refine z_goto 57 12 dX5_gateFor_57 (by decide) ?_
        refine z_fog 5 ?_
        exact ih (1 + i, l) _ (by simp only [gtS]; first | (rw [if_neg (Int32.not_lt.mpr c_31), if_neg (Int32.not_lt.mpr c_31)]; done) | (rw [if_pos (Int32.not_le.mp c_31), if_pos (Int32.not_le.mp c_31)]; done) | exact absurd c_31 c_44 | exact absurd c_44 c_31) ⟨_, S9.trans S2, T⟩
      · refine z_iload5 47 dX5_gateFor_47 ?_
        refine z_goto 49 53 dX5_gateFor_49 (by decide) ?_
        refine z_istore3 53 dX5_gateFor_53 rfl ?_
        refine z_iinc4 54 ((nI (1 + i + 1))) dX5_gateFor_54 (nI_add _ _) rfl ?_
        refine z_goto 57 12 dX5_gateFor_57 (by decide) ?_
        refine z_fog 5 ?_
        exact ih (1 + i, (mtV P c (1 + i))) _ (by simp only [gtS]; first | (rw [if_neg (Int32.not_lt.mpr c_31), if_neg (Int32.not_lt.mpr c_31)]; done) | (rw [if_pos (Int32.not_le.mp c_31), if_pos (Int32.not_le.mp c_31)]; done) | exact absurd c_31 c_44 | exact absurd c_44 c_31) ⟨_, S9.trans S2, T⟩

