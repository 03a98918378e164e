/-! THE REFERENCE: small methods -/
set_option maxHeartbeats 4000000 in
theorem m_inN {E : Ev} {h : HP} {v a b : Nat} (hv : v < 2 ^ 31) (ha : a < 2 ^ 31) (hb : b < 2 ^ 31) (d k : Nat) : Call E yX5_in d k [.int (nI v), .int (nI a), .int (nI b)] h (rP h (nI (bN (inN v a b)))) := by
  refine Call.of [.int (nI v), .int (nI a), .int (nI b)] q2187 (by decide) pn_X5 (Nat.le_of_ble_eq_true rfl) rfl ?_
  refine z_iload0 0 dX5_in_0 ?_
  refine z_iload1 1 dX5_in_1 ?_
  refine z_icltN 2 14 dX5_in_2 (by decide) (by omega) (by omega) (fun c_2 => ?_) (fun c_2 => ?_)
  · refine z_iconst 14 (nI 0) dX5_in_14 kI0 ?_
    refine z_zreturn 15 rfl (by decide) dX5_in_15 ?_
    exact rP_of (by first | rfl | (congr 1; simp [bN, inN, inI, *]; done) | (congr 1; grind [bN, inN, inI]))
  · refine z_iload0 5 dX5_in_5 ?_
    refine z_iload2 6 dX5_in_6 ?_
    refine z_icgtN 7 14 dX5_in_7 (by decide) (by omega) (by omega) (fun c_7 => ?_) (fun c_7 => ?_)
    · refine z_iconst 14 (nI 0) dX5_in_14 kI0 ?_
      refine z_zreturn 15 rfl (by decide) dX5_in_15 ?_
      exact rP_of (by first | rfl | (congr 1; simp [bN, inN, inI, *]; done) | (congr 1; grind [bN, inN, inI]))
    · refine z_iconst 10 (nI 1) dX5_in_10 kI1 ?_
      refine z_goto 11 15 dX5_in_11 (by decide) ?_
      refine z_zreturn 15 rfl (by decide) dX5_in_15 ?_
      exact rP_of (by first | rfl | (congr 1; simp [bN, inN, inI, *]; done) | (congr 1; grind [bN, inN, inI]))

set_option maxHeartbeats 4000000 in
theorem m_inI {E : Ev} {h : HP} {v a b : Int32} (d k : Nat) : Call E yX5_in d k [.int v, .int a, .int b] h (rP h (nI (bN (inI v a b)))) := by
  refine Call.of [.int v, .int a, .int b] q2187 (by decide) pn_X5 (Nat.le_of_ble_eq_true rfl) rfl ?_
  refine z_iload0 0 dX5_in_0 ?_
  refine z_iload1 1 dX5_in_1 ?_
  refine z_iclt 2 14 dX5_in_2 (by decide) (fun c_2 => ?_) (fun c_2 => ?_)
  · refine z_iconst 14 (nI 0) dX5_in_14 kI0 ?_
    refine z_zreturn 15 rfl (by decide) dX5_in_15 ?_
    exact rP_of (congrArg nI (by simp only [bN, inI]; simp only [Bool.and_eq_true, decide_eq_true_eq]; first | (rw [if_pos ⟨by grind, by grind⟩]; done) | (rw [if_neg (by grind)]; done)))
  · refine z_iload0 5 dX5_in_5 ?_
    refine z_iload2 6 dX5_in_6 ?_
    refine z_icgt 7 14 dX5_in_7 (by decide) (fun c_7 => ?_) (fun c_7 => ?_)
    · refine z_iconst 14 (nI 0) dX5_in_14 kI0 ?_
      refine z_zreturn 15 rfl (by decide) dX5_in_15 ?_
      exact rP_of (congrArg nI (by simp only [bN, inI]; simp only [Bool.and_eq_true, decide_eq_true_eq]; first | (rw [if_pos ⟨by grind, by grind⟩]; done) | (rw [if_neg (by grind)]; done)))
    · refine z_iconst 10 (nI 1) dX5_in_10 kI1 ?_
      refine z_goto 11 15 dX5_in_11 (by decide) ?_
      refine z_zreturn 15 rfl (by decide) dX5_in_15 ?_
      exact rP_of (congrArg nI (by simp only [bN, inI]; simp only [Bool.and_eq_true, decide_eq_true_eq]; first | (rw [if_pos ⟨by grind, by grind⟩]; done) | (rw [if_neg (by grind)]; done)))

set_option maxHeartbeats 4000000 in
theorem m_isPlace {E : Ev} {h : HP} {v : Int32} (d k : Nat) (hd : 1 ≤ d) : Call E yX5_isPlace d k [.int v] h (rP h (nI (bN (inI v (nI 0) (nI 7))))) := by
  refine Call.of [.int v] q2184 (by decide) pn_X5 (Nat.le_of_ble_eq_true rfl) rfl ?_
  refine z_iload0 0 dX5_isPlace_0 ?_
  refine z_iconst 1 (nI 0) dX5_isPlace_1 kI0 ?_
  refine z_bipush 2 (nI 7) dX5_isPlace_2 kB7 ?_
  refine z_S3 (k' := k) 4 sX5_39 dX5_isPlace_4 (m_inI (d - 1) 0) (by omega) (by omega) (Nat.le_of_ble_eq_true rfl) (aft_P ?_)
  refine z_zreturn 7 rfl (bN_nb _) dX5_isPlace_7 ?_
  exact rP_of (rfl)

set_option maxHeartbeats 4000000 in
theorem m_apart {E : Ev} {h : HP} {a b : Nat} (ha : a < 2 ^ 31) (hb : b < 2 ^ 31) (d k : Nat) : Call E yX5_apart d k [.int (nI a), .int (nI b)] h (rP h (nI (apN a b))) := by
  refine Call.of [.int (nI a), .int (nI b)] q2329 (by decide) pn_X5 (Nat.le_of_ble_eq_true rfl) rfl ?_
  refine z_iload0 0 dX5_apart_0 ?_
  refine z_iload1 1 dX5_apart_1 ?_
  refine z_icgeN 2 11 dX5_apart_2 (by decide) (by omega) (by omega) (fun c_2 => ?_) (fun c_2 => ?_)
  · refine z_iload0 11 dX5_apart_11 ?_
    refine z_iload1 12 dX5_apart_12 ?_
    refine z_isubN 13 dX5_apart_13 (by omega) ?_
    refine z_ireturn 14 rfl dX5_apart_14 ?_
    exact rP_of (congrArg nI (by simp only [apN]; first | (rw [if_pos (by omega)]; done) | (rw [if_neg (by omega)]; done)))
  · refine z_iload1 5 dX5_apart_5 ?_
    refine z_iload0 6 dX5_apart_6 ?_
    refine z_isubN 7 dX5_apart_7 (by omega) ?_
    refine z_goto 8 14 dX5_apart_8 (by decide) ?_
    refine z_ireturn 14 rfl dX5_apart_14 ?_
    exact rP_of (congrArg nI (by simp only [apN]; first | (rw [if_pos (by omega)]; done) | (rw [if_neg (by omega)]; done)))

set_option maxHeartbeats 4000000 in
theorem m_of {E : Ev} {h : HP} {m : Nat} {A P : Nat → Nat} {X : Nat → Nat → Nat} {hs : Int64} (T0 : MdAt h m A P X hs) {pl u : Nat} (hp : pl < 8) (hu : u < 10) (d k : Nat) : Call E yX5_of d k [.ref m, .int (nI pl), .int (nI u)] h (rP h (nI (ofP P pl u))) := by
  have T := T0.to
  refine Call.of [.ref m, .int (nI pl), .int (nI u)] q2195 (by decide) pn_X5 (Nat.le_of_ble_eq_true rfl) rfl ?_
  refine z_aload0 0 dX5_of_0 ?_
  refine z_get 1 gX5_7 dX5_of_1 T.kd (T.rf 1 rfl) ?_
  refine z_bipush 4 (nI 13) dX5_of_4 kB13 ?_
  refine z_bipush 6 (nI 10) dX5_of_6 kB10 ?_
  refine z_iload1 8 dX5_of_8 ?_
  refine z_imulN 9 dX5_of_9 ?_
  refine z_iaddN 10 dX5_of_10 ?_
  refine z_iload2 11 dX5_of_11 ?_
  refine z_iaddN 12 dX5_of_12 ?_
  refine z_iald (n := 204) 13 (13 + 10 * pl + u) dX5_of_13 (T.ak 1 rfl rfl) (T.al 1 rfl rfl) (rfl) ((by omega)) (by decide) (T.at1 (by omega)) ?_
  refine z_ireturn 14 rfl dX5_of_14 ?_
  exact rP_of (rfl)

set_option maxHeartbeats 4000000 in
theorem m_jobOf {E : Ev} {h : HP} {m : Nat} {A P : Nat → Nat} {X : Nat → Nat → Nat} {hs : Int64} (T0 : MdAt h m A P X hs) {j u : Nat} (hj : j < 16) (hu : u < 3) (d k : Nat) : Call E yX5_jobOf d k [.ref m, .int (nI j), .int (nI u)] h (rP h (nI (jbP P j u))) := by
  have T := T0.to
  refine Call.of [.ref m, .int (nI j), .int (nI u)] q2215 (by decide) pn_X5 (Nat.le_of_ble_eq_true rfl) rfl ?_
  refine z_aload0 0 dX5_jobOf_0 ?_
  refine z_get 1 gX5_7 dX5_jobOf_1 T.kd (T.rf 1 rfl) ?_
  refine z_bipush 4 (nI 93) dX5_jobOf_4 kB93 ?_
  refine z_iconst 6 (nI 3) dX5_jobOf_6 kI3 ?_
  refine z_iload1 7 dX5_jobOf_7 ?_
  refine z_imulN 8 dX5_jobOf_8 ?_
  refine z_iaddN 9 dX5_jobOf_9 ?_
  refine z_iload2 10 dX5_jobOf_10 ?_
  refine z_iaddN 11 dX5_jobOf_11 ?_
  refine z_iald (n := 204) 12 (93 + 3 * j + u) dX5_jobOf_12 (T.ak 1 rfl rfl) (T.al 1 rfl rfl) (rfl) ((by omega)) (by decide) (T.at1 (by omega)) ?_
  refine z_ireturn 13 rfl dX5_jobOf_13 ?_
  exact rP_of (rfl)

set_option maxHeartbeats 4000000 in
theorem m_outingOf {E : Ev} {h : HP} {m : Nat} {A P : Nat → Nat} {X : Nat → Nat → Nat} {hs : Int64} (T0 : MdAt h m A P X hs) {j u : Nat} (hj : j < 17) (hu : u < 3) (d k : Nat) : Call E yX5_outingOf d k [.ref m, .int (nI j), .int (nI u)] h (rP h (nI (ogP P j u))) := by
  have T := T0.to
  refine Call.of [.ref m, .int (nI j), .int (nI u)] q2259 (by decide) pn_X5 (Nat.le_of_ble_eq_true rfl) rfl ?_
  refine z_aload0 0 dX5_outingOf_0 ?_
  refine z_get 1 gX5_7 dX5_outingOf_1 T.kd (T.rf 1 rfl) ?_
  refine z_sipush 4 (nI 153) dX5_outingOf_4 kS153 ?_
  refine z_iconst 7 (nI 3) dX5_outingOf_7 kI3 ?_
  refine z_iload1 8 dX5_outingOf_8 ?_
  refine z_imulN 9 dX5_outingOf_9 ?_
  refine z_iaddN 10 dX5_outingOf_10 ?_
  refine z_iload2 11 dX5_outingOf_11 ?_
  refine z_iaddN 12 dX5_outingOf_12 ?_
  refine z_iald (n := 204) 13 (153 + 3 * j + u) dX5_outingOf_13 (T.ak 1 rfl rfl) (T.al 1 rfl rfl) (rfl) ((by omega)) (by decide) (T.at1 (by omega)) ?_
  refine z_ireturn 14 rfl dX5_outingOf_14 ?_
  exact rP_of (rfl)

set_option maxHeartbeats 4000000 in
theorem m_lay {E : Ev} {h : HP} {m : Nat} {A P : Nat → Nat} {X : Nat → Nat → Nat} {hs : Int64} (T0 : MdAt h m A P X hs) {pl u v : Nat} (hp : pl < 8) (hu : u < 10) (d k : Nat) : Call E yX5_lay d k [.ref m, .int (nI pl), .int (nI u), .int (nI v)] h (rV (MdTo h m A (lyP P pl u v) X hs)) := by
  have T := T0.to
  refine Call.of [.ref m, .int (nI pl), .int (nI u), .int (nI v)] q2203 (by decide) pn_X5 (Nat.le_of_ble_eq_true rfl) rfl ?_
  refine z_aload0 0 dX5_lay_0 ?_
  refine z_get 1 gX5_7 dX5_lay_1 T.kd (T.rf 1 rfl) ?_
  refine z_bipush 4 (nI 13) dX5_lay_4 kB13 ?_
  refine z_bipush 6 (nI 10) dX5_lay_6 kB10 ?_
  refine z_iload1 8 dX5_lay_8 ?_
  refine z_imulN 9 dX5_lay_9 ?_
  refine z_iaddN 10 dX5_lay_10 ?_
  refine z_iload2 11 dX5_lay_11 ?_
  refine z_iaddN 12 dX5_lay_12 ?_
  refine z_iload3 13 dX5_lay_13 ?_
  refine z_iast (n := 204) 14 (13 + 10 * pl + u) dX5_lay_14 (T.ak 1 rfl rfl) (T.al 1 rfl rfl) (rfl) ((by omega)) (by decide) ?_
  have T := T.put1 (13 + 10 * pl + u) v
  refine z_return 15 rfl dX5_lay_15 ?_
  exact ⟨rfl, T⟩

set_option maxHeartbeats 4000000 in
theorem m_fails {E : Ev} {h : HP} {m : Nat} {A P : Nat → Nat} {X : Nat → Nat → Nat} {hs : Int64} (T0 : MdAt h m A P X hs) {v : Nat} (d k : Nat) : Call E yX5_fails d k [.ref m, .int (nI v)] h (rI fun x h' => x = nI 0 ∧ MdTo h m A P (upx X 0 0 v) hs h') := by
  have T := T0.to
  refine Call.of [.ref m, .int (nI v)] q2191 (by decide) pn_X5 (Nat.le_of_ble_eq_true rfl) rfl ?_
  refine z_aload0 0 dX5_fails_0 ?_
  refine z_iload1 1 dX5_fails_1 ?_
  refine z_put 2 pX5_35 (fun h => by cases h) dX5_fails_2 T.kd (rfl) (rfl) ?_
  have T := T.putS 0 v rfl
  refine z_iconst 5 (nI 0) dX5_fails_5 kI0 ?_
  refine z_ireturn 6 rfl dX5_fails_6 ?_
  exact ⟨_, rfl, rfl, T⟩

set_option maxHeartbeats 4000000 in
theorem m_thrown {E : Ev} {h : HP} {m : Nat} {A P : Nat → Nat} {X : Nat → Nat → Nat} {hs : Int64} (T0 : MdAt h m A P X hs)  (d k : Nat) : Call E yX5_thrown d k [.ref m] h (rP h (nI (X 0 0))) := by
  have T := T0.to
  refine Call.of [.ref m] q2177 (by decide) pn_X5 (Nat.le_of_ble_eq_true rfl) rfl ?_
  refine z_aload0 0 dX5_thrown_0 ?_
  refine z_get 1 gX5_35 dX5_thrown_1 T.kd (show HP.mm _ _ _ = .int (nI (X 0 0)) from T.sc 0 rfl) ?_
  refine z_ireturn 4 rfl dX5_thrown_4 ?_
  exact rP_of (rfl)

set_option maxHeartbeats 4000000 in
theorem m_reports {E : Ev} {h : HP} {m : Nat} {A P : Nat → Nat} {X : Nat → Nat → Nat} {hs : Int64} (T0 : MdAt h m A P X hs) {j : Nat} (hj : j < 16) (d k : Nat) : Call E yX5_reports d k [.ref m, .int (nI j)] h (rV (MdTo h m A (rpP P j) X hs)) := by
  have T := T0.to
  refine Call.of [.ref m, .int (nI j)] q2290 (by decide) pn_X5 (Nat.le_of_ble_eq_true rfl) rfl ?_
  refine z_aload0 0 dX5_reports_0 ?_
  refine z_get 1 gX5_7 dX5_reports_1 T.kd (T.rf 1 rfl) ?_
  refine z_bipush 4 (nI 93) dX5_reports_4 kB93 ?_
  refine z_iconst 6 (nI 3) dX5_reports_6 kI3 ?_
  refine z_iload1 7 dX5_reports_7 ?_
  refine z_imulN 8 dX5_reports_8 ?_
  refine z_iaddN 9 dX5_reports_9 ?_
  refine z_iconst 10 (nI 0) dX5_reports_10 kI0 ?_
  refine z_iaddN 11 dX5_reports_11 ?_
  refine z_iconst 12 (nI 1) dX5_reports_12 kI1 ?_
  refine z_iast (n := 204) 13 (93 + 3 * j + 0) dX5_reports_13 (T.ak 1 rfl rfl) (T.al 1 rfl rfl) (rfl) ((by omega)) (by decide) ?_
  have T := T.put1 (93 + 3 * j + 0) 1
  refine z_aload0 14 dX5_reports_14 ?_
  refine z_get 15 gX5_7 dX5_reports_15 T.kd (T.rf 1 rfl) ?_
  refine z_bipush 18 (nI 93) dX5_reports_18 kB93 ?_
  refine z_iconst 20 (nI 3) dX5_reports_20 kI3 ?_
  refine z_iload1 21 dX5_reports_21 ?_
  refine z_imulN 22 dX5_reports_22 ?_
  refine z_iaddN 23 dX5_reports_23 ?_
  refine z_iconst 24 (nI 1) dX5_reports_24 kI1 ?_
  refine z_iaddN 25 dX5_reports_25 ?_
  refine z_aload0 26 dX5_reports_26 ?_
  refine z_get 27 gX5_7 dX5_reports_27 T.kd (T.rf 1 rfl) ?_
  refine z_iconst 30 (nI 5) dX5_reports_30 kI5 ?_
  refine z_iald (n := 204) 31 (5) dX5_reports_31 (T.ak 1 rfl rfl) (T.al 1 rfl rfl) (rfl) ((by omega)) (by decide) (T.at1 (by omega)) ?_
  refine z_iast (n := 204) 32 (93 + 3 * j + 1) dX5_reports_32 (T.ak 1 rfl rfl) (T.al 1 rfl rfl) (rfl) ((by omega)) (by decide) ?_
  have T := T.put1 (93 + 3 * j + 1) ((upn P (93 + 3 * j + 0) 1) 5)
  refine z_aload0 33 dX5_reports_33 ?_
  refine z_get 34 gX5_7 dX5_reports_34 T.kd (T.rf 1 rfl) ?_
  refine z_bipush 37 (nI 93) dX5_reports_37 kB93 ?_
  refine z_iconst 39 (nI 3) dX5_reports_39 kI3 ?_
  refine z_iload1 40 dX5_reports_40 ?_
  refine z_imulN 41 dX5_reports_41 ?_
  refine z_iaddN 42 dX5_reports_42 ?_
  refine z_iconst 43 (nI 2) dX5_reports_43 kI2 ?_
  refine z_iaddN 44 dX5_reports_44 ?_
  refine z_iconst 45 (nI 0) dX5_reports_45 kI0 ?_
  refine z_iast (n := 204) 46 (93 + 3 * j + 2) dX5_reports_46 (T.ak 1 rfl rfl) (T.al 1 rfl rfl) (rfl) ((by omega)) (by decide) ?_
  have T := T.put1 (93 + 3 * j + 2) 0
  refine z_return 47 rfl dX5_reports_47 ?_
  exact ⟨rfl, T⟩

set_option maxHeartbeats 4000000 in
theorem m_ends {E : Ev} {h : HP} {m : Nat} {A P : Nat → Nat} {X : Nat → Nat → Nat} {hs : Int64} (T0 : MdAt h m A P X hs) {j : Nat} (hj : j < 16) (d k : Nat) : Call E yX5_ends d k [.ref m, .int (nI j)] h (rV (MdTo h m A (enP P j) X hs)) := by
  have T := T0.to
  refine Call.of [.ref m, .int (nI j), dum] q2219 (by decide) pn_X5 (Nat.le_of_ble_eq_true rfl) rfl ?_
  refine z_iconst 0 (nI 0) dX5_ends_0 kI0 ?_
  refine z_istore2 1 dX5_ends_1 rfl ?_
  refine lpB 2 (3) (fun i Q => upn Q (93 + 3 * j + i) 0) (P) ((itN 3 (fun i Q => upn Q (93 + 3 * j + i) 0) P)) (rfl) (fun i a => [.ref m, .int (nI j), .int (nI i)]) (fun i a h9 => MdTo h m A a X hs h9) (fun _ _ => True) (fun _ => k) (T) (trivial) (fun _ _ _ _ => trivial) (fun h_1 T hJ => ?_) (fun i a h_1 hi_i hJ T ih_i => ?_)
  · have T : MdTo h m A (itN 3 (fun i Q => upn Q (93 + 3 * j + i) 0) P) X hs h_1 := T
    refine z_iload2 2 dX5_ends_2 ?_
    refine z_iconst 3 (nI 3) dX5_ends_3 kI3 ?_
    refine z_icgeN 4 27 dX5_ends_4 (by decide) (by omega) (by omega) (fun c_4 => ?_) (fun c_4 => absurd c_4 (by omega))
    refine z_return 27 rfl dX5_ends_27 ?_
    exact ⟨rfl, T⟩
  · refine z_iload2 2 dX5_ends_2 ?_
    refine z_iconst 3 (nI 3) dX5_ends_3 kI3 ?_
    refine z_icgeN 4 27 dX5_ends_4 (by decide) (by omega) (by omega) (fun c_4 => absurd c_4 (by omega)) (fun c_4 => ?_)
    refine z_aload0 7 dX5_ends_7 ?_
    refine z_get 8 gX5_7 dX5_ends_8 T.kd (T.rf 1 rfl) ?_
    refine z_bipush 11 (nI 93) dX5_ends_11 kB93 ?_
    refine z_iconst 13 (nI 3) dX5_ends_13 kI3 ?_
    refine z_iload1 14 dX5_ends_14 ?_
    refine z_imulN 15 dX5_ends_15 ?_
    refine z_iaddN 16 dX5_ends_16 ?_
    refine z_iload2 17 dX5_ends_17 ?_
    refine z_iaddN 18 dX5_ends_18 ?_
    refine z_iconst 19 (nI 0) dX5_ends_19 kI0 ?_
    refine z_iast (n := 204) 20 (93 + 3 * j + i) dX5_ends_20 (T.ak 1 rfl rfl) (T.al 1 rfl rfl) (rfl) ((by omega)) (by decide) ?_
    have T := T.put1 (93 + 3 * j + i) 0
    refine z_iinc2 21 ((nI (i + 1))) dX5_ends_21 (nI_add _ _) rfl ?_
    refine z_goto 24 2 dX5_ends_24 (by decide) ?_
    exact ih_i (upn a (93 + 3 * j + i) 0) _ (by rfl) T

set_option maxHeartbeats 4000000 in
theorem m_needs {E : Ev} {h : HP} {m : Nat} {A P : Nat → Nat} {X : Nat → Nat → Nat} {hs : Int64} (T0 : MdAt h m A P X hs) {j : Nat} (hj : j < 16) (hn : jbP P j 2 ≤ neM j) (d k : Nat) (hd : 1 ≤ d) : Call E yX5_needs d k [.ref m, .int (nI j)] h (rP h (nI (neP P j))) := by
  have T := T0.to
  refine Call.of [.ref m, .int (nI j)] q2310 (by decide) pn_X5 (Nat.le_of_ble_eq_true rfl) rfl ?_
  refine z_iload1 0 dX5_needs_0 ?_
  refine z_iconst 1 (nI 2) dX5_needs_1 kI2 ?_
  refine z_iremN 2 dX5_needs_2 (by omega) (by omega) (by omega) ?_
  refine z_ifneN 3 11 dX5_needs_3 (by decide) (by omega) (fun c_3 => ?_) (fun c_3 => ?_)
  · refine z_iconst 11 (nI 2) dX5_needs_11 kI2 ?_
    refine z_aload0 12 dX5_needs_12 ?_
    refine z_iload1 13 dX5_needs_13 ?_
    refine z_iconst 14 (nI 2) dX5_needs_14 kI2 ?_
    refine z_V2 (k' := k) 15 vX5_58 dX5_needs_15 T.kd (m_jobOf T.1 (by omega) (by omega) (d - 1) 0) (by omega) (by omega) (Nat.le_of_ble_eq_true rfl) (aft_P (x := (nI (jbP P j 2))) ?_)
    refine z_isubN 18 dX5_needs_18 (by have q := hn; unfold neM at q; split at q <;> omega) ?_
    refine z_ireturn 19 rfl dX5_needs_19 ?_
    exact rP_of (by first | (congr 1; simp [neP, neM, *]; done) | (congr 1; grind [neP, neM]))
  · refine z_bipush 6 (nI 6) dX5_needs_6 kB6 ?_
    refine z_goto 8 12 dX5_needs_8 (by decide) ?_
    refine z_aload0 12 dX5_needs_12 ?_
    refine z_iload1 13 dX5_needs_13 ?_
    refine z_iconst 14 (nI 2) dX5_needs_14 kI2 ?_
    refine z_V2 (k' := k) 15 vX5_58 dX5_needs_15 T.kd (m_jobOf T.1 (by omega) (by omega) (d - 1) 0) (by omega) (by omega) (Nat.le_of_ble_eq_true rfl) (aft_P (x := (nI (jbP P j 2))) ?_)
    refine z_isubN 18 dX5_needs_18 (by have q := hn; unfold neM at q; split at q <;> omega) ?_
    refine z_ireturn 19 rfl dX5_needs_19 ?_
    exact rP_of (by first | (congr 1; simp [neP, neM, *]; done) | (congr 1; grind [neP, neM]))

set_option maxHeartbeats 4000000 in
theorem m_isAhead {E : Ev} {h : HP} {m : Nat} {A P : Nat → Nat} {X : Nat → Nat → Nat} {hs : Int64} (T0 : MdAt h m A P X hs) {a b : Nat} (ha : a < 16) (hb : b < 16) (B : Bd P) (d k : Nat) (hd : 1 ≤ d) : Call E yX5_isAhead d k [.ref m, .int (nI a), .int (nI b)] h (rP h (nI (bN (ahP P a b)))) := by
  have T := T0.to
  have b1 := B.s 1 (by omega)
  have b2 := B.jb (w := 1) ha (by omega)
  have b3 := B.jb (w := 1) hb (by omega)
  refine Call.of [.ref m, .int (nI a), .int (nI b), dum] q2306 (by decide) pn_X5 (Nat.le_of_ble_eq_true rfl) rfl ?_
  refine z_aload0 0 dX5_isAhead_0 ?_
  refine z_get 1 gX5_7 dX5_isAhead_1 T.kd (T.rf 1 rfl) ?_
  refine z_iconst 4 (nI 1) dX5_isAhead_4 kI1 ?_
  refine z_iald (n := 204) 5 (1) dX5_isAhead_5 (T.ak 1 rfl rfl) (T.al 1 rfl rfl) (rfl) ((by omega)) (by decide) (T.at1 (by omega)) ?_
  refine z_iconst 6 (nI 2) dX5_isAhead_6 kI2 ?_
  refine z_icgeN 7 37 dX5_isAhead_7 (by decide) (by omega) (by omega) (fun c_7 => ?_) (fun c_7 => ?_)
  · refine z_aload0 37 dX5_isAhead_37 ?_
    refine z_iload2 38 dX5_isAhead_38 ?_
    refine z_iconst 39 (nI 1) dX5_isAhead_39 kI1 ?_
    refine z_V2 (k' := k) 40 vX5_58 dX5_isAhead_40 T.kd (m_jobOf T.1 (by omega) (by omega) (d - 1) 0) (by omega) (by omega) (Nat.le_of_ble_eq_true rfl) (aft_P (x := (nI (jbP P b 1))) ?_)
    refine z_aload0 43 dX5_isAhead_43 ?_
    refine z_iload1 44 dX5_isAhead_44 ?_
    refine z_iconst 45 (nI 1) dX5_isAhead_45 kI1 ?_
    refine z_V2 (k' := k) 46 vX5_58 dX5_isAhead_46 T.kd (m_jobOf T.1 (by omega) (by omega) (d - 1) 0) (by omega) (by omega) (Nat.le_of_ble_eq_true rfl) (aft_P (x := (nI (jbP P a 1))) ?_)
    refine z_isub 49 dX5_isAhead_49 ?_
    refine z_istore3 50 dX5_isAhead_50 rfl ?_
    refine z_iload3 51 dX5_isAhead_51 ?_
    refine z_ifgtD 52 64 dX5_isAhead_52 (by decide) (by omega) (by omega) (fun c_52 => ?_) (fun c_52 => ?_)
    · refine z_iconst 64 (nI 1) dX5_isAhead_64 kI1 ?_
      refine z_goto 65 69 dX5_isAhead_65 (by decide) ?_
      refine z_zreturn 69 rfl (by decide) dX5_isAhead_69 ?_
      exact rP_of (congrArg nI (by simp only [bN, ahP]; grind))
    · refine z_iload3 55 dX5_isAhead_55 ?_
      refine z_ifneD 56 68 dX5_isAhead_56 (by decide) (by omega) (by omega) (fun c_56 => ?_) (fun c_56 => ?_)
      · refine z_iconst 68 (nI 0) dX5_isAhead_68 kI0 ?_
        refine z_zreturn 69 rfl (by decide) dX5_isAhead_69 ?_
        exact rP_of (congrArg nI (by simp only [bN, ahP]; grind))
      · refine z_iload1 59 dX5_isAhead_59 ?_
        refine z_iload2 60 dX5_isAhead_60 ?_
        refine z_icgeN 61 68 dX5_isAhead_61 (by decide) (by omega) (by omega) (fun c_61 => ?_) (fun c_61 => ?_)
        · refine z_iconst 68 (nI 0) dX5_isAhead_68 kI0 ?_
          refine z_zreturn 69 rfl (by decide) dX5_isAhead_69 ?_
          exact rP_of (congrArg nI (by simp only [bN, ahP]; grind))
        · refine z_iconst 64 (nI 1) dX5_isAhead_64 kI1 ?_
          refine z_goto 65 69 dX5_isAhead_65 (by decide) ?_
          refine z_zreturn 69 rfl (by decide) dX5_isAhead_69 ?_
          exact rP_of (congrArg nI (by simp only [bN, ahP]; grind))
  · refine z_iload1 10 dX5_isAhead_10 ?_
    refine z_iconst 11 (nI 2) dX5_isAhead_11 kI2 ?_
    refine z_iremN 12 dX5_isAhead_12 (by omega) (by omega) (by omega) ?_
    refine z_iload2 13 dX5_isAhead_13 ?_
    refine z_iconst 14 (nI 2) dX5_isAhead_14 kI2 ?_
    refine z_iremN 15 dX5_isAhead_15 (by omega) (by omega) (by omega) ?_
    refine z_iceqN 16 37 dX5_isAhead_16 (by decide) (by omega) (by omega) (fun c_16 => ?_) (fun c_16 => ?_)
    · refine z_aload0 37 dX5_isAhead_37 ?_
      refine z_iload2 38 dX5_isAhead_38 ?_
      refine z_iconst 39 (nI 1) dX5_isAhead_39 kI1 ?_
      refine z_V2 (k' := k) 40 vX5_58 dX5_isAhead_40 T.kd (m_jobOf T.1 (by omega) (by omega) (d - 1) 0) (by omega) (by omega) (Nat.le_of_ble_eq_true rfl) (aft_P (x := (nI (jbP P b 1))) ?_)
      refine z_aload0 43 dX5_isAhead_43 ?_
      refine z_iload1 44 dX5_isAhead_44 ?_
      refine z_iconst 45 (nI 1) dX5_isAhead_45 kI1 ?_
      refine z_V2 (k' := k) 46 vX5_58 dX5_isAhead_46 T.kd (m_jobOf T.1 (by omega) (by omega) (d - 1) 0) (by omega) (by omega) (Nat.le_of_ble_eq_true rfl) (aft_P (x := (nI (jbP P a 1))) ?_)
      refine z_isub 49 dX5_isAhead_49 ?_
      refine z_istore3 50 dX5_isAhead_50 rfl ?_
      refine z_iload3 51 dX5_isAhead_51 ?_
      refine z_ifgtD 52 64 dX5_isAhead_52 (by decide) (by omega) (by omega) (fun c_52 => ?_) (fun c_52 => ?_)
      · refine z_iconst 64 (nI 1) dX5_isAhead_64 kI1 ?_
        refine z_goto 65 69 dX5_isAhead_65 (by decide) ?_
        refine z_zreturn 69 rfl (by decide) dX5_isAhead_69 ?_
        exact rP_of (congrArg nI (by simp only [bN, ahP]; grind))
      · refine z_iload3 55 dX5_isAhead_55 ?_
        refine z_ifneD 56 68 dX5_isAhead_56 (by decide) (by omega) (by omega) (fun c_56 => ?_) (fun c_56 => ?_)
        · refine z_iconst 68 (nI 0) dX5_isAhead_68 kI0 ?_
          refine z_zreturn 69 rfl (by decide) dX5_isAhead_69 ?_
          exact rP_of (congrArg nI (by simp only [bN, ahP]; grind))
        · refine z_iload1 59 dX5_isAhead_59 ?_
          refine z_iload2 60 dX5_isAhead_60 ?_
          refine z_icgeN 61 68 dX5_isAhead_61 (by decide) (by omega) (by omega) (fun c_61 => ?_) (fun c_61 => ?_)
          · refine z_iconst 68 (nI 0) dX5_isAhead_68 kI0 ?_
            refine z_zreturn 69 rfl (by decide) dX5_isAhead_69 ?_
            exact rP_of (congrArg nI (by simp only [bN, ahP]; grind))
          · refine z_iconst 64 (nI 1) dX5_isAhead_64 kI1 ?_
            refine z_goto 65 69 dX5_isAhead_65 (by decide) ?_
            refine z_zreturn 69 rfl (by decide) dX5_isAhead_69 ?_
            exact rP_of (congrArg nI (by simp only [bN, ahP]; grind))
    · refine z_iload1 19 dX5_isAhead_19 ?_
      refine z_iconst 20 (nI 2) dX5_isAhead_20 kI2 ?_
      refine z_iremN 21 dX5_isAhead_21 (by omega) (by omega) (by omega) ?_
      refine z_aload0 22 dX5_isAhead_22 ?_
      refine z_get 23 gX5_7 dX5_isAhead_23 T.kd (T.rf 1 rfl) ?_
      refine z_iconst 26 (nI 1) dX5_isAhead_26 kI1 ?_
      refine z_iald (n := 204) 27 (1) dX5_isAhead_27 (T.ak 1 rfl rfl) (T.al 1 rfl rfl) (rfl) ((by omega)) (by decide) (T.at1 (by omega)) ?_
      refine z_icneN 28 35 dX5_isAhead_28 (by decide) (by omega) (by omega) (fun c_28 => ?_) (fun c_28 => ?_)
      · refine z_iconst 35 (nI 0) dX5_isAhead_35 kI0 ?_
        refine z_zreturn 36 rfl (by decide) dX5_isAhead_36 ?_
        exact rP_of (congrArg nI (by simp only [bN, ahP]; grind))
      · refine z_iconst 31 (nI 1) dX5_isAhead_31 kI1 ?_
        refine z_goto 32 36 dX5_isAhead_32 (by decide) ?_
        refine z_zreturn 36 rfl (by decide) dX5_isAhead_36 ?_
        exact rP_of (congrArg nI (by simp only [bN, ahP]; grind))

set_option maxHeartbeats 4000000 in
theorem m_isFrosty {E : Ev} {h : HP} {m : Nat} {A P : Nat → Nat} {X : Nat → Nat → Nat} {hs : Int64} (T0 : MdAt h m A P X hs) {y : Nat} (hy : y < 2 ^ 31) (h6 : P 6 ≤ 6) (B : Bd P) (d k : Nat) (hd : 1 ≤ d) : Call E yX5_isFrosty d k [.ref m, .int (nI y)] h (rP h (nI (bN (frP P y)))) := by
  have T := T0.to
  refine Call.of [.ref m, .int (nI y), dum, dum] q2282 (by decide) pn_X5 (Nat.le_of_ble_eq_true rfl) rfl ?_
  refine z_iconst 0 (nI 0) dX5_isFrosty_0 kI0 ?_
  refine z_istore2 1 dX5_isFrosty_1 rfl ?_
  refine z_iconst 2 (nI 0) dX5_isFrosty_2 kI0 ?_
  refine z_istore3 3 dX5_isFrosty_3 rfl ?_
  refine lpA0 4 (P 6) (fun i b => b || inN y (P (141 + 2 * i)) (P (141 + 2 * i + 1))) (false) ((itN (P 6) (fun i b => b || inN y (P (141 + 2 * i)) (P (141 + 2 * i + 1))) false)) rfl (fun i a => [.ref m, .int (nI y), .int (nI (bN a)), .int (nI i)]) ?_ (fun i a hi_i ih_i => ?_)
  · refine z_iload3 4 dX5_isFrosty_4 ?_
    refine z_aload0 5 dX5_isFrosty_5 ?_
    refine z_get 6 gX5_7 dX5_isFrosty_6 T.kd (T.rf 1 rfl) ?_
    refine z_bipush 9 (nI 6) dX5_isFrosty_9 kB6 ?_
    refine z_iald (n := 204) 11 (6) dX5_isFrosty_11 (T.ak 1 rfl rfl) (T.al 1 rfl rfl) (rfl) ((by omega)) (by decide) (T.at1 (by omega)) ?_
    refine z_icgeN 12 64 dX5_isFrosty_12 (by decide) (by omega) (by omega) (fun c_12 => ?_) (fun c_12 => absurd c_12 (by omega))
    refine z_iload2 64 dX5_isFrosty_64 ?_
    refine z_zreturn 65 rfl (bN_nb _) dX5_isFrosty_65 ?_
    exact rP_of (rfl)
  · have b1 := B.f0 (j := i) (by omega)
    have b2 := B.f1 (j := i) (by omega)
    refine z_iload3 4 dX5_isFrosty_4 ?_
    refine z_aload0 5 dX5_isFrosty_5 ?_
    refine z_get 6 gX5_7 dX5_isFrosty_6 T.kd (T.rf 1 rfl) ?_
    refine z_bipush 9 (nI 6) dX5_isFrosty_9 kB6 ?_
    refine z_iald (n := 204) 11 (6) dX5_isFrosty_11 (T.ak 1 rfl rfl) (T.al 1 rfl rfl) (rfl) ((by omega)) (by decide) (T.at1 (by omega)) ?_
    refine z_icgeN 12 64 dX5_isFrosty_12 (by decide) (by omega) (by omega) (fun c_12 => absurd c_12 (by omega)) (fun c_12 => ?_)
    refine z_iload2 15 dX5_isFrosty_15 ?_
    refine z_ifneB 16 52 dX5_isFrosty_16 (by decide) (fun c_16 => ?_) (fun c_16 => ?_)
    · refine z_iconst 52 (nI 1) dX5_isFrosty_52 kI1 ?_
      refine z_goto 53 57 dX5_isFrosty_53 (by decide) ?_
      refine z_istore2 57 dX5_isFrosty_57 rfl ?_
      refine z_iinc3 58 ((nI (i + 1))) dX5_isFrosty_58 (nI_add _ _) rfl ?_
      refine z_goto 61 4 dX5_isFrosty_61 (by decide) ?_
      exact ih_i (true) (by simp [*])
    · refine z_iload1 19 dX5_isFrosty_19 ?_
      refine z_aload0 20 dX5_isFrosty_20 ?_
      refine z_get 21 gX5_7 dX5_isFrosty_21 T.kd (T.rf 1 rfl) ?_
      refine z_sipush 24 (nI 141) dX5_isFrosty_24 kS141 ?_
      refine z_iconst 27 (nI 2) dX5_isFrosty_27 kI2 ?_
      refine z_iload3 28 dX5_isFrosty_28 ?_
      refine z_imulN 29 dX5_isFrosty_29 ?_
      refine z_iaddN 30 dX5_isFrosty_30 ?_
      refine z_iald (n := 204) 31 (141 + 2 * i) dX5_isFrosty_31 (T.ak 1 rfl rfl) (T.al 1 rfl rfl) (rfl) ((by omega)) (by decide) (T.at1 (by omega)) ?_
      refine z_aload0 32 dX5_isFrosty_32 ?_
      refine z_get 33 gX5_7 dX5_isFrosty_33 T.kd (T.rf 1 rfl) ?_
      refine z_sipush 36 (nI 141) dX5_isFrosty_36 kS141 ?_
      refine z_iconst 39 (nI 2) dX5_isFrosty_39 kI2 ?_
      refine z_iload3 40 dX5_isFrosty_40 ?_
      refine z_imulN 41 dX5_isFrosty_41 ?_
      refine z_iaddN 42 dX5_isFrosty_42 ?_
      refine z_iconst 43 (nI 1) dX5_isFrosty_43 kI1 ?_
      refine z_iaddN 44 dX5_isFrosty_44 ?_
      refine z_iald (n := 204) 45 (141 + 2 * i + 1) dX5_isFrosty_45 (T.ak 1 rfl rfl) (T.al 1 rfl rfl) (rfl) ((by omega)) (by decide) (T.at1 (by omega)) ?_
      refine z_S3 (k' := k) 46 sX5_39 dX5_isFrosty_46 (m_inN (by omega) (by omega) (by omega) (d - 1) 0) (by omega) (by omega) (Nat.le_of_ble_eq_true rfl) (aft_P ?_)
      refine z_ifeqB 49 56 dX5_isFrosty_49 (by decide) (fun c_49 => ?_) (fun c_49 => ?_)
      · refine z_iconst 56 (nI 0) dX5_isFrosty_56 kI0 ?_
        refine z_istore2 57 dX5_isFrosty_57 rfl ?_
        refine z_iinc3 58 ((nI (i + 1))) dX5_isFrosty_58 (nI_add _ _) rfl ?_
        refine z_goto 61 4 dX5_isFrosty_61 (by decide) ?_
        exact ih_i (false) (by simp [*])
      · refine z_iconst 52 (nI 1) dX5_isFrosty_52 kI1 ?_
        refine z_goto 53 57 dX5_isFrosty_53 (by decide) ?_
        refine z_istore2 57 dX5_isFrosty_57 rfl ?_
        refine z_iinc3 58 ((nI (i + 1))) dX5_isFrosty_58 (nI_add _ _) rfl ?_
        refine z_goto 61 4 dX5_isFrosty_61 (by decide) ?_
        exact ih_i (true) (by simp [*])

set_option maxHeartbeats 4000000 in
theorem m_closed {E : Ev} {h : HP} {m : Nat} {A P : Nat → Nat} {X : Nat → Nat → Nat} {hs : Int64} (T0 : MdAt h m A P X hs) {pl : Nat} (hp : pl < 8) (h6 : P 6 ≤ 6) (B : Bd P) (d k : Nat) (hd : 2 ≤ d) : Call E yX5_closed d k [.ref m, .int (nI pl)] h (rP h (nI (clP P pl))) := by
  have T := T0.to
  have b0 := B.of (w := 0) hp (by omega)
  have b1 := B.of (w := 1) hp (by omega)
  have b2 := B.of (w := 2) hp (by omega)
  have b3 := B.of (w := 3) hp (by omega)
  have b4 := B.of (w := 4) hp (by omega)
  have b5 := B.of (w := 5) hp (by omega)
  have b6 := B.of (w := 6) hp (by omega)
  have b9 := B.s 5 (by omega)
  refine Call.of [.ref m, .int (nI pl)] q2333 (by decide) pn_X5 (Nat.le_of_ble_eq_true rfl) rfl ?_
  refine z_aload0 0 dX5_closed_0 ?_
  refine z_iload1 1 dX5_closed_1 ?_
  refine z_bipush 2 (nI 6) dX5_closed_2 kB6 ?_
  refine z_V2 (k' := k) 4 vX5_46 dX5_closed_4 T.kd (m_of T.1 (by omega) (by omega) (d - 1) 0) (by omega) (by omega) (Nat.le_of_ble_eq_true rfl) (aft_P (x := (nI (ofP P pl 6))) ?_)
  refine z_ifneN 7 12 dX5_closed_7 (by decide) (by omega) (fun c_7 => ?_) (fun c_7 => ?_)
  · refine z_aload0 12 dX5_closed_12 ?_
    refine z_iload1 13 dX5_closed_13 ?_
    refine z_iconst 14 (nI 5) dX5_closed_14 kI5 ?_
    refine z_V2 (k' := k) 15 vX5_46 dX5_closed_15 T.kd (m_of T.1 (by omega) (by omega) (d - 1) 0) (by omega) (by omega) (Nat.le_of_ble_eq_true rfl) (aft_P (x := (nI (ofP P pl 5))) ?_)
    refine z_iconst 18 (nI 1) dX5_closed_18 kI1 ?_
    refine z_iceqN 19 32 dX5_closed_19 (by decide) (by omega) (by omega) (fun c_19 => ?_) (fun c_19 => ?_)
    · refine z_aload0 32 dX5_closed_32 ?_
      refine z_iload1 33 dX5_closed_33 ?_
      refine z_iconst 34 (nI 5) dX5_closed_34 kI5 ?_
      refine z_V2 (k' := k) 35 vX5_46 dX5_closed_35 T.kd (m_of T.1 (by omega) (by omega) (d - 1) 0) (by omega) (by omega) (Nat.le_of_ble_eq_true rfl) (aft_P (x := (nI (ofP P pl 5))) ?_)
      refine z_iconst 38 (nI 1) dX5_closed_38 kI1 ?_
      refine z_icneN 39 46 dX5_closed_39 (by decide) (by omega) (by omega) (fun c_39 => ?_) (fun c_39 => ?_)
      · refine z_iconst 46 (nI 3) dX5_closed_46 kI3 ?_
        refine z_ireturn 47 rfl dX5_closed_47 ?_
        exact rP_of (congrArg nI (by simp only [clP]; grind))
      · refine z_iconst 42 (nI 2) dX5_closed_42 kI2 ?_
        refine z_goto 43 47 dX5_closed_43 (by decide) ?_
        refine z_ireturn 47 rfl dX5_closed_47 ?_
        exact rP_of (congrArg nI (by simp only [clP]; grind))
    · refine z_aload0 22 dX5_closed_22 ?_
      refine z_iload1 23 dX5_closed_23 ?_
      refine z_iconst 24 (nI 4) dX5_closed_24 kI4 ?_
      refine z_V2 (k' := k) 25 vX5_46 dX5_closed_25 T.kd (m_of T.1 (by omega) (by omega) (d - 1) 0) (by omega) (by omega) (Nat.le_of_ble_eq_true rfl) (aft_P (x := (nI (ofP P pl 4))) ?_)
      refine z_iconst 28 (nI 1) dX5_closed_28 kI1 ?_
      refine z_icneN 29 48 dX5_closed_29 (by decide) (by omega) (by omega) (fun c_29 => ?_) (fun c_29 => ?_)
      · refine z_aload0 48 dX5_closed_48 ?_
        refine z_aload0 49 dX5_closed_49 ?_
        refine z_get 50 gX5_7 dX5_closed_50 T.kd (T.rf 1 rfl) ?_
        refine z_iconst 53 (nI 5) dX5_closed_53 kI5 ?_
        refine z_iald (n := 204) 54 (5) dX5_closed_54 (T.ak 1 rfl rfl) (T.al 1 rfl rfl) (rfl) ((by omega)) (by decide) (T.at1 (by omega)) ?_
        refine z_V1 (k' := k) 55 vX5_50 dX5_closed_55 T.kd (m_isFrosty T.1 (by omega) (h6) (B) (d - 1) 0 (by omega)) (by omega) (by omega) (Nat.le_of_ble_eq_true rfl) (aft_P (x := (nI (bN (frP P (P 5))))) ?_)
        refine z_ifeqB 58 72 dX5_closed_58 (by decide) (fun c_58 => ?_) (fun c_58 => ?_)
        · refine z_aload0 72 dX5_closed_72 ?_
          refine z_iload1 73 dX5_closed_73 ?_
          refine z_iconst 74 (nI 2) dX5_closed_74 kI2 ?_
          refine z_V2 (k' := k) 75 vX5_46 dX5_closed_75 T.kd (m_of T.1 (by omega) (by omega) (d - 1) 0) (by omega) (by omega) (Nat.le_of_ble_eq_true rfl) (aft_P (x := (nI (ofP P pl 2))) ?_)
          refine z_iconst 78 (nI 4) dX5_closed_78 kI4 ?_
          refine z_aload0 79 dX5_closed_79 ?_
          refine z_iload1 80 dX5_closed_80 ?_
          refine z_iconst 81 (nI 1) dX5_closed_81 kI1 ?_
          refine z_V2 (k' := k) 82 vX5_46 dX5_closed_82 T.kd (m_of T.1 (by omega) (by omega) (d - 1) 0) (by omega) (by omega) (Nat.le_of_ble_eq_true rfl) (aft_P (x := (nI (ofP P pl 1))) ?_)
          refine z_imulN 85 dX5_closed_85 ?_
          refine z_icneN 86 93 dX5_closed_86 (by decide) (by omega) (by omega) (fun c_86 => ?_) (fun c_86 => ?_)
          · refine z_iconst 93 (nI 0) dX5_closed_93 kI0 ?_
            refine z_ireturn 94 rfl dX5_closed_94 ?_
            exact rP_of (congrArg nI (by simp only [clP]; grind))
          · refine z_iconst 89 (nI 5) dX5_closed_89 kI5 ?_
            refine z_goto 90 94 dX5_closed_90 (by decide) ?_
            refine z_ireturn 94 rfl dX5_closed_94 ?_
            exact rP_of (congrArg nI (by simp only [clP]; grind))
        · refine z_aload0 61 dX5_closed_61 ?_
          refine z_iload1 62 dX5_closed_62 ?_
          refine z_iconst 63 (nI 3) dX5_closed_63 kI3 ?_
          refine z_V2 (k' := k) 64 vX5_46 dX5_closed_64 T.kd (m_of T.1 (by omega) (by omega) (d - 1) 0) (by omega) (by omega) (Nat.le_of_ble_eq_true rfl) (aft_P (x := (nI (ofP P pl 3))) ?_)
          refine z_ifneN 67 72 dX5_closed_67 (by decide) (by omega) (fun c_67 => ?_) (fun c_67 => ?_)
          · refine z_aload0 72 dX5_closed_72 ?_
            refine z_iload1 73 dX5_closed_73 ?_
            refine z_iconst 74 (nI 2) dX5_closed_74 kI2 ?_
            refine z_V2 (k' := k) 75 vX5_46 dX5_closed_75 T.kd (m_of T.1 (by omega) (by omega) (d - 1) 0) (by omega) (by omega) (Nat.le_of_ble_eq_true rfl) (aft_P (x := (nI (ofP P pl 2))) ?_)
            refine z_iconst 78 (nI 4) dX5_closed_78 kI4 ?_
            refine z_aload0 79 dX5_closed_79 ?_
            refine z_iload1 80 dX5_closed_80 ?_
            refine z_iconst 81 (nI 1) dX5_closed_81 kI1 ?_
            refine z_V2 (k' := k) 82 vX5_46 dX5_closed_82 T.kd (m_of T.1 (by omega) (by omega) (d - 1) 0) (by omega) (by omega) (Nat.le_of_ble_eq_true rfl) (aft_P (x := (nI (ofP P pl 1))) ?_)
            refine z_imulN 85 dX5_closed_85 ?_
            refine z_icneN 86 93 dX5_closed_86 (by decide) (by omega) (by omega) (fun c_86 => ?_) (fun c_86 => ?_)
            · refine z_iconst 93 (nI 0) dX5_closed_93 kI0 ?_
              refine z_ireturn 94 rfl dX5_closed_94 ?_
              exact rP_of (congrArg nI (by simp only [clP]; grind))
            · refine z_iconst 89 (nI 5) dX5_closed_89 kI5 ?_
              refine z_goto 90 94 dX5_closed_90 (by decide) ?_
              refine z_ireturn 94 rfl dX5_closed_94 ?_
              exact rP_of (congrArg nI (by simp only [clP]; grind))
          · refine z_iconst 70 (nI 4) dX5_closed_70 kI4 ?_
            refine z_ireturn 71 rfl dX5_closed_71 ?_
            exact rP_of (congrArg nI (by simp only [clP]; grind))
      · refine z_aload0 32 dX5_closed_32 ?_
        refine z_iload1 33 dX5_closed_33 ?_
        refine z_iconst 34 (nI 5) dX5_closed_34 kI5 ?_
        refine z_V2 (k' := k) 35 vX5_46 dX5_closed_35 T.kd (m_of T.1 (by omega) (by omega) (d - 1) 0) (by omega) (by omega) (Nat.le_of_ble_eq_true rfl) (aft_P (x := (nI (ofP P pl 5))) ?_)
        refine z_iconst 38 (nI 1) dX5_closed_38 kI1 ?_
        refine z_icneN 39 46 dX5_closed_39 (by decide) (by omega) (by omega) (fun c_39 => ?_) (fun c_39 => ?_)
        · refine z_iconst 46 (nI 3) dX5_closed_46 kI3 ?_
          refine z_ireturn 47 rfl dX5_closed_47 ?_
          exact rP_of (congrArg nI (by simp only [clP]; grind))
        · refine z_iconst 42 (nI 2) dX5_closed_42 kI2 ?_
          refine z_goto 43 47 dX5_closed_43 (by decide) ?_
          refine z_ireturn 47 rfl dX5_closed_47 ?_
          exact rP_of (congrArg nI (by simp only [clP]; grind))
  · refine z_iconst 10 (nI 1) dX5_closed_10 kI1 ?_
    refine z_ireturn 11 rfl dX5_closed_11 ?_
    exact rP_of (congrArg nI (by simp only [clP]; grind))

theorem clP_lt (P : Nat → Nat) (pl : Nat) : clP P pl < 6 := by unfold clP; split <;> (try split) <;> (try split) <;> (try split) <;> (try split) <;> omega
set_option maxHeartbeats 4000000 in
theorem m_open {E : Ev} {h : HP} {m : Nat} {A P : Nat → Nat} {X : Nat → Nat → Nat} {hs : Int64} (T0 : MdAt h m A P X hs) (h6 : P 6 ≤ 6) (B : Bd P) (d k : Nat) (hd : 3 ≤ d) : Call E yX5_open d k [.ref m] h (rP h (nI (opP P))) := by
  have T := T0.to
  refine Call.of [.ref m, dum, dum] q2429 (by decide) pn_X5 (Nat.le_of_ble_eq_true rfl) rfl ?_
  refine z_iconst 0 (nI 0) dX5_open_0 kI0 ?_
  refine z_istore1 1 dX5_open_1 rfl ?_
  refine z_iconst 2 (nI 0) dX5_open_2 kI0 ?_
  refine z_istore2 3 dX5_open_3 rfl ?_
  refine lpA0 4 (8) (fun i s => s + (if clP P i = 0 then 1 else 0)) (0) ((itN 8 (fun i s => s + (if clP P i = 0 then 1 else 0)) 0)) rfl (fun i a => [.ref m, .int (nI a), .int (nI i)]) ?_ (fun i a hi_i ih_i => ?_)
  · refine z_iload2 4 dX5_open_4 ?_
    refine z_bipush 5 (nI 8) dX5_open_5 kB8 ?_
    refine z_icgeN 7 32 dX5_open_7 (by decide) (by omega) (by omega) (fun c_7 => ?_) (fun c_7 => absurd c_7 (by omega))
    refine z_iload1 32 dX5_open_32 ?_
    refine z_ireturn 33 rfl dX5_open_33 ?_
    exact rP_of (rfl)
  · have b1 := clP_lt P i
    refine z_iload2 4 dX5_open_4 ?_
    refine z_bipush 5 (nI 8) dX5_open_5 kB8 ?_
    refine z_icgeN 7 32 dX5_open_7 (by decide) (by omega) (by omega) (fun c_7 => absurd c_7 (by omega)) (fun c_7 => ?_)
    refine z_iload1 10 dX5_open_10 ?_
    refine z_aload0 11 dX5_open_11 ?_
    refine z_iload2 12 dX5_open_12 ?_
    refine z_V1 (k' := k) 13 vX5_54 dX5_open_13 T.kd (m_closed T.1 (by omega) (h6) (B) (d - 1) 0 (by omega)) (by omega) (by omega) (Nat.le_of_ble_eq_true rfl) (aft_P (x := (nI (clP P i))) ?_)
    refine z_ifneN 16 23 dX5_open_16 (by decide) (by omega) (fun c_16 => ?_) (fun c_16 => ?_)
    · refine z_iconst 23 (nI 0) dX5_open_23 kI0 ?_
      refine z_iaddN 24 dX5_open_24 ?_
      refine z_istore1 25 dX5_open_25 rfl ?_
      refine z_iinc2 26 ((nI (i + 1))) dX5_open_26 (nI_add _ _) rfl ?_
      refine z_goto 29 4 dX5_open_29 (by decide) ?_
      exact ih_i (a + 0) (by simp [*])
    · refine z_iconst 19 (nI 1) dX5_open_19 kI1 ?_
      refine z_goto 20 24 dX5_open_20 (by decide) ?_
      refine z_iaddN 24 dX5_open_24 ?_
      refine z_istore1 25 dX5_open_25 rfl ?_
      refine z_iinc2 26 ((nI (i + 1))) dX5_open_26 (nI_add _ _) rfl ?_
      refine z_goto 29 4 dX5_open_29 (by decide) ?_
      exact ih_i (a + 1) (by simp [*])

set_option maxHeartbeats 4000000 in
theorem m_fountains {E : Ev} {h : HP} {m : Nat} {A P : Nat → Nat} {X : Nat → Nat → Nat} {hs : Int64} (T0 : MdAt h m A P X hs)  (d k : Nat) (hd : 1 ≤ d) : Call E yX5_fountains d k [.ref m] h (rP h (nI (fnP P))) := by
  have T := T0.to
  refine Call.of [.ref m, dum, dum] q2207 (by decide) pn_X5 (Nat.le_of_ble_eq_true rfl) rfl ?_
  refine z_iconst 0 (nI 0) dX5_fountains_0 kI0 ?_
  refine z_istore1 1 dX5_fountains_1 rfl ?_
  refine z_iconst 2 (nI 0) dX5_fountains_2 kI0 ?_
  refine z_istore2 3 dX5_fountains_3 rfl ?_
  refine lpA0 4 (8) (fun i s => s + ofP P i 6) (0) ((itN 8 (fun i s => s + ofP P i 6) 0)) rfl (fun i a => [.ref m, .int (nI a), .int (nI i)]) ?_ (fun i a hi_i ih_i => ?_)
  · refine z_iload2 4 dX5_fountains_4 ?_
    refine z_bipush 5 (nI 8) dX5_fountains_5 kB8 ?_
    refine z_icgeN 7 26 dX5_fountains_7 (by decide) (by omega) (by omega) (fun c_7 => ?_) (fun c_7 => absurd c_7 (by omega))
    refine z_iload1 26 dX5_fountains_26 ?_
    refine z_ireturn 27 rfl dX5_fountains_27 ?_
    exact rP_of (rfl)
  · refine z_iload2 4 dX5_fountains_4 ?_
    refine z_bipush 5 (nI 8) dX5_fountains_5 kB8 ?_
    refine z_icgeN 7 26 dX5_fountains_7 (by decide) (by omega) (by omega) (fun c_7 => absurd c_7 (by omega)) (fun c_7 => ?_)
    refine z_iload1 10 dX5_fountains_10 ?_
    refine z_aload0 11 dX5_fountains_11 ?_
    refine z_iload2 12 dX5_fountains_12 ?_
    refine z_bipush 13 (nI 6) dX5_fountains_13 kB6 ?_
    refine z_V2 (k' := k) 15 vX5_46 dX5_fountains_15 T.kd (m_of T.1 (by omega) (by omega) (d - 1) 0) (by omega) (by omega) (Nat.le_of_ble_eq_true rfl) (aft_P (x := (nI (ofP P i 6))) ?_)
    refine z_iaddN 18 dX5_fountains_18 ?_
    refine z_istore1 19 dX5_fountains_19 rfl ?_
    refine z_iinc2 20 ((nI (i + 1))) dX5_fountains_20 (nI_add _ _) rfl ?_
    refine z_goto 23 4 dX5_fountains_23 (by decide) ?_
    exact ih_i (a + ofP P i 6) (by rfl)

set_option maxHeartbeats 4000000 in
theorem m_jobs {E : Ev} {h : HP} {m : Nat} {A P : Nat → Nat} {X : Nat → Nat → Nat} {hs : Int64} (T0 : MdAt h m A P X hs)  (d k : Nat) (hd : 1 ≤ d) : Call E yX5_jobs d k [.ref m] h (rP h (nI (jsP P))) := by
  have T := T0.to
  refine Call.of [.ref m, dum, dum] q2433 (by decide) pn_X5 (Nat.le_of_ble_eq_true rfl) rfl ?_
  refine z_iconst 0 (nI 0) dX5_jobs_0 kI0 ?_
  refine z_istore1 1 dX5_jobs_1 rfl ?_
  refine z_iconst 2 (nI 0) dX5_jobs_2 kI0 ?_
  refine z_istore2 3 dX5_jobs_3 rfl ?_
  refine lpA0 4 (16) (fun i s => s + jbP P i 0) (0) ((itN 16 (fun i s => s + jbP P i 0) 0)) rfl (fun i a => [.ref m, .int (nI a), .int (nI i)]) ?_ (fun i a hi_i ih_i => ?_)
  · refine z_iload2 4 dX5_jobs_4 ?_
    refine z_bipush 5 (nI 16) dX5_jobs_5 kB16 ?_
    refine z_icgeN 7 25 dX5_jobs_7 (by decide) (by omega) (by omega) (fun c_7 => ?_) (fun c_7 => absurd c_7 (by omega))
    refine z_iload1 25 dX5_jobs_25 ?_
    refine z_ireturn 26 rfl dX5_jobs_26 ?_
    exact rP_of (rfl)
  · refine z_iload2 4 dX5_jobs_4 ?_
    refine z_bipush 5 (nI 16) dX5_jobs_5 kB16 ?_
    refine z_icgeN 7 25 dX5_jobs_7 (by decide) (by omega) (by omega) (fun c_7 => absurd c_7 (by omega)) (fun c_7 => ?_)
    refine z_iload1 10 dX5_jobs_10 ?_
    refine z_aload0 11 dX5_jobs_11 ?_
    refine z_iload2 12 dX5_jobs_12 ?_
    refine z_iconst 13 (nI 0) dX5_jobs_13 kI0 ?_
    refine z_V2 (k' := k) 14 vX5_58 dX5_jobs_14 T.kd (m_jobOf T.1 (by omega) (by omega) (d - 1) 0) (by omega) (by omega) (Nat.le_of_ble_eq_true rfl) (aft_P (x := (nI (jbP P i 0))) ?_)
    refine z_iaddN 17 dX5_jobs_17 ?_
    refine z_istore1 18 dX5_jobs_18 rfl ?_
    refine z_iinc2 19 ((nI (i + 1))) dX5_jobs_19 (nI_add _ _) rfl ?_
    refine z_goto 22 4 dX5_jobs_22 (by decide) ?_
    exact ih_i (a + jbP P i 0) (by rfl)

