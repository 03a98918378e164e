/-! THE REFERENCE: looks; until a filter is used up; the best order -/
theorem upn_back {Q P : Nat → Nat} {i : Nat} (h : ∀ j, j ≠ i → Q j = P j) (j : Nat) : upn Q i (P i) j = P j := by
  by_cases e : j = i
  · rw [e, upn_s]
  · rw [upn_n _ _ e]; exact h j e
set_option maxHeartbeats 4000000 in
theorem m_tellsPlace {E : Ev} {h : HP} {m : Nat} {A P : Nat → Nat} {X : Nat → Nat → Nat} {hs : Int64} (T0 : MdAt h m A P X hs) {pl u : Nat} (hp : pl < 8) (hu : u < 10) (W : WF P) (d k : Nat) (hd : 3 ≤ d) : Call E yX5_tellsPlace d k [.ref m, .int (nI pl), .int (nI u)] h (rP h (tpV P pl u)) := by
  have T := T0.to
  have b6 := W.B.of (w := 6) hp (by omega)
  refine Call.of [.ref m, .int (nI pl), .int (nI u)] q2393 (by decide) pn_X5 (Nat.le_of_ble_eq_true rfl) rfl ?_
  refine z_iload2 0 dX5_tellsPlace_0 ?_
  refine z_bipush 1 (nI 6) dX5_tellsPlace_1 kB6 ?_
  refine z_icneN 3 12 dX5_tellsPlace_3 (by decide) (by omega) (by omega) (fun c_3 => ?_) (fun c_3 => ?_)
  · refine z_aload0 12 dX5_tellsPlace_12 ?_
    refine z_iload1 13 dX5_tellsPlace_13 ?_
    refine z_bipush 14 (nI 6) dX5_tellsPlace_14 kB6 ?_
    refine z_V2 (k' := k) 16 vX5_46 dX5_tellsPlace_16 T.kd (m_of T.1 (by omega) (by omega) (d - 1) 0) (by omega) (by omega) (Nat.le_of_ble_eq_true rfl) (aft_P (x := (nI (ofP P pl 6))) ?_)
    refine z_iconst 19 (nI 1) dX5_tellsPlace_19 kI1 ?_
    refine z_icneN 20 32 dX5_tellsPlace_20 (by decide) (by omega) (by omega) (fun c_20 => ?_) (fun c_20 => ?_)
    · refine z_iconst 32 (-1) dX5_tellsPlace_32 kIm1 ?_
      refine z_ireturn 33 rfl dX5_tellsPlace_33 ?_
      exact rP_of (by unfold tpV; first | (rw [if_pos (by omega)]; done) | (rw [if_neg (by omega), if_pos (by omega)]; done) | (rw [if_neg (by omega), if_neg (by omega)]; done))
    · refine z_aload0 23 dX5_tellsPlace_23 ?_
      refine z_iload1 24 dX5_tellsPlace_24 ?_
      refine z_iload2 25 dX5_tellsPlace_25 ?_
      refine z_V2 (k' := k) 26 vX5_46 dX5_tellsPlace_26 T.kd (m_of T.1 (by omega) (by omega) (d - 1) 0) (by omega) (by omega) (Nat.le_of_ble_eq_true rfl) (aft_P (x := (nI (ofP P pl u))) ?_)
      refine z_goto 29 33 dX5_tellsPlace_29 (by decide) ?_
      refine z_ireturn 33 rfl dX5_tellsPlace_33 ?_
      exact rP_of (by unfold tpV; first | (rw [if_pos (by omega)]; done) | (rw [if_neg (by omega), if_pos (by omega)]; done) | (rw [if_neg (by omega), if_neg (by omega)]; done))
  · refine z_aload0 6 dX5_tellsPlace_6 ?_
    refine z_iload1 7 dX5_tellsPlace_7 ?_
    refine z_V1 (k' := k) 8 vX5_54 dX5_tellsPlace_8 T.kd (m_closed T.1 (hp) (W.h6) (W.B) (d - 1) 0 (by omega)) (by omega) (by omega) (Nat.le_of_ble_eq_true rfl) (aft_P (x := (nI (clP P pl))) ?_)
    refine z_ireturn 11 rfl dX5_tellsPlace_11 ?_
    exact rP_of (by unfold tpV; first | (rw [if_pos (by omega)]; done) | (rw [if_neg (by omega), if_pos (by omega)]; done) | (rw [if_neg (by omega), if_neg (by omega)]; done))

set_option maxHeartbeats 4000000 in
theorem m_rankOf {E : Ev} {h : HP} {m : Nat} {A P : Nat → Nat} {X : Nat → Nat → Nat} {hs : Int64} (T0 : MdAt h m A P X hs) {j : Nat} (hj : j < 16) (B : Bd P) (d k : Nat) (hd : 2 ≤ d) : Call E yX5_rankOf d k [.ref m, .int (nI j)] h (rP h (nI (rkN P j))) := by
  have T := T0.to
  refine Call.of [.ref m, .int (nI j), dum, dum] q2405 (by decide) pn_X5 (Nat.le_of_ble_eq_true rfl) rfl ?_
  refine z_iconst 0 (nI 0) dX5_rankOf_0 kI0 ?_
  refine z_istore2 1 dX5_rankOf_1 rfl ?_
  refine z_iconst 2 (nI 0) dX5_rankOf_2 kI0 ?_
  refine z_istore3 3 dX5_rankOf_3 rfl ?_
  refine lpA0 4 (16) (fun o s => s + (if ¬ o = j ∧ jbP P o 0 = 1 ∧ ahP P o j = true then 1 else 0)) (0) ((itN 16 (fun o s => s + (if ¬ o = j ∧ jbP P o 0 = 1 ∧ ahP P o j = true then 1 else 0)) 0)) rfl (fun o s => [.ref m, .int (nI j), .int (nI s), .int (nI o)]) ?_ (fun o s hi_o ih_o => ?_)
  · refine z_iload3 4 dX5_rankOf_4 ?_
    refine z_bipush 5 (nI 16) dX5_rankOf_5 kB16 ?_
    refine z_icgeN 7 48 dX5_rankOf_7 (by decide) (by omega) (by omega) (fun c_7 => ?_) (fun c_7 => absurd c_7 (by omega))
    refine z_iload2 48 dX5_rankOf_48 ?_
    refine z_ireturn 49 rfl dX5_rankOf_49 ?_
    exact rP_of rfl
  · have b0 := B.jb (j := o) (w := 0) (by omega) (by omega)
    refine z_iload3 4 dX5_rankOf_4 ?_
    refine z_bipush 5 (nI 16) dX5_rankOf_5 kB16 ?_
    refine z_icgeN 7 48 dX5_rankOf_7 (by decide) (by omega) (by omega) (fun c_7 => absurd c_7 (by omega)) (fun c_7 => ?_)
    refine z_iload2 10 dX5_rankOf_10 ?_
    refine z_iload3 11 dX5_rankOf_11 ?_
    refine z_iload1 12 dX5_rankOf_12 ?_
    refine z_iceqN 13 39 dX5_rankOf_13 (by decide) (by omega) (by omega) (fun c_13 => ?_) (fun c_13 => ?_)
    · refine z_iconst 39 (nI 0) dX5_rankOf_39 kI0 ?_
      refine z_iaddN 40 dX5_rankOf_40 ?_
      refine z_istore2 41 dX5_rankOf_41 rfl ?_
      refine z_iinc3 42 ((nI (o + 1))) dX5_rankOf_42 (nI_add _ _) rfl ?_
      refine z_goto 45 4 dX5_rankOf_45 (by decide) ?_
      exact ih_o (s + 0) (by simp [*])
    · refine z_aload0 16 dX5_rankOf_16 ?_
      refine z_iload3 17 dX5_rankOf_17 ?_
      refine z_iconst 18 (nI 0) dX5_rankOf_18 kI0 ?_
      refine z_V2 (k' := k) 19 vX5_58 dX5_rankOf_19 T.kd (m_jobOf T.1 (by omega) (by omega) (d - 1) 0) (by omega) (by omega) (Nat.le_of_ble_eq_true rfl) (aft_P (x := (nI (jbP P o 0))) ?_)
      refine z_iconst 22 (nI 1) dX5_rankOf_22 kI1 ?_
      refine z_icneN 23 39 dX5_rankOf_23 (by decide) (by omega) (by omega) (fun c_23 => ?_) (fun c_23 => ?_)
      · refine z_iconst 39 (nI 0) dX5_rankOf_39 kI0 ?_
        refine z_iaddN 40 dX5_rankOf_40 ?_
        refine z_istore2 41 dX5_rankOf_41 rfl ?_
        refine z_iinc3 42 ((nI (o + 1))) dX5_rankOf_42 (nI_add _ _) rfl ?_
        refine z_goto 45 4 dX5_rankOf_45 (by decide) ?_
        exact ih_o (s + 0) (by simp [*])
      · refine z_aload0 26 dX5_rankOf_26 ?_
        refine z_iload3 27 dX5_rankOf_27 ?_
        refine z_iload1 28 dX5_rankOf_28 ?_
        refine z_V2 (k' := k) 29 vX5_61 dX5_rankOf_29 T.kd (m_isAhead T.1 (by omega) (by omega) (by omega) (d - 1) 0 (by omega)) (by omega) (by omega) (Nat.le_of_ble_eq_true rfl) (aft_P (x := (nI (bN (ahP P o j)))) ?_)
        refine z_ifeqB 32 39 dX5_rankOf_32 (by decide) (fun c_32 => ?_) (fun c_32 => ?_)
        · refine z_iconst 39 (nI 0) dX5_rankOf_39 kI0 ?_
          refine z_iaddN 40 dX5_rankOf_40 ?_
          refine z_istore2 41 dX5_rankOf_41 rfl ?_
          refine z_iinc3 42 ((nI (o + 1))) dX5_rankOf_42 (nI_add _ _) rfl ?_
          refine z_goto 45 4 dX5_rankOf_45 (by decide) ?_
          exact ih_o (s + 0) (by simp [*])
        · refine z_iconst 35 (nI 1) dX5_rankOf_35 kI1 ?_
          refine z_goto 36 40 dX5_rankOf_36 (by decide) ?_
          refine z_iaddN 40 dX5_rankOf_40 ?_
          refine z_istore2 41 dX5_rankOf_41 rfl ?_
          refine z_iinc3 42 ((nI (o + 1))) dX5_rankOf_42 (nI_add _ _) rfl ?_
          refine z_goto 45 4 dX5_rankOf_45 (by decide) ?_
          exact ih_o (s + 1) (by simp [*])

set_option maxHeartbeats 4000000 in
theorem m_tellsJob {E : Ev} {h : HP} {m : Nat} {A P : Nat → Nat} {X : Nat → Nat → Nat} {hs : Int64} (T0 : MdAt h m A P X hs) {r u : Int32} (W : WF P) (d k : Nat) (hd : 3 ≤ d) : Call E yX5_tellsJob d k [.ref m, .int r, .int u] h (rP h (tjV P r u)) := by
  have T := T0.to
  refine Call.of [.ref m, .int r, .int u, dum] q2401 (by decide) pn_X5 (Nat.le_of_ble_eq_true rfl) rfl ?_
  refine z_iconst 0 (nI 0) dX5_tellsJob_0 kI0 ?_
  refine z_istore3 1 dX5_tellsJob_1 rfl ?_
  refine lpE 2 16 (fun i => [.ref m, .int r, .int u, .int (nI i)]) (fun i => ∀ j, j < i → (decide (jbP P j 0 = 1) && decide (nI (rkN P j) = r)) = false) (fun j hj => absurd hj (Nat.not_lt_zero j)) (fun hJ => ?_) (fun i hi hJ ih => ?_)
  · have hf : tjF P r = none := ffN_none hJ
    refine z_iload3 2 dX5_tellsJob_2 ?_
    refine z_bipush 3 (nI 16) dX5_tellsJob_3 kB16 ?_
    refine z_icgeN 5 74 dX5_tellsJob_5 (by decide) (by omega) (by omega) (fun c_5 => ?_) (fun c_5 => absurd c_5 (by omega))
    refine z_iconst 74 (-1) dX5_tellsJob_74 kIm1 ?_
    refine z_ireturn 75 rfl dX5_tellsJob_75 ?_
    exact rP_of (by unfold tjV; first | (rw [hf]; done) | (rw [hf]; simp only []; first | (rw [if_pos (by first | assumption | exact k_0 (by assumption))]; done) | (rw [if_neg (by assumption), if_pos (by assumption)]; done) | (rw [if_neg (by assumption), if_neg (by assumption), if_pos (by assumption)]; done) | (rw [if_neg (by assumption), if_neg (by assumption), if_neg (by assumption)]; done)))
  · have b0 := W.B.jb (j := i) (w := 0) (by omega) (by omega)
    refine z_iload3 2 dX5_tellsJob_2 ?_
    refine z_bipush 3 (nI 16) dX5_tellsJob_3 kB16 ?_
    refine z_icgeN 5 74 dX5_tellsJob_5 (by decide) (by omega) (by omega) (fun c_5 => absurd c_5 (by omega)) (fun c_5 => ?_)
    refine z_aload0 8 dX5_tellsJob_8 ?_
    refine z_iload3 9 dX5_tellsJob_9 ?_
    refine z_iconst 10 (nI 0) dX5_tellsJob_10 kI0 ?_
    refine z_V2 (k' := k) 11 vX5_58 dX5_tellsJob_11 T.kd (m_jobOf T.1 (by omega) (by omega) (d - 1) 0) (by omega) (by omega) (Nat.le_of_ble_eq_true rfl) (aft_P (x := (nI (jbP P i 0))) ?_)
    refine z_iconst 14 (nI 1) dX5_tellsJob_14 kI1 ?_
    refine z_icneN 15 68 dX5_tellsJob_15 (by decide) (by omega) (by omega) (fun c_15 => ?_) (fun c_15 => ?_)
    · refine z_iinc3 68 ((nI (i + 1))) dX5_tellsJob_68 (nI_add _ _) rfl ?_
      refine z_goto 71 2 dX5_tellsJob_71 (by decide) ?_
      refine ih (fun j hj => ?_)
      by_cases e : j = i
      · subst e; simp [*]
      · exact hJ j (by omega)
    · refine z_aload0 18 dX5_tellsJob_18 ?_
      refine z_iload3 19 dX5_tellsJob_19 ?_
      refine z_V1 (k' := k) 20 vX5_183 dX5_tellsJob_20 T.kd (m_rankOf T.1 (by omega) (W.B) (d - 1) 0 (by omega)) (by omega) (by omega) (Nat.le_of_ble_eq_true rfl) (aft_P (x := (nI (rkN P i))) ?_)
      refine z_iload1 23 dX5_tellsJob_23 ?_
      refine z_icne 24 68 dX5_tellsJob_24 (by decide) (fun c_24 => ?_) (fun c_24 => ?_)
      · refine z_iinc3 68 ((nI (i + 1))) dX5_tellsJob_68 (nI_add _ _) rfl ?_
        refine z_goto 71 2 dX5_tellsJob_71 (by decide) ?_
        refine ih (fun j hj => ?_)
        by_cases e : j = i
        · subst e; simp [*]
        · exact hJ j (by omega)
      · have hf : tjF P r = some i := ffN_some hi hJ (by simp [*])
        refine z_iload2 27 dX5_tellsJob_27 ?_
        refine z_ifne 28 37 dX5_tellsJob_28 (by decide) (fun c_28 => ?_) (fun c_28 => ?_)
        · refine z_iload2 37 dX5_tellsJob_37 ?_
          refine z_iconst 38 (nI 1) dX5_tellsJob_38 kI1 ?_
          refine z_icne 39 48 dX5_tellsJob_39 (by decide) (fun c_39 => ?_) (fun c_39 => ?_)
          · refine z_iload2 48 dX5_tellsJob_48 ?_
            refine z_iconst 49 (nI 2) dX5_tellsJob_49 kI2 ?_
            refine z_icne 50 62 dX5_tellsJob_50 (by decide) (fun c_50 => ?_) (fun c_50 => ?_)
            · refine z_aload0 62 dX5_tellsJob_62 ?_
              refine z_iload3 63 dX5_tellsJob_63 ?_
              refine z_V1 (k' := k) 64 vX5_83 dX5_tellsJob_64 T.kd (m_needs T.1 (by omega) ((W.jb hi).2.2) (d - 1) 0 (by omega)) (by omega) (by omega) (Nat.le_of_ble_eq_true rfl) (aft_P (x := (nI (neP P i))) ?_)
              refine z_ireturn 67 rfl dX5_tellsJob_67 ?_
              exact rP_of (by unfold tjV; first | (rw [hf]; done) | (rw [hf]; simp only []; first | (rw [if_pos (by first | assumption | exact k_0 (by assumption))]; done) | (rw [if_neg (by assumption), if_pos (by assumption)]; done) | (rw [if_neg (by assumption), if_neg (by assumption), if_pos (by assumption)]; done) | (rw [if_neg (by assumption), if_neg (by assumption), if_neg (by assumption)]; done)))
            · refine z_aload0 53 dX5_tellsJob_53 ?_
              refine z_iload3 54 dX5_tellsJob_54 ?_
              refine z_iconst 55 (nI 1) dX5_tellsJob_55 kI1 ?_
              refine z_V2 (k' := k) 56 vX5_58 dX5_tellsJob_56 T.kd (m_jobOf T.1 (by omega) (by omega) (d - 1) 0) (by omega) (by omega) (Nat.le_of_ble_eq_true rfl) (aft_P (x := (nI (jbP P i 1))) ?_)
              refine z_goto 59 67 dX5_tellsJob_59 (by decide) ?_
              refine z_ireturn 67 rfl dX5_tellsJob_67 ?_
              exact rP_of (by unfold tjV; first | (rw [hf]; done) | (rw [hf]; simp only []; first | (rw [if_pos (by first | assumption | exact k_0 (by assumption))]; done) | (rw [if_neg (by assumption), if_pos (by assumption)]; done) | (rw [if_neg (by assumption), if_neg (by assumption), if_pos (by assumption)]; done) | (rw [if_neg (by assumption), if_neg (by assumption), if_neg (by assumption)]; done)))
          · refine z_iload3 42 dX5_tellsJob_42 ?_
            refine z_iconst 43 (nI 2) dX5_tellsJob_43 kI2 ?_
            refine z_iremN 44 dX5_tellsJob_44 (by omega) (by omega) (by omega) ?_
            refine z_goto 45 67 dX5_tellsJob_45 (by decide) ?_
            refine z_ireturn 67 rfl dX5_tellsJob_67 ?_
            exact rP_of (by unfold tjV; first | (rw [hf]; done) | (rw [hf]; simp only []; first | (rw [if_pos (by first | assumption | exact k_0 (by assumption))]; done) | (rw [if_neg (by assumption), if_pos (by assumption)]; done) | (rw [if_neg (by assumption), if_neg (by assumption), if_pos (by assumption)]; done) | (rw [if_neg (by assumption), if_neg (by assumption), if_neg (by assumption)]; done)))
        · refine z_iload3 31 dX5_tellsJob_31 ?_
          refine z_iconst 32 (nI 2) dX5_tellsJob_32 kI2 ?_
          refine z_idivN 33 dX5_tellsJob_33 (by omega) (by omega) (by omega) ?_
          refine z_goto 34 67 dX5_tellsJob_34 (by decide) ?_
          refine z_ireturn 67 rfl dX5_tellsJob_67 ?_
          exact rP_of (by unfold tjV; first | (rw [hf]; done) | (rw [hf]; simp only []; first | (rw [if_pos (by first | assumption | exact k_0 (by assumption))]; done) | (rw [if_neg (by assumption), if_pos (by assumption)]; done) | (rw [if_neg (by assumption), if_neg (by assumption), if_pos (by assumption)]; done) | (rw [if_neg (by assumption), if_neg (by assumption), if_neg (by assumption)]; done)))

set_option maxHeartbeats 4000000 in
theorem m_tellsOuting {E : Ev} {h : HP} {m : Nat} {A P : Nat → Nat} {X : Nat → Nat → Nat} {hs : Int64} (T0 : MdAt h m A P X hs) {r : Int32} {u : Nat} (hu : u < 3) (W : WF P) (d k : Nat) (hd : 1 ≤ d) : Call E yX5_tellsOuting d k [.ref m, .int r, .int (nI u)] h (rP h (toV P r u)) := by
  have T := T0.to
  have h7 := W.h7
  refine Call.of [.ref m, .int r, .int (nI u), dum, dum, dum, dum, dum] q2417 (by decide) pn_X5 (Nat.le_of_ble_eq_true rfl) rfl ?_
  refine z_iconst 0 (nI 0) dX5_tellsOuting_0 kI0 ?_
  refine z_istore3 1 dX5_tellsOuting_1 rfl ?_
  refine lpE 2 (P 7) (fun i => [.ref m, .int r, .int (nI u), .int (nI i), dum, dum, dum, dum]) (fun i => ∀ j, j < i → decide (nI (roN P j) = r) = false) (fun j hj => absurd hj (Nat.not_lt_zero j)) (fun hJ => ?_) (fun i hi hJ ih => ?_)
  · have hf : toF P r = none := ffN_none hJ
    refine z_iload3 2 dX5_tellsOuting_2 ?_
    refine z_aload0 3 dX5_tellsOuting_3 ?_
    refine z_get 4 gX5_7 dX5_tellsOuting_4 T.kd (T.rf 1 rfl) ?_
    refine z_bipush 7 (nI 7) dX5_tellsOuting_7 kB7 ?_
    refine z_iald (n := 204) 9 (7) dX5_tellsOuting_9 (T.ak 1 rfl rfl) (T.al 1 rfl rfl) (rfl) ((by omega)) (by decide) (T.at1 (by omega)) ?_
    refine z_icgeN 10 124 dX5_tellsOuting_10 (by decide) (by omega) (by omega) (fun c_10 => ?_) (fun c_10 => absurd c_10 (by omega))
    refine z_iconst 124 (-1) dX5_tellsOuting_124 kIm1 ?_
    refine z_ireturn 125 rfl dX5_tellsOuting_125 ?_
    exact rP_of (by unfold toV; rw [hf])
  · have bi0 := W.B.og (j := i) (w := 0) (by omega) (by omega)
    have bi1 := W.B.og (j := i) (w := 1) (by omega) (by omega)
    refine z_iload3 2 dX5_tellsOuting_2 ?_
    refine z_aload0 3 dX5_tellsOuting_3 ?_
    refine z_get 4 gX5_7 dX5_tellsOuting_4 T.kd (T.rf 1 rfl) ?_
    refine z_bipush 7 (nI 7) dX5_tellsOuting_7 kB7 ?_
    refine z_iald (n := 204) 9 (7) dX5_tellsOuting_9 (T.ak 1 rfl rfl) (T.al 1 rfl rfl) (rfl) ((by omega)) (by decide) (T.at1 (by omega)) ?_
    refine z_icgeN 10 124 dX5_tellsOuting_10 (by decide) (by omega) (by omega) (fun c_10 => absurd c_10 (by omega)) (fun c_10 => ?_)
    refine z_iconst 13 (nI 0) dX5_tellsOuting_13 kI0 ?_
    refine z_istore4 14 dX5_tellsOuting_14 rfl ?_
    refine z_iconst 16 (nI 0) dX5_tellsOuting_16 kI0 ?_
    refine z_istore5 17 dX5_tellsOuting_17 rfl ?_
    refine lpA0 19 (P 7) (fun e s => s + (if ogP P e 0 < ogP P i 0 ∨ (ogP P e 0 = ogP P i 0 ∧ (ogP P i 1 < ogP P e 1 ∨ (ogP P i 1 = ogP P e 1 ∧ e < i))) then 1 else 0)) (0) ((roN P i)) rfl (fun e s => [.ref m, .int r, .int (nI u), .int (nI i), .int (nI s), .int (nI e), dum, dum]) ?_ (fun e s hi_e ih_e => ?_)
    · refine z_iload5 19 dX5_tellsOuting_19 ?_
      refine z_aload0 21 dX5_tellsOuting_21 ?_
      refine z_get 22 gX5_7 dX5_tellsOuting_22 T.kd (T.rf 1 rfl) ?_
      refine z_bipush 25 (nI 7) dX5_tellsOuting_25 kB7 ?_
      refine z_iald (n := 204) 27 (7) dX5_tellsOuting_27 (T.ak 1 rfl rfl) (T.al 1 rfl rfl) (rfl) ((by omega)) (by decide) (T.at1 (by omega)) ?_
      refine z_icgeN 28 105 dX5_tellsOuting_28 (by decide) (by omega) (by omega) (fun c_28 => ?_) (fun c_28 => absurd c_28 (by omega))
      refine z_iload4 105 dX5_tellsOuting_105 ?_
      refine z_iload1 107 dX5_tellsOuting_107 ?_
      refine z_icne 108 118 dX5_tellsOuting_108 (by decide) (fun c_108 => ?_) (fun c_108 => ?_)
      · refine z_iinc3 118 ((nI (i + 1))) dX5_tellsOuting_118 (nI_add _ _) rfl ?_
        refine z_goto 121 2 dX5_tellsOuting_121 (by decide) ?_
        refine z_fog 4 (z_fog 5 (z_fog 6 (z_fog 7 (ih (fun j hj => ?_)))))
        by_cases e : j = i
        · subst e; simp [*]
        · exact hJ j (by omega)
      · have hf : toF P r = some i := ffN_some hi hJ (by simp [*])
        refine z_aload0 111 dX5_tellsOuting_111 ?_
        refine z_iload3 112 dX5_tellsOuting_112 ?_
        refine z_iload2 113 dX5_tellsOuting_113 ?_
        refine z_V2 (k' := k) 114 vX5_98 dX5_tellsOuting_114 T.kd (m_outingOf T.1 (by omega) (by omega) (d - 1) 0) (by omega) (by omega) (Nat.le_of_ble_eq_true rfl) (aft_P (x := (nI (ogP P i u))) ?_)
        refine z_ireturn 117 rfl dX5_tellsOuting_117 ?_
        exact rP_of (by unfold toV; rw [hf])
    · have be0 := W.B.og (j := e) (w := 0) (by omega) (by omega)
      have be1 := W.B.og (j := e) (w := 1) (by omega) (by omega)
      refine z_iload5 19 dX5_tellsOuting_19 ?_
      refine z_aload0 21 dX5_tellsOuting_21 ?_
      refine z_get 22 gX5_7 dX5_tellsOuting_22 T.kd (T.rf 1 rfl) ?_
      refine z_bipush 25 (nI 7) dX5_tellsOuting_25 kB7 ?_
      refine z_iald (n := 204) 27 (7) dX5_tellsOuting_27 (T.ak 1 rfl rfl) (T.al 1 rfl rfl) (rfl) ((by omega)) (by decide) (T.at1 (by omega)) ?_
      refine z_icgeN 28 105 dX5_tellsOuting_28 (by decide) (by omega) (by omega) (fun c_28 => absurd c_28 (by omega)) (fun c_28 => ?_)
      refine z_aload0 31 dX5_tellsOuting_31 ?_
      refine z_iload3 32 dX5_tellsOuting_32 ?_
      refine z_iconst 33 (nI 0) dX5_tellsOuting_33 kI0 ?_
      refine z_V2 (k' := k) 34 vX5_98 dX5_tellsOuting_34 T.kd (m_outingOf T.1 (by omega) (by omega) (d - 1) 0) (by omega) (by omega) (Nat.le_of_ble_eq_true rfl) (aft_P (x := (nI (ogP P i 0))) ?_)
      refine z_aload0 37 dX5_tellsOuting_37 ?_
      refine z_iload5 38 dX5_tellsOuting_38 ?_
      refine z_iconst 40 (nI 0) dX5_tellsOuting_40 kI0 ?_
      refine z_V2 (k' := k) 41 vX5_98 dX5_tellsOuting_41 T.kd (m_outingOf T.1 (by omega) (by omega) (d - 1) 0) (by omega) (by omega) (Nat.le_of_ble_eq_true rfl) (aft_P (x := (nI (ogP P e 0))) ?_)
      refine z_isub 44 dX5_tellsOuting_44 ?_
      refine z_istore6 45 dX5_tellsOuting_45 rfl ?_
      refine z_aload0 47 dX5_tellsOuting_47 ?_
      refine z_iload5 48 dX5_tellsOuting_48 ?_
      refine z_iconst 50 (nI 1) dX5_tellsOuting_50 kI1 ?_
      refine z_V2 (k' := k) 51 vX5_98 dX5_tellsOuting_51 T.kd (m_outingOf T.1 (by omega) (by omega) (d - 1) 0) (by omega) (by omega) (Nat.le_of_ble_eq_true rfl) (aft_P (x := (nI (ogP P e 1))) ?_)
      refine z_aload0 54 dX5_tellsOuting_54 ?_
      refine z_iload3 55 dX5_tellsOuting_55 ?_
      refine z_iconst 56 (nI 1) dX5_tellsOuting_56 kI1 ?_
      refine z_V2 (k' := k) 57 vX5_98 dX5_tellsOuting_57 T.kd (m_outingOf T.1 (by omega) (by omega) (d - 1) 0) (by omega) (by omega) (Nat.le_of_ble_eq_true rfl) (aft_P (x := (nI (ogP P i 1))) ?_)
      refine z_isub 60 dX5_tellsOuting_60 ?_
      refine z_istore7 61 dX5_tellsOuting_61 rfl ?_
      refine z_iload4 63 dX5_tellsOuting_63 ?_
      refine z_iload6 65 dX5_tellsOuting_65 ?_
      refine z_ifgtD 67 91 dX5_tellsOuting_67 (by decide) (by omega) (by omega) (fun c_67 => ?_) (fun c_67 => ?_)
      · refine z_iconst 91 (nI 1) dX5_tellsOuting_91 kI1 ?_
        refine z_goto 92 96 dX5_tellsOuting_92 (by decide) ?_
        refine z_iaddN 96 dX5_tellsOuting_96 ?_
        refine z_istore4 97 dX5_tellsOuting_97 rfl ?_
        refine z_iinc5 99 ((nI (e + 1))) dX5_tellsOuting_99 (nI_add _ _) rfl ?_
        refine z_goto 102 19 dX5_tellsOuting_102 (by decide) ?_
        refine z_fog 6 ?_
        refine z_fog 7 ?_
        exact ih_e (s + 1) (by first | (rw [if_pos (by omega)]; done) | (rw [if_neg (by omega)]; done))
      · refine z_iload6 70 dX5_tellsOuting_70 ?_
        refine z_ifneD 72 95 dX5_tellsOuting_72 (by decide) (by omega) (by omega) (fun c_72 => ?_) (fun c_72 => ?_)
        · refine z_iconst 95 (nI 0) dX5_tellsOuting_95 kI0 ?_
          refine z_iaddN 96 dX5_tellsOuting_96 ?_
          refine z_istore4 97 dX5_tellsOuting_97 rfl ?_
          refine z_iinc5 99 ((nI (e + 1))) dX5_tellsOuting_99 (nI_add _ _) rfl ?_
          refine z_goto 102 19 dX5_tellsOuting_102 (by decide) ?_
          refine z_fog 6 ?_
          refine z_fog 7 ?_
          exact ih_e (s + 0) (by first | (rw [if_pos (by omega)]; done) | (rw [if_neg (by omega)]; done))
        · refine z_iload7 75 dX5_tellsOuting_75 ?_
          refine z_ifgtD 77 91 dX5_tellsOuting_77 (by decide) (by omega) (by omega) (fun c_77 => ?_) (fun c_77 => ?_)
          · refine z_iconst 91 (nI 1) dX5_tellsOuting_91 kI1 ?_
            refine z_goto 92 96 dX5_tellsOuting_92 (by decide) ?_
            refine z_iaddN 96 dX5_tellsOuting_96 ?_
            refine z_istore4 97 dX5_tellsOuting_97 rfl ?_
            refine z_iinc5 99 ((nI (e + 1))) dX5_tellsOuting_99 (nI_add _ _) rfl ?_
            refine z_goto 102 19 dX5_tellsOuting_102 (by decide) ?_
            refine z_fog 6 ?_
            refine z_fog 7 ?_
            exact ih_e (s + 1) (by first | (rw [if_pos (by omega)]; done) | (rw [if_neg (by omega)]; done))
          · refine z_iload7 80 dX5_tellsOuting_80 ?_
            refine z_ifneD 82 95 dX5_tellsOuting_82 (by decide) (by omega) (by omega) (fun c_82 => ?_) (fun c_82 => ?_)
            · refine z_iconst 95 (nI 0) dX5_tellsOuting_95 kI0 ?_
              refine z_iaddN 96 dX5_tellsOuting_96 ?_
              refine z_istore4 97 dX5_tellsOuting_97 rfl ?_
              refine z_iinc5 99 ((nI (e + 1))) dX5_tellsOuting_99 (nI_add _ _) rfl ?_
              refine z_goto 102 19 dX5_tellsOuting_102 (by decide) ?_
              refine z_fog 6 ?_
              refine z_fog 7 ?_
              exact ih_e (s + 0) (by first | (rw [if_pos (by omega)]; done) | (rw [if_neg (by omega)]; done))
            · refine z_iload5 85 dX5_tellsOuting_85 ?_
              refine z_iload3 87 dX5_tellsOuting_87 ?_
              refine z_icgeN 88 95 dX5_tellsOuting_88 (by decide) (by omega) (by omega) (fun c_88 => ?_) (fun c_88 => ?_)
              · refine z_iconst 95 (nI 0) dX5_tellsOuting_95 kI0 ?_
                refine z_iaddN 96 dX5_tellsOuting_96 ?_
                refine z_istore4 97 dX5_tellsOuting_97 rfl ?_
                refine z_iinc5 99 ((nI (e + 1))) dX5_tellsOuting_99 (nI_add _ _) rfl ?_
                refine z_goto 102 19 dX5_tellsOuting_102 (by decide) ?_
                refine z_fog 6 ?_
                refine z_fog 7 ?_
                exact ih_e (s + 0) (by first | (rw [if_pos (by omega)]; done) | (rw [if_neg (by omega)]; done))
              · refine z_iconst 91 (nI 1) dX5_tellsOuting_91 kI1 ?_
                refine z_goto 92 96 dX5_tellsOuting_92 (by decide) ?_
                refine z_iaddN 96 dX5_tellsOuting_96 ?_
                refine z_istore4 97 dX5_tellsOuting_97 rfl ?_
                refine z_iinc5 99 ((nI (e + 1))) dX5_tellsOuting_99 (nI_add _ _) rfl ?_
                refine z_goto 102 19 dX5_tellsOuting_102 (by decide) ?_
                refine z_fog 6 ?_
                refine z_fog 7 ?_
                exact ih_e (s + 1) (by first | (rw [if_pos (by omega)]; done) | (rw [if_neg (by omega)]; done))

set_option maxHeartbeats 4000000 in
theorem m_untilUsed {E : Ev} {h : HP} {m : Nat} {A P : Nat → Nat} {X : Nat → Nat → Nat} {hs : Int64} (T0 : MdAt h m A P X hs) {pl : Nat} (hp : pl < 8) (W : WF P) (h5 : P 5 + 61 < 4096) (d k : Nat) (hd : 5 ≤ d) : Call E yX5_untilUsed d k [.ref m, .int (nI pl)] h (rI fun x h' => x = oI (uuV P pl) ∧ MdS [2, 7, 8, 9] h m A P X hs h') := by
  have T := T0.to
  have b6 := W.B.of (w := 6) hp (by omega)
  refine Call.of [.ref m, .int (nI pl), dum, dum] q2477 (by decide) pn_X5 (Nat.le_of_ble_eq_true rfl) rfl ?_
  refine z_aload0 0 dX5_untilUsed_0 ?_
  refine z_V0 (k' := k) 1 vX5_201 dX5_untilUsed_1 T.kd (m_putAside T.1  (d - 1) 0) (by omega) (by omega) (Nat.le_of_ble_eq_true rfl) (aft_V fun h_1 hq => ?_)
  have T : MdTo h m A P (stx X 2 P) hs h_1 := T.trans hq
  refine z_iconst 4 (nI 0) dX5_untilUsed_4 kI0 ?_
  refine z_istore2 5 dX5_untilUsed_5 rfl ?_
  refine lpW 6 (fun s : Nat × (Nat → Nat) => [.ref m, .int (nI pl), .int (nI s.1), dum]) (fun s h9 => s.1 ≤ 61 ∧ WF s.2 ∧ s.2 5 = P 5 + s.1 ∧ utN (61 - s.1) s.2 pl s.1 = utN 61 P pl 0 ∧ MdS [7, 8, 9] h m A s.2 (stx X 2 P) hs h9) (fun _ => k) (fun s => 61 - s.1) (0, P) ⟨Nat.zero_le 61, W, rfl, rfl, T.S⟩ (fun s h_9 hI ih => ?_)
  obtain ⟨n, Q⟩ := s
  obtain ⟨hn, WQ, h5Q, hu, X2, S2, T⟩ := hI
  have hn : n ≤ 61 := hn
  have WQ : WF Q := WQ
  have h5Q : Q 5 = P 5 + n := h5Q
  have hu : utN (61 - n) Q pl n = utN 61 P pl 0 := hu
  have T : MdTo h m A Q X2 hs h_9 := T
  have e2 : X2 2 = P := (S2 2 (by decide)).trans (stx_s X 2 P)
  show Z E _ _ _ _ h_9 6 [.ref m, .int (nI pl), .int (nI n), dum] []
  refine z_iload2 6 dX5_untilUsed_6 ?_
  refine z_bipush 7 (nI 61) dX5_untilUsed_7 kB61 ?_
  refine z_icgeN 9 30 dX5_untilUsed_9 (by decide) (by omega) (by omega) (fun c_9 => ?_) (fun c_9 => ?_)
  · have hN : n = utN 61 P pl 0 := by rw [← hu, show 61 - n = 0 by omega]; rfl
    refine z_iload2 30 dX5_untilUsed_30 ?_
    refine z_bipush 31 (nI 61) dX5_untilUsed_31 kB61 ?_
    refine z_icgeN 33 59 dX5_untilUsed_33 (by decide) (by omega) (by omega) (fun c_33 => ?_) (fun c_33 => ?_)
    · refine z_iconst 59 (nI 0) dX5_untilUsed_59 kI0 ?_
      refine z_istore3 60 dX5_untilUsed_60 rfl ?_
      refine z_aload0 61 dX5_untilUsed_61 ?_
      refine z_V0 (k' := k) 62 vX5_204 dX5_untilUsed_62 T.kd (m_takeBack T.1  (d - 1) 0) (by omega) (by omega) (Nat.le_of_ble_eq_true rfl) (aft_V fun h_2 hq => ?_)
      have T : MdTo h m A P X2 hs h_2 := by have q := T.trans hq; rw [e2] at q; exact q
      refine z_iload3 65 dX5_untilUsed_65 ?_
      refine z_ifeqN 66 73 dX5_untilUsed_66 (by decide) (by omega) (fun c_66 => ?_) (fun c_66 => absurd c_66 (by decide))
      refine z_iconst 73 (-1) dX5_untilUsed_73 kIm1 ?_
      refine z_ireturn 74 rfl dX5_untilUsed_74 ?_
      exact ⟨_, rfl, by unfold uuV; rw [← hN]; first | (rw [if_pos ⟨by omega, by omega⟩]; rfl) | (rw [if_neg (by omega)]; rfl), X2, (((Scr.refl [2, 7, 8, 9] X).stx P (by decide)).trans (S2.mono (by decide))), T⟩
    · refine z_aload0 36 dX5_untilUsed_36 ?_
      refine z_get 37 gX5_13 dX5_untilUsed_37 T.kd (T.rf 2 rfl) ?_
      refine z_bipush 40 (nI 13) dX5_untilUsed_40 kB13 ?_
      refine z_bipush 42 (nI 10) dX5_untilUsed_42 kB10 ?_
      refine z_iload1 44 dX5_untilUsed_44 ?_
      refine z_imulN 45 dX5_untilUsed_45 ?_
      refine z_iaddN 46 dX5_untilUsed_46 ?_
      refine z_bipush 47 (nI 6) dX5_untilUsed_47 kB6 ?_
      refine z_iaddN 49 dX5_untilUsed_49 ?_
      refine z_iald (n := 204) 50 (13 + 10 * pl + 6) dX5_untilUsed_50 (T.ak 2 rfl rfl) (T.al 2 rfl rfl) (rfl) ((by omega)) (by decide) (show HP.mm _ _ _ = .int (nI (P (13 + 10 * pl + 6))) from by have q := T.at 2 rfl (by decide) (c := 204) rfl (j := 13 + 10 * pl + 6) (by omega); rw [e2] at q; exact q) ?_
      have b6 : P (13 + 10 * pl + 6) < 4096 := b6
      have b6e : ofP P pl 6 = P (13 + 10 * pl + 6) := rfl
      refine z_iconst 51 (nI 1) dX5_untilUsed_51 kI1 ?_
      refine z_icneN 52 59 dX5_untilUsed_52 (by decide) (by omega) (by omega) (fun c_52 => ?_) (fun c_52 => ?_)
      · refine z_iconst 59 (nI 0) dX5_untilUsed_59 kI0 ?_
        refine z_istore3 60 dX5_untilUsed_60 rfl ?_
        refine z_aload0 61 dX5_untilUsed_61 ?_
        refine z_V0 (k' := k) 62 vX5_204 dX5_untilUsed_62 T.kd (m_takeBack T.1  (d - 1) 0) (by omega) (by omega) (Nat.le_of_ble_eq_true rfl) (aft_V fun h_3 hq => ?_)
        have T : MdTo h m A P X2 hs h_3 := by have q := T.trans hq; rw [e2] at q; exact q
        refine z_iload3 65 dX5_untilUsed_65 ?_
        refine z_ifeqN 66 73 dX5_untilUsed_66 (by decide) (by omega) (fun c_66 => ?_) (fun c_66 => absurd c_66 (by decide))
        refine z_iconst 73 (-1) dX5_untilUsed_73 kIm1 ?_
        refine z_ireturn 74 rfl dX5_untilUsed_74 ?_
        exact ⟨_, rfl, by unfold uuV; rw [← hN]; first | (rw [if_pos ⟨by omega, by omega⟩]; rfl) | (rw [if_neg (by omega)]; rfl), X2, (((Scr.refl [2, 7, 8, 9] X).stx P (by decide)).trans (S2.mono (by decide))), T⟩
      · refine z_iconst 55 (nI 1) dX5_untilUsed_55 kI1 ?_
        refine z_goto 56 60 dX5_untilUsed_56 (by decide) ?_
        refine z_istore3 60 dX5_untilUsed_60 rfl ?_
        refine z_aload0 61 dX5_untilUsed_61 ?_
        refine z_V0 (k' := k) 62 vX5_204 dX5_untilUsed_62 T.kd (m_takeBack T.1  (d - 1) 0) (by omega) (by omega) (Nat.le_of_ble_eq_true rfl) (aft_V fun h_4 hq => ?_)
        have T : MdTo h m A P X2 hs h_4 := by have q := T.trans hq; rw [e2] at q; exact q
        refine z_iload3 65 dX5_untilUsed_65 ?_
        refine z_ifeqN 66 73 dX5_untilUsed_66 (by decide) (by omega) (fun c_66 => absurd c_66 (by decide)) (fun c_66 => ?_)
        refine z_iload2 69 dX5_untilUsed_69 ?_
        refine z_goto 70 74 dX5_untilUsed_70 (by decide) ?_
        refine z_ireturn 74 rfl dX5_untilUsed_74 ?_
        exact ⟨_, rfl, by unfold uuV; rw [← hN]; first | (rw [if_pos ⟨by omega, by omega⟩]; rfl) | (rw [if_neg (by omega)]; rfl), X2, (((Scr.refl [2, 7, 8, 9] X).stx P (by decide)).trans (S2.mono (by decide))), T⟩
  · refine z_aload0 12 dX5_untilUsed_12 ?_
    refine z_iload1 13 dX5_untilUsed_13 ?_
    refine z_V1 (k' := k) 14 vX5_216 dX5_untilUsed_14 T.kd (m_isUsedUp T.1 (hp) (WQ.B) (d - 1) 0 (by omega)) (by omega) (by omega) (Nat.le_of_ble_eq_true rfl) (aft_P (x := (nI (bN (isU Q pl)))) ?_)
    refine z_ifneB 17 30 dX5_untilUsed_17 (by decide) (fun c_17 => ?_) (fun c_17 => ?_)
    · have hN : n = utN 61 P pl 0 := by
        rw [← hu]; obtain ⟨f, hf⟩ : ∃ f, 61 - n = f + 1 := ⟨60 - n, by omega⟩
        rw [hf]; simp only [utN]; rw [if_pos c_17]
      refine z_iload2 30 dX5_untilUsed_30 ?_
      refine z_bipush 31 (nI 61) dX5_untilUsed_31 kB61 ?_
      refine z_icgeN 33 59 dX5_untilUsed_33 (by decide) (by omega) (by omega) (fun c_33 => ?_) (fun c_33 => ?_)
      · refine z_iconst 59 (nI 0) dX5_untilUsed_59 kI0 ?_
        refine z_istore3 60 dX5_untilUsed_60 rfl ?_
        refine z_aload0 61 dX5_untilUsed_61 ?_
        refine z_V0 (k' := k) 62 vX5_204 dX5_untilUsed_62 T.kd (m_takeBack T.1  (d - 1) 0) (by omega) (by omega) (Nat.le_of_ble_eq_true rfl) (aft_V fun h_5 hq => ?_)
        have T : MdTo h m A P X2 hs h_5 := by have q := T.trans hq; rw [e2] at q; exact q
        refine z_iload3 65 dX5_untilUsed_65 ?_
        refine z_ifeqN 66 73 dX5_untilUsed_66 (by decide) (by omega) (fun c_66 => ?_) (fun c_66 => absurd c_66 (by decide))
        refine z_iconst 73 (-1) dX5_untilUsed_73 kIm1 ?_
        refine z_ireturn 74 rfl dX5_untilUsed_74 ?_
        exact ⟨_, rfl, by unfold uuV; rw [← hN]; first | (rw [if_pos ⟨by omega, by omega⟩]; rfl) | (rw [if_neg (by omega)]; rfl), X2, (((Scr.refl [2, 7, 8, 9] X).stx P (by decide)).trans (S2.mono (by decide))), T⟩
      · refine z_aload0 36 dX5_untilUsed_36 ?_
        refine z_get 37 gX5_13 dX5_untilUsed_37 T.kd (T.rf 2 rfl) ?_
        refine z_bipush 40 (nI 13) dX5_untilUsed_40 kB13 ?_
        refine z_bipush 42 (nI 10) dX5_untilUsed_42 kB10 ?_
        refine z_iload1 44 dX5_untilUsed_44 ?_
        refine z_imulN 45 dX5_untilUsed_45 ?_
        refine z_iaddN 46 dX5_untilUsed_46 ?_
        refine z_bipush 47 (nI 6) dX5_untilUsed_47 kB6 ?_
        refine z_iaddN 49 dX5_untilUsed_49 ?_
        refine z_iald (n := 204) 50 (13 + 10 * pl + 6) dX5_untilUsed_50 (T.ak 2 rfl rfl) (T.al 2 rfl rfl) (rfl) ((by omega)) (by decide) (show HP.mm _ _ _ = .int (nI (P (13 + 10 * pl + 6))) from by have q := T.at 2 rfl (by decide) (c := 204) rfl (j := 13 + 10 * pl + 6) (by omega); rw [e2] at q; exact q) ?_
        have b6 : P (13 + 10 * pl + 6) < 4096 := b6
        have b6e : ofP P pl 6 = P (13 + 10 * pl + 6) := rfl
        refine z_iconst 51 (nI 1) dX5_untilUsed_51 kI1 ?_
        refine z_icneN 52 59 dX5_untilUsed_52 (by decide) (by omega) (by omega) (fun c_52 => ?_) (fun c_52 => ?_)
        · refine z_iconst 59 (nI 0) dX5_untilUsed_59 kI0 ?_
          refine z_istore3 60 dX5_untilUsed_60 rfl ?_
          refine z_aload0 61 dX5_untilUsed_61 ?_
          refine z_V0 (k' := k) 62 vX5_204 dX5_untilUsed_62 T.kd (m_takeBack T.1  (d - 1) 0) (by omega) (by omega) (Nat.le_of_ble_eq_true rfl) (aft_V fun h_6 hq => ?_)
          have T : MdTo h m A P X2 hs h_6 := by have q := T.trans hq; rw [e2] at q; exact q
          refine z_iload3 65 dX5_untilUsed_65 ?_
          refine z_ifeqN 66 73 dX5_untilUsed_66 (by decide) (by omega) (fun c_66 => ?_) (fun c_66 => absurd c_66 (by decide))
          refine z_iconst 73 (-1) dX5_untilUsed_73 kIm1 ?_
          refine z_ireturn 74 rfl dX5_untilUsed_74 ?_
          exact ⟨_, rfl, by unfold uuV; rw [← hN]; first | (rw [if_pos ⟨by omega, by omega⟩]; rfl) | (rw [if_neg (by omega)]; rfl), X2, (((Scr.refl [2, 7, 8, 9] X).stx P (by decide)).trans (S2.mono (by decide))), T⟩
        · refine z_iconst 55 (nI 1) dX5_untilUsed_55 kI1 ?_
          refine z_goto 56 60 dX5_untilUsed_56 (by decide) ?_
          refine z_istore3 60 dX5_untilUsed_60 rfl ?_
          refine z_aload0 61 dX5_untilUsed_61 ?_
          refine z_V0 (k' := k) 62 vX5_204 dX5_untilUsed_62 T.kd (m_takeBack T.1  (d - 1) 0) (by omega) (by omega) (Nat.le_of_ble_eq_true rfl) (aft_V fun h_7 hq => ?_)
          have T : MdTo h m A P X2 hs h_7 := by have q := T.trans hq; rw [e2] at q; exact q
          refine z_iload3 65 dX5_untilUsed_65 ?_
          refine z_ifeqN 66 73 dX5_untilUsed_66 (by decide) (by omega) (fun c_66 => absurd c_66 (by decide)) (fun c_66 => ?_)
          refine z_iload2 69 dX5_untilUsed_69 ?_
          refine z_goto 70 74 dX5_untilUsed_70 (by decide) ?_
          refine z_ireturn 74 rfl dX5_untilUsed_74 ?_
          exact ⟨_, rfl, by unfold uuV; rw [← hN]; first | (rw [if_pos ⟨by omega, by omega⟩]; rfl) | (rw [if_neg (by omega)]; rfl), X2, (((Scr.refl [2, 7, 8, 9] X).stx P (by decide)).trans (S2.mono (by decide))), T⟩
    · have hu2 : utN (61 - (n + 1)) (dyP Q) pl (n + 1) = utN 61 P pl 0 := by
        rw [← hu]; obtain ⟨f, hf⟩ : ∃ f, 61 - n = f + 1 := ⟨60 - n, by omega⟩
        rw [hf, show 61 - (n + 1) = f by omega]; simp only [utN]; rw [if_neg (by rw [c_17]; decide)]
      refine z_aload0 20 dX5_untilUsed_20 ?_
      refine z_V0 (k' := k) 21 vX5_118 dX5_untilUsed_21 T.kd (m_day T.1 WQ (d - 1) 0 (by omega)) (by omega) (by omega) (Nat.le_of_ble_eq_true rfl) (aft_V fun h_d hq => ?_)
      obtain ⟨FL, D, K, T1⟩ := hq
      have T : MdTo h m A (dyP Q) _ hs h_d := T.trans T1
      have S3 := ((S2.stx FL (f := 7) (by decide)).stx D (f := 8) (by decide)).stx K (f := 9) (by decide)
      refine z_iinc2 24 ((nI (n + 1))) dX5_untilUsed_24 (nI_add _ _) rfl ?_
      refine z_goto 27 6 dX5_untilUsed_27 (by decide) ?_
      exact ih (n + 1, dyP Q) _ (by show 61 - (n + 1) < 61 - n; omega) ⟨by show n + 1 ≤ 61; omega, WQ.dy (by omega), by show dyP Q 5 = P 5 + (n + 1); rw [dyP_5 WQ]; omega, hu2, _, S3, T⟩

set_option maxHeartbeats 4000000 in
theorem m_orderFor {E : Ev} {h : HP} {m : Nat} {A P : Nat → Nat} {X : Nat → Nat → Nat} {hs : Int64} (T0 : MdAt h m A P X hs) {n : Nat} (W : WF P) (hn : P 5 + n < 4096) (d k : Nat) (hd : 7 ≤ d) : Call E yX5_orderFor d k [.ref m, .int (nI n)] h (rI fun x h' => x = oI (odP P n).2.1 ∧ MdS [2, 7, 8, 9] h m A P X hs h') := by
  have T := T0.to
  refine Call.of [.ref m, .int (nI n), dum, dum, dum, dum, dum, dum, dum] q2489 (by decide) pn_X5 (Nat.le_of_ble_eq_true rfl) rfl ?_
  refine z_aload0 0 dX5_orderFor_0 ?_
  refine z_get 1 gX5_7 dX5_orderFor_1 T.kd (T.rf 1 rfl) ?_
  refine z_iconst 4 (nI 1) dX5_orderFor_4 kI1 ?_
  refine z_iald (n := 204) 5 (1) dX5_orderFor_5 (T.ak 1 rfl rfl) (T.al 1 rfl rfl) (rfl) ((by omega)) (by decide) (T.at1 (by omega)) ?_
  refine z_istore2 6 dX5_orderFor_6 rfl ?_
  refine z_iconst 7 (-1) dX5_orderFor_7 kIm1 ?_
  refine z_istore3 8 dX5_orderFor_8 rfl ?_
  refine z_iconst 9 (nI 0) dX5_orderFor_9 kI0 ?_
  refine z_istore4 10 dX5_orderFor_10 rfl ?_
  refine z_iconst 12 (nI 0) dX5_orderFor_12 kI0 ?_
  refine z_istore5 13 dX5_orderFor_13 rfl ?_
  refine z_iconst 15 (nI 0) dX5_orderFor_15 kI0 ?_
  refine z_istore6 16 dX5_orderFor_16 rfl ?_
  refine lpB 18 3 (odS n) (P, none, nI 0, nI 0) (odP P n) rfl (fun i s => [.ref m, .int (nI n), .int (nI (P 1)), .int (oI s.2.1), .int s.2.2.1, .int s.2.2.2, .int (nI i), dum, dum]) (fun _ s h9 => MdS [2, 7, 8, 9] h m A s.1 X hs h9) (fun _ s => (WF s.1 ∧ s.1 5 = P 5 ∧ ∀ j, j ≠ 1 → s.1 j = P j) ∧ ∀ b, s.2.1 = some b → b < 3) (fun _ => k) T.S ⟨⟨W, rfl, fun _ _ => rfl⟩, by intro b q; cases q⟩ (fun i s hi hJ => odS_J hi hJ) (fun h_9 V hJ => ?_) (fun i s h_9 hi hJ V ih => ?_)
  · obtain ⟨X9, S9, T⟩ := V
    have hJ : WF (odP P n).1 ∧ (odP P n).1 5 = P 5 ∧ ∀ j, j ≠ 1 → (odP P n).1 j = P j := hJ.1
    show Z E _ _ _ _ h_9 18 [.ref m, .int (nI n), .int (nI (P 1)), .int (oI (odP P n).2.1), .int (odP P n).2.2.1, .int (odP P n).2.2.2, .int (nI 3), dum, dum] []
    refine z_iload6 18 dX5_orderFor_18 ?_
    refine z_iconst 20 (nI 3) dX5_orderFor_20 kI3 ?_
    refine z_icgeN 21 91 dX5_orderFor_21 (by decide) (by omega) (by omega) (fun c_21 => ?_) (fun c_21 => absurd c_21 (by omega))
    refine z_aload0 91 dX5_orderFor_91 ?_
    refine z_get 92 gX5_7 dX5_orderFor_92 T.kd (T.rf 1 rfl) ?_
    refine z_iconst 95 (nI 1) dX5_orderFor_95 kI1 ?_
    refine z_iload2 96 dX5_orderFor_96 ?_
    refine z_iast (n := 204) 97 (1) dX5_orderFor_97 (T.ak 1 rfl rfl) (T.al 1 rfl rfl) (rfl) ((by omega)) (by decide) ?_
    have T := T.put1 1 (P 1)
    refine z_iload3 98 dX5_orderFor_98 ?_
    refine z_ireturn 99 rfl dX5_orderFor_99 ?_
    exact ⟨_, rfl, rfl, X9, S9, T.asP (fun j _ => upn_back hJ.2.2 j)⟩
  · obtain ⟨X9, S9, T9⟩ := V
    obtain ⟨Q, b, l, o9⟩ := s
    have T : MdTo h m A Q X9 hs h_9 := T9
    clear T9
    have WQ : WF Q := hJ.1.1
    have h5Q : Q 5 = P 5 := hJ.1.2.1
    have hb3 : ∀ b9, b = some b9 → b9 < 3 := hJ.2
    clear hJ
    have W2 : WF (upn Q 1 i) := WQ.ord hi
    have h52 : upn Q 1 i 5 = P 5 := h5Q
    show Z E _ _ _ _ h_9 18 [.ref m, .int (nI n), .int (nI (P 1)), .int (oI b), .int l, .int o9, .int (nI i), dum, dum] []
    refine z_iload6 18 dX5_orderFor_18 ?_
    refine z_iconst 20 (nI 3) dX5_orderFor_20 kI3 ?_
    refine z_icgeN 21 91 dX5_orderFor_21 (by decide) (by omega) (by omega) (fun c_21 => absurd c_21 (by omega)) (fun c_21 => ?_)
    refine z_aload0 24 dX5_orderFor_24 ?_
    refine z_get 25 gX5_7 dX5_orderFor_25 T.kd (T.rf 1 rfl) ?_
    refine z_iconst 28 (nI 1) dX5_orderFor_28 kI1 ?_
    refine z_iload6 29 dX5_orderFor_29 ?_
    refine z_iast (n := 204) 31 (1) dX5_orderFor_31 (T.ak 1 rfl rfl) (T.al 1 rfl rfl) (rfl) ((by omega)) (by decide) ?_
    have T := T.put1 1 i
    refine z_aload0 32 dX5_orderFor_32 ?_
    refine z_iload1 33 dX5_orderFor_33 ?_
    refine z_iconst 34 (nI 0) dX5_orderFor_34 kI0 ?_
    refine z_V2 (k' := k) 35 vX5_207 dX5_orderFor_35 T.kd (m_passed (n := n) (u := 0) T.1 (by decide) (W2) (by omega) (d - 1) 0 (by omega)) (by omega) (by omega) (Nat.le_of_ble_eq_true rfl) (aft_I fun x_1 h_1 hq => ?_)
    obtain ⟨hx, X1, S1, T1⟩ := hq
    subst hx
    have T : MdTo h m A (upn Q 1 i) X1 hs h_1 := T.trans T1
    refine z_istore7 38 dX5_orderFor_38 rfl ?_
    refine z_aload0 40 dX5_orderFor_40 ?_
    refine z_iload1 41 dX5_orderFor_41 ?_
    refine z_iconst 42 (nI 3) dX5_orderFor_42 kI3 ?_
    refine z_V2 (k' := k) 43 vX5_207 dX5_orderFor_43 T.kd (m_passed (n := n) (u := 3) T.1 (by decide) (W2) (by omega) (d - 1) 0 (by omega)) (by omega) (by omega) (Nat.le_of_ble_eq_true rfl) (aft_I fun x_2 h_2 hq => ?_)
    obtain ⟨hx, X2, S2, T1⟩ := hq
    subst hx
    have T : MdTo h m A (upn Q 1 i) X2 hs h_2 := T.trans T1
    refine z_istore8 46 dX5_orderFor_46 rfl ?_
    refine z_iload3 48 dX5_orderFor_48 ?_
    refine z_iconst 49 (-1) dX5_orderFor_49 kIm1 ?_
    rcases b with _ | b50
    · refine z_iceq 50 74 dX5_orderFor_50 (by decide) (fun _ => ?_) (fun q => absurd rfl q)
      refine z_iload6 74 dX5_orderFor_74 ?_
      refine z_istore3 76 dX5_orderFor_76 rfl ?_
      refine z_iload7 77 dX5_orderFor_77 ?_
      refine z_istore4 79 dX5_orderFor_79 rfl ?_
      refine z_iload8 81 dX5_orderFor_81 ?_
      refine z_istore5 83 dX5_orderFor_83 rfl ?_
      refine z_iinc6 85 ((nI (i + 1))) dX5_orderFor_85 (nI_add _ _) rfl ?_
      refine z_goto 88 18 dX5_orderFor_88 (by decide) ?_
      refine z_fog 7 (z_fog 8 (ih (upn Q 1 i, some i, (pdV (upn Q 1 i) n 0), (pdV (upn Q 1 i) n 3)) _ (by first | exact (odS_none n i Q l o9).symm | exact (odS_lt c_57).symm | exact (odS_eq c_64 (Int32.not_le.mp c_71)).symm) ⟨_, S9.trans (S1.trans S2), T⟩))
    · have hb9 := hb3 _ rfl
      refine z_iceq 50 74 dX5_orderFor_50 (by decide) (fun q => absurd q (nI_nm1 (by have := hb3 _ rfl; omega))) (fun _ => ?_)
      refine z_iload7 53 dX5_orderFor_53 ?_
      refine z_iload4 55 dX5_orderFor_55 ?_
      refine z_iclt 57 74 dX5_orderFor_57 (by decide) (fun c_57 => ?_) (fun c_57 => ?_)
      · refine z_iload6 74 dX5_orderFor_74 ?_
        refine z_istore3 76 dX5_orderFor_76 rfl ?_
        refine z_iload7 77 dX5_orderFor_77 ?_
        refine z_istore4 79 dX5_orderFor_79 rfl ?_
        refine z_iload8 81 dX5_orderFor_81 ?_
        refine z_istore5 83 dX5_orderFor_83 rfl ?_
        refine z_iinc6 85 ((nI (i + 1))) dX5_orderFor_85 (nI_add _ _) rfl ?_
        refine z_goto 88 18 dX5_orderFor_88 (by decide) ?_
        refine z_fog 7 (z_fog 8 (ih (upn Q 1 i, some i, (pdV (upn Q 1 i) n 0), (pdV (upn Q 1 i) n 3)) _ (by first | exact (odS_none n i Q l o9).symm | exact (odS_lt c_57).symm | exact (odS_eq c_64 (Int32.not_le.mp c_71)).symm) ⟨_, S9.trans (S1.trans S2), T⟩))
      · refine z_iload7 60 dX5_orderFor_60 ?_
        refine z_iload4 62 dX5_orderFor_62 ?_
        refine z_icne 64 85 dX5_orderFor_64 (by decide) (fun c_64 => ?_) (fun c_64 => ?_)
        · refine z_iinc6 85 ((nI (i + 1))) dX5_orderFor_85 (nI_add _ _) rfl ?_
          refine z_goto 88 18 dX5_orderFor_88 (by decide) ?_
          refine z_fog 7 (z_fog 8 (ih (upn Q 1 i, some b50, l, o9) _ (by first | exact (odS_no c_57 (Or.inl c_64)).symm | exact (odS_no c_57 (Or.inr (Int32.not_lt.mpr c_71))).symm) ⟨_, S9.trans (S1.trans S2), T⟩))
        · refine z_iload8 67 dX5_orderFor_67 ?_
          refine z_iload5 69 dX5_orderFor_69 ?_
          refine z_icle 71 85 dX5_orderFor_71 (by decide) (fun c_71 => ?_) (fun c_71 => ?_)
          · refine z_iinc6 85 ((nI (i + 1))) dX5_orderFor_85 (nI_add _ _) rfl ?_
            refine z_goto 88 18 dX5_orderFor_88 (by decide) ?_
            refine z_fog 7 (z_fog 8 (ih (upn Q 1 i, some b50, l, o9) _ (by first | exact (odS_no c_57 (Or.inl c_64)).symm | exact (odS_no c_57 (Or.inr (Int32.not_lt.mpr c_71))).symm) ⟨_, S9.trans (S1.trans S2), T⟩))
          · refine z_iload6 74 dX5_orderFor_74 ?_
            refine z_istore3 76 dX5_orderFor_76 rfl ?_
            refine z_iload7 77 dX5_orderFor_77 ?_
            refine z_istore4 79 dX5_orderFor_79 rfl ?_
            refine z_iload8 81 dX5_orderFor_81 ?_
            refine z_istore5 83 dX5_orderFor_83 rfl ?_
            refine z_iinc6 85 ((nI (i + 1))) dX5_orderFor_85 (nI_add _ _) rfl ?_
            refine z_goto 88 18 dX5_orderFor_88 (by decide) ?_
            refine z_fog 7 (z_fog 8 (ih (upn Q 1 i, some i, (pdV (upn Q 1 i) n 0), (pdV (upn Q 1 i) n 3)) _ (by first | exact (odS_none n i Q l o9).symm | exact (odS_lt c_57).symm | exact (odS_eq c_64 (Int32.not_le.mp c_71)).symm) ⟨_, S9.trans (S1.trans S2), T⟩))

