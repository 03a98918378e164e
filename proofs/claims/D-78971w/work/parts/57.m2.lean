/-! THE REFERENCE: jobs, water, outings, a day -/
set_option maxHeartbeats 4000000 in
theorem m_opensRound {E : Ev} {h : HP} {m : Nat} {A P : Nat → Nat} {X : Nat → Nat → Nat} {hs : Int64} (T0 : MdAt h m A P X hs)  (d k : Nat) : Call E yX5_opensRound d k [.ref m] h (rV (MdTo h m A P (stx X 8 (fun _ => 0)) hs)) := by
  have T := T0.to
  refine Call.of [.ref m, dum] q2298 (by decide) pn_X5 (Nat.le_of_ble_eq_true rfl) rfl ?_
  refine z_iconst 0 (nI 0) dX5_opensRound_0 kI0 ?_
  refine z_istore1 1 dX5_opensRound_1 rfl ?_
  refine lpB 2 (17) (fun i Y => upx Y 8 i 0) (X) ((itN 17 (fun i Y => upx Y 8 i 0) X)) (rfl) (fun i a => [.ref m, .int (nI i)]) (fun i a h9 => MdTo h m A P a hs h9) (fun _ _ => True) (fun _ => k) (T) (trivial) (fun _ _ _ _ => trivial) (fun h_1 T hJ => ?_) (fun i a h_1 hi_i hJ T ih_i => ?_)
  · have T : MdTo h m A P (itN 17 (fun i Y => upx Y 8 i 0) X) hs h_1 := T
    refine z_iload1 2 dX5_opensRound_2 ?_
    refine z_bipush 3 (nI 17) dX5_opensRound_3 kB17 ?_
    refine z_icgeN 5 21 dX5_opensRound_5 (by decide) (by omega) (by omega) (fun c_5 => ?_) (fun c_5 => absurd c_5 (by omega))
    refine z_return 21 rfl dX5_opensRound_21 ?_
    have e : itN 17 (fun i Y => upx Y 8 i 0) X = stx X 8 (fun j => if j < 17 then 0 else X 8 j) := itN_fill 17 8 (fun _ => 0) X
    rw [e] at T
    exact ⟨rfl, T.reX (fun _ => 0) (c := 17) rfl rfl (fun j hj => by rw [if_pos hj])⟩
  · refine z_iload1 2 dX5_opensRound_2 ?_
    refine z_bipush 3 (nI 17) dX5_opensRound_3 kB17 ?_
    refine z_icgeN 5 21 dX5_opensRound_5 (by decide) (by omega) (by omega) (fun c_5 => absurd c_5 (by omega)) (fun c_5 => ?_)
    refine z_aload0 8 dX5_opensRound_8 ?_
    refine z_get 9 gX5_25 dX5_opensRound_9 T.kd (T.rf 8 rfl) ?_
    refine z_iload1 12 dX5_opensRound_12 ?_
    refine z_iconst 13 (nI 0) dX5_opensRound_13 kI0 ?_
    refine z_zast (n := 17) 14 (i) dX5_opensRound_14 (T.ak 8 rfl rfl) (T.al 8 rfl rfl) (rfl) ((by omega)) (by decide) (nb0) ?_
    have T := T.putX 8 i 0 rfl (by decide)
    refine z_iinc1 15 ((nI (i + 1))) dX5_opensRound_15 (nI_add _ _) rfl ?_
    refine z_goto 18 2 dX5_opensRound_18 (by decide) ?_
    exact ih_i (upx a 8 i 0) _ (by rfl) T

set_option maxHeartbeats 4000000 in
theorem m_nextJob {E : Ev} {h : HP} {m : Nat} {A P : Nat → Nat} {X : Nat → Nat → Nat} {hs : Int64} (T0 : MdAt h m A P X hs) (B : Bd P) (hD : ∀ j, j < 17 → X 8 j ≤ 1) (d k : Nat) (hd : 2 ≤ d) : Call E yX5_nextJob d k [.ref m] h (rP h (oI (njP P (X 8)))) := by
  have T := T0.to
  refine Call.of [.ref m, dum, dum] q2302 (by decide) pn_X5 (Nat.le_of_ble_eq_true rfl) rfl ?_
  refine z_iconst 0 (-1) dX5_nextJob_0 kIm1 ?_
  refine z_istore1 1 dX5_nextJob_1 rfl ?_
  refine z_iconst 2 (nI 0) dX5_nextJob_2 kI0 ?_
  refine z_istore2 3 dX5_nextJob_3 rfl ?_
  refine lpA 4 (16) (njS P (X 8)) (none) ((itN 16 (njS P (X 8)) none)) rfl (fun i a => [.ref m, .int (oI a), .int (nI i)]) (fun i a => ∀ b, a = some b → b < i) (by intro b q; cases q) (fun _ _ _ => njS_lt) (fun hJ => ?_) (fun i a hi_i hJ ih_i => ?_)
  · refine z_iload2 4 dX5_nextJob_4 ?_
    refine z_bipush 5 (nI 16) dX5_nextJob_5 kB16 ?_
    refine z_icgeN 7 55 dX5_nextJob_7 (by decide) (by omega) (by omega) (fun c_7 => ?_) (fun c_7 => absurd c_7 (by omega))
    refine z_iload1 55 dX5_nextJob_55 ?_
    refine z_ireturn 56 rfl dX5_nextJob_56 ?_
    exact rP_of rfl
  · have hd1 := hD i (by omega)
    have b0 := B.jb (j := i) (w := 0) (by omega) (by omega)
    refine z_iload2 4 dX5_nextJob_4 ?_
    refine z_bipush 5 (nI 16) dX5_nextJob_5 kB16 ?_
    refine z_icgeN 7 55 dX5_nextJob_7 (by decide) (by omega) (by omega) (fun c_7 => absurd c_7 (by omega)) (fun c_7 => ?_)
    refine z_aload0 10 dX5_nextJob_10 ?_
    refine z_iload2 11 dX5_nextJob_11 ?_
    refine z_iconst 12 (nI 0) dX5_nextJob_12 kI0 ?_
    refine z_V2 (k' := k) 13 vX5_58 dX5_nextJob_13 T.kd (m_jobOf T.1 (by omega) (by omega) (d - 1) 0) (by omega) (by omega) (Nat.le_of_ble_eq_true rfl) (aft_P (x := (nI (jbP P i 0))) ?_)
    refine z_iconst 16 (nI 1) dX5_nextJob_16 kI1 ?_
    refine z_icneN 17 47 dX5_nextJob_17 (by decide) (by omega) (by omega) (fun c_17 => ?_) (fun c_17 => ?_)
    · refine z_iload1 47 dX5_nextJob_47 ?_
      refine z_istore1 48 dX5_nextJob_48 rfl ?_
      refine z_iinc2 49 ((nI (i + 1))) dX5_nextJob_49 (nI_add _ _) rfl ?_
      refine z_goto 52 4 dX5_nextJob_52 (by decide) ?_
      exact ih_i (a) (by first | rfl | (simp [njS, *]; done) | (cases a <;> simp [njS, *]; done) | grind [njS])
    · refine z_aload0 20 dX5_nextJob_20 ?_
      refine z_get 21 gX5_25 dX5_nextJob_21 T.kd (T.rf 8 rfl) ?_
      refine z_iload2 24 dX5_nextJob_24 ?_
      refine z_zald (n := 17) 25 (i) dX5_nextJob_25 (T.ak 8 rfl rfl) (T.al 8 rfl rfl) (rfl) ((by omega)) (by decide) (T.at 8 rfl (by decide) (c := 17) rfl (by omega)) ?_
      refine z_ifneN 26 47 dX5_nextJob_26 (by decide) (by omega) (fun c_26 => ?_) (fun c_26 => ?_)
      · refine z_iload1 47 dX5_nextJob_47 ?_
        refine z_istore1 48 dX5_nextJob_48 rfl ?_
        refine z_iinc2 49 ((nI (i + 1))) dX5_nextJob_49 (nI_add _ _) rfl ?_
        refine z_goto 52 4 dX5_nextJob_52 (by decide) ?_
        exact ih_i (a) (by first | rfl | (simp [njS, *]; done) | (cases a <;> simp [njS, *]; done) | grind [njS])
      · refine z_iload1 29 dX5_nextJob_29 ?_
        refine z_iconst 30 (-1) dX5_nextJob_30 kIm1 ?_
        rcases a with _ | b31
        · refine z_iceq 31 43 dX5_nextJob_31 (by decide) (fun _ => ?_) (fun q => absurd rfl q)
          refine z_iload2 43 dX5_nextJob_43 ?_
          refine z_goto 44 48 dX5_nextJob_44 (by decide) ?_
          refine z_istore1 48 dX5_nextJob_48 rfl ?_
          refine z_iinc2 49 ((nI (i + 1))) dX5_nextJob_49 (nI_add _ _) rfl ?_
          refine z_goto 52 4 dX5_nextJob_52 (by decide) ?_
          exact ih_i (some i) (by first | rfl | (simp [njS, *]; done) | (cases a <;> simp [njS, *]; done) | grind [njS])
        · have hb := hJ _ rfl
          refine z_iceq 31 43 dX5_nextJob_31 (by decide) (fun q => absurd q (nI_nm1 (by omega))) (fun _ => ?_)
          refine z_aload0 34 dX5_nextJob_34 ?_
          refine z_iload2 35 dX5_nextJob_35 ?_
          refine z_iload1 36 dX5_nextJob_36 ?_
          refine z_V2 (k' := k) 37 vX5_61 dX5_nextJob_37 T.kd (m_isAhead T.1 (by omega) (by omega) (B) (d - 1) 0 (by omega)) (by omega) (by omega) (Nat.le_of_ble_eq_true rfl) (aft_P (x := (nI (bN (ahP P i b31)))) ?_)
          refine z_ifeqB 40 47 dX5_nextJob_40 (by decide) (fun c_40 => ?_) (fun c_40 => ?_)
          · refine z_iload1 47 dX5_nextJob_47 ?_
            refine z_istore1 48 dX5_nextJob_48 rfl ?_
            refine z_iinc2 49 ((nI (i + 1))) dX5_nextJob_49 (nI_add _ _) rfl ?_
            refine z_goto 52 4 dX5_nextJob_52 (by decide) ?_
            exact ih_i (some b31) (by first | rfl | (simp [njS, *]; done) | (cases a <;> simp [njS, *]; done) | grind [njS])
          · refine z_iload2 43 dX5_nextJob_43 ?_
            refine z_goto 44 48 dX5_nextJob_44 (by decide) ?_
            refine z_istore1 48 dX5_nextJob_48 rfl ?_
            refine z_iinc2 49 ((nI (i + 1))) dX5_nextJob_49 (nI_add _ _) rfl ?_
            refine z_goto 52 4 dX5_nextJob_52 (by decide) ?_
            exact ih_i (some i) (by first | rfl | (simp [njS, *]; done) | (cases a <;> simp [njS, *]; done) | grind [njS])

set_option maxHeartbeats 4000000 in
theorem m_freezes {E : Ev} {h : HP} {m : Nat} {A P : Nat → Nat} {X : Nat → Nat → Nat} {hs : Int64} (T0 : MdAt h m A P X hs) (W : WF P) (d k : Nat) (hd : 1 ≤ d) : Call E yX5_freezes d k [.ref m] h (rV (MdTo h m A (fzP P) X hs)) := by
  have T := T0.to
  refine Call.of [.ref m, dum] q2286 (by decide) pn_X5 (Nat.le_of_ble_eq_true rfl) rfl ?_
  refine z_iconst 0 (nI 0) dX5_freezes_0 kI0 ?_
  refine z_istore1 1 dX5_freezes_1 rfl ?_
  refine lpB 2 (8) (fzS) (P) ((itN 8 fzS P)) (rfl) (fun i Q => [.ref m, .int (nI i)]) (fun i Q h9 => MdTo h m A Q X hs h9) (fun _ Q => WF Q) (fun _ => k) (T) (W) (fun _ _ hi WQ => WQ.fzSt hi) (fun h_1 T hJ => ?_) (fun i Q h_1 hi_i hJ T ih_i => ?_)
  · have T : MdTo h m A (itN 8 fzS P) X hs h_1 := T
    refine z_iload1 2 dX5_freezes_2 ?_
    refine z_bipush 3 (nI 8) dX5_freezes_3 kB8 ?_
    refine z_icgeN 5 78 dX5_freezes_5 (by decide) (by omega) (by omega) (fun c_5 => ?_) (fun c_5 => absurd c_5 (by omega))
    refine z_return 78 rfl dX5_freezes_78 ?_
    exact ⟨rfl, T⟩
  · have p9 := hJ.pl (pl := i) (by omega)
    refine z_iload1 2 dX5_freezes_2 ?_
    refine z_bipush 3 (nI 8) dX5_freezes_3 kB8 ?_
    refine z_icgeN 5 78 dX5_freezes_5 (by decide) (by omega) (by omega) (fun c_5 => absurd c_5 (by omega)) (fun c_5 => ?_)
    refine z_aload0 8 dX5_freezes_8 ?_
    refine z_iload1 9 dX5_freezes_9 ?_
    refine z_bipush 10 (nI 6) dX5_freezes_10 kB6 ?_
    refine z_V2 (k' := k) 12 vX5_46 dX5_freezes_12 T.kd (m_of T.1 (by omega) (by omega) (d - 1) 0) (by omega) (by omega) (Nat.le_of_ble_eq_true rfl) (aft_P (x := (nI (ofP Q i 6))) ?_)
    refine z_iconst 15 (nI 1) dX5_freezes_15 kI1 ?_
    refine z_icneN 16 72 dX5_freezes_16 (by decide) (by omega) (by omega) (fun c_16 => ?_) (fun c_16 => ?_)
    · refine z_iinc1 72 ((nI (i + 1))) dX5_freezes_72 (nI_add _ _) rfl ?_
      refine z_goto 75 2 dX5_freezes_75 (by decide) ?_
      exact ih_i (Q) _ (by simp only [fzS]; first | (rw [if_pos ⟨by omega, by omega⟩]; done) | (rw [if_neg (by omega)]; done)) T
    · refine z_aload0 19 dX5_freezes_19 ?_
      refine z_iload1 20 dX5_freezes_20 ?_
      refine z_iconst 21 (nI 3) dX5_freezes_21 kI3 ?_
      refine z_V2 (k' := k) 22 vX5_46 dX5_freezes_22 T.kd (m_of T.1 (by omega) (by omega) (d - 1) 0) (by omega) (by omega) (Nat.le_of_ble_eq_true rfl) (aft_P (x := (nI (ofP Q i 3))) ?_)
      refine z_aload0 25 dX5_freezes_25 ?_
      refine z_iload1 26 dX5_freezes_26 ?_
      refine z_iconst 27 (nI 4) dX5_freezes_27 kI4 ?_
      refine z_V2 (k' := k) 28 vX5_46 dX5_freezes_28 T.kd (m_of T.1 (by omega) (by omega) (d - 1) 0) (by omega) (by omega) (Nat.le_of_ble_eq_true rfl) (aft_P (x := (nI (ofP Q i 4))) ?_)
      refine z_iaddN 31 dX5_freezes_31 ?_
      refine z_aload0 32 dX5_freezes_32 ?_
      refine z_iload1 33 dX5_freezes_33 ?_
      refine z_iconst 34 (nI 5) dX5_freezes_34 kI5 ?_
      refine z_V2 (k' := k) 35 vX5_46 dX5_freezes_35 T.kd (m_of T.1 (by omega) (by omega) (d - 1) 0) (by omega) (by omega) (Nat.le_of_ble_eq_true rfl) (aft_P (x := (nI (ofP Q i 5))) ?_)
      refine z_iaddN 38 dX5_freezes_38 ?_
      refine z_ifneN 39 72 dX5_freezes_39 (by decide) (by omega) (fun c_39 => ?_) (fun c_39 => ?_)
      · refine z_iinc1 72 ((nI (i + 1))) dX5_freezes_72 (nI_add _ _) rfl ?_
        refine z_goto 75 2 dX5_freezes_75 (by decide) ?_
        exact ih_i (Q) _ (by simp only [fzS]; first | (rw [if_pos ⟨by omega, by omega⟩]; done) | (rw [if_neg (by omega)]; done)) T
      · refine z_aload0 42 dX5_freezes_42 ?_
        refine z_iload1 43 dX5_freezes_43 ?_
        refine z_iconst 44 (nI 5) dX5_freezes_44 kI5 ?_
        refine z_iconst 45 (nI 1) dX5_freezes_45 kI1 ?_
        refine z_V3 (k' := k) 46 vX5_65 dX5_freezes_46 T.kd (m_lay T.1 (by omega) (by omega) (d - 1) 0) (by omega) (by omega) (Nat.le_of_ble_eq_true rfl) (aft_V fun h_2 hq => ?_)
        have T : MdTo h m A (lyP Q i 5 1) X hs h_2 := T.trans hq
        refine z_aload0 49 dX5_freezes_49 ?_
        refine z_iload1 50 dX5_freezes_50 ?_
        refine z_bipush 51 (nI 9) dX5_freezes_51 kB9 ?_
        refine z_aload0 53 dX5_freezes_53 ?_
        refine z_iload1 54 dX5_freezes_54 ?_
        refine z_bipush 55 (nI 9) dX5_freezes_55 kB9 ?_
        refine z_V2 (k' := k) 57 vX5_46 dX5_freezes_57 T.kd (m_of T.1 (by omega) (by omega) (d - 1) 0) (by omega) (by omega) (Nat.le_of_ble_eq_true rfl) (aft_P (x := (nI (ofP (lyP Q i 5 1) i 9))) ?_)
        refine z_iconst 60 (nI 1) dX5_freezes_60 kI1 ?_
        refine z_iaddN 61 dX5_freezes_61 ?_
        refine z_V3 (k' := k) 62 vX5_65 dX5_freezes_62 T.kd (m_lay T.1 (by omega) (by omega) (d - 1) 0) (by omega) (by omega) (Nat.le_of_ble_eq_true rfl) (aft_V fun h_3 hq => ?_)
        have T : MdTo h m A (lyP (lyP Q i 5 1) i 9 (ofP (lyP Q i 5 1) i 9 + 1)) X hs h_3 := T.trans hq
        refine z_aload0 65 dX5_freezes_65 ?_
        refine z_iconst 66 (nI 2) dX5_freezes_66 kI2 ?_
        refine z_iload1 67 dX5_freezes_67 ?_
        refine z_imulN 68 dX5_freezes_68 ?_
        refine z_V1 (k' := k) 69 vX5_69 dX5_freezes_69 T.kd (m_reports T.1 (by omega) (d - 1) 0) (by omega) (by omega) (Nat.le_of_ble_eq_true rfl) (aft_V fun h_4 hq => ?_)
        have T : MdTo h m A (rpP (lyP (lyP Q i 5 1) i 9 (ofP (lyP Q i 5 1) i 9 + 1)) (2 * i)) X hs h_4 := T.trans hq
        refine z_iinc1 72 ((nI (i + 1))) dX5_freezes_72 (nI_add _ _) rfl ?_
        refine z_goto 75 2 dX5_freezes_75 (by decide) ?_
        exact ih_i (rpP (lyP (lyP Q i 5 1) i 9 (ofP (lyP Q i 5 1) i 9 + 1)) (2 * i)) _ (by simp only [fzS]; first | (rw [if_pos ⟨by omega, by omega⟩]; done) | (rw [if_neg (by omega)]; done)) T

set_option maxHeartbeats 4000000 in
theorem m_finishes {E : Ev} {h : HP} {m : Nat} {A P : Nat → Nat} {X : Nat → Nat → Nat} {hs : Int64} (T0 : MdAt h m A P X hs) {j : Nat} (hj : j < 16) (d k : Nat) (hd : 1 ≤ d) : Call E yX5_finishes d k [.ref m, .int (nI j)] h (rV (MdTo h m A (fiP P j) X hs)) := by
  have T := T0.to
  refine Call.of [.ref m, .int (nI j), dum] q2314 (by decide) pn_X5 (Nat.le_of_ble_eq_true rfl) rfl ?_
  refine z_iload1 0 dX5_finishes_0 ?_
  refine z_iconst 1 (nI 2) dX5_finishes_1 kI2 ?_
  refine z_idivN 2 dX5_finishes_2 (by omega) (by omega) (by omega) ?_
  refine z_istore2 3 dX5_finishes_3 rfl ?_
  refine z_iload1 4 dX5_finishes_4 ?_
  refine z_iconst 5 (nI 2) dX5_finishes_5 kI2 ?_
  refine z_iremN 6 dX5_finishes_6 (by omega) (by omega) (by omega) ?_
  refine z_ifneN 7 20 dX5_finishes_7 (by decide) (by omega) (fun c_7 => ?_) (fun c_7 => ?_)
  · refine z_aload0 20 dX5_finishes_20 ?_
    refine z_iload2 21 dX5_finishes_21 ?_
    refine z_iconst 22 (nI 2) dX5_finishes_22 kI2 ?_
    refine z_iconst 23 (nI 0) dX5_finishes_23 kI0 ?_
    refine z_V3 (k' := k) 24 vX5_65 dX5_finishes_24 T.kd (m_lay T.1 (by omega) (by omega) (d - 1) 0) (by omega) (by omega) (Nat.le_of_ble_eq_true rfl) (aft_V fun h_1 hq => ?_)
    have T : MdTo h m A (lyP P (j / 2) 2 0) X hs h_1 := T.trans hq
    refine z_aload0 27 dX5_finishes_27 ?_
    refine z_iload2 28 dX5_finishes_28 ?_
    refine z_bipush 29 (nI 8) dX5_finishes_29 kB8 ?_
    refine z_aload0 31 dX5_finishes_31 ?_
    refine z_iload2 32 dX5_finishes_32 ?_
    refine z_bipush 33 (nI 8) dX5_finishes_33 kB8 ?_
    refine z_V2 (k' := k) 35 vX5_46 dX5_finishes_35 T.kd (m_of T.1 (by omega) (by omega) (d - 1) 0) (by omega) (by omega) (Nat.le_of_ble_eq_true rfl) (aft_P (x := (nI (ofP (lyP P (j / 2) 2 0) (j / 2) 8))) ?_)
    refine z_iconst 38 (nI 1) dX5_finishes_38 kI1 ?_
    refine z_iaddN 39 dX5_finishes_39 ?_
    refine z_V3 (k' := k) 40 vX5_65 dX5_finishes_40 T.kd (m_lay T.1 (by omega) (by omega) (d - 1) 0) (by omega) (by omega) (Nat.le_of_ble_eq_true rfl) (aft_V fun h_2 hq => ?_)
    have T : MdTo h m A (lyP (lyP P (j / 2) 2 0) (j / 2) 8 (ofP (lyP P (j / 2) 2 0) (j / 2) 8 + 1)) X hs h_2 := T.trans hq
    refine z_aload0 43 dX5_finishes_43 ?_
    refine z_iload1 44 dX5_finishes_44 ?_
    refine z_V1 (k' := k) 45 vX5_73 dX5_finishes_45 T.kd (m_ends T.1 (by omega) (d - 1) 0) (by omega) (by omega) (Nat.le_of_ble_eq_true rfl) (aft_V fun h_3 hq => ?_)
    have T : MdTo h m A (enP (lyP (lyP P (j / 2) 2 0) (j / 2) 8 (ofP (lyP P (j / 2) 2 0) (j / 2) 8 + 1)) j) X hs h_3 := T.trans hq
    refine z_return 48 rfl dX5_finishes_48 ?_
    exact ⟨rfl, by unfold fiP; first | (rw [if_pos c_7]; exact T) | (rw [if_neg c_7]; exact T)⟩
  · refine z_aload0 10 dX5_finishes_10 ?_
    refine z_iload2 11 dX5_finishes_11 ?_
    refine z_iconst 12 (nI 5) dX5_finishes_12 kI5 ?_
    refine z_iconst 13 (nI 0) dX5_finishes_13 kI0 ?_
    refine z_V3 (k' := k) 14 vX5_65 dX5_finishes_14 T.kd (m_lay T.1 (by omega) (by omega) (d - 1) 0) (by omega) (by omega) (Nat.le_of_ble_eq_true rfl) (aft_V fun h_4 hq => ?_)
    have T : MdTo h m A (lyP P (j / 2) 5 0) X hs h_4 := T.trans hq
    refine z_goto 17 43 dX5_finishes_17 (by decide) ?_
    refine z_aload0 43 dX5_finishes_43 ?_
    refine z_iload1 44 dX5_finishes_44 ?_
    refine z_V1 (k' := k) 45 vX5_73 dX5_finishes_45 T.kd (m_ends T.1 (by omega) (d - 1) 0) (by omega) (by omega) (Nat.le_of_ble_eq_true rfl) (aft_V fun h_5 hq => ?_)
    have T : MdTo h m A (enP (lyP P (j / 2) 5 0) j) X hs h_5 := T.trans hq
    refine z_return 48 rfl dX5_finishes_48 ?_
    exact ⟨rfl, by unfold fiP; first | (rw [if_pos c_7]; exact T) | (rw [if_neg c_7]; exact T)⟩

theorem upn_le {D : Nat → Nat} {j : Nat} (h : ∀ i, D i ≤ 1) : ∀ i, upn D j 1 i ≤ 1 := by
  intro i
  unfold upn
  split
  · exact Nat.le_refl 1
  · exact h i
theorem upx_stx (X : Nat → Nat → Nat) (f : Nat) (p : Nat → Nat) (i v : Nat) : upx (stx X f p) f i v = stx X f (upn p i v) := by
  funext g
  by_cases e : g = f
  · subst e; rw [upx_s, stx_s, stx_s]
  · rw [upx_n _ _ _ e, stx_n _ _ e, stx_n _ _ e]
set_option maxHeartbeats 4000000 in
theorem m_works {E : Ev} {h : HP} {m : Nat} {A P : Nat → Nat} {X : Nat → Nat → Nat} {hs : Int64} (T0 : MdAt h m A P X hs) {fz : Bool} (W : WF P) (d k : Nat) (hd : 3 ≤ d) : Call E yX5_works d k [.ref m, .int (nI (bN fz))] h (rV (fun h' => ∃ D', MdTo h m A (wkP fz P) (stx X 8 D') hs h')) := by
  have T := T0.to
  refine Call.of [.ref m, .int (nI (bN fz)), dum, dum, dum, dum] q2294 (by decide) pn_X5 (Nat.le_of_ble_eq_true rfl) rfl ?_
  refine z_aload0 0 dX5_works_0 ?_
  refine z_V0 (k' := k) 1 vX5_76 dX5_works_1 T.kd (m_opensRound T.1  (d - 1) 0) (by omega) (by omega) (Nat.le_of_ble_eq_true rfl) (aft_V fun h_1 hq => ?_)
  have T : MdTo h m A P (stx X 8 (fun _ => 0)) hs h_1 := T.trans hq
  refine z_aload0 4 dX5_works_4 ?_
  refine z_get 5 gX5_7 dX5_works_5 T.kd (T.rf 1 rfl) ?_
  refine z_iconst 8 (nI 0) dX5_works_8 kI0 ?_
  refine z_iald (n := 204) 9 (0) dX5_works_9 (T.ak 1 rfl rfl) (T.al 1 rfl rfl) (rfl) ((by omega)) (by decide) (T.at1 (by omega)) ?_
  refine z_istore2 10 dX5_works_10 rfl ?_
  refine z_aload0 11 dX5_works_11 ?_
  refine z_V0 (k' := k) 12 vX5_79 dX5_works_12 T.kd (m_nextJob T.1 (W.B) (fun _ _ => Nat.zero_le _) (d - 1) 0 (by omega)) (by omega) (by omega) (Nat.le_of_ble_eq_true rfl) (aft_P (x := (oI (njP P (fun _ => 0)))) ?_)
  refine z_istore3 15 dX5_works_15 rfl ?_
  refine lpW 16 (fun s : Nat × (Nat → Nat) × Nat × (Nat → Nat) => [.ref m, .int (nI (bN fz)), .int (nI s.2.2.1), .int (oI (njP s.2.1 s.2.2.2)), dum, dum]) (fun s h9 => MdTo h m A s.2.1 (stx X 8 s.2.2.2) hs h9 ∧ WF s.2.1 ∧ wkF fz s.1 s.2.1 s.2.2.1 s.2.2.2 = wkP fz P ∧ cuD 16 s.2.2.2 < s.1 ∧ (∀ j, s.2.2.2 j ≤ 1) ∧ s.2.2.1 ≤ 20) (fun _ => k) (fun s => s.1) (17, P, P 0, fun _ => 0) ⟨T, W, rfl, by show cuD 16 (fun _ => 0) < 17; rw [cuD_0]; decide, fun _ => Nat.zero_le _, W.st.1⟩ (fun s h9 hI ih => ?_)
  obtain ⟨n, Q, left, D⟩ := s
  have hc0 : cuD 16 D < n := hI.2.2.2.1
  obtain ⟨n', rfl⟩ : ∃ n', n = n' + 1 := ⟨n - 1, by omega⟩
  obtain ⟨T, WQ, he, hc, hD, hl⟩ := hI
  have T : MdTo h m A Q (stx X 8 D) hs h9 := T
  have WQ : WF Q := WQ
  have he : wkF fz (n' + 1) Q left D = wkP fz P := he
  have hc : cuD 16 D < n' + 1 := hc
  have hD : ∀ j, D j ≤ 1 := hD
  have hl : left ≤ 20 := hl
  show Z E _ _ _ _ h9 16 [.ref m, .int (nI (bN fz)), .int (nI left), .int (oI (njP Q D)), dum, dum] []
  refine z_iload3 16 dX5_works_16 ?_
  refine z_iconst 17 (-1) dX5_works_17 kIm1 ?_
  rcases hn : njP Q D with _ | j
  · refine z_iceq 18 137 dX5_works_18 (by decide) (fun _ => ?_) (fun q => absurd rfl q)
    refine z_return 137 rfl dX5_works_137 ?_
    have e9 : Q = wkP fz P := (wkF_none hn).symm.trans he
    exact ⟨rfl, D, e9 ▸ T⟩
  · have hj := njP_lt hn
    have hD0 := (njP_some hn).2
    have hj9 := WQ.jb hj
    have n9 := neM_le j
    have a9 := haP_le fz Q left j
    refine z_iceq 18 137 dX5_works_18 (by decide) (fun q => absurd q (nI_nm1 (by omega))) (fun _ => ?_)
    refine z_aload0 21 dX5_works_21 ?_
    refine z_get 22 gX5_25 dX5_works_22 T.kd (T.rf 8 rfl) ?_
    refine z_iload3 25 dX5_works_25 ?_
    refine z_iconst 26 (nI 1) dX5_works_26 kI1 ?_
    refine z_zast (n := 17) 27 (j) dX5_works_27 (T.ak 8 rfl rfl) (T.al 8 rfl rfl) (rfl) ((by omega)) (by decide) (nb1) ?_
    have T := T.putX 8 j 1 rfl (by decide)
    rw [upx_stx] at T
    have hD2 : ∀ i, upn D j 1 i ≤ 1 := upn_le hD
    refine z_aload0 28 dX5_works_28 ?_
    refine z_iload3 29 dX5_works_29 ?_
    refine z_V1 (k' := k) 30 vX5_83 dX5_works_30 T.kd (m_needs T.1 (hj) (hj9.2.2) (d - 1) 0 (by omega)) (by omega) (by omega) (Nat.le_of_ble_eq_true rfl) (aft_P (x := (nI (neP Q j))) ?_)
    have ne9 : neP Q j ≤ 6 := by unfold neP; omega
    refine z_istore4 33 dX5_works_33 rfl ?_
    refine z_iload1 35 dX5_works_35 ?_
    refine joinZ 61 (fun v9 => [.ref m, .int (nI (bN fz)), .int (nI left), .int (nI j), .int (nI (neP Q j)), dum]) (fun v9 => [.int v9]) ((nI (haP fz Q left j))) ?_ (fun J => ?_)
    · refine z_istore5 61 dX5_works_61 rfl ?_
      refine z_iload2 63 dX5_works_63 ?_
      refine z_iload5 64 dX5_works_64 ?_
      refine z_isubN 66 dX5_works_66 (a9.2) ?_
      refine z_istore2 67 dX5_works_67 rfl ?_
      refine z_aload0 68 dX5_works_68 ?_
      refine z_get 69 gX5_7 dX5_works_69 T.kd (T.rf 1 rfl) ?_
      refine z_bipush 72 (nI 11) dX5_works_72 kB11 ?_
      refine z_dup2 74 dX5_works_74 rfl rfl ?_
      refine z_iald (n := 204) 75 (11) dX5_works_75 (T.ak 1 rfl rfl) (T.al 1 rfl rfl) (rfl) ((by omega)) (by decide) (T.at1 (by omega)) ?_
      refine z_iload5 76 dX5_works_76 ?_
      refine z_iaddN 78 dX5_works_78 ?_
      refine z_iast (n := 204) 79 (11) dX5_works_79 (T.ak 1 rfl rfl) (T.al 1 rfl rfl) (rfl) ((by omega)) (by decide) ?_
      have T := T.put1 11 (Q 11 + haP fz Q left j)
      refine z_aload0 80 dX5_works_80 ?_
      refine z_get 81 gX5_7 dX5_works_81 T.kd (T.rf 1 rfl) ?_
      refine z_bipush 84 (nI 10) dX5_works_84 kB10 ?_
      refine z_dup2 86 dX5_works_86 rfl rfl ?_
      refine z_iald (n := 204) 87 (10) dX5_works_87 (T.ak 1 rfl rfl) (T.al 1 rfl rfl) (rfl) ((by omega)) (by decide) (T.at1 (by omega)) ?_
      refine z_iload5 88 dX5_works_88 ?_
      refine z_aload0 90 dX5_works_90 ?_
      refine z_get 91 gX5_7 dX5_works_91 T.kd (T.rf 1 rfl) ?_
      refine z_iconst 94 (nI 4) dX5_works_94 kI4 ?_
      refine z_iald (n := 204) 95 (4) dX5_works_95 (T.ak 1 rfl rfl) (T.al 1 rfl rfl) (rfl) ((by omega)) (by decide) (T.at1 (by omega)) ?_
      refine z_imulN 96 dX5_works_96 ?_
      refine z_iaddN 97 dX5_works_97 ?_
      refine z_iast (n := 204) 98 (10) dX5_works_98 (T.ak 1 rfl rfl) (T.al 1 rfl rfl) (rfl) ((by omega)) (by decide) ?_
      have T := T.put1 10 ((upn Q 11 (Q 11 + haP fz Q left j)) 10 + ((haP fz Q left j) * ((upn Q 11 (Q 11 + haP fz Q left j)) 4)))
      refine z_aload0 99 dX5_works_99 ?_
      refine z_get 100 gX5_7 dX5_works_100 T.kd (T.rf 1 rfl) ?_
      refine z_bipush 103 (nI 93) dX5_works_103 kB93 ?_
      refine z_iconst 105 (nI 3) dX5_works_105 kI3 ?_
      refine z_iload3 106 dX5_works_106 ?_
      refine z_imulN 107 dX5_works_107 ?_
      refine z_iaddN 108 dX5_works_108 ?_
      refine z_iconst 109 (nI 2) dX5_works_109 kI2 ?_
      refine z_iaddN 110 dX5_works_110 ?_
      refine z_dup2 111 dX5_works_111 rfl rfl ?_
      refine z_iald (n := 204) 112 (93 + 3 * j + 2) dX5_works_112 (T.ak 1 rfl rfl) (T.al 1 rfl rfl) (rfl) ((by omega)) (by decide) (T.at1 (by omega)) ?_
      refine z_iload5 113 dX5_works_113 ?_
      refine z_iaddN 115 dX5_works_115 ?_
      refine z_iast (n := 204) 116 (93 + 3 * j + 2) dX5_works_116 (T.ak 1 rfl rfl) (T.al 1 rfl rfl) (rfl) ((by omega)) (by decide) ?_
      have T := T.put1 (93 + 3 * j + 2) ((upn (upn Q 11 (Q 11 + haP fz Q left j)) 10 ((upn Q 11 (Q 11 + haP fz Q left j)) 10 + ((haP fz Q left j) * ((upn Q 11 (Q 11 + haP fz Q left j)) 4)))) (93 + 3 * j + 2) + haP fz Q left j)
      have T : MdTo h m A (wk1 Q (haP fz Q left j) j) (stx X 8 (upn D j 1)) hs _ := T
      refine z_iload5 117 dX5_works_117 ?_
      refine z_iload4 119 dX5_works_119 ?_
      refine z_icneN 121 129 dX5_works_121 (by decide) (by omega) (by omega) (fun c_121 => ?_) (fun c_121 => ?_)
      · have W2 : WF (wk1 Q (haP fz Q left j) j) := WQ.wk1t hj a9.1
        refine z_aload0 129 dX5_works_129 ?_
        refine z_V0 (k' := k) 130 vX5_79 dX5_works_130 T.kd (m_nextJob T.1 (W2.B) (fun i _ => hD2 i) (d - 1) 0 (by omega)) (by omega) (by omega) (Nat.le_of_ble_eq_true rfl) (aft_P (x := (oI (njP (wk1 Q (haP fz Q left j) j) (upn D j 1)))) ?_)
        refine z_istore3 133 dX5_works_133 rfl ?_
        refine z_goto 134 16 dX5_works_134 (by decide) ?_
        have eS : wkS fz Q left j = (wk1 Q (haP fz Q left j) j) := by unfold wkS; first | (rw [if_pos c_121]; done) | (rw [if_neg c_121]; done)
        have he2 : wkF fz n' (wk1 Q (haP fz Q left j) j) (left - haP fz Q left j) (upn D j 1) = wkP fz P := by rw [← eS]; exact (wkF_some hn).symm.trans he
        have hc2 := cuD_s hj hD0
        refine z_fog 4 ?_
        refine z_fog 5 ?_
        exact ih (n', wk1 Q (haP fz Q left j) j, left - haP fz Q left j, upn D j 1) _ (Nat.lt_succ_self n') ⟨T, W2, he2, (by show cuD 16 (upn D j 1) < n'; omega), hD2, (by show left - haP fz Q left j ≤ 20; omega)⟩
      · have W2 : WF (fiP (wk1 Q (haP fz Q left j) j) j) := (WQ.wk1t hj a9.1).fi hj
        refine z_aload0 124 dX5_works_124 ?_
        refine z_iload3 125 dX5_works_125 ?_
        refine z_V1 (k' := k) 126 vX5_86 dX5_works_126 T.kd (m_finishes T.1 (by omega) (d - 1) 0 (by omega)) (by omega) (by omega) (Nat.le_of_ble_eq_true rfl) (aft_V fun h_2 hq => ?_)
        have T : MdTo h m A (fiP (wk1 Q (haP fz Q left j) j) j) (stx X 8 (upn D j 1)) hs h_2 := T.trans hq
        refine z_aload0 129 dX5_works_129 ?_
        refine z_V0 (k' := k) 130 vX5_79 dX5_works_130 T.kd (m_nextJob T.1 (W2.B) (fun i _ => hD2 i) (d - 1) 0 (by omega)) (by omega) (by omega) (Nat.le_of_ble_eq_true rfl) (aft_P (x := (oI (njP (fiP (wk1 Q (haP fz Q left j) j) j) (upn D j 1)))) ?_)
        refine z_istore3 133 dX5_works_133 rfl ?_
        refine z_goto 134 16 dX5_works_134 (by decide) ?_
        have eS : wkS fz Q left j = (fiP (wk1 Q (haP fz Q left j) j) j) := by unfold wkS; first | (rw [if_pos c_121]; done) | (rw [if_neg c_121]; done)
        have he2 : wkF fz n' (fiP (wk1 Q (haP fz Q left j) j) j) (left - haP fz Q left j) (upn D j 1) = wkP fz P := by rw [← eS]; exact (wkF_some hn).symm.trans he
        have hc2 := cuD_s hj hD0
        refine z_fog 4 ?_
        refine z_fog 5 ?_
        exact ih (n', fiP (wk1 Q (haP fz Q left j) j) j, left - haP fz Q left j, upn D j 1) _ (Nat.lt_succ_self n') ⟨T, W2, he2, (by show cuD 16 (upn D j 1) < n'; omega), hD2, (by show left - haP fz Q left j ≤ 20; omega)⟩
    · refine z_ifeqB 36 49 dX5_works_36 (by decide) (fun c_36 => ?_) (fun c_36 => ?_)
      · refine z_iload4 49 dX5_works_49 ?_
        refine z_iload2 51 dX5_works_51 ?_
        refine z_icgeN 52 60 dX5_works_52 (by decide) (by omega) (by omega) (fun c_52 => ?_) (fun c_52 => ?_)
        · refine z_iload2 60 dX5_works_60 ?_
          exact J _ (by simp only [haP]; first | (rw [if_pos ⟨by assumption, by assumption⟩]; done) | (rw [if_neg (by simp [*]), if_pos (by omega)]; done) | (rw [if_neg (by simp [*]), if_neg (by omega)]; done))
        · refine z_iload4 55 dX5_works_55 ?_
          refine z_goto 57 61 dX5_works_57 (by decide) ?_
          exact J _ (by simp only [haP]; first | (rw [if_pos ⟨by assumption, by assumption⟩]; done) | (rw [if_neg (by simp [*]), if_pos (by omega)]; done) | (rw [if_neg (by simp [*]), if_neg (by omega)]; done))
      · refine z_iload3 39 dX5_works_39 ?_
        refine z_iconst 40 (nI 2) dX5_works_40 kI2 ?_
        refine z_iremN 41 dX5_works_41 (by omega) (by omega) (by omega) ?_
        refine z_ifneN 42 49 dX5_works_42 (by decide) (by omega) (fun c_42 => ?_) (fun c_42 => ?_)
        · refine z_iload4 49 dX5_works_49 ?_
          refine z_iload2 51 dX5_works_51 ?_
          refine z_icgeN 52 60 dX5_works_52 (by decide) (by omega) (by omega) (fun c_52 => ?_) (fun c_52 => ?_)
          · refine z_iload2 60 dX5_works_60 ?_
            exact J _ (by simp only [haP]; first | (rw [if_pos ⟨by assumption, by assumption⟩]; done) | (rw [if_neg (by simp [*]), if_pos (by omega)]; done) | (rw [if_neg (by simp [*]), if_neg (by omega)]; done))
          · refine z_iload4 55 dX5_works_55 ?_
            refine z_goto 57 61 dX5_works_57 (by decide) ?_
            exact J _ (by simp only [haP]; first | (rw [if_pos ⟨by assumption, by assumption⟩]; done) | (rw [if_neg (by simp [*]), if_pos (by omega)]; done) | (rw [if_neg (by simp [*]), if_neg (by omega)]; done))
        · refine z_iconst 45 (nI 0) dX5_works_45 kI0 ?_
          refine z_goto 46 61 dX5_works_46 (by decide) ?_
          exact J _ (by simp only [haP]; first | (rw [if_pos ⟨by assumption, by assumption⟩]; done) | (rw [if_neg (by simp [*]), if_pos (by omega)]; done) | (rw [if_neg (by simp [*]), if_neg (by omega)]; done))

set_option maxHeartbeats 4000000 in
theorem m_gives {E : Ev} {h : HP} {m : Nat} {A P : Nat → Nat} {X : Nat → Nat → Nat} {hs : Int64} (T0 : MdAt h m A P X hs) {pl wn : Nat} (hp : pl < 8) (W : WF P) (hw : wn < 4096) (hF : X 7 pl < 4096) (d k : Nat) (hd : 1 ≤ d) : Call E yX5_gives d k [.ref m, .int (nI pl), .int (nI wn)] h (rI fun x h' => x = nI (gvA P (X 7) pl wn) ∧ MdTo h m A (gvP P (X 7) pl wn) (stx X 7 (gwF P (X 7) pl wn)) hs h') := by
  have T := T0.to
  have p9 := W.pl hp
  have a1 := gvA_w P (X 7) pl wn
  have a2 := gvA_f P (X 7) pl wn
  have a3 := gvA_t P (X 7) pl wn
  refine Call.of [.ref m, .int (nI pl), .int (nI wn), dum, dum] q2337 (by decide) pn_X5 (Nat.le_of_ble_eq_true rfl) rfl ?_
  refine z_iconst 0 (nI 4) dX5_gives_0 kI4 ?_
  refine z_aload0 1 dX5_gives_1 ?_
  refine z_iload1 2 dX5_gives_2 ?_
  refine z_iconst 3 (nI 1) dX5_gives_3 kI1 ?_
  refine z_V2 (k' := k) 4 vX5_46 dX5_gives_4 T.kd (m_of T.1 (by omega) (by omega) (d - 1) 0) (by omega) (by omega) (Nat.le_of_ble_eq_true rfl) (aft_P (x := (nI (ofP P pl 1))) ?_)
  refine z_imulN 7 dX5_gives_7 ?_
  refine z_aload0 8 dX5_gives_8 ?_
  refine z_iload1 9 dX5_gives_9 ?_
  refine z_iconst 10 (nI 2) dX5_gives_10 kI2 ?_
  refine z_V2 (k' := k) 11 vX5_46 dX5_gives_11 T.kd (m_of T.1 (by omega) (by omega) (d - 1) 0) (by omega) (by omega) (Nat.le_of_ble_eq_true rfl) (aft_P (x := (nI (ofP P pl 2))) ?_)
  refine z_isubN 14 dX5_gives_14 (p9.2.2.2.2.2.2) ?_
  refine z_istore3 15 dX5_gives_15 rfl ?_
  refine z_iload2 16 dX5_gives_16 ?_
  refine z_aload0 17 dX5_gives_17 ?_
  refine z_get 18 gX5_22 dX5_gives_18 T.kd (T.rf 7 rfl) ?_
  refine z_iload1 21 dX5_gives_21 ?_
  refine z_iald (n := 8) 22 (pl) dX5_gives_22 (T.ak 7 rfl rfl) (T.al 7 rfl rfl) (rfl) ((by omega)) (by decide) (T.at 7 rfl (by decide) (c := 8) rfl (by omega)) ?_
  refine joinZ 36 (fun v9 => [.ref m, .int (nI pl), .int (nI wn), .int (nI (4 * (ofP P pl 1) - (ofP P pl 2))), dum]) (fun v9 => [.int v9]) ((nI (g9 wn (X 7 pl)))) ?_ (fun J => ?_)
  · have g1 := g9_l wn (X 7 pl)
    refine z_istore4 36 dX5_gives_36 rfl ?_
    refine z_iload4 38 dX5_gives_38 ?_
    refine z_iload3 40 dX5_gives_40 ?_
    refine joinZ 50 (fun v9 => [.ref m, .int (nI pl), .int (nI wn), .int (nI (4 * (ofP P pl 1) - (ofP P pl 2))), .int (nI (g9 wn (X 7 pl)))]) (fun v9 => [.int v9]) ((nI (gvA P (X 7) pl wn))) ?_ (fun J => ?_)
    · refine z_istore4 50 dX5_gives_50 rfl ?_
      refine z_aload0 52 dX5_gives_52 ?_
      refine z_get 53 gX5_22 dX5_gives_53 T.kd (T.rf 7 rfl) ?_
      refine z_iload1 56 dX5_gives_56 ?_
      refine z_dup2 57 dX5_gives_57 rfl rfl ?_
      refine z_iald (n := 8) 58 (pl) dX5_gives_58 (T.ak 7 rfl rfl) (T.al 7 rfl rfl) (rfl) ((by omega)) (by decide) (T.at 7 rfl (by decide) (c := 8) rfl (by omega)) ?_
      refine z_iload4 59 dX5_gives_59 ?_
      refine z_isubN 61 dX5_gives_61 (a2) ?_
      refine z_iast (n := 8) 62 (pl) dX5_gives_62 (T.ak 7 rfl rfl) (T.al 7 rfl rfl) (rfl) ((by omega)) (by decide) ?_
      have T := T.putX 7 pl (X 7 pl - (gvA P (X 7) pl wn)) rfl (by decide)
      refine z_aload0 63 dX5_gives_63 ?_
      refine z_iload1 64 dX5_gives_64 ?_
      refine z_iconst 65 (nI 2) dX5_gives_65 kI2 ?_
      refine z_aload0 66 dX5_gives_66 ?_
      refine z_iload1 67 dX5_gives_67 ?_
      refine z_iconst 68 (nI 2) dX5_gives_68 kI2 ?_
      refine z_V2 (k' := k) 69 vX5_46 dX5_gives_69 T.kd (m_of T.1 (by omega) (by omega) (d - 1) 0) (by omega) (by omega) (Nat.le_of_ble_eq_true rfl) (aft_P (x := (nI (ofP P pl 2))) ?_)
      refine z_iload4 72 dX5_gives_72 ?_
      refine z_iaddN 74 dX5_gives_74 ?_
      refine z_V3 (k' := k) 75 vX5_65 dX5_gives_75 T.kd (m_lay T.1 (by omega) (by omega) (d - 1) 0) (by omega) (by omega) (Nat.le_of_ble_eq_true rfl) (aft_V fun h_1 hq => ?_)
      have T : MdTo h m A (lyP P pl 2 (ofP P pl 2 + (gvA P (X 7) pl wn))) (upx X 7 pl (X 7 pl - (gvA P (X 7) pl wn))) hs h_1 := T.trans hq
      refine z_aload0 78 dX5_gives_78 ?_
      refine z_iload1 79 dX5_gives_79 ?_
      refine z_bipush 80 (nI 7) dX5_gives_80 kB7 ?_
      refine z_aload0 82 dX5_gives_82 ?_
      refine z_iload1 83 dX5_gives_83 ?_
      refine z_bipush 84 (nI 7) dX5_gives_84 kB7 ?_
      refine z_V2 (k' := k) 86 vX5_46 dX5_gives_86 T.kd (m_of T.1 (by omega) (by omega) (d - 1) 0) (by omega) (by omega) (Nat.le_of_ble_eq_true rfl) (aft_P (x := (nI (ofP (lyP P pl 2 (ofP P pl 2 + (gvA P (X 7) pl wn))) pl 7))) ?_)
      refine z_iload4 89 dX5_gives_89 ?_
      refine z_iaddN 91 dX5_gives_91 ?_
      refine z_V3 (k' := k) 92 vX5_65 dX5_gives_92 T.kd (m_lay T.1 (by omega) (by omega) (d - 1) 0) (by omega) (by omega) (Nat.le_of_ble_eq_true rfl) (aft_V fun h_2 hq => ?_)
      have T : MdTo h m A (lyP (lyP P pl 2 (ofP P pl 2 + (gvA P (X 7) pl wn))) pl 7 (ofP (lyP P pl 2 (ofP P pl 2 + (gvA P (X 7) pl wn))) pl 7 + (gvA P (X 7) pl wn))) (upx X 7 pl (X 7 pl - (gvA P (X 7) pl wn))) hs h_2 := T.trans hq
      refine z_aload0 95 dX5_gives_95 ?_
      refine z_get 96 gX5_7 dX5_gives_96 T.kd (T.rf 1 rfl) ?_
      refine z_bipush 99 (nI 12) dX5_gives_99 kB12 ?_
      refine z_dup2 101 dX5_gives_101 rfl rfl ?_
      refine z_iald (n := 204) 102 (12) dX5_gives_102 (T.ak 1 rfl rfl) (T.al 1 rfl rfl) (rfl) ((by omega)) (by decide) (T.at1 (by omega)) ?_
      refine z_iload4 103 dX5_gives_103 ?_
      refine z_iaddN 105 dX5_gives_105 ?_
      refine z_iast (n := 204) 106 (12) dX5_gives_106 (T.ak 1 rfl rfl) (T.al 1 rfl rfl) (rfl) ((by omega)) (by decide) ?_
      have T := T.put1 12 ((lyP (lyP P pl 2 (ofP P pl 2 + (gvA P (X 7) pl wn))) pl 7 (ofP (lyP P pl 2 (ofP P pl 2 + (gvA P (X 7) pl wn))) pl 7 + (gvA P (X 7) pl wn))) 12 + (gvA P (X 7) pl wn))
      have T : MdTo h m A (gvQ P pl (gvA P (X 7) pl wn)) (stx X 7 (gwF P (X 7) pl wn)) hs _ := T
      refine z_iload4 107 dX5_gives_107 ?_
      refine z_iload3 109 dX5_gives_109 ?_
      refine z_icneN 110 122 dX5_gives_110 (by decide) (by omega) (by omega) (fun c_110 => ?_) (fun c_110 => ?_)
      · refine z_iload4 122 dX5_gives_122 ?_
        refine z_ireturn 124 rfl dX5_gives_124 ?_
        exact ⟨_, rfl, rfl, by unfold gvP; first | (rw [if_pos c_110]; exact T) | (rw [if_neg c_110]; exact T)⟩
      · refine z_aload0 113 dX5_gives_113 ?_
        refine z_iconst 114 (nI 2) dX5_gives_114 kI2 ?_
        refine z_iload1 115 dX5_gives_115 ?_
        refine z_imulN 116 dX5_gives_116 ?_
        refine z_iconst 117 (nI 1) dX5_gives_117 kI1 ?_
        refine z_iaddN 118 dX5_gives_118 ?_
        refine z_V1 (k' := k) 119 vX5_69 dX5_gives_119 T.kd (m_reports T.1 (by omega) (d - 1) 0) (by omega) (by omega) (Nat.le_of_ble_eq_true rfl) (aft_V fun h_3 hq => ?_)
        have T : MdTo h m A (rpP (gvQ P pl (gvA P (X 7) pl wn)) (2 * pl + 1)) (stx X 7 (gwF P (X 7) pl wn)) hs h_3 := T.trans hq
        refine z_iload4 122 dX5_gives_122 ?_
        refine z_ireturn 124 rfl dX5_gives_124 ?_
        exact ⟨_, rfl, rfl, by unfold gvP; first | (rw [if_pos c_110]; exact T) | (rw [if_neg c_110]; exact T)⟩
    · refine z_icgeN 41 49 dX5_gives_41 (by decide) (by omega) (by omega) (fun c_41 => ?_) (fun c_41 => ?_)
      · refine z_iload3 49 dX5_gives_49 ?_
        exact J _ (congrArg nI (by first | exact (if_pos c_41).symm | exact (if_neg (Nat.not_lt.mpr c_41)).symm))
      · refine z_iload4 44 dX5_gives_44 ?_
        refine z_goto 46 50 dX5_gives_46 (by decide) ?_
        exact J _ (congrArg nI (by first | exact (if_pos c_41).symm | exact (if_neg (Nat.not_lt.mpr c_41)).symm))
  · refine z_icgeN 23 30 dX5_gives_23 (by decide) (by omega) (by omega) (fun c_23 => ?_) (fun c_23 => ?_)
    · refine z_aload0 30 dX5_gives_30 ?_
      refine z_get 31 gX5_22 dX5_gives_31 T.kd (T.rf 7 rfl) ?_
      refine z_iload1 34 dX5_gives_34 ?_
      refine z_iald (n := 8) 35 (pl) dX5_gives_35 (T.ak 7 rfl rfl) (T.al 7 rfl rfl) (rfl) ((by omega)) (by decide) (T.at 7 rfl (by decide) (c := 8) rfl (by omega)) ?_
      exact J _ (congrArg nI (by unfold g9; first | (rw [if_pos (by omega)]; done) | (rw [if_neg (by omega)]; done)))
    · refine z_iload2 26 dX5_gives_26 ?_
      refine z_goto 27 36 dX5_gives_27 (by decide) ?_
      exact J _ (congrArg nI (by unfold g9; first | (rw [if_pos (by omega)]; done) | (rw [if_neg (by omega)]; done)))

set_option maxHeartbeats 4000000 in
theorem m_nearest {E : Ev} {h : HP} {m : Nat} {A P : Nat → Nat} {X : Nat → Nat → Nat} {hs : Int64} (T0 : MdAt h m A P X hs) {g : Nat} (hg : g < 8) (hD : ∀ j, j < 8 → X 9 j ≤ 1) (d k : Nat) (hd : 1 ≤ d) : Call E yX5_nearest d k [.ref m, .int (nI g)] h (rP h (oI (ngP (X 9) g))) := by
  have T := T0.to
  have apl : ∀ a b, a < 8 → b < 8 → apN a b < 8 := fun a b h1 h2 => by unfold apN; split <;> omega
  refine Call.of [.ref m, .int (nI g), dum, dum] q2326 (by decide) pn_X5 (Nat.le_of_ble_eq_true rfl) rfl ?_
  refine z_iconst 0 (-1) dX5_nearest_0 kIm1 ?_
  refine z_istore2 1 dX5_nearest_1 rfl ?_
  refine z_iconst 2 (nI 0) dX5_nearest_2 kI0 ?_
  refine z_istore3 3 dX5_nearest_3 rfl ?_
  refine lpA 4 (8) (ngS (X 9) g) (none) ((itN 8 (ngS (X 9) g) none)) rfl (fun i a => [.ref m, .int (nI g), .int (oI a), .int (nI i)]) (fun i a => ∀ b, a = some b → b < i) (by intro b q; cases q) (fun _ _ _ => ngS_lt) (fun hJ => ?_) (fun i a hi_i hJ ih_i => ?_)
  · refine z_iload3 4 dX5_nearest_4 ?_
    refine z_bipush 5 (nI 8) dX5_nearest_5 kB8 ?_
    refine z_icgeN 7 49 dX5_nearest_7 (by decide) (by omega) (by omega) (fun c_7 => ?_) (fun c_7 => absurd c_7 (by omega))
    refine z_iload2 49 dX5_nearest_49 ?_
    refine z_ireturn 50 rfl dX5_nearest_50 ?_
    exact rP_of rfl
  · have hd1 := hD i hi_i
    have q1 := apl i g hi_i hg
    refine z_iload3 4 dX5_nearest_4 ?_
    refine z_bipush 5 (nI 8) dX5_nearest_5 kB8 ?_
    refine z_icgeN 7 49 dX5_nearest_7 (by decide) (by omega) (by omega) (fun c_7 => absurd c_7 (by omega)) (fun c_7 => ?_)
    refine z_aload0 10 dX5_nearest_10 ?_
    refine z_get 11 gX5_29 dX5_nearest_11 T.kd (T.rf 9 rfl) ?_
    refine z_iload3 14 dX5_nearest_14 ?_
    refine z_zald (n := 8) 15 (i) dX5_nearest_15 (T.ak 9 rfl rfl) (T.al 9 rfl rfl) (rfl) ((by omega)) (by decide) (T.at 9 rfl (by decide) (c := 8) rfl (by omega)) ?_
    refine z_ifneN 16 41 dX5_nearest_16 (by decide) (by omega) (fun c_16 => ?_) (fun c_16 => ?_)
    · refine z_iload2 41 dX5_nearest_41 ?_
      refine z_istore2 42 dX5_nearest_42 rfl ?_
      refine z_iinc3 43 ((nI (i + 1))) dX5_nearest_43 (nI_add _ _) rfl ?_
      refine z_goto 46 4 dX5_nearest_46 (by decide) ?_
      exact ih_i (a) (by first | rfl | (simp [ngS, *]; done) | (cases a <;> simp [ngS, *]; done) | grind [ngS])
    · refine z_iload2 19 dX5_nearest_19 ?_
      refine z_iconst 20 (-1) dX5_nearest_20 kIm1 ?_
      rcases a with _ | b21
      · refine z_iceq 21 37 dX5_nearest_21 (by decide) (fun _ => ?_) (fun q => absurd rfl q)
        refine z_iload3 37 dX5_nearest_37 ?_
        refine z_goto 38 42 dX5_nearest_38 (by decide) ?_
        refine z_istore2 42 dX5_nearest_42 rfl ?_
        refine z_iinc3 43 ((nI (i + 1))) dX5_nearest_43 (nI_add _ _) rfl ?_
        refine z_goto 46 4 dX5_nearest_46 (by decide) ?_
        exact ih_i (some i) (by first | rfl | (simp [ngS, *]; done) | (cases a <;> simp [ngS, *]; done) | grind [ngS])
      · have hb := hJ _ rfl
        have q2 := apl _ g (Nat.lt_trans hb hi_i) hg
        refine z_iceq 21 37 dX5_nearest_21 (by decide) (fun q => absurd q (nI_nm1 (by omega))) (fun _ => ?_)
        refine z_iload3 24 dX5_nearest_24 ?_
        refine z_iload1 25 dX5_nearest_25 ?_
        refine z_S2 (k' := k) 26 sX5_89 dX5_nearest_26 (m_apart (by omega) (by omega) (d - 1) 0) (by omega) (by omega) (Nat.le_of_ble_eq_true rfl) (aft_P (x := (nI (apN i g))) ?_)
        refine z_iload2 29 dX5_nearest_29 ?_
        refine z_iload1 30 dX5_nearest_30 ?_
        refine z_S2 (k' := k) 31 sX5_89 dX5_nearest_31 (m_apart (by omega) (by omega) (d - 1) 0) (by omega) (by omega) (Nat.le_of_ble_eq_true rfl) (aft_P (x := (nI (apN b21 g))) ?_)
        refine z_icgeN 34 41 dX5_nearest_34 (by decide) (by omega) (by omega) (fun c_34 => ?_) (fun c_34 => ?_)
        · refine z_iload2 41 dX5_nearest_41 ?_
          refine z_istore2 42 dX5_nearest_42 rfl ?_
          refine z_iinc3 43 ((nI (i + 1))) dX5_nearest_43 (nI_add _ _) rfl ?_
          refine z_goto 46 4 dX5_nearest_46 (by decide) ?_
          exact ih_i (some b21) (by first | rfl | (simp [ngS, *]; done) | (cases a <;> simp [ngS, *]; done) | grind [ngS])
        · refine z_iload3 37 dX5_nearest_37 ?_
          refine z_goto 38 42 dX5_nearest_38 (by decide) ?_
          refine z_istore2 42 dX5_nearest_42 rfl ?_
          refine z_iinc3 43 ((nI (i + 1))) dX5_nearest_43 (nI_add _ _) rfl ?_
          refine z_goto 46 4 dX5_nearest_46 (by decide) ?_
          exact ih_i (some i) (by first | rfl | (simp [ngS, *]; done) | (cases a <;> simp [ngS, *]; done) | grind [ngS])

set_option maxHeartbeats 4000000 in
theorem m_nextOuting {E : Ev} {h : HP} {m : Nat} {A P : Nat → Nat} {X : Nat → Nat → Nat} {hs : Int64} (T0 : MdAt h m A P X hs) {y : Nat} (hy : y < 4096) (h7 : P 7 ≤ 17) (B : Bd P) (hD : ∀ j, j < 17 → X 8 j ≤ 1) (d k : Nat) (hd : 1 ≤ d) : Call E yX5_nextOuting d k [.ref m, .int (nI y)] h (rP h (oI (noP P (X 8) y))) := by
  have T := T0.to
  refine Call.of [.ref m, .int (nI y), dum, dum, dum] q2318 (by decide) pn_X5 (Nat.le_of_ble_eq_true rfl) rfl ?_
  refine z_iconst 0 (-1) dX5_nextOuting_0 kIm1 ?_
  refine z_istore2 1 dX5_nextOuting_1 rfl ?_
  refine z_iconst 2 (nI 0) dX5_nextOuting_2 kI0 ?_
  refine z_istore3 3 dX5_nextOuting_3 rfl ?_
  refine lpA 4 (P 7) (noS P (X 8) y) (none) ((itN (P 7) (noS P (X 8) y) none)) rfl (fun i a => [.ref m, .int (nI y), .int (oI a), .int (nI i), dum]) (fun i a => ∀ b, a = some b → b < i) (by intro b q; cases q) (fun _ _ _ => noS_lt) (fun hJ => ?_) (fun i a hi_i hJ ih_i => ?_)
  · refine z_iload3 4 dX5_nextOuting_4 ?_
    refine z_aload0 5 dX5_nextOuting_5 ?_
    refine z_get 6 gX5_7 dX5_nextOuting_6 T.kd (T.rf 1 rfl) ?_
    refine z_bipush 9 (nI 7) dX5_nextOuting_9 kB7 ?_
    refine z_iald (n := 204) 11 (7) dX5_nextOuting_11 (T.ak 1 rfl rfl) (T.al 1 rfl rfl) (rfl) ((by omega)) (by decide) (T.at1 (by omega)) ?_
    refine z_icgeN 12 78 dX5_nextOuting_12 (by decide) (by omega) (by omega) (fun c_12 => ?_) (fun c_12 => absurd c_12 (by omega))
    refine z_iload2 78 dX5_nextOuting_78 ?_
    refine z_ireturn 79 rfl dX5_nextOuting_79 ?_
    exact rP_of rfl
  · have hd1 := hD i (by omega)
    have b0 := B.og (j := i) (w := 0) (by omega) (by omega)
    have b1 := B.og (j := i) (w := 1) (by omega) (by omega)
    refine z_iload3 4 dX5_nextOuting_4 ?_
    refine z_aload0 5 dX5_nextOuting_5 ?_
    refine z_get 6 gX5_7 dX5_nextOuting_6 T.kd (T.rf 1 rfl) ?_
    refine z_bipush 9 (nI 7) dX5_nextOuting_9 kB7 ?_
    refine z_iald (n := 204) 11 (7) dX5_nextOuting_11 (T.ak 1 rfl rfl) (T.al 1 rfl rfl) (rfl) ((by omega)) (by decide) (T.at1 (by omega)) ?_
    refine z_icgeN 12 78 dX5_nextOuting_12 (by decide) (by omega) (by omega) (fun c_12 => absurd c_12 (by omega)) (fun c_12 => ?_)
    refine z_aload0 15 dX5_nextOuting_15 ?_
    refine z_iload3 16 dX5_nextOuting_16 ?_
    refine z_iconst 17 (nI 0) dX5_nextOuting_17 kI0 ?_
    refine z_V2 (k' := k) 18 vX5_98 dX5_nextOuting_18 T.kd (m_outingOf T.1 (by omega) (by omega) (d - 1) 0) (by omega) (by omega) (Nat.le_of_ble_eq_true rfl) (aft_P (x := (nI (ogP P i 0))) ?_)
    refine z_iload1 21 dX5_nextOuting_21 ?_
    refine z_icneN 22 38 dX5_nextOuting_22 (by decide) (by omega) (by omega) (fun c_22 => ?_) (fun c_22 => ?_)
    · refine z_iconst 38 (nI 0) dX5_nextOuting_38 kI0 ?_
      refine z_istore4 39 dX5_nextOuting_39 rfl ?_
      refine z_iload4 41 dX5_nextOuting_41 ?_
      refine z_ifeqN 43 70 dX5_nextOuting_43 (by decide) (by omega) (fun c_43 => ?_) (fun c_43 => absurd c_43 (by decide))
      refine z_iload2 70 dX5_nextOuting_70 ?_
      refine z_istore2 71 dX5_nextOuting_71 rfl ?_
      refine z_iinc3 72 ((nI (i + 1))) dX5_nextOuting_72 (nI_add _ _) rfl ?_
      refine z_goto 75 4 dX5_nextOuting_75 (by decide) ?_
      refine z_fog 4 ?_
      exact ih_i (a) (by first | rfl | (simp [noS, *]; done) | (cases a <;> simp [noS, *]; done) | grind [noS])
    · refine z_aload0 25 dX5_nextOuting_25 ?_
      refine z_get 26 gX5_25 dX5_nextOuting_26 T.kd (T.rf 8 rfl) ?_
      refine z_iload3 29 dX5_nextOuting_29 ?_
      refine z_zald (n := 17) 30 (i) dX5_nextOuting_30 (T.ak 8 rfl rfl) (T.al 8 rfl rfl) (rfl) ((by omega)) (by decide) (T.at 8 rfl (by decide) (c := 17) rfl (by omega)) ?_
      refine z_ifneN 31 38 dX5_nextOuting_31 (by decide) (by omega) (fun c_31 => ?_) (fun c_31 => ?_)
      · refine z_iconst 38 (nI 0) dX5_nextOuting_38 kI0 ?_
        refine z_istore4 39 dX5_nextOuting_39 rfl ?_
        refine z_iload4 41 dX5_nextOuting_41 ?_
        refine z_ifeqN 43 70 dX5_nextOuting_43 (by decide) (by omega) (fun c_43 => ?_) (fun c_43 => absurd c_43 (by decide))
        refine z_iload2 70 dX5_nextOuting_70 ?_
        refine z_istore2 71 dX5_nextOuting_71 rfl ?_
        refine z_iinc3 72 ((nI (i + 1))) dX5_nextOuting_72 (nI_add _ _) rfl ?_
        refine z_goto 75 4 dX5_nextOuting_75 (by decide) ?_
        refine z_fog 4 ?_
        exact ih_i (a) (by first | rfl | (simp [noS, *]; done) | (cases a <;> simp [noS, *]; done) | grind [noS])
      · refine z_iconst 34 (nI 1) dX5_nextOuting_34 kI1 ?_
        refine z_goto 35 39 dX5_nextOuting_35 (by decide) ?_
        refine z_istore4 39 dX5_nextOuting_39 rfl ?_
        refine z_iload4 41 dX5_nextOuting_41 ?_
        refine z_ifeqN 43 70 dX5_nextOuting_43 (by decide) (by omega) (fun c_43 => absurd c_43 (by decide)) (fun c_43 => ?_)
        refine z_iload2 46 dX5_nextOuting_46 ?_
        refine z_iconst 47 (-1) dX5_nextOuting_47 kIm1 ?_
        rcases a with _ | b48
        · refine z_iceq 48 66 dX5_nextOuting_48 (by decide) (fun _ => ?_) (fun q => absurd rfl q)
          refine z_iload3 66 dX5_nextOuting_66 ?_
          refine z_goto 67 71 dX5_nextOuting_67 (by decide) ?_
          refine z_istore2 71 dX5_nextOuting_71 rfl ?_
          refine z_iinc3 72 ((nI (i + 1))) dX5_nextOuting_72 (nI_add _ _) rfl ?_
          refine z_goto 75 4 dX5_nextOuting_75 (by decide) ?_
          refine z_fog 4 ?_
          exact ih_i (some i) (by first | rfl | (simp [noS, *]; done) | (cases a <;> simp [noS, *]; done) | grind [noS])
        · have hb := hJ _ rfl
          have b2 := B.og (j := b48) (w := 1) (by omega) (by omega)
          refine z_iceq 48 66 dX5_nextOuting_48 (by decide) (fun q => absurd q (nI_nm1 (by have := hJ _ rfl; omega))) (fun _ => ?_)
          refine z_aload0 51 dX5_nextOuting_51 ?_
          refine z_iload3 52 dX5_nextOuting_52 ?_
          refine z_iconst 53 (nI 1) dX5_nextOuting_53 kI1 ?_
          refine z_V2 (k' := k) 54 vX5_98 dX5_nextOuting_54 T.kd (m_outingOf T.1 (by omega) (by omega) (d - 1) 0) (by omega) (by omega) (Nat.le_of_ble_eq_true rfl) (aft_P (x := (nI (ogP P i 1))) ?_)
          refine z_aload0 57 dX5_nextOuting_57 ?_
          refine z_iload2 58 dX5_nextOuting_58 ?_
          refine z_iconst 59 (nI 1) dX5_nextOuting_59 kI1 ?_
          refine z_V2 (k' := k) 60 vX5_98 dX5_nextOuting_60 T.kd (m_outingOf T.1 (by omega) (by omega) (d - 1) 0) (by omega) (by omega) (Nat.le_of_ble_eq_true rfl) (aft_P (x := (nI (ogP P b48 1))) ?_)
          refine z_icleN 63 70 dX5_nextOuting_63 (by decide) (by omega) (by omega) (fun c_63 => ?_) (fun c_63 => ?_)
          · refine z_iload2 70 dX5_nextOuting_70 ?_
            refine z_istore2 71 dX5_nextOuting_71 rfl ?_
            refine z_iinc3 72 ((nI (i + 1))) dX5_nextOuting_72 (nI_add _ _) rfl ?_
            refine z_goto 75 4 dX5_nextOuting_75 (by decide) ?_
            refine z_fog 4 ?_
            exact ih_i (some b48) (by first | rfl | (simp [noS, *]; done) | (cases a <;> simp [noS, *]; done) | grind [noS])
          · refine z_iload3 66 dX5_nextOuting_66 ?_
            refine z_goto 67 71 dX5_nextOuting_67 (by decide) ?_
            refine z_istore2 71 dX5_nextOuting_71 rfl ?_
            refine z_iinc3 72 ((nI (i + 1))) dX5_nextOuting_72 (nI_add _ _) rfl ?_
            refine z_goto 75 4 dX5_nextOuting_75 (by decide) ?_
            refine z_fog 4 ?_
            exact ih_i (some i) (by first | rfl | (simp [noS, *]; done) | (cases a <;> simp [noS, *]; done) | grind [noS])

