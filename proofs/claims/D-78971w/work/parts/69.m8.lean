/-! THE REFERENCE: the public methods -/
set_option maxHeartbeats 4000000 in
theorem a_mbuild {E : Ev} {h : HP} {m : Nat} {A : Nat → Nat} {S : Sx} {hs : Int64} {c9 : Nat} (T0 : MdL h m A S hs c9) (WS : WFS S) {x xf xi : Int32} {he : Bool} (d k : Nat) (hd : 3 ≤ d) : Call E yX5_build d k [.ref m, .int x, .int xf, .int xi, .int (nI (bN he))] h (MdApi h m A hs (a_build S x xf xi he)) := by
  obtain ⟨P, SV, n, BF, L⟩ := S
  obtain ⟨X, M, e0, e3, e4, e5, e6⟩ := T0
  have e3 : X 3 = SV := e3
  have e4 : X 4 0 = n := e4
  have e5 : X 5 = BF := e5
  have e6 : X 6 0 = L := e6
  obtain ⟨⟨W, w5, w7⟩, hn6, hL, hB, hsv⟩ := id WS
  have W : WF P := W
  have w5 : P 5 ≤ 999 := w5
  have w7 : P 7 ≤ 16 := w7
  have hn6 : n ≤ 6 := hn6
  have hL : L ≤ 60 := hL
  have hB : ∀ j, j < L → 33 ≤ BF j ∧ BF j ≤ 126 := hB
  have T : MdTo h m A P X hs h := M.to
  refine Call.of [.ref m, .int x, .int xf, .int xi, .int (nI (bN he))] q2181 (by decide) pn_X5 (Nat.le_of_ble_eq_true rfl) rfl ?_
  refine z_aload0 0 dX5_build_0 ?_
  refine z_iconst 1 (nI 0) dX5_build_1 kI0 ?_
  refine z_put 2 pX5_35 (fun h => by cases h) dX5_build_2 T.kd (rfl) (rfl) ?_
  have T := T.putS 0 0 rfl
  refine z_iload1 5 dX5_build_5 ?_
  refine z_S1 (k' := k) 6 sX5_121 dX5_build_6 (m_isPlace (d - 1) 0 (by omega)) (by omega) (by omega) (Nat.le_of_ble_eq_true rfl) (aft_P ?_)
  refine z_ifneB 9 18 dX5_build_9 (by decide) (fun c_9 => ?_) (fun c_9 => ?_)
  · obtain ⟨pl, -, hp_pl, rfl⟩ := inI_nat (by decide) (by decide) c_9
    have t_pl : tn (nI pl) = pl := tn_nI (by omega)
    have b6 := W.B.of (w := 6) (by omega : pl < 8) (by omega)
    refine z_iload2 18 dX5_build_18 ?_
    refine z_iconst 19 (nI 1) dX5_build_19 kI1 ?_
    refine z_bipush 20 (nI 90) dX5_build_20 kB90 ?_
    refine z_S3 (k' := k) 22 sX5_39 dX5_build_22 (m_inI (d - 1) 0) (by omega) (by omega) (Nat.le_of_ble_eq_true rfl) (aft_P ?_)
    refine z_ifeqB 25 40 dX5_build_25 (by decide) (fun c_25 => ?_) (fun c_25 => ?_)
    · refine z_aload0 40 dX5_build_40 ?_
      refine z_iconst 41 (nI 2) dX5_build_41 kI2 ?_
      refine z_V1 (k' := k) 42 vX5_124 dX5_build_42 T.kd (m_fails T.1 (d - 1) 0) (by omega) (by omega) (Nat.le_of_ble_eq_true rfl) (aft_I fun x_1 h_1 hq => ?_)
      obtain ⟨hx, T1⟩ := hq
      have hx : x_1 = nI 0 := hx
      subst hx
      have T := T.trans T1
      refine z_ireturn 45 rfl dX5_build_45 ?_
      first | exact mdApi_of (c := 2) (v := nI 0) (by unfold a_build; rw [if_neg (by rw [c_9]; decide), if_pos (by rw [c_25]; rfl)]) (fun q => by cases q) T rfl e3 e4 e5 e6 | exact mdApi_of (c := 2) (v := nI 0) (by unfold a_build; rw [if_neg (by rw [c_9]; decide), if_pos (by rw [c_25, c_37]; rfl)]) (fun q => by cases q) T rfl e3 e4 e5 e6
    · obtain ⟨fl, lo_fl, hp_fl, rfl⟩ := inI_nat (by omega) (by omega) c_25
      have t_fl : tn (nI fl) = fl := tn_nI (by omega)
      refine z_iload3 28 dX5_build_28 ?_
      refine z_bipush 29 (nI 10) dX5_build_29 kB10 ?_
      refine z_sipush 31 (nI 900) dX5_build_31 kS900 ?_
      refine z_S3 (k' := k) 34 sX5_39 dX5_build_34 (m_inI (d - 1) 0) (by omega) (by omega) (Nat.le_of_ble_eq_true rfl) (aft_P ?_)
      refine z_ifneB 37 46 dX5_build_37 (by decide) (fun c_37 => ?_) (fun c_37 => ?_)
      · obtain ⟨fi, lo_fi, hp_fi, rfl⟩ := inI_nat (by omega) (by omega) c_37
        have t_fi : tn (nI fi) = fi := tn_nI (by omega)
        refine z_aload0 46 dX5_build_46 ?_
        refine z_iload1 47 dX5_build_47 ?_
        refine z_bipush 48 (nI 6) dX5_build_48 kB6 ?_
        refine z_V2 (k' := k) 50 vX5_46 dX5_build_50 T.kd (m_of T.1 (by omega) (by omega) (d - 1) 0) (by omega) (by omega) (Nat.le_of_ble_eq_true rfl) (aft_P (x := (nI (ofP P pl 6))) ?_)
        refine z_iconst 53 (nI 1) dX5_build_53 kI1 ?_
        refine z_icneN 54 63 dX5_build_54 (by decide) (by omega) (by omega) (fun c_54 => ?_) (fun c_54 => ?_)
        · refine z_aload0 63 dX5_build_63 ?_
          refine z_V0 (k' := k) 64 vX5_127 dX5_build_64 T.kd (m_saves T.1 (by show X 4 0 ≤ 6; rw [e4]; exact hn6) (d - 1) 0) (by omega) (by omega) (Nat.le_of_ble_eq_true rfl) (aft_V fun h_s hq => ?_)
          obtain ⟨X9, s3, s4, sF, T1⟩ := hq
          have T : MdTo h m A P X9 hs h_s := T.trans T1
          have f0 : X9 0 0 = 0 := by rw [sF 0 (by decide) (by decide)]; first | rfl | exact e0
          have f3 : X9 3 = svX SV n P := s3.trans (by show svX (X 3) (X 4 0) P = svX SV n P; rw [e3, e4])
          have f4 : X9 4 0 = svN n := s4.trans (by show svN (X 4 0) = svN n; rw [e4])
          have f5 : X9 5 = BF := (sF 5 (by decide) (by decide)).trans e5
          have f6 : X9 6 0 = L := by rw [sF 6 (by decide) (by decide)]; exact e6
          refine z_aload0 67 dX5_build_67 ?_
          refine z_iload1 68 dX5_build_68 ?_
          refine z_bipush 69 (nI 6) dX5_build_69 kB6 ?_
          refine z_iconst 71 (nI 1) dX5_build_71 kI1 ?_
          refine z_V3 (k' := k) 72 vX5_65 dX5_build_72 T.kd (m_lay T.1 (by omega) (by omega) (d - 1) 0) (by omega) (by omega) (Nat.le_of_ble_eq_true rfl) (aft_V fun h_2 hq => ?_)
          have T : MdTo h m A (lyP P pl 6 1) X9 hs h_2 := T.trans hq
          refine z_aload0 75 dX5_build_75 ?_
          refine z_iload1 76 dX5_build_76 ?_
          refine z_iconst 77 (nI 0) dX5_build_77 kI0 ?_
          refine z_iload2 78 dX5_build_78 ?_
          refine z_V3 (k' := k) 79 vX5_65 dX5_build_79 T.kd (m_lay T.1 (by omega) (by omega) (d - 1) 0) (by omega) (by omega) (Nat.le_of_ble_eq_true rfl) (aft_V fun h_3 hq => ?_)
          have T : MdTo h m A (lyP (lyP P pl 6 1) pl 0 fl) X9 hs h_3 := T.trans hq
          refine z_aload0 82 dX5_build_82 ?_
          refine z_iload1 83 dX5_build_83 ?_
          refine z_iconst 84 (nI 1) dX5_build_84 kI1 ?_
          refine z_iload3 85 dX5_build_85 ?_
          refine z_V3 (k' := k) 86 vX5_65 dX5_build_86 T.kd (m_lay T.1 (by omega) (by omega) (d - 1) 0) (by omega) (by omega) (Nat.le_of_ble_eq_true rfl) (aft_V fun h_4 hq => ?_)
          have T : MdTo h m A (lyP (lyP (lyP P pl 6 1) pl 0 fl) pl 1 fi) X9 hs h_4 := T.trans hq
          refine z_aload0 89 dX5_build_89 ?_
          refine z_iload1 90 dX5_build_90 ?_
          refine z_iconst 91 (nI 3) dX5_build_91 kI3 ?_
          refine z_iload4 92 dX5_build_92 ?_
          refine joinZ 102 (fun v9 => [.ref m, .int (nI pl), .int (nI fl), .int (nI fi), .int (nI (bN he))]) (fun v9 => [.int v9, .int (nI 3), .int (nI pl), .ref m]) ((nI (bN he))) ?_ (fun J => ?_)
          · refine z_V3 (k' := k) 102 vX5_65 dX5_build_102 T.kd (m_lay T.1 (by omega) (by omega) (d - 1) 0) (by omega) (by omega) (Nat.le_of_ble_eq_true rfl) (aft_V fun h_5 hq => ?_)
            have T : MdTo h m A (lyP (lyP (lyP (lyP P pl 6 1) pl 0 fl) pl 1 fi) pl 3 (bN he)) X9 hs h_5 := T.trans hq
            refine z_aload0 105 dX5_build_105 ?_
            refine z_V0 (k' := k) 106 vX5_130 dX5_build_106 T.kd (m_fountains T.1  (d - 1) 0 (by omega)) (by omega) (by omega) (Nat.le_of_ble_eq_true rfl) (aft_P (x := (nI (fnP (lyP (lyP (lyP (lyP P pl 6 1) pl 0 fl) pl 1 fi) pl 3 (bN he))))) ?_)
            refine z_ireturn 109 rfl dX5_build_109 ?_
            exact mdApi_of (c := 0) (by unfold a_build; rw [t_pl, t_fl, t_fi, if_neg (by rw [c_9]; decide), if_neg (by rw [c_25, c_37]; decide), if_neg c_54]; rfl) (fun _ => rfl) T f0 f3 f4 f5 f6
          · refine z_ifeqB 94 101 dX5_build_94 (by decide) (fun c_94 => ?_) (fun c_94 => ?_)
            · refine z_iconst 101 (nI 0) dX5_build_101 kI0 ?_
              exact J _ (by rw [c_94]; rfl)
            · refine z_iconst 97 (nI 1) dX5_build_97 kI1 ?_
              refine z_goto 98 102 dX5_build_98 (by decide) ?_
              exact J _ (by rw [c_94]; rfl)
        · refine z_aload0 57 dX5_build_57 ?_
          refine z_iconst 58 (nI 3) dX5_build_58 kI3 ?_
          refine z_V1 (k' := k) 59 vX5_124 dX5_build_59 T.kd (m_fails T.1 (d - 1) 0) (by omega) (by omega) (Nat.le_of_ble_eq_true rfl) (aft_I fun x_6 h_6 hq => ?_)
          obtain ⟨hx, T1⟩ := hq
          have hx : x_6 = nI 0 := hx
          subst hx
          have T := T.trans T1
          refine z_ireturn 62 rfl dX5_build_62 ?_
          exact mdApi_of (c := 3) (v := nI 0) (by unfold a_build; rw [t_pl, if_neg (by rw [c_9]; decide), if_neg (by rw [c_25, c_37]; decide), if_pos c_54]) (fun q => by cases q) T rfl e3 e4 e5 e6
      · refine z_aload0 40 dX5_build_40 ?_
        refine z_iconst 41 (nI 2) dX5_build_41 kI2 ?_
        refine z_V1 (k' := k) 42 vX5_124 dX5_build_42 T.kd (m_fails T.1 (d - 1) 0) (by omega) (by omega) (Nat.le_of_ble_eq_true rfl) (aft_I fun x_7 h_7 hq => ?_)
        obtain ⟨hx, T1⟩ := hq
        have hx : x_7 = nI 0 := hx
        subst hx
        have T := T.trans T1
        refine z_ireturn 45 rfl dX5_build_45 ?_
        first | exact mdApi_of (c := 2) (v := nI 0) (by unfold a_build; rw [if_neg (by rw [c_9]; decide), if_pos (by rw [c_25]; rfl)]) (fun q => by cases q) T rfl e3 e4 e5 e6 | exact mdApi_of (c := 2) (v := nI 0) (by unfold a_build; rw [if_neg (by rw [c_9]; decide), if_pos (by rw [c_25, c_37]; rfl)]) (fun q => by cases q) T rfl e3 e4 e5 e6
  · refine z_aload0 12 dX5_build_12 ?_
    refine z_iconst 13 (nI 1) dX5_build_13 kI1 ?_
    refine z_V1 (k' := k) 14 vX5_124 dX5_build_14 T.kd (m_fails T.1 (d - 1) 0) (by omega) (by omega) (Nat.le_of_ble_eq_true rfl) (aft_I fun x_8 h_8 hq => ?_)
    obtain ⟨hx, T1⟩ := hq
    have hx : x_8 = nI 0 := hx
    subst hx
    have T := T.trans T1
    refine z_ireturn 17 rfl dX5_build_17 ?_
    exact mdApi_of (c := 1) (v := nI 0) (by unfold a_build; rw [if_pos c_9]) (fun q => by cases q) T rfl e3 e4 e5 e6

set_option maxHeartbeats 4000000 in
theorem a_mremove {E : Ev} {h : HP} {m : Nat} {A : Nat → Nat} {S : Sx} {hs : Int64} {c9 : Nat} (T0 : MdL h m A S hs c9) (WS : WFS S) {x : Int32} (d k : Nat) (hd : 3 ≤ d) : Call E yX5_remove d k [.ref m, .int x] h (MdApi h m A hs (a_remove S x)) := by
  obtain ⟨P, SV, n, BF, L⟩ := S
  obtain ⟨X, M, e0, e3, e4, e5, e6⟩ := T0
  have e3 : X 3 = SV := e3
  have e4 : X 4 0 = n := e4
  have e5 : X 5 = BF := e5
  have e6 : X 6 0 = L := e6
  obtain ⟨⟨W, w5, w7⟩, hn6, hL, hB, hsv⟩ := id WS
  have W : WF P := W
  have w5 : P 5 ≤ 999 := w5
  have w7 : P 7 ≤ 16 := w7
  have hn6 : n ≤ 6 := hn6
  have hL : L ≤ 60 := hL
  have hB : ∀ j, j < L → 33 ≤ BF j ∧ BF j ≤ 126 := hB
  have T : MdTo h m A P X hs h := M.to
  refine Call.of [.ref m, .int x, dum, dum] q2211 (by decide) pn_X5 (Nat.le_of_ble_eq_true rfl) rfl ?_
  refine z_aload0 0 dX5_remove_0 ?_
  refine z_iconst 1 (nI 0) dX5_remove_1 kI0 ?_
  refine z_put 2 pX5_35 (fun h => by cases h) dX5_remove_2 T.kd (rfl) (rfl) ?_
  have T := T.putS 0 0 rfl
  refine z_iload1 5 dX5_remove_5 ?_
  refine z_S1 (k' := k) 6 sX5_121 dX5_remove_6 (m_isPlace (d - 1) 0 (by omega)) (by omega) (by omega) (Nat.le_of_ble_eq_true rfl) (aft_P ?_)
  refine z_ifneB 9 18 dX5_remove_9 (by decide) (fun c_9 => ?_) (fun c_9 => ?_)
  · obtain ⟨pl, -, hp_pl, rfl⟩ := inI_nat (by decide) (by decide) c_9
    have t_pl : tn (nI pl) = pl := tn_nI (by omega)
    have b6 := W.B.of (w := 6) (by omega : pl < 8) (by omega)
    refine z_aload0 18 dX5_remove_18 ?_
    refine z_iload1 19 dX5_remove_19 ?_
    refine z_bipush 20 (nI 6) dX5_remove_20 kB6 ?_
    refine z_V2 (k' := k) 22 vX5_46 dX5_remove_22 T.kd (m_of T.1 (by omega) (by omega) (d - 1) 0) (by omega) (by omega) (Nat.le_of_ble_eq_true rfl) (aft_P (x := (nI (ofP P pl 6))) ?_)
    refine z_ifneN 25 34 dX5_remove_25 (by decide) (by omega) (fun c_25 => ?_) (fun c_25 => ?_)
    · refine z_aload0 34 dX5_remove_34 ?_
      refine z_V0 (k' := k) 35 vX5_127 dX5_remove_35 T.kd (m_saves T.1 (by show X 4 0 ≤ 6; rw [e4]; exact hn6) (d - 1) 0) (by omega) (by omega) (Nat.le_of_ble_eq_true rfl) (aft_V fun h_s hq => ?_)
      obtain ⟨X9, s3, s4, sF, T1⟩ := hq
      have T : MdTo h m A P X9 hs h_s := T.trans T1
      have f0 : X9 0 0 = 0 := by rw [sF 0 (by decide) (by decide)]; first | rfl | exact e0
      have f3 : X9 3 = svX SV n P := s3.trans (by show svX (X 3) (X 4 0) P = svX SV n P; rw [e3, e4])
      have f4 : X9 4 0 = svN n := s4.trans (by show svN (X 4 0) = svN n; rw [e4])
      have f5 : X9 5 = BF := (sF 5 (by decide) (by decide)).trans e5
      have f6 : X9 6 0 = L := by rw [sF 6 (by decide) (by decide)]; exact e6
      refine z_aload0 38 dX5_remove_38 ?_
      refine z_iconst 39 (nI 2) dX5_remove_39 kI2 ?_
      refine z_iload1 40 dX5_remove_40 ?_
      refine z_imulN 41 dX5_remove_41 ?_
      refine z_iconst 42 (nI 0) dX5_remove_42 kI0 ?_
      refine z_V2 (k' := k) 43 vX5_58 dX5_remove_43 T.kd (m_jobOf T.1 (by omega) (by omega) (d - 1) 0) (by omega) (by omega) (Nat.le_of_ble_eq_true rfl) (aft_P (x := (nI (jbP P (2 * pl) 0))) ?_)
      refine z_aload0 46 dX5_remove_46 ?_
      refine z_iconst 47 (nI 2) dX5_remove_47 kI2 ?_
      refine z_iload1 48 dX5_remove_48 ?_
      refine z_imulN 49 dX5_remove_49 ?_
      refine z_iconst 50 (nI 1) dX5_remove_50 kI1 ?_
      refine z_iaddN 51 dX5_remove_51 ?_
      refine z_iconst 52 (nI 0) dX5_remove_52 kI0 ?_
      refine z_V2 (k' := k) 53 vX5_58 dX5_remove_53 T.kd (m_jobOf T.1 (by omega) (by omega) (d - 1) 0) (by omega) (by omega) (Nat.le_of_ble_eq_true rfl) (aft_P (x := (nI (jbP P (2 * pl + 1) 0))) ?_)
      refine z_iaddN 56 dX5_remove_56 ?_
      refine z_istore2 57 dX5_remove_57 rfl ?_
      refine z_iconst 58 (nI 0) dX5_remove_58 kI0 ?_
      refine z_istore3 59 dX5_remove_59 rfl ?_
      refine lpB 60 (10) (fun k Q => lyP Q pl k 0) (P) ((itN 10 (fun k Q => lyP Q pl k 0) P)) (rfl) (fun i Q => [.ref m, .int (nI pl), .int (nI (jbP P (2 * pl) 0 + (jbP P (2 * pl + 1) 0))), .int (nI i)]) (fun i Q h9 => MdTo h m A Q X9 hs h9) (fun _ _ => True) (fun _ => k) (T) (trivial) (fun _ _ _ _ => trivial) (fun h_1 T hJ => ?_) (fun i Q h_1 hi_i hJ T ih_i => ?_)
      · have T : MdTo h m A (itN 10 (fun k Q => lyP Q pl k 0) P) X9 hs h_1 := T
        refine z_iload3 60 dX5_remove_60 ?_
        refine z_bipush 61 (nI 10) dX5_remove_61 kB10 ?_
        refine z_icgeN 63 79 dX5_remove_63 (by decide) (by omega) (by omega) (fun c_63 => ?_) (fun c_63 => absurd c_63 (by omega))
        refine z_aload0 79 dX5_remove_79 ?_
        refine z_iconst 80 (nI 2) dX5_remove_80 kI2 ?_
        refine z_iload1 81 dX5_remove_81 ?_
        refine z_imulN 82 dX5_remove_82 ?_
        refine z_V1 (k' := k) 83 vX5_73 dX5_remove_83 T.kd (m_ends T.1 (by omega) (d - 1) 0) (by omega) (by omega) (Nat.le_of_ble_eq_true rfl) (aft_V fun h_2 hq => ?_)
        have T : MdTo h m A (enP (itN 10 (fun k Q => lyP Q pl k 0) P) (2 * pl)) X9 hs h_2 := T.trans hq
        refine z_aload0 86 dX5_remove_86 ?_
        refine z_iconst 87 (nI 2) dX5_remove_87 kI2 ?_
        refine z_iload1 88 dX5_remove_88 ?_
        refine z_imulN 89 dX5_remove_89 ?_
        refine z_iconst 90 (nI 1) dX5_remove_90 kI1 ?_
        refine z_iaddN 91 dX5_remove_91 ?_
        refine z_V1 (k' := k) 92 vX5_73 dX5_remove_92 T.kd (m_ends T.1 (by omega) (d - 1) 0) (by omega) (by omega) (Nat.le_of_ble_eq_true rfl) (aft_V fun h_3 hq => ?_)
        have T : MdTo h m A (enP (enP (itN 10 (fun k Q => lyP Q pl k 0) P) (2 * pl)) (2 * pl + 1)) X9 hs h_3 := T.trans hq
        refine z_iload2 95 dX5_remove_95 ?_
        refine z_ireturn 96 rfl dX5_remove_96 ?_
        exact mdApi_of (c := 0) (by unfold a_remove; rw [t_pl, if_neg (by rw [c_9]; decide), if_neg c_25]; rfl) (fun _ => rfl) T f0 f3 f4 f5 f6
      · refine z_iload3 60 dX5_remove_60 ?_
        refine z_bipush 61 (nI 10) dX5_remove_61 kB10 ?_
        refine z_icgeN 63 79 dX5_remove_63 (by decide) (by omega) (by omega) (fun c_63 => absurd c_63 (by omega)) (fun c_63 => ?_)
        refine z_aload0 66 dX5_remove_66 ?_
        refine z_iload1 67 dX5_remove_67 ?_
        refine z_iload3 68 dX5_remove_68 ?_
        refine z_iconst 69 (nI 0) dX5_remove_69 kI0 ?_
        refine z_V3 (k' := k) 70 vX5_65 dX5_remove_70 T.kd (m_lay T.1 (by omega) (by omega) (d - 1) 0) (by omega) (by omega) (Nat.le_of_ble_eq_true rfl) (aft_V fun h_4 hq => ?_)
        have T : MdTo h m A (lyP Q pl i 0) X9 hs h_4 := T.trans hq
        refine z_iinc3 73 ((nI (i + 1))) dX5_remove_73 (nI_add _ _) rfl ?_
        refine z_goto 76 60 dX5_remove_76 (by decide) ?_
        exact ih_i (lyP Q pl i 0) _ (by rfl) T
    · refine z_aload0 28 dX5_remove_28 ?_
      refine z_iconst 29 (nI 2) dX5_remove_29 kI2 ?_
      refine z_V1 (k' := k) 30 vX5_124 dX5_remove_30 T.kd (m_fails T.1 (d - 1) 0) (by omega) (by omega) (Nat.le_of_ble_eq_true rfl) (aft_I fun x_5 h_5 hq => ?_)
      obtain ⟨hx, T1⟩ := hq
      have hx : x_5 = nI 0 := hx
      subst hx
      have T := T.trans T1
      refine z_ireturn 33 rfl dX5_remove_33 ?_
      exact mdApi_of (c := 2) (v := nI 0) (by unfold a_remove; rw [t_pl, if_neg (by rw [c_9]; decide), if_pos c_25]) (fun q => by cases q) T rfl e3 e4 e5 e6
  · refine z_aload0 12 dX5_remove_12 ?_
    refine z_iconst 13 (nI 1) dX5_remove_13 kI1 ?_
    refine z_V1 (k' := k) 14 vX5_124 dX5_remove_14 T.kd (m_fails T.1 (d - 1) 0) (by omega) (by omega) (Nat.le_of_ble_eq_true rfl) (aft_I fun x_6 h_6 hq => ?_)
    obtain ⟨hx, T1⟩ := hq
    have hx : x_6 = nI 0 := hx
    subst hx
    have T := T.trans T1
    refine z_ireturn 17 rfl dX5_remove_17 ?_
    exact mdApi_of (c := 1) (v := nI 0) (by unfold a_remove; rw [if_pos c_9]) (fun q => by cases q) T rfl e3 e4 e5 e6

set_option maxHeartbeats 4000000 in
theorem a_mturns {E : Ev} {h : HP} {m : Nat} {A : Nat → Nat} {S : Sx} {hs : Int64} (T0 : MdL h m A S hs 0) (WS : WFS S) {x : Int32} {u : Nat} {b : Bool} (hu : u < 10) (d k : Nat) (hd : 3 ≤ d) : Call E yX5_turns d k [.ref m, .int x, .int (nI u), .int (nI (bN b))] h (MdApi h m A hs (a_turn S x u b)) := by
  obtain ⟨P, SV, n, BF, L⟩ := S
  obtain ⟨X, M, e0, e3, e4, e5, e6⟩ := T0
  have e3 : X 3 = SV := e3
  have e4 : X 4 0 = n := e4
  have e5 : X 5 = BF := e5
  have e6 : X 6 0 = L := e6
  obtain ⟨⟨W, w5, w7⟩, hn6, hL, hB, hsv⟩ := id WS
  have W : WF P := W
  have w5 : P 5 ≤ 999 := w5
  have w7 : P 7 ≤ 16 := w7
  have hn6 : n ≤ 6 := hn6
  have hL : L ≤ 60 := hL
  have hB : ∀ j, j < L → 33 ≤ BF j ∧ BF j ≤ 126 := hB
  have T : MdTo h m A P X hs h := M.to
  refine Call.of [.ref m, .int x, .int (nI u), .int (nI (bN b)), dum] q2227 (by decide) pn_X5 (Nat.le_of_ble_eq_true rfl) rfl ?_
  refine z_iload1 0 dX5_turns_0 ?_
  refine z_S1 (k' := k) 1 sX5_121 dX5_turns_1 (m_isPlace (d - 1) 0 (by omega)) (by omega) (by omega) (Nat.le_of_ble_eq_true rfl) (aft_P ?_)
  refine z_ifneB 4 13 dX5_turns_4 (by decide) (fun c_4 => ?_) (fun c_4 => ?_)
  · obtain ⟨pl, -, hp_pl, rfl⟩ := inI_nat (by decide) (by decide) c_4
    have t_pl : tn (nI pl) = pl := tn_nI (by omega)
    have b6 := W.B.of (w := 6) (by omega : pl < 8) (by omega)
    refine z_aload0 13 dX5_turns_13 ?_
    refine z_iload1 14 dX5_turns_14 ?_
    refine z_bipush 15 (nI 6) dX5_turns_15 kB6 ?_
    refine z_V2 (k' := k) 17 vX5_46 dX5_turns_17 T.kd (m_of T.1 (by omega) (by omega) (d - 1) 0) (by omega) (by omega) (Nat.le_of_ble_eq_true rfl) (aft_P (x := (nI (ofP P pl 6))) ?_)
    refine z_ifneN 20 29 dX5_turns_20 (by decide) (by omega) (fun c_20 => ?_) (fun c_20 => ?_)
    · refine z_aload0 29 dX5_turns_29 ?_
      refine z_V0 (k' := k) 30 vX5_127 dX5_turns_30 T.kd (m_saves T.1 (by show X 4 0 ≤ 6; rw [e4]; exact hn6) (d - 1) 0) (by omega) (by omega) (Nat.le_of_ble_eq_true rfl) (aft_V fun h_s hq => ?_)
      obtain ⟨X9, s3, s4, sF, T1⟩ := hq
      have T : MdTo h m A P X9 hs h_s := T.trans T1
      have f0 : X9 0 0 = 0 := by rw [sF 0 (by decide) (by decide)]; first | rfl | exact e0
      have f3 : X9 3 = svX SV n P := s3.trans (by show svX (X 3) (X 4 0) P = svX SV n P; rw [e3, e4])
      have f4 : X9 4 0 = svN n := s4.trans (by show svN (X 4 0) = svN n; rw [e4])
      have f5 : X9 5 = BF := (sF 5 (by decide) (by decide)).trans e5
      have f6 : X9 6 0 = L := by rw [sF 6 (by decide) (by decide)]; exact e6
      refine z_aload0 33 dX5_turns_33 ?_
      refine z_iload1 34 dX5_turns_34 ?_
      refine z_iload2 35 dX5_turns_35 ?_
      refine z_V2 (k' := k) 36 vX5_46 dX5_turns_36 T.kd (m_of T.1 (by omega) (by omega) (d - 1) 0) (by omega) (by omega) (Nat.le_of_ble_eq_true rfl) (aft_P (x := (nI (ofP P pl u))) ?_)
      refine z_istore4 39 dX5_turns_39 rfl ?_
      refine z_aload0 41 dX5_turns_41 ?_
      refine z_iload1 42 dX5_turns_42 ?_
      refine z_iload2 43 dX5_turns_43 ?_
      refine z_iload3 44 dX5_turns_44 ?_
      refine joinZ 53 (fun v9 => [.ref m, .int (nI pl), .int (nI u), .int (nI (bN b)), .int (nI (ofP P pl u))]) (fun v9 => [.int v9, .int (nI u), .int (nI pl), .ref m]) ((nI (bN b))) ?_ (fun J => ?_)
      · refine z_V3 (k' := k) 53 vX5_65 dX5_turns_53 T.kd (m_lay T.1 (by omega) (by omega) (d - 1) 0) (by omega) (by omega) (Nat.le_of_ble_eq_true rfl) (aft_V fun h_1 hq => ?_)
        have T : MdTo h m A (lyP P pl u (bN b)) X9 hs h_1 := T.trans hq
        refine z_iload4 56 dX5_turns_56 ?_
        refine z_ireturn 58 rfl dX5_turns_58 ?_
        exact mdApi_of (c := 0) (by unfold a_turn; rw [t_pl, if_neg (by rw [c_4]; decide), if_neg c_20]; rfl) (fun _ => rfl) T f0 f3 f4 f5 f6
      · refine z_ifeqB 45 52 dX5_turns_45 (by decide) (fun c_45 => ?_) (fun c_45 => ?_)
        · refine z_iconst 52 (nI 0) dX5_turns_52 kI0 ?_
          exact J _ (by rw [c_45]; rfl)
        · refine z_iconst 48 (nI 1) dX5_turns_48 kI1 ?_
          refine z_goto 49 53 dX5_turns_49 (by decide) ?_
          exact J _ (by rw [c_45]; rfl)
    · refine z_aload0 23 dX5_turns_23 ?_
      refine z_iconst 24 (nI 2) dX5_turns_24 kI2 ?_
      refine z_V1 (k' := k) 25 vX5_124 dX5_turns_25 T.kd (m_fails T.1 (d - 1) 0) (by omega) (by omega) (Nat.le_of_ble_eq_true rfl) (aft_I fun x_2 h_2 hq => ?_)
      obtain ⟨hx, T1⟩ := hq
      have hx : x_2 = nI 0 := hx
      subst hx
      have T := T.trans T1
      refine z_ireturn 28 rfl dX5_turns_28 ?_
      exact mdApi_of (c := 2) (v := nI 0) (by unfold a_turn; rw [t_pl, if_neg (by rw [c_4]; decide), if_pos c_20]) (fun q => by cases q) T rfl e3 e4 e5 e6
  · refine z_aload0 7 dX5_turns_7 ?_
    refine z_iconst 8 (nI 1) dX5_turns_8 kI1 ?_
    refine z_V1 (k' := k) 9 vX5_124 dX5_turns_9 T.kd (m_fails T.1 (d - 1) 0) (by omega) (by omega) (Nat.le_of_ble_eq_true rfl) (aft_I fun x_3 h_3 hq => ?_)
    obtain ⟨hx, T1⟩ := hq
    have hx : x_3 = nI 0 := hx
    subst hx
    have T := T.trans T1
    refine z_ireturn 12 rfl dX5_turns_12 ?_
    exact mdApi_of (c := 1) (v := nI 0) (by unfold a_turn; rw [if_pos c_4]) (fun q => by cases q) T rfl e3 e4 e5 e6

set_option maxHeartbeats 4000000 in
theorem a_mdrain {E : Ev} {h : HP} {m : Nat} {A : Nat → Nat} {S : Sx} {hs : Int64} {c9 : Nat} (T0 : MdL h m A S hs c9) (WS : WFS S) {x : Int32} {b : Bool} (d k : Nat) (hd : 4 ≤ d) : Call E yX5_drain d k [.ref m, .int x, .int (nI (bN b))] h (MdApi h m A hs (a_turn S x 4 b)) := by
  obtain ⟨P, SV, n, BF, L⟩ := S
  obtain ⟨X, M, e0, e3, e4, e5, e6⟩ := T0
  have e3 : X 3 = SV := e3
  have e4 : X 4 0 = n := e4
  have e5 : X 5 = BF := e5
  have e6 : X 6 0 = L := e6
  obtain ⟨⟨W, w5, w7⟩, hn6, hL, hB, hsv⟩ := id WS
  have W : WF P := W
  have w5 : P 5 ≤ 999 := w5
  have w7 : P 7 ≤ 16 := w7
  have hn6 : n ≤ 6 := hn6
  have hL : L ≤ 60 := hL
  have hB : ∀ j, j < L → 33 ≤ BF j ∧ BF j ≤ 126 := hB
  have T : MdTo h m A P X hs h := M.to
  refine Call.of [.ref m, .int x, .int (nI (bN b))] q2223 (by decide) pn_X5 (Nat.le_of_ble_eq_true rfl) rfl ?_
  refine z_aload0 0 dX5_drain_0 ?_
  refine z_iconst 1 (nI 0) dX5_drain_1 kI0 ?_
  refine z_put 2 pX5_35 (fun h => by cases h) dX5_drain_2 T.kd (rfl) (rfl) ?_
  have T := T.putS 0 0 rfl
  refine z_aload0 5 dX5_drain_5 ?_
  refine z_iload1 6 dX5_drain_6 ?_
  refine z_iconst 7 (nI 4) dX5_drain_7 kI4 ?_
  refine z_iload2 8 dX5_drain_8 ?_
  refine z_V3 (k' := k) 9 vX5_133 dX5_drain_9 T.kd (a_mturns (S := (P, SV, n, BF, L)) ⟨_, T.1, rfl, e3, e4, e5, e6⟩ WS (by decide) (d - 1) 0 (by omega)) (by omega) (by omega) (Nat.le_of_ble_eq_true rfl) (aft_I fun x_1 h_1 hq => ?_)
  refine z_ireturn 12 rfl dX5_drain_12 ?_
  exact mdApi_tr T hq

set_option maxHeartbeats 4000000 in
theorem a_mheat {E : Ev} {h : HP} {m : Nat} {A : Nat → Nat} {S : Sx} {hs : Int64} {c9 : Nat} (T0 : MdL h m A S hs c9) (WS : WFS S) {x : Int32} {b : Bool} (d k : Nat) (hd : 4 ≤ d) : Call E yX5_heat d k [.ref m, .int x, .int (nI (bN b))] h (MdApi h m A hs (a_turn S x 3 b)) := by
  obtain ⟨P, SV, n, BF, L⟩ := S
  obtain ⟨X, M, e0, e3, e4, e5, e6⟩ := T0
  have e3 : X 3 = SV := e3
  have e4 : X 4 0 = n := e4
  have e5 : X 5 = BF := e5
  have e6 : X 6 0 = L := e6
  obtain ⟨⟨W, w5, w7⟩, hn6, hL, hB, hsv⟩ := id WS
  have W : WF P := W
  have w5 : P 5 ≤ 999 := w5
  have w7 : P 7 ≤ 16 := w7
  have hn6 : n ≤ 6 := hn6
  have hL : L ≤ 60 := hL
  have hB : ∀ j, j < L → 33 ≤ BF j ∧ BF j ≤ 126 := hB
  have T : MdTo h m A P X hs h := M.to
  refine Call.of [.ref m, .int x, .int (nI (bN b))] q2231 (by decide) pn_X5 (Nat.le_of_ble_eq_true rfl) rfl ?_
  refine z_aload0 0 dX5_heat_0 ?_
  refine z_iconst 1 (nI 0) dX5_heat_1 kI0 ?_
  refine z_put 2 pX5_35 (fun h => by cases h) dX5_heat_2 T.kd (rfl) (rfl) ?_
  have T := T.putS 0 0 rfl
  refine z_aload0 5 dX5_heat_5 ?_
  refine z_iload1 6 dX5_heat_6 ?_
  refine z_iconst 7 (nI 3) dX5_heat_7 kI3 ?_
  refine z_iload2 8 dX5_heat_8 ?_
  refine z_V3 (k' := k) 9 vX5_133 dX5_heat_9 T.kd (a_mturns (S := (P, SV, n, BF, L)) ⟨_, T.1, rfl, e3, e4, e5, e6⟩ WS (by decide) (d - 1) 0 (by omega)) (by omega) (by omega) (Nat.le_of_ble_eq_true rfl) (aft_I fun x_1 h_1 hq => ?_)
  refine z_ireturn 12 rfl dX5_heat_12 ?_
  exact mdApi_tr T hq

