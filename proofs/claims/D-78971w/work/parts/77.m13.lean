/-! THE REFERENCE: texts, the groups -/
set_option maxHeartbeats 4000000 in
theorem m_readsGroup {E : Ev} {h : HP} {m : Nat} {A P : Nat → Nat} {X : Nat → Nat → Nat} {hs : Int64} (T0 : MdAt h m A P X hs) {BF : Nat → Nat} {L : Nat} (eB : X 5 = BF) (eL : X 6 0 = L) (hL : L ≤ 60) (hB : ∀ j, j < L → BF j ≤ 126) {w : Bool} {a tm dy : Nat} {td : Nat → Nat} {x : Int32} (PX : PsX X (w, a, td, tm)) (hdy : w = true → x = nI dy ∧ dy ≤ 999) (hI : PsI L (w, a, td, tm)) (h4 : w = true → 4 * tm + 1 ≤ a) (d k : Nat) (hd : 3 ≤ d) : Call E yX5_readsGroup d k [.ref m, .int x] h (rV (fun h' => ∃ X', Scr [10, 11, 12, 13] X X' ∧ PsX X' (gsP BF L dy (w, a, td, tm)) ∧ MdTo h m A P X' hs h')) := by
  have T := T0.to
  have ha9 : a ≤ 60 := Nat.le_trans hI.2.1 hL
  refine Call.of [.ref m, .int x, dum, dum] q2377 (by decide) pn_X5 (Nat.le_of_ble_eq_true rfl) rfl ?_
  refine z_aload0 0 dX5_readsGroup_0 ?_
  refine z_iconst 1 (nI 1) dX5_readsGroup_1 kI1 ?_
  refine z_bipush 2 (nI 99) dX5_readsGroup_2 kB99 ?_
  refine z_V2 (k' := k) 4 vX5_162 dX5_readsGroup_4 T.kd (m_number (BF := BF) (L := L) (a := a) (w := w) (least := 1) (most := 99) T.1 eB eL PX.1 hL (by omega) hB PX.2.1 (by decide) (by decide) (d - 1) 0 (by omega)) (by omega) (by omega) (Nat.le_of_ble_eq_true rfl) (aft_I fun x_1 h_1 hq => ?_)
  obtain ⟨X1, S1, T1, hq⟩ := hq
  have T := T.trans T1
  have eB1 : X1 5 = BF := (S1 5 (by decide)).trans eB
  have eL1 : X1 6 0 = L := (congrFun (S1 6 (by decide)) 0).trans eL
  rcases hq with ⟨a1, v1, hw1, hn1, hx1, xa1, xw1⟩ | ⟨hf1, xa1, xw1⟩
  · subst hx1
    obtain ⟨k1, k2, k3, k4, k5⟩ := numP_in hn1 (by omega) (by omega)
    have t9 : ∀ j, X1 12 j = X 12 j := fun j => congrFun (S1 12 (by decide)) j
    have t8 : X1 13 0 = tm := (congrFun (S1 13 (by decide)) 0).trans PX.2.2.2
    refine z_istore2 7 dX5_readsGroup_7 rfl ?_
    refine z_aload0 8 dX5_readsGroup_8 ?_
    refine z_bipush 9 (nI 64) dX5_readsGroup_9 kB64 ?_
    refine z_V1 (k' := k) 11 vX5_165 dX5_readsGroup_11 T.kd (m_wants (BF := BF) (L := L) (a := a1) (w := true) T.1 eB1 eL1 xa1 hL (by omega) hB xw1 (by decide) (d - 1) 0 (by omega)) (by omega) (by omega) (Nat.le_of_ble_eq_true rfl) (aft_V fun h_2 hq => ?_)
    have T := T.trans hq
    cases hc2 : (true && decide (sgF BF L a1 = 64))
    · rw [hc2] at T
      have cs2 : ¬ sgF BF L a1 = 64 := by
        intro q; rw [q] at hc2; exact absurd hc2 (by decide)
      have T : MdTo h m A P (upx (upx X1 10 0 (a1 + bN false)) 11 0 (bN false)) hs h_2 := T
      subst hw1
      have eG : gsP BF L dy (true, a, td, tm) = (false, a1, td, tm) := gsP_at hn1 cs2
      refine z_aload0 14 dX5_readsGroup_14 ?_
      refine z_iconst 15 (nI 0) dX5_readsGroup_15 kI0 ?_
      refine z_bipush 16 (nI 7) dX5_readsGroup_16 kB7 ?_
      refine z_V2 (k' := k) 18 vX5_162 dX5_readsGroup_18 T.kd (m_number (BF := BF) (L := L) (a := a1) (w := false) (least := 0) (most := 7) T.1 eB1 eL1 rfl hL (by omega) hB rfl (by decide) (by decide) (d - 1) 0 (by omega)) (by omega) (by omega) (Nat.le_of_ble_eq_true rfl) (aft_I fun x_3 h_3 hq => ?_)
      obtain ⟨X3, S3, T1, hq⟩ := hq
      have T := T.trans T1
      have eB3 : X3 5 = BF := (S3 5 (by decide)).trans eB1
      have eL3 : X3 6 0 = L := (congrFun (S3 6 (by decide)) 0).trans eL1
      rcases hq with ⟨a3, v3, hw3, hn3, hx3, xa3, xw3⟩ | ⟨hf3, xa3, xw3⟩
      · subst hx3
        exact absurd hw3 (by decide)
      · refine z_istore3 21 dX5_readsGroup_21 rfl ?_
        refine z_aload0 22 dX5_readsGroup_22 ?_
        refine z_get 23 gX5_152 dX5_readsGroup_23 T.kd (show HP.mm _ _ _ = .int (nI (X3 11 0)) from T.sc 11 rfl) ?_
        rw [xw3]
        refine z_ifeqN 26 79 dX5_readsGroup_26 (by decide) (by omega) (fun c_26 => ?_) (fun c_26 => absurd c_26 (by decide))
        refine z_return 79 rfl dX5_readsGroup_79 ?_
        rw [eG]
        exact ⟨rfl, _, ((((S1.mono (by decide)).upx 0 _ (by decide)).upx 0 _ (by decide)).trans (S3.mono (by decide))), ⟨xa3, xw3, fun j hj => ((congrFun (S3 12 (by decide)) j).trans (t9 j)).trans (PX.2.2.1 j hj), (congrFun (S3 13 (by decide)) 0).trans t8⟩, T⟩
    · rw [hc2] at T
      have cs2 : sgF BF L a1 = 64 := by
        rw [Bool.and_eq_true, decide_eq_true_eq] at hc2; exact hc2.2
      have T : MdTo h m A P (upx (upx X1 10 0 (a1 + bN true)) 11 0 (bN true)) hs h_2 := T
      have l7 : a1 < L := sgF_lt (BF := BF) (by omega)
      refine z_aload0 14 dX5_readsGroup_14 ?_
      refine z_iconst 15 (nI 0) dX5_readsGroup_15 kI0 ?_
      refine z_bipush 16 (nI 7) dX5_readsGroup_16 kB7 ?_
      refine z_V2 (k' := k) 18 vX5_162 dX5_readsGroup_18 T.kd (m_number (BF := BF) (L := L) (a := (a1 + 1)) (w := true) (least := 0) (most := 7) T.1 eB1 eL1 rfl hL (by omega) hB rfl (by decide) (by decide) (d - 1) 0 (by omega)) (by omega) (by omega) (Nat.le_of_ble_eq_true rfl) (aft_I fun x_4 h_4 hq => ?_)
      obtain ⟨X4, S4, T1, hq⟩ := hq
      have T := T.trans T1
      have eB4 : X4 5 = BF := (S4 5 (by decide)).trans eB1
      have eL4 : X4 6 0 = L := (congrFun (S4 6 (by decide)) 0).trans eL1
      rcases hq with ⟨a4, v4, hw4, hn4, hx4, xa4, xw4⟩ | ⟨hf4, xa4, xw4⟩
      · subst hx4
        subst hw1
        rw [numP_7] at hn4
        have c9 : inN (sgF BF L (a1 + 1)) 48 55 = true := by
          cases q : inN (sgF BF L (a1 + 1)) 48 55
          · rw [if_neg (by rw [q]; decide)] at hn4; cases hn4
          · rfl
        rw [if_pos c9] at hn4
        have e9 := Option.some.inj hn4
        have ea9 : a1 + 1 + 1 = a4 := congrArg Prod.fst e9
        have ev9 : sgF BF L (a1 + 1) - 48 = v4 := congrArg Prod.snd e9
        subst ea9
        subst ev9
        have eG : gsP BF L dy (true, a, td, tm) = (true, a1 + 2, upn (upn (upn td (3 * tm) dy) (3 * tm + 1) v1) (3 * tm + 2) (sgF BF L (a1 + 1) - 48), tm + 1) := gsP_ok hn1 cs2 c9
        obtain ⟨hd1, hd2⟩ := hdy rfl
        subst hd1
        have h41 : 4 * tm + 1 ≤ a := h4 rfl
        have t7 : X4 13 0 = tm := (congrFun (S4 13 (by decide)) 0).trans t8
        refine z_istore3 21 dX5_readsGroup_21 rfl ?_
        refine z_aload0 22 dX5_readsGroup_22 ?_
        refine z_get 23 gX5_152 dX5_readsGroup_23 T.kd (show HP.mm _ _ _ = .int (nI (X4 11 0)) from T.sc 11 rfl) ?_
        rw [xw4]
        refine z_ifeqN 26 79 dX5_readsGroup_26 (by decide) (by omega) (fun c_26 => absurd c_26 (by decide)) (fun c_26 => ?_)
        refine z_aload0 29 dX5_readsGroup_29 ?_
        refine z_get 30 gX5_32 dX5_readsGroup_30 T.kd (T.rf 12 rfl) ?_
        refine z_iconst 33 (nI 3) dX5_readsGroup_33 kI3 ?_
        refine z_aload0 34 dX5_readsGroup_34 ?_
        refine z_get 35 gX5_168 dX5_readsGroup_35 T.kd (show HP.mm _ _ _ = .int (nI (X4 13 0)) from T.sc 13 rfl) ?_
        rw [t7]
        refine z_imulN 38 dX5_readsGroup_38 ?_
        refine z_iload1 39 dX5_readsGroup_39 ?_
        refine z_iast (n := 96) 40 (3 * tm) dX5_readsGroup_40 (T.ak 12 rfl rfl) (T.al 12 rfl rfl) (rfl) ((by omega)) (by decide) ?_
        have T := T.putX 12 (3 * tm) dy rfl (by decide)
        refine z_aload0 41 dX5_readsGroup_41 ?_
        refine z_get 42 gX5_32 dX5_readsGroup_42 T.kd (T.rf 12 rfl) ?_
        refine z_iconst 45 (nI 3) dX5_readsGroup_45 kI3 ?_
        refine z_aload0 46 dX5_readsGroup_46 ?_
        refine z_get 47 gX5_168 dX5_readsGroup_47 T.kd (show HP.mm _ _ _ = .int (nI ((X4 13) 0)) from T.sc 13 rfl) ?_
        rw [t7]
        refine z_imulN 50 dX5_readsGroup_50 ?_
        refine z_iconst 51 (nI 1) dX5_readsGroup_51 kI1 ?_
        refine z_iaddN 52 dX5_readsGroup_52 ?_
        refine z_iload2 53 dX5_readsGroup_53 ?_
        refine z_iast (n := 96) 54 (3 * tm + 1) dX5_readsGroup_54 (T.ak 12 rfl rfl) (T.al 12 rfl rfl) (rfl) ((by omega)) (by decide) ?_
        have T := T.putX 12 (3 * tm + 1) v1 rfl (by decide)
        refine z_aload0 55 dX5_readsGroup_55 ?_
        refine z_get 56 gX5_32 dX5_readsGroup_56 T.kd (T.rf 12 rfl) ?_
        refine z_iconst 59 (nI 3) dX5_readsGroup_59 kI3 ?_
        refine z_aload0 60 dX5_readsGroup_60 ?_
        refine z_get 61 gX5_168 dX5_readsGroup_61 T.kd (show HP.mm _ _ _ = .int (nI ((X4 13) 0)) from T.sc 13 rfl) ?_
        rw [t7]
        refine z_imulN 64 dX5_readsGroup_64 ?_
        refine z_iconst 65 (nI 2) dX5_readsGroup_65 kI2 ?_
        refine z_iaddN 66 dX5_readsGroup_66 ?_
        refine z_iload3 67 dX5_readsGroup_67 ?_
        refine z_iast (n := 96) 68 (3 * tm + 2) dX5_readsGroup_68 (T.ak 12 rfl rfl) (T.al 12 rfl rfl) (rfl) ((by omega)) (by decide) ?_
        have T := T.putX 12 (3 * tm + 2) (sgF BF L (a1 + 1) - 48) rfl (by decide)
        refine z_aload0 69 dX5_readsGroup_69 ?_
        refine z_dup 70 dX5_readsGroup_70 (rfl) ?_
        refine z_get 71 gX5_168 dX5_readsGroup_71 T.kd (show HP.mm _ _ _ = .int (nI ((X4 13) 0)) from T.sc 13 rfl) ?_
        rw [t7]
        refine z_iconst 74 (nI 1) dX5_readsGroup_74 kI1 ?_
        refine z_iaddN 75 dX5_readsGroup_75 ?_
        refine z_put 76 pX5_168 (fun h => by cases h) dX5_readsGroup_76 T.kd (rfl) (rfl) ?_
        have T := T.putS 13 (tm + 1) rfl
        refine z_return 79 rfl dX5_readsGroup_79 ?_
        rw [eG]
        refine ⟨rfl, _, ((((((((S1.mono (by decide)).upx 0 _ (by decide)).upx 0 _ (by decide)).trans (S4.mono (by decide)))).upx _ _ (f := 12) (by decide)).upx _ _ (f := 12) (by decide)).upx _ _ (f := 12) (by decide)).upx _ _ (f := 13) (by decide), ⟨xa4, xw4, fun j hj => ?_, rfl⟩, T⟩
        have hj : j < 3 * (tm + 1) := hj
        show upn (upn (upn (X4 12) (3 * tm) dy) (3 * tm + 1) _) (3 * tm + 2) _ j = upn (upn (upn td (3 * tm) dy) (3 * tm + 1) _) (3 * tm + 2) _ j
        unfold upn
        split
        · rfl
        · split
          · rfl
          · split
            · rfl
            · rw [congrFun (S4 12 (by decide)) j]
              exact (t9 j).trans (PX.2.2.1 j (by show j < 3 * tm; omega))
      · subst hw1
        have c9 : inN (sgF BF L (a1 + 1)) 48 55 = false := by
          rcases hf4 with q | q
          · cases q
          · rw [numP_7] at q
            cases q2 : inN (sgF BF L (a1 + 1)) 48 55
            · rfl
            · rw [if_pos q2] at q; cases q
        have eG : gsP BF L dy (true, a, td, tm) = (false, a1 + 1, td, tm) := gsP_gt hn1 cs2 c9
        refine z_istore3 21 dX5_readsGroup_21 rfl ?_
        refine z_aload0 22 dX5_readsGroup_22 ?_
        refine z_get 23 gX5_152 dX5_readsGroup_23 T.kd (show HP.mm _ _ _ = .int (nI (X4 11 0)) from T.sc 11 rfl) ?_
        rw [xw4]
        refine z_ifeqN 26 79 dX5_readsGroup_26 (by decide) (by omega) (fun c_26 => ?_) (fun c_26 => absurd c_26 (by decide))
        refine z_return 79 rfl dX5_readsGroup_79 ?_
        rw [eG]
        exact ⟨rfl, _, ((((S1.mono (by decide)).upx 0 _ (by decide)).upx 0 _ (by decide)).trans (S4.mono (by decide))), ⟨xa4, xw4, fun j hj => ((congrFun (S4 12 (by decide)) j).trans (t9 j)).trans (PX.2.2.1 j hj), (congrFun (S4 13 (by decide)) 0).trans t8⟩, T⟩
  · have eG : gsP BF L dy (w, a, td, tm) = (false, a, td, tm) := by
      rcases hf1 with q | q
      · subst q; rfl
      · cases w
        · rfl
        · exact gsP_none q
    have t9 : ∀ j, X1 12 j = X 12 j := fun j => congrFun (S1 12 (by decide)) j
    have t8 : X1 13 0 = tm := (congrFun (S1 13 (by decide)) 0).trans PX.2.2.2
    refine z_istore2 7 dX5_readsGroup_7 rfl ?_
    refine z_aload0 8 dX5_readsGroup_8 ?_
    refine z_bipush 9 (nI 64) dX5_readsGroup_9 kB64 ?_
    refine z_V1 (k' := k) 11 vX5_165 dX5_readsGroup_11 T.kd (m_wants (BF := BF) (L := L) (a := a) (w := false) T.1 eB1 eL1 xa1 hL (by omega) hB xw1 (by decide) (d - 1) 0 (by omega)) (by omega) (by omega) (Nat.le_of_ble_eq_true rfl) (aft_V fun h_5 hq => ?_)
    have T : MdTo h m A P (upx (upx X1 10 0 (a + bN (false))) 11 0 (bN (false))) hs h_5 := T.trans hq
    refine z_aload0 14 dX5_readsGroup_14 ?_
    refine z_iconst 15 (nI 0) dX5_readsGroup_15 kI0 ?_
    refine z_bipush 16 (nI 7) dX5_readsGroup_16 kB7 ?_
    refine z_V2 (k' := k) 18 vX5_162 dX5_readsGroup_18 T.kd (m_number (BF := BF) (L := L) (a := a) (w := false) (least := 0) (most := 7) T.1 eB1 eL1 rfl hL (by omega) hB rfl (by decide) (by decide) (d - 1) 0 (by omega)) (by omega) (by omega) (Nat.le_of_ble_eq_true rfl) (aft_I fun x_6 h_6 hq => ?_)
    obtain ⟨X6, S6, T1, hq⟩ := hq
    have T := T.trans T1
    have eB6 : X6 5 = BF := (S6 5 (by decide)).trans eB1
    have eL6 : X6 6 0 = L := (congrFun (S6 6 (by decide)) 0).trans eL1
    rcases hq with ⟨a6, v6, hw6, hn6, hx6, xa6, xw6⟩ | ⟨hf6, xa6, xw6⟩
    · subst hx6
      exact absurd hw6 (by decide)
    · refine z_istore3 21 dX5_readsGroup_21 rfl ?_
      refine z_aload0 22 dX5_readsGroup_22 ?_
      refine z_get 23 gX5_152 dX5_readsGroup_23 T.kd (show HP.mm _ _ _ = .int (nI (X6 11 0)) from T.sc 11 rfl) ?_
      rw [xw6]
      refine z_ifeqN 26 79 dX5_readsGroup_26 (by decide) (by omega) (fun c_26 => ?_) (fun c_26 => absurd c_26 (by decide))
      refine z_return 79 rfl dX5_readsGroup_79 ?_
      rw [eG]
      exact ⟨rfl, _, ((((S1.mono (by decide)).upx 0 _ (by decide)).upx 0 _ (by decide)).trans (S6.mono (by decide))), ⟨xa6, xw6, fun j hj => ((congrFun (S6 12 (by decide)) j).trans (t9 j)).trans (PX.2.2.1 j hj), (congrFun (S6 13 (by decide)) 0).trans t8⟩, T⟩

set_option maxHeartbeats 4000000 in
theorem m_readsPart {E : Ev} {h : HP} {m : Nat} {A P : Nat → Nat} {X : Nat → Nat → Nat} {hs : Int64} (T0 : MdAt h m A P X hs) {BF : Nat → Nat} {L : Nat} (eB : X 5 = BF) (eL : X 6 0 = L) (hL : L ≤ 60) (hB : ∀ j, j < L → BF j ≤ 126) {w : Bool} {a tm : Nat} {td : Nat → Nat} (PX : PsX X (w, a, td, tm)) (hI : PsI L (w, a, td, tm)) (d k : Nat) (hd : 4 ≤ d) : Call E yX5_readsPart d k [.ref m] h (rV (fun h' => ∃ X', Scr [10, 11, 12, 13] X X' ∧ PsX X' (paP BF L (w, a, td, tm)) ∧ MdTo h m A P X' hs h')) := by
  have T := T0.to
  have ha9 : a ≤ 60 := Nat.le_trans hI.2.1 hL
  have haL : a ≤ L := hI.2.1
  have h41 : 4 * tm ≤ a := hI.1
  refine Call.of [.ref m, dum] q2357 (by decide) pn_X5 (Nat.le_of_ble_eq_true rfl) rfl ?_
  refine z_aload0 0 dX5_readsPart_0 ?_
  refine z_iconst 1 (nI 0) dX5_readsPart_1 kI0 ?_
  refine z_sipush 2 (nI 999) dX5_readsPart_2 kS999 ?_
  refine z_V2 (k' := k) 5 vX5_162 dX5_readsPart_5 T.kd (m_number (BF := BF) (L := L) (a := a) (w := w) (least := 0) (most := 999) T.1 eB eL PX.1 hL (by omega) hB PX.2.1 (by decide) (by decide) (d - 1) 0 (by omega)) (by omega) (by omega) (Nat.le_of_ble_eq_true rfl) (aft_I fun x_1 h_1 hq => ?_)
  obtain ⟨X1, S1, T1, hq⟩ := hq
  have T := T.trans T1
  have eB1 : X1 5 = BF := (S1 5 (by decide)).trans eB
  have eL1 : X1 6 0 = L := (congrFun (S1 6 (by decide)) 0).trans eL
  rcases hq with ⟨a1, v1, hw1, hn1, hx1, xa1, xw1⟩ | ⟨hf1, xa1, xw1⟩
  · subst hx1
    obtain ⟨k1, k2, k3, k4, k5⟩ := numP_in hn1 (by omega) (by omega)
    have t9 : ∀ j, X1 12 j = X 12 j := fun j => congrFun (S1 12 (by decide)) j
    have t8 : X1 13 0 = tm := (congrFun (S1 13 (by decide)) 0).trans PX.2.2.2
    subst hw1
    refine z_istore1 8 dX5_readsPart_8 rfl ?_
    refine z_aload0 9 dX5_readsPart_9 ?_
    refine z_bipush 10 (nI 58) dX5_readsPart_10 kB58 ?_
    refine z_V1 (k' := k) 12 vX5_165 dX5_readsPart_12 T.kd (m_wants (BF := BF) (L := L) (a := a1) (w := true) T.1 eB1 eL1 xa1 hL (by omega) hB xw1 (by decide) (d - 1) 0 (by omega)) (by omega) (by omega) (Nat.le_of_ble_eq_true rfl) (aft_V fun h_2 hq => ?_)
    have T := T.trans hq
    cases hc2 : (true && decide (sgF BF L a1 = 58))
    · rw [hc2] at T
      have cs2 : ¬ sgF BF L a1 = 58 := by
        intro q; rw [q] at hc2; exact absurd hc2 (by decide)
      have T : MdTo h m A P (upx (upx X1 10 0 (a1 + bN false)) 11 0 (bN false)) hs h_2 := T
      have eP : paP BF L (true, a, td, tm) = (false, a1, td, tm) := paP_no hn1 cs2
      refine z_aload0 15 dX5_readsPart_15 ?_
      refine z_iload1 16 dX5_readsPart_16 ?_
      have PX1 : PsX (upx (upx X1 10 0 (a1 + bN false)) 11 0 (bN false)) (false, a1, td, tm) := ⟨rfl, rfl, fun j hj => (t9 j).trans (PX.2.2.1 j hj), t8⟩
      have S_c : Scr [10, 11, 12, 13] X (upx (upx X1 10 0 (a1 + bN false)) 11 0 (bN false)) := ((S1.mono (by decide)).upx 0 _ (by decide)).upx 0 _ (by decide)
      have hI1 : PsI L (false, a1, td, tm) := ⟨by have := hI.1; show 4 * tm ≤ a1; have q : 4 * tm ≤ a := this; omega, by show a1 ≤ L; omega, hI.2.2⟩
      refine z_V1 (k' := k) 17 vX5_171 dX5_readsPart_17 T.kd (m_readsGroup (BF := BF) (L := L) (w := false) (a := a1) (tm := tm) (td := td) (dy := v1) T.1 eB1 eL1 hL hB PX1 (fun q => by cases q) hI1 (fun q => by cases q) (d - 1) 0 (by omega)) (by omega) (by omega) (Nat.le_of_ble_eq_true rfl) (aft_V fun h_3 hq => ?_)
      obtain ⟨X3, S3, PX3, T1⟩ := hq
      have T := T.trans T1
      obtain ⟨s9, hs9⟩ : ∃ s9, s9 = gsP BF L v1 (false, a1, td, tm) := ⟨_, rfl⟩
      rw [← hs9] at PX3
      have S9 : Scr [10, 11, 12, 13] X X3 := S_c.trans S3
      have hI9 : PsI L s9 := by rw [hs9]; exact hI1
      have hD9 : s9.1 = true → ((nI v1) : Int32) = nI v1 ∧ v1 ≤ 999 := fun _ => ⟨rfl, by omega⟩
      have eP9 : psL BF L v1 61 s9 = paP BF L (true, a, td, tm) := by rw [eP, hs9, gsP_f]; exact psL_stop (fun q => by cases q.1)
      refine lpW 20 (fun _ : Nat × Ps => [.ref m, .int (nI v1)]) (fun s h9 => (∃ X2, Scr [10, 11, 12, 13] X X2 ∧ PsX X2 s.2 ∧ MdTo h m A P X2 hs h9) ∧ PsI L s.2 ∧ (s.2.1 = true → ((nI v1) : Int32) = nI v1 ∧ v1 ≤ 999) ∧ L < s.1 + s.2.2.1 ∧ psL BF L v1 s.1 s.2 = psL BF L v1 61 s9) (fun _ => k) (fun s => s.1) (61, s9) ⟨⟨X3, S9, PX3, T⟩, hI9, hD9, by show L < 61 + s9.2.1; omega, rfl⟩ (fun s h9 hI0 ih => ?_)
      obtain ⟨f, w2, b, te, tn9⟩ := s
      obtain ⟨⟨X2, S2, PX2, T⟩, hI2, hD2, hf, he⟩ := hI0
      have PX2 : PsX X2 (w2, b, te, tn9) := PX2
      have hI2 : PsI L (w2, b, te, tn9) := hI2
      have hD2 : w2 = true → ((nI v1) : Int32) = nI v1 ∧ v1 ≤ 999 := hD2
      have hf : L < f + b := hf
      have he : psL BF L v1 f (w2, b, te, tn9) = psL BF L v1 61 s9 := he
      have eB2 : X2 5 = BF := (S2 5 (by decide)).trans eB
      have eL2 : X2 6 0 = L := (congrFun (S2 6 (by decide)) 0).trans eL
      have hb60 : b ≤ 60 := Nat.le_trans hI2.2.1 hL
      show Z E _ _ _ _ h9 20 [.ref m, .int (nI v1)] []
      refine z_aload0 20 dX5_readsPart_20 ?_
      refine z_bipush 21 (nI 43) dX5_readsPart_21 kB43 ?_
      refine z_V1 (k' := k) 23 vX5_159 dX5_readsPart_23 T.kd (m_takes (BF := BF) (L := L) (a := b) (w := w2) T.1 (eB2) (eL2) (PX2.1) (hL) (hb60) (hB) (PX2.2.1) (by decide) (d - 1) 0 (by omega)) (by omega) (by omega) (Nat.le_of_ble_eq_true rfl) (aft_I fun x_4 h_4 hq => ?_)
      obtain ⟨hx, T1⟩ := hq
      have hx : x_4 = nI (bN (w2 && decide (sgF BF L b = 43))) := hx
      subst hx
      have T : MdTo h m A P (upx X2 10 0 (b + bN (w2 && decide (sgF BF L b = 43)))) hs h_4 := T.trans T1
      refine z_ifeqB 26 37 dX5_readsPart_26 (by decide) (fun c_26 => ?_) (fun c_26 => ?_)
      · rw [c_26] at T
        have cc9 : ¬ (w2 = true ∧ sgF BF L b = 43) := fun q => by rw [q.1, q.2] at c_26; exact absurd c_26 (by decide)
        refine z_return 37 rfl dX5_readsPart_37 ?_
        rw [← eP9]
        exact ⟨rfl, upx X2 10 0 (b + bN false), S2.upx 0 _ (by decide), by rw [← he, psL_stop (fun q => cc9 q)]; exact ⟨rfl, PX2.2.1, PX2.2.2.1, PX2.2.2.2⟩, T⟩
      · rw [c_26] at T
        rw [Bool.and_eq_true, decide_eq_true_eq] at c_26
        obtain ⟨cw9, cc9⟩ := c_26
        subst cw9
        have lb : b < L := sgF_lt (BF := BF) (by omega)
        have hI3 : PsI L (true, b + 1, te, tn9) := ⟨by have q : 4 * tn9 ≤ b := hI2.1; show 4 * tn9 ≤ b + 1; omega, by show b + 1 ≤ L; omega, hI2.2.2⟩
        refine z_aload0 29 dX5_readsPart_29 ?_
        refine z_iload1 30 dX5_readsPart_30 ?_
        refine z_V1 (k' := k) 31 vX5_171 dX5_readsPart_31 T.kd (m_readsGroup (BF := BF) (L := L) (w := true) (a := b + 1) (tm := tn9) (td := te) (dy := v1) T.1 eB2 eL2 hL hB ⟨rfl, PX2.2.1, PX2.2.2.1, PX2.2.2.2⟩ (fun _ => hD2 rfl) hI3 (fun _ => by have q : 4 * tn9 ≤ b := hI2.1; omega) (d - 1) 0 (by omega)) (by omega) (by omega) (Nat.le_of_ble_eq_true rfl) (aft_V fun h_5 hq => ?_)
        obtain ⟨X3, S3, PX3, T1⟩ := hq
        have S3 : Scr [10, 11, 12, 13] X X3 := (S2.upx 0 _ (by decide)).trans S3
        have T := T.trans T1
        refine z_goto 34 20 dX5_readsPart_34 (by decide) ?_
        exact ih (f - 1, gsP BF L v1 (true, b + 1, te, tn9)) _ (by show f - 1 < f; omega) ⟨⟨_, S3, PX3, T⟩, (gsP_in hI3 (by have q : 4 * tn9 ≤ b := hI2.1; omega) (hD2 rfl).2).1, fun _ => hD2 rfl, by have q := (gsP_in (BF := BF) hI3 (by have q : 4 * tn9 ≤ b := hI2.1; omega) (hD2 rfl).2).2; show L < f - 1 + (gsP BF L v1 (true, b + 1, te, tn9)).2.1; omega, by rw [← he]; obtain ⟨g, hg⟩ : ∃ g, f = g + 1 := ⟨f - 1, by omega⟩; rw [hg]; exact (psL_go cc9).symm⟩
    · rw [hc2] at T
      have cs2 : sgF BF L a1 = 58 := by
        rw [Bool.and_eq_true, decide_eq_true_eq] at hc2; exact hc2.2
      have T : MdTo h m A P (upx (upx X1 10 0 (a1 + bN true)) 11 0 (bN true)) hs h_2 := T
      have l7 : a1 < L := sgF_lt (BF := BF) (by omega)
      have eP : paP BF L (true, a, td, tm) = psL BF L v1 61 (gsP BF L v1 (true, a1 + 1, td, tm)) := paP_ok hn1 cs2
      refine z_aload0 15 dX5_readsPart_15 ?_
      refine z_iload1 16 dX5_readsPart_16 ?_
      have PX1 : PsX (upx (upx X1 10 0 (a1 + bN true)) 11 0 (bN true)) (true, (a1 + 1), td, tm) := ⟨rfl, rfl, fun j hj => (t9 j).trans (PX.2.2.1 j hj), t8⟩
      have S_c : Scr [10, 11, 12, 13] X (upx (upx X1 10 0 (a1 + bN true)) 11 0 (bN true)) := ((S1.mono (by decide)).upx 0 _ (by decide)).upx 0 _ (by decide)
      have hI1 : PsI L (true, (a1 + 1), td, tm) := ⟨by have := hI.1; show 4 * tm ≤ (a1 + 1); have q : 4 * tm ≤ a := this; omega, by show (a1 + 1) ≤ L; omega, hI.2.2⟩
      refine z_V1 (k' := k) 17 vX5_171 dX5_readsPart_17 T.kd (m_readsGroup (BF := BF) (L := L) (w := true) (a := (a1 + 1)) (tm := tm) (td := td) (dy := v1) T.1 eB1 eL1 hL hB PX1 (fun _ => ⟨rfl, by omega⟩) hI1 (fun _ => by have q : 4 * tm ≤ a := hI.1; omega) (d - 1) 0 (by omega)) (by omega) (by omega) (Nat.le_of_ble_eq_true rfl) (aft_V fun h_6 hq => ?_)
      obtain ⟨X6, S6, PX6, T1⟩ := hq
      have T := T.trans T1
      obtain ⟨s9, hs9⟩ : ∃ s9, s9 = gsP BF L v1 (true, (a1 + 1), td, tm) := ⟨_, rfl⟩
      rw [← hs9] at PX6
      have S9 : Scr [10, 11, 12, 13] X X6 := S_c.trans S6
      have hI9 : PsI L s9 := by rw [hs9]; exact (gsP_in hI1 (by omega) (by omega)).1
      have hD9 : s9.1 = true → ((nI v1) : Int32) = nI v1 ∧ v1 ≤ 999 := fun _ => ⟨rfl, by omega⟩
      have eP9 : psL BF L v1 61 s9 = paP BF L (true, a, td, tm) := by rw [hs9]; exact eP.symm
      refine lpW 20 (fun _ : Nat × Ps => [.ref m, .int (nI v1)]) (fun s h9 => (∃ X2, Scr [10, 11, 12, 13] X X2 ∧ PsX X2 s.2 ∧ MdTo h m A P X2 hs h9) ∧ PsI L s.2 ∧ (s.2.1 = true → ((nI v1) : Int32) = nI v1 ∧ v1 ≤ 999) ∧ L < s.1 + s.2.2.1 ∧ psL BF L v1 s.1 s.2 = psL BF L v1 61 s9) (fun _ => k) (fun s => s.1) (61, s9) ⟨⟨X6, S9, PX6, T⟩, hI9, hD9, by show L < 61 + s9.2.1; omega, rfl⟩ (fun s h9 hI0 ih => ?_)
      obtain ⟨f, w2, b, te, tn9⟩ := s
      obtain ⟨⟨X2, S2, PX2, T⟩, hI2, hD2, hf, he⟩ := hI0
      have PX2 : PsX X2 (w2, b, te, tn9) := PX2
      have hI2 : PsI L (w2, b, te, tn9) := hI2
      have hD2 : w2 = true → ((nI v1) : Int32) = nI v1 ∧ v1 ≤ 999 := hD2
      have hf : L < f + b := hf
      have he : psL BF L v1 f (w2, b, te, tn9) = psL BF L v1 61 s9 := he
      have eB2 : X2 5 = BF := (S2 5 (by decide)).trans eB
      have eL2 : X2 6 0 = L := (congrFun (S2 6 (by decide)) 0).trans eL
      have hb60 : b ≤ 60 := Nat.le_trans hI2.2.1 hL
      show Z E _ _ _ _ h9 20 [.ref m, .int (nI v1)] []
      refine z_aload0 20 dX5_readsPart_20 ?_
      refine z_bipush 21 (nI 43) dX5_readsPart_21 kB43 ?_
      refine z_V1 (k' := k) 23 vX5_159 dX5_readsPart_23 T.kd (m_takes (BF := BF) (L := L) (a := b) (w := w2) T.1 (eB2) (eL2) (PX2.1) (hL) (hb60) (hB) (PX2.2.1) (by decide) (d - 1) 0 (by omega)) (by omega) (by omega) (Nat.le_of_ble_eq_true rfl) (aft_I fun x_7 h_7 hq => ?_)
      obtain ⟨hx, T1⟩ := hq
      have hx : x_7 = nI (bN (w2 && decide (sgF BF L b = 43))) := hx
      subst hx
      have T : MdTo h m A P (upx X2 10 0 (b + bN (w2 && decide (sgF BF L b = 43)))) hs h_7 := T.trans T1
      refine z_ifeqB 26 37 dX5_readsPart_26 (by decide) (fun c_26 => ?_) (fun c_26 => ?_)
      · rw [c_26] at T
        have cc9 : ¬ (w2 = true ∧ sgF BF L b = 43) := fun q => by rw [q.1, q.2] at c_26; exact absurd c_26 (by decide)
        refine z_return 37 rfl dX5_readsPart_37 ?_
        rw [← eP9]
        exact ⟨rfl, upx X2 10 0 (b + bN false), S2.upx 0 _ (by decide), by rw [← he, psL_stop (fun q => cc9 q)]; exact ⟨rfl, PX2.2.1, PX2.2.2.1, PX2.2.2.2⟩, T⟩
      · rw [c_26] at T
        rw [Bool.and_eq_true, decide_eq_true_eq] at c_26
        obtain ⟨cw9, cc9⟩ := c_26
        subst cw9
        have lb : b < L := sgF_lt (BF := BF) (by omega)
        have hI3 : PsI L (true, b + 1, te, tn9) := ⟨by have q : 4 * tn9 ≤ b := hI2.1; show 4 * tn9 ≤ b + 1; omega, by show b + 1 ≤ L; omega, hI2.2.2⟩
        refine z_aload0 29 dX5_readsPart_29 ?_
        refine z_iload1 30 dX5_readsPart_30 ?_
        refine z_V1 (k' := k) 31 vX5_171 dX5_readsPart_31 T.kd (m_readsGroup (BF := BF) (L := L) (w := true) (a := b + 1) (tm := tn9) (td := te) (dy := v1) T.1 eB2 eL2 hL hB ⟨rfl, PX2.2.1, PX2.2.2.1, PX2.2.2.2⟩ (fun _ => hD2 rfl) hI3 (fun _ => by have q : 4 * tn9 ≤ b := hI2.1; omega) (d - 1) 0 (by omega)) (by omega) (by omega) (Nat.le_of_ble_eq_true rfl) (aft_V fun h_8 hq => ?_)
        obtain ⟨X3, S3, PX3, T1⟩ := hq
        have S3 : Scr [10, 11, 12, 13] X X3 := (S2.upx 0 _ (by decide)).trans S3
        have T := T.trans T1
        refine z_goto 34 20 dX5_readsPart_34 (by decide) ?_
        exact ih (f - 1, gsP BF L v1 (true, b + 1, te, tn9)) _ (by show f - 1 < f; omega) ⟨⟨_, S3, PX3, T⟩, (gsP_in hI3 (by have q : 4 * tn9 ≤ b := hI2.1; omega) (hD2 rfl).2).1, fun _ => hD2 rfl, by have q := (gsP_in (BF := BF) hI3 (by have q : 4 * tn9 ≤ b := hI2.1; omega) (hD2 rfl).2).2; show L < f - 1 + (gsP BF L v1 (true, b + 1, te, tn9)).2.1; omega, by rw [← he]; obtain ⟨g, hg⟩ : ∃ g, f = g + 1 := ⟨f - 1, by omega⟩; rw [hg]; exact (psL_go cc9).symm⟩
  · have eP : paP BF L (w, a, td, tm) = (false, a, td, tm) := by
      rcases hf1 with q | q
      · subst q; rfl
      · cases w
        · rfl
        · exact paP_none q
    have t9 : ∀ j, X1 12 j = X 12 j := fun j => congrFun (S1 12 (by decide)) j
    have t8 : X1 13 0 = tm := (congrFun (S1 13 (by decide)) 0).trans PX.2.2.2
    refine z_istore1 8 dX5_readsPart_8 rfl ?_
    refine z_aload0 9 dX5_readsPart_9 ?_
    refine z_bipush 10 (nI 58) dX5_readsPart_10 kB58 ?_
    refine z_V1 (k' := k) 12 vX5_165 dX5_readsPart_12 T.kd (m_wants (BF := BF) (L := L) (a := a) (w := false) T.1 eB1 eL1 xa1 hL (by omega) hB xw1 (by decide) (d - 1) 0 (by omega)) (by omega) (by omega) (Nat.le_of_ble_eq_true rfl) (aft_V fun h_9 hq => ?_)
    have T : MdTo h m A P (upx (upx X1 10 0 (a + bN (false))) 11 0 (bN (false))) hs h_9 := T.trans hq
    refine z_aload0 15 dX5_readsPart_15 ?_
    refine z_iload1 16 dX5_readsPart_16 ?_
    have PX1 : PsX (upx (upx X1 10 0 (a + bN false)) 11 0 (bN false)) (false, a, td, tm) := ⟨rfl, rfl, fun j hj => (t9 j).trans (PX.2.2.1 j hj), t8⟩
    have S_c : Scr [10, 11, 12, 13] X (upx (upx X1 10 0 (a + bN false)) 11 0 (bN false)) := ((S1.mono (by decide)).upx 0 _ (by decide)).upx 0 _ (by decide)
    have hI1 : PsI L (false, a, td, tm) := ⟨by have := hI.1; show 4 * tm ≤ a; have q : 4 * tm ≤ a := this; omega, by show a ≤ L; omega, hI.2.2⟩
    refine z_V1 (k' := k) 17 vX5_171 dX5_readsPart_17 T.kd (m_readsGroup (BF := BF) (L := L) (w := false) (a := a) (tm := tm) (td := td) (dy := 0) T.1 eB1 eL1 hL hB PX1 (fun q => by cases q) hI1 (fun q => by cases q) (d - 1) 0 (by omega)) (by omega) (by omega) (Nat.le_of_ble_eq_true rfl) (aft_V fun h_10 hq => ?_)
    obtain ⟨X10, S10, PX10, T1⟩ := hq
    have T := T.trans T1
    obtain ⟨s9, hs9⟩ : ∃ s9, s9 = gsP BF L 0 (false, a, td, tm) := ⟨_, rfl⟩
    rw [← hs9] at PX10
    have S9 : Scr [10, 11, 12, 13] X X10 := S_c.trans S10
    have hI9 : PsI L s9 := by rw [hs9]; exact hI1
    have hD9 : s9.1 = true → (x_1 : Int32) = nI 0 ∧ 0 ≤ 999 := fun q => by rw [hs9] at q; cases q
    have eP9 : psL BF L 0 61 s9 = paP BF L (w, a, td, tm) := by rw [eP, hs9, gsP_f]; exact psL_stop (fun q => by cases q.1)
    refine lpW 20 (fun _ : Nat × Ps => [.ref m, .int x_1]) (fun s h9 => (∃ X2, Scr [10, 11, 12, 13] X X2 ∧ PsX X2 s.2 ∧ MdTo h m A P X2 hs h9) ∧ PsI L s.2 ∧ (s.2.1 = true → (x_1 : Int32) = nI 0 ∧ 0 ≤ 999) ∧ L < s.1 + s.2.2.1 ∧ psL BF L 0 s.1 s.2 = psL BF L 0 61 s9) (fun _ => k) (fun s => s.1) (61, s9) ⟨⟨X10, S9, PX10, T⟩, hI9, hD9, by show L < 61 + s9.2.1; omega, rfl⟩ (fun s h9 hI0 ih => ?_)
    obtain ⟨f, w2, b, te, tn9⟩ := s
    obtain ⟨⟨X2, S2, PX2, T⟩, hI2, hD2, hf, he⟩ := hI0
    have PX2 : PsX X2 (w2, b, te, tn9) := PX2
    have hI2 : PsI L (w2, b, te, tn9) := hI2
    have hD2 : w2 = true → (x_1 : Int32) = nI 0 ∧ 0 ≤ 999 := hD2
    have hf : L < f + b := hf
    have he : psL BF L 0 f (w2, b, te, tn9) = psL BF L 0 61 s9 := he
    have eB2 : X2 5 = BF := (S2 5 (by decide)).trans eB
    have eL2 : X2 6 0 = L := (congrFun (S2 6 (by decide)) 0).trans eL
    have hb60 : b ≤ 60 := Nat.le_trans hI2.2.1 hL
    show Z E _ _ _ _ h9 20 [.ref m, .int x_1] []
    refine z_aload0 20 dX5_readsPart_20 ?_
    refine z_bipush 21 (nI 43) dX5_readsPart_21 kB43 ?_
    refine z_V1 (k' := k) 23 vX5_159 dX5_readsPart_23 T.kd (m_takes (BF := BF) (L := L) (a := b) (w := w2) T.1 (eB2) (eL2) (PX2.1) (hL) (hb60) (hB) (PX2.2.1) (by decide) (d - 1) 0 (by omega)) (by omega) (by omega) (Nat.le_of_ble_eq_true rfl) (aft_I fun x_11 h_11 hq => ?_)
    obtain ⟨hx, T1⟩ := hq
    have hx : x_11 = nI (bN (w2 && decide (sgF BF L b = 43))) := hx
    subst hx
    have T : MdTo h m A P (upx X2 10 0 (b + bN (w2 && decide (sgF BF L b = 43)))) hs h_11 := T.trans T1
    refine z_ifeqB 26 37 dX5_readsPart_26 (by decide) (fun c_26 => ?_) (fun c_26 => ?_)
    · rw [c_26] at T
      have cc9 : ¬ (w2 = true ∧ sgF BF L b = 43) := fun q => by rw [q.1, q.2] at c_26; exact absurd c_26 (by decide)
      refine z_return 37 rfl dX5_readsPart_37 ?_
      rw [← eP9]
      exact ⟨rfl, upx X2 10 0 (b + bN false), S2.upx 0 _ (by decide), by rw [← he, psL_stop (fun q => cc9 q)]; exact ⟨rfl, PX2.2.1, PX2.2.2.1, PX2.2.2.2⟩, T⟩
    · rw [c_26] at T
      rw [Bool.and_eq_true, decide_eq_true_eq] at c_26
      obtain ⟨cw9, cc9⟩ := c_26
      subst cw9
      have lb : b < L := sgF_lt (BF := BF) (by omega)
      have hI3 : PsI L (true, b + 1, te, tn9) := ⟨by have q : 4 * tn9 ≤ b := hI2.1; show 4 * tn9 ≤ b + 1; omega, by show b + 1 ≤ L; omega, hI2.2.2⟩
      refine z_aload0 29 dX5_readsPart_29 ?_
      refine z_iload1 30 dX5_readsPart_30 ?_
      refine z_V1 (k' := k) 31 vX5_171 dX5_readsPart_31 T.kd (m_readsGroup (BF := BF) (L := L) (w := true) (a := b + 1) (tm := tn9) (td := te) (dy := 0) T.1 eB2 eL2 hL hB ⟨rfl, PX2.2.1, PX2.2.2.1, PX2.2.2.2⟩ (fun _ => hD2 rfl) hI3 (fun _ => by have q : 4 * tn9 ≤ b := hI2.1; omega) (d - 1) 0 (by omega)) (by omega) (by omega) (Nat.le_of_ble_eq_true rfl) (aft_V fun h_12 hq => ?_)
      obtain ⟨X3, S3, PX3, T1⟩ := hq
      have S3 : Scr [10, 11, 12, 13] X X3 := (S2.upx 0 _ (by decide)).trans S3
      have T := T.trans T1
      refine z_goto 34 20 dX5_readsPart_34 (by decide) ?_
      exact ih (f - 1, gsP BF L 0 (true, b + 1, te, tn9)) _ (by show f - 1 < f; omega) ⟨⟨_, S3, PX3, T⟩, (gsP_in hI3 (by have q : 4 * tn9 ≤ b := hI2.1; omega) (hD2 rfl).2).1, fun _ => hD2 rfl, by have q := (gsP_in (BF := BF) hI3 (by have q : 4 * tn9 ≤ b := hI2.1; omega) (hD2 rfl).2).2; show L < f - 1 + (gsP BF L 0 (true, b + 1, te, tn9)).2.1; omega, by rw [← he]; obtain ⟨g, hg⟩ : ∃ g, f = g + 1 := ⟨f - 1, by omega⟩; rw [hg]; exact (psL_go cc9).symm⟩

set_option maxHeartbeats 4000000 in
theorem m_readsAll {E : Ev} {h : HP} {m : Nat} {A P : Nat → Nat} {X : Nat → Nat → Nat} {hs : Int64} (T0 : MdAt h m A P X hs) {BF : Nat → Nat} {L : Nat} (eB : X 5 = BF) (eL : X 6 0 = L) (hL : L ≤ 60) (hB : ∀ j, j < L → BF j ≤ 126) (d k : Nat) (hd : 5 ≤ d) : Call E yX5_readsAll d k [.ref m] h (rV (fun h' => ∃ X', Scr [10, 11, 12, 13] X X' ∧ PsX X' (alP BF L) ∧ MdTo h m A P X' hs h')) := by
  have T := T0.to
  refine Call.of [.ref m] q2353 (by decide) pn_X5 (Nat.le_of_ble_eq_true rfl) rfl ?_
  refine z_aload0 0 dX5_readsAll_0 ?_
  refine z_iconst 1 (nI 0) dX5_readsAll_1 kI0 ?_
  refine z_put 2 pX5_149 (fun h => by cases h) dX5_readsAll_2 T.kd (rfl) (rfl) ?_
  have T := T.putS 10 0 rfl
  refine z_aload0 5 dX5_readsAll_5 ?_
  refine z_iconst 6 (nI 1) dX5_readsAll_6 kI1 ?_
  refine z_put 7 pX5_152 (fun h => by cases h) dX5_readsAll_7 T.kd (by decide) (by decide) ?_
  have T := T.putS 11 1 rfl
  refine z_aload0 10 dX5_readsAll_10 ?_
  refine z_iconst 11 (nI 0) dX5_readsAll_11 kI0 ?_
  refine z_put 12 pX5_168 (fun h => by cases h) dX5_readsAll_12 T.kd (rfl) (rfl) ?_
  have T := T.putS 13 0 rfl
  refine z_aload0 15 dX5_readsAll_15 ?_
  refine z_V0 (k' := k) 16 vX5_174 dX5_readsAll_16 T.kd (m_readsPart (BF := BF) (L := L) (w := true) (a := 0) (tm := 0) (td := fun _ => 0) T.1 eB eL hL hB ⟨rfl, rfl, fun j hj => absurd hj (Nat.not_lt_zero j), rfl⟩ ⟨Nat.le_refl 0, Nat.zero_le L, fun k hk => absurd hk (Nat.not_lt_zero k)⟩ (d - 1) 0 (by omega)) (by omega) (by omega) (Nat.le_of_ble_eq_true rfl) (aft_V fun h_1 hq => ?_)
  obtain ⟨X1, S1, PX1, T1⟩ := hq
  have T := T.trans T1
  have S9 : Scr [10, 11, 12, 13] X X1 := ((((Scr.refl [10, 11, 12, 13] X).upx 0 _ (by decide)).upx 0 _ (by decide)).upx 0 _ (by decide)).trans S1
  have hI9 : PsI L (paP BF L (true, 0, (fun _ => 0), 0)) := paP_in ⟨Nat.le_refl 0, Nat.zero_le L, fun k hk => absurd hk (Nat.not_lt_zero k)⟩
  generalize hs9 : paP BF L (true, 0, (fun _ => 0), 0) = s9 at PX1 hI9
  have eA9 : alL BF L 61 s9 = alP BF L := by rw [← hs9]; rfl
  refine lpW 19 (fun _ : Nat × Ps => [.ref m]) (fun s h9 => (∃ X2, Scr [10, 11, 12, 13] X X2 ∧ PsX X2 s.2 ∧ MdTo h m A P X2 hs h9) ∧ PsI L s.2 ∧ (s.2.1 = true → L < s.1 + s.2.2.1) ∧ alL BF L s.1 s.2 = alP BF L) (fun _ => k) (fun s => s.1) (61, s9) ⟨⟨X1, S9, PX1, T⟩, hI9, fun _ => by show L < 61 + s9.2.1; omega, eA9⟩ (fun s h9 hI0 ih => ?_)
  obtain ⟨f, w2, b, te, tn9⟩ := s
  obtain ⟨⟨X2, S2, PX2, T⟩, hI2, hf, he⟩ := hI0
  have PX2 : PsX X2 (w2, b, te, tn9) := PX2
  have hI2 : PsI L (w2, b, te, tn9) := hI2
  have hf : w2 = true → L < f + b := hf
  have he : alL BF L f (w2, b, te, tn9) = alP BF L := he
  have eB2 : X2 5 = BF := (S2 5 (by decide)).trans eB
  have eL2 : X2 6 0 = L := (congrFun (S2 6 (by decide)) 0).trans eL
  have hbL : b ≤ L := hI2.2.1
  have h41 : 4 * tn9 ≤ b := hI2.1
  have ew2 : X2 11 0 = bN w2 := PX2.2.1
  have ea2 : X2 10 0 = b := PX2.1
  show Z E _ _ _ _ h9 19 [.ref m] []
  refine z_aload0 19 dX5_readsAll_19 ?_
  refine z_get 20 gX5_152 dX5_readsAll_20 T.kd (show HP.mm _ _ _ = .int (nI (X2 11 0)) from T.sc 11 rfl) ?_
  rw [ew2]
  refine z_ifeqB 23 57 dX5_readsAll_23 (by decide) (fun c_23 => ?_) (fun c_23 => ?_)
  · refine z_return 57 rfl dX5_readsAll_57 ?_
    exact ⟨rfl, X2, S2, by rw [← he, alL_stop (by intro q; have q1 : w2 = true := q.1; rw [c_23] at q1; cases q1)]; exact PX2, T⟩
  · subst c_23
    have hf9 := hf rfl
    refine z_aload0 26 dX5_readsAll_26 ?_
    refine z_get 27 gX5_149 dX5_readsAll_27 T.kd (show HP.mm _ _ _ = .int (nI (X2 10 0)) from T.sc 10 rfl) ?_
    rw [ea2]
    refine z_aload0 30 dX5_readsAll_30 ?_
    refine z_get 31 gX5_146 dX5_readsAll_31 T.kd (show HP.mm _ _ _ = .int (nI (X2 6 0)) from T.sc 6 rfl) ?_
    rw [eL2]
    refine z_icgeN 34 57 dX5_readsAll_34 (by decide) (by omega) (by omega) (fun c_34 => ?_) (fun c_34 => ?_)
    · refine z_return 57 rfl dX5_readsAll_57 ?_
      exact ⟨rfl, X2, S2, by rw [← he, alL_stop (by intro q; have q1 : b < L := q.2; omega)]; exact PX2, T⟩
    · refine z_aload0 37 dX5_readsAll_37 ?_
      refine z_bipush 38 (nI 59) dX5_readsAll_38 kB59 ?_
      refine z_V1 (k' := k) 40 vX5_165 dX5_readsAll_40 T.kd (m_wants (BF := BF) (L := L) (a := b) (w := true) T.1 eB2 eL2 ea2 hL (by omega) hB ew2 (by decide) (d - 1) 0 (by omega)) (by omega) (by omega) (Nat.le_of_ble_eq_true rfl) (aft_V fun h_2 hq => ?_)
      have T := T.trans hq
      cases hc2 : (true && decide (sgF BF L b = 59))
      · rw [hc2] at T
        have cs2 : ¬ sgF BF L b = 59 := by
          intro q; rw [q] at hc2; exact absurd hc2 (by decide)
        have T : MdTo h m A P (upx (upx X2 10 0 (b + bN false)) 11 0 (bN false)) hs h_2 := T
        refine z_aload0 43 dX5_readsAll_43 ?_
        refine z_get 44 gX5_152 dX5_readsAll_44 T.kd (show HP.mm _ _ _ = .int (nI ((upn (X2 11) 0 (bN false)) 0)) from T.sc 11 rfl) ?_
        show Z E _ _ _ _ _ _ [.ref m] [.int (nI 0)]
        refine z_ifeqN 47 19 dX5_readsAll_47 (by decide) (by omega) (fun c_47 => ?_) (fun c_47 => absurd c_47 (by decide))
        exact ih (f - 1, (false, b, te, tn9)) _ (by show f - 1 < f; omega) ⟨⟨upx (upx X2 10 0 (b + bN false)) 11 0 (bN false), (S2.upx 0 _ (by decide)).upx 0 _ (by decide), ⟨rfl, rfl, PX2.2.2.1, PX2.2.2.2⟩, T⟩, ⟨h41, hbL, hI2.2.2⟩, (fun q => by cases q), by rw [alL_stop (fun q => by cases q.1), ← he]; obtain ⟨g, hg⟩ : ∃ g, f = g + 1 := ⟨f - 1, by omega⟩; rw [hg]; exact (alL_no (by omega) cs2).symm⟩
      · rw [hc2] at T
        have cs2 : sgF BF L b = 59 := by
          rw [Bool.and_eq_true, decide_eq_true_eq] at hc2; exact hc2.2
        have T : MdTo h m A P (upx (upx X2 10 0 (b + bN true)) 11 0 (bN true)) hs h_2 := T
        refine z_aload0 43 dX5_readsAll_43 ?_
        refine z_get 44 gX5_152 dX5_readsAll_44 T.kd (show HP.mm _ _ _ = .int (nI ((upn (X2 11) 0 (bN true)) 0)) from T.sc 11 rfl) ?_
        show Z E _ _ _ _ _ _ [.ref m] [.int (nI 1)]
        refine z_ifeqN 47 19 dX5_readsAll_47 (by decide) (by omega) (fun c_47 => absurd c_47 (by decide)) (fun c_47 => ?_)
        refine z_aload0 50 dX5_readsAll_50 ?_
        have lb : b < L := by omega
        have hI3 : PsI L (true, b + 1, te, tn9) := ⟨by show 4 * tn9 ≤ b + 1; omega, by show b + 1 ≤ L; omega, hI2.2.2⟩
        refine z_V0 (k' := k) 51 vX5_174 dX5_readsAll_51 T.kd (m_readsPart (BF := BF) (L := L) (w := true) (a := b + 1) (tm := tn9) (td := te) T.1 eB2 eL2 hL hB ⟨rfl, rfl, PX2.2.2.1, PX2.2.2.2⟩ hI3 (d - 1) 0 (by omega)) (by omega) (by omega) (Nat.le_of_ble_eq_true rfl) (aft_V fun h_3 hq => ?_)
        obtain ⟨X3, S3, PX3, T1⟩ := hq
        have S3 : Scr [10, 11, 12, 13] X X3 := ((S2.upx 0 _ (by decide)).upx 0 _ (by decide)).trans S3
        have T := T.trans T1
        refine z_goto 54 19 dX5_readsAll_54 (by decide) ?_
        exact ih (f - 1, paP BF L (true, b + 1, te, tn9)) _ (by show f - 1 < f; omega) ⟨⟨_, S3, PX3, T⟩, paP_in hI3, fun _ => by have q := paP_a (BF := BF) hI3; show L < f - 1 + (paP BF L (true, b + 1, te, tn9)).2.1; have q : b + 1 ≤ (paP BF L (true, b + 1, te, tn9)).2.1 := q; omega, by rw [← he]; obtain ⟨g, hg⟩ : ∃ g, f = g + 1 := ⟨f - 1, by omega⟩; rw [hg]; exact (alL_go (by omega) cs2).symm⟩

