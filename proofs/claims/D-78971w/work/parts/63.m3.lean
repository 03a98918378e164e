/-! THE REFERENCE: an outing drinks, outings go, a day; what is put aside -/
theorem drS_J {P : Nat → Nat} {g i : Nat} {a : Gv} (hg : g < 8) (hi : i < 8) (hJ : WF a.1 ∧ (∀ p, p < 8 → a.2.1 p < 4096) ∧ a.2.2 ≤ 891 ∧ a.1 2 = P 2) : WF (drS g i a).1 ∧ (∀ p, p < 8 → (drS g i a).2.1 p < 4096) ∧ (drS g i a).2.2 ≤ 891 ∧ (drS g i a).1 2 = P 2 := by
  obtain ⟨h1, h2, h3, h4⟩ := hJ
  have ho := ngO_lt g hg i hi
  unfold drS
  split
  · refine ⟨h1.gv ho, fun p hp => ?_, Nat.le_trans (Nat.sub_le _ _) h3, ?_⟩
    · show gwF a.1 a.2.1 (ngO g i) a.2.2 p < 4096
      unfold gwF upn
      split
      · have := h2 _ ho; omega
      · exact h2 p hp
    · show gvP a.1 a.2.1 (ngO g i) a.2.2 2 = P 2
      rw [← h4]
      exact gvP_lo _ _ _ _ (by omega) (by omega)
  · exact ⟨h1, h2, h3, h4⟩
set_option maxHeartbeats 4000000 in
theorem m_drinks {E : Ev} {h : HP} {m : Nat} {A P : Nat → Nat} {X : Nat → Nat → Nat} {hs : Int64} (T0 : MdAt h m A P X hs) {ch g : Nat} (hc : ch ≤ 99) (hg : g < 8) (W : WF P) (hF : ∀ p, p < 8 → X 7 p < 4096) (d k : Nat) (hd : 3 ≤ d) : Call E yX5_drinks d k [.ref m, .int (nI ch), .int (nI g)] h (rV (fun h' => MdTo h m A (drP P (X 7) ch g) (stx (stx X 7 (drF P (X 7) ch g)) 9 (ngD g 8)) hs h')) := by
  have T := T0.to
  refine Call.of [.ref m, .int (nI ch), .int (nI g), dum, dum, dum] q2322 (by decide) pn_X5 (Nat.le_of_ble_eq_true rfl) rfl ?_
  refine z_iload1 0 dX5_drinks_0 ?_
  refine z_aload0 1 dX5_drinks_1 ?_
  refine z_get 2 gX5_7 dX5_drinks_2 T.kd (T.rf 1 rfl) ?_
  refine z_iconst 5 (nI 2) dX5_drinks_5 kI2 ?_
  refine z_iald (n := 204) 6 (2) dX5_drinks_6 (T.ak 1 rfl rfl) (T.al 1 rfl rfl) (rfl) ((by omega)) (by decide) (T.at1 (by omega)) ?_
  refine z_imulN 7 dX5_drinks_7 ?_
  refine z_istore3 8 dX5_drinks_8 rfl ?_
  refine z_iconst 9 (nI 0) dX5_drinks_9 kI0 ?_
  refine z_istore4 10 dX5_drinks_10 rfl ?_
  refine lpB 12 (8) (fun i Y => upx Y 9 i 0) (X) ((itN 8 (fun i Y => upx Y 9 i 0) X)) (rfl) (fun i a => [.ref m, .int (nI ch), .int (nI g), .int (nI (ch * (P 2))), .int (nI i), dum]) (fun i a h9 => MdTo h m A P a hs h9) (fun _ _ => True) (fun _ => k) (T) (trivial) (fun _ _ _ _ => trivial) (fun h_1 T hJ => ?_) (fun i a h_1 hi_i hJ T ih_i => ?_)
  · have T : MdTo h m A P (itN 8 (fun i Y => upx Y 9 i 0) X) hs h_1 := T
    have e : itN 8 (fun i Y => upx Y 9 i 0) X = stx X 9 (fun j => if j < 8 then 0 else X 9 j) := itN_fill 8 9 (fun _ => 0) X
    rw [e] at T
    have T : MdTo h m A P (stx X 9 (ngD g 0)) hs _ := T.reX (fun _ => 0) (c := 8) rfl rfl (fun j hj => by rw [if_pos hj])
    refine z_iload4 12 dX5_drinks_12 ?_
    refine z_bipush 14 (nI 8) dX5_drinks_14 kB8 ?_
    refine z_icgeN 16 33 dX5_drinks_16 (by decide) (by omega) (by omega) (fun c_16 => ?_) (fun c_16 => absurd c_16 (by omega))
    refine z_iconst 33 (nI 0) dX5_drinks_33 kI0 ?_
    refine z_istore4 34 dX5_drinks_34 rfl ?_
    have T := (show stx X 9 (ngD g 0) = stx (stx X 7 (X 7)) 9 (ngD g 0) from by rw [stx_id]) ▸ T
    refine lpB 36 8 (drS g) (P, X 7, ch * P 2) (drL P (X 7) ch g) rfl (fun i a => [.ref m, .int (nI ch), .int (nI g), .int (nI a.2.2), .int (nI i), dum]) (fun i a h9 => MdTo h m A a.1 (stx (stx X 7 a.2.1) 9 (ngD g i)) hs h9) (fun _ a => WF a.1 ∧ (∀ p, p < 8 → a.2.1 p < 4096) ∧ a.2.2 ≤ 891 ∧ a.1 2 = P 2) (fun _ => k) T ⟨W, hF, ?_, rfl⟩ (fun i a hi hJ => drS_J hg hi hJ) (fun h_9 T hJ => ?_) (fun i a h_9 hi hJ T ih => ?_)
    · have s9 := W.st
      exact Nat.le_trans (Nat.mul_le_mul hc s9.2.2.2.1) (by decide)
    · have T : MdTo h m A (drL P (X 7) ch g).1 (stx (stx X 7 (drF P (X 7) ch g)) 9 (ngD g 8)) hs h_9 := T
      have hJ : WF (drL P (X 7) ch g).1 ∧ (∀ p, p < 8 → (drL P (X 7) ch g).2.1 p < 4096) ∧ (drL P (X 7) ch g).2.2 ≤ 891 ∧ (drL P (X 7) ch g).1 2 = P 2 := hJ
      have s9 := hJ.1.st
      show Z E _ _ _ _ h_9 36 [.ref m, .int (nI ch), .int (nI g), .int (nI (drL P (X 7) ch g).2.2), .int (nI 8), dum] []
      refine z_iload4 36 dX5_drinks_36 ?_
      refine z_bipush 38 (nI 8) dX5_drinks_38 kB8 ?_
      refine z_icgeN 40 97 dX5_drinks_40 (by decide) (by omega) (by omega) (fun c_40 => ?_) (fun c_40 => absurd c_40 (by omega))
      refine z_aload0 97 dX5_drinks_97 ?_
      refine z_get 98 gX5_7 dX5_drinks_98 T.kd (T.rf 1 rfl) ?_
      refine z_bipush 101 (nI 8) dX5_drinks_101 kB8 ?_
      refine z_dup2 103 dX5_drinks_103 rfl rfl ?_
      refine z_iald (n := 204) 104 (8) dX5_drinks_104 (T.ak 1 rfl rfl) (T.al 1 rfl rfl) (rfl) ((by omega)) (by decide) (T.at1 (by omega)) ?_
      refine z_iload3 105 dX5_drinks_105 ?_
      refine z_aload0 106 dX5_drinks_106 ?_
      refine z_get 107 gX5_7 dX5_drinks_107 T.kd (T.rf 1 rfl) ?_
      refine z_iconst 110 (nI 2) dX5_drinks_110 kI2 ?_
      refine z_iald (n := 204) 111 (2) dX5_drinks_111 (T.ak 1 rfl rfl) (T.al 1 rfl rfl) (rfl) ((by omega)) (by decide) (T.at1 (by omega)) ?_
      refine z_iaddN 112 dX5_drinks_112 ?_
      refine z_iconst 113 (nI 1) dX5_drinks_113 kI1 ?_
      refine z_isubN 114 dX5_drinks_114 (by omega) ?_
      refine z_aload0 115 dX5_drinks_115 ?_
      refine z_get 116 gX5_7 dX5_drinks_116 T.kd (T.rf 1 rfl) ?_
      refine z_iconst 119 (nI 2) dX5_drinks_119 kI2 ?_
      refine z_iald (n := 204) 120 (2) dX5_drinks_120 (T.ak 1 rfl rfl) (T.al 1 rfl rfl) (rfl) ((by omega)) (by decide) (T.at1 (by omega)) ?_
      refine z_idivN 121 dX5_drinks_121 (by omega) (by omega) (by omega) ?_
      refine z_iaddN 122 dX5_drinks_122 ?_
      refine z_iast (n := 204) 123 (8) dX5_drinks_123 (T.ak 1 rfl rfl) (T.al 1 rfl rfl) (rfl) ((by omega)) (by decide) ?_
      have T := T.put1 8 (((drL P (X 7) ch g).1) 8 + (((drL P (X 7) ch g).2.2 + (((drL P (X 7) ch g).1) 2) - 1) / (((drL P (X 7) ch g).1) 2)))
      refine z_aload0 124 dX5_drinks_124 ?_
      refine z_get 125 gX5_7 dX5_drinks_125 T.kd (T.rf 1 rfl) ?_
      refine z_bipush 128 (nI 9) dX5_drinks_128 kB9 ?_
      refine z_dup2 130 dX5_drinks_130 rfl rfl ?_
      refine z_iald (n := 204) 131 (9) dX5_drinks_131 (T.ak 1 rfl rfl) (T.al 1 rfl rfl) (rfl) ((by omega)) (by decide) (T.at1 (by omega)) ?_
      refine z_iload1 132 dX5_drinks_132 ?_
      refine z_iaddN 133 dX5_drinks_133 ?_
      refine z_iast (n := 204) 134 (9) dX5_drinks_134 (T.ak 1 rfl rfl) (T.al 1 rfl rfl) (rfl) ((by omega)) (by decide) ?_
      have T := T.put1 9 ((upn ((drL P (X 7) ch g).1) 8 (((drL P (X 7) ch g).1) 8 + (((drL P (X 7) ch g).2.2 + (((drL P (X 7) ch g).1) 2) - 1) / (((drL P (X 7) ch g).1) 2)))) 9 + ch)
      refine z_return 135 rfl dX5_drinks_135 ?_
      exact ⟨rfl, T⟩
    · obtain ⟨Q, FL, ne⟩ := a
      obtain ⟨WQ, hFL, hne, -⟩ := hJ
      have T : MdTo h m A Q (stx (stx X 7 FL) 9 (ngD g i)) hs h_9 := T
      have WQ : WF Q := WQ
      have hFL : ∀ p, p < 8 → FL p < 4096 := hFL
      have hne : ne ≤ 891 := hne
      have ho := ngO_lt g hg i hi
      have hcl := clP_lt Q (ngO g i)
      have hap : apN (ngO g i) g < 8 := by unfold apN; split <;> omega
      have hgv := gvA_w Q FL (ngO g i) ne
      show Z E _ _ _ _ h_9 36 [.ref m, .int (nI ch), .int (nI g), .int (nI ne), .int (nI i), dum] []
      refine z_iload4 36 dX5_drinks_36 ?_
      refine z_bipush 38 (nI 8) dX5_drinks_38 kB8 ?_
      refine z_icgeN 40 97 dX5_drinks_40 (by decide) (by omega) (by omega) (fun c_40 => absurd c_40 (by omega)) (fun c_40 => ?_)
      refine z_aload0 43 dX5_drinks_43 ?_
      refine z_iload2 44 dX5_drinks_44 ?_
      refine z_V1 (k' := k) 45 vX5_92 dX5_drinks_45 T.kd (m_nearest T.1 (hg) (fun j _ => ngD_le g i j) (d - 1) 0 (by omega)) (by omega) (by omega) (Nat.le_of_ble_eq_true rfl) (aft_P (x := (oI (ngP (ngD g i) g))) ?_)
      rw [ngP_O g hg i hi, oI_some]
      refine z_istore5 48 dX5_drinks_48 rfl ?_
      refine z_aload0 50 dX5_drinks_50 ?_
      refine z_get 51 gX5_29 dX5_drinks_51 T.kd (T.rf 9 rfl) ?_
      refine z_iload5 54 dX5_drinks_54 ?_
      refine z_iconst 56 (nI 1) dX5_drinks_56 kI1 ?_
      refine z_zast (n := 8) 57 (ngO g i) dX5_drinks_57 (T.ak 9 rfl rfl) (T.al 9 rfl rfl) (rfl) ((by omega)) (by decide) (nb1) ?_
      have T := T.putX 9 (ngO g i) 1 rfl (by decide)
      rw [upx_stx, ngD_s] at T
      refine z_iload3 58 dX5_drinks_58 ?_
      refine z_aload0 59 dX5_drinks_59 ?_
      refine z_iload5 60 dX5_drinks_60 ?_
      refine z_V1 (k' := k) 62 vX5_54 dX5_drinks_62 T.kd (m_closed T.1 (ho) (WQ.h6) (WQ.B) (d - 1) 0 (by omega)) (by omega) (by omega) (Nat.le_of_ble_eq_true rfl) (aft_P (x := (nI (clP Q (ngO g i)))) ?_)
      refine z_ifneN 65 88 dX5_drinks_65 (by decide) (by omega) (fun c_65 => ?_) (fun c_65 => ?_)
      · refine z_iconst 88 (nI 0) dX5_drinks_88 kI0 ?_
        refine z_isubN 89 dX5_drinks_89 (by omega) ?_
        refine z_istore3 90 dX5_drinks_90 rfl ?_
        refine z_iinc4 91 ((nI (i + 1))) dX5_drinks_91 (nI_add _ _) rfl ?_
        refine z_goto 94 36 dX5_drinks_94 (by decide) ?_
        refine z_fog 5 ?_
        exact ih (Q, FL, ne - 0) _ (by first | (simp only [drS]; rw [if_pos ⟨by assumption, by assumption⟩]; done) | (simp only [drS]; rw [if_neg (by omega)]; rfl)) T
      · refine z_iload5 68 dX5_drinks_68 ?_
        refine z_iload2 70 dX5_drinks_70 ?_
        refine z_S2 (k' := k) 71 sX5_89 dX5_drinks_71 (m_apart (by omega) (by omega) (d - 1) 0) (by omega) (by omega) (Nat.le_of_ble_eq_true rfl) (aft_P (x := (nI (apN (ngO g i) g))) ?_)
        refine z_iconst 74 (nI 3) dX5_drinks_74 kI3 ?_
        refine z_icgeN 75 88 dX5_drinks_75 (by decide) (by omega) (by omega) (fun c_75 => ?_) (fun c_75 => ?_)
        · refine z_iconst 88 (nI 0) dX5_drinks_88 kI0 ?_
          refine z_isubN 89 dX5_drinks_89 (by omega) ?_
          refine z_istore3 90 dX5_drinks_90 rfl ?_
          refine z_iinc4 91 ((nI (i + 1))) dX5_drinks_91 (nI_add _ _) rfl ?_
          refine z_goto 94 36 dX5_drinks_94 (by decide) ?_
          refine z_fog 5 ?_
          exact ih (Q, FL, ne - 0) _ (by first | (simp only [drS]; rw [if_pos ⟨by assumption, by assumption⟩]; done) | (simp only [drS]; rw [if_neg (by omega)]; rfl)) T
        · refine z_aload0 78 dX5_drinks_78 ?_
          refine z_iload5 79 dX5_drinks_79 ?_
          refine z_iload3 81 dX5_drinks_81 ?_
          refine z_V2 (k' := k) 82 vX5_95 dX5_drinks_82 T.kd (m_gives T.1 (ho) (WQ) (by omega) (hFL _ ho) (d - 1) 0 (by omega)) (by omega) (by omega) (Nat.le_of_ble_eq_true rfl) (aft_I fun x_2 h_2 hq => ?_)
          obtain ⟨hx, T1⟩ := hq
          have hx : x_2 = (nI (gvA Q FL (ngO g i) ne)) := hx
          subst hx
          have T : MdTo h m A (gvP Q FL (ngO g i) ne) (stx (stx X 7 (gwF Q FL (ngO g i) ne)) 9 (ngD g (i + 1))) hs h_2 := by have q := T.trans T1; rw [stx_comm (f := 9) (g := 7) _ _ _ (by decide), stx_stx] at q; exact q
          refine z_goto 85 89 dX5_drinks_85 (by decide) ?_
          refine z_isubN 89 dX5_drinks_89 (by omega) ?_
          refine z_istore3 90 dX5_drinks_90 rfl ?_
          refine z_iinc4 91 ((nI (i + 1))) dX5_drinks_91 (nI_add _ _) rfl ?_
          refine z_goto 94 36 dX5_drinks_94 (by decide) ?_
          refine z_fog 5 ?_
          exact ih (gvP Q FL (ngO g i) ne, (gwF Q FL (ngO g i) ne), ne - (gvA Q FL (ngO g i) ne)) _ (by first | (simp only [drS]; rw [if_pos ⟨by assumption, by assumption⟩]; done) | (simp only [drS]; rw [if_neg (by omega)]; rfl)) T
  · refine z_iload4 12 dX5_drinks_12 ?_
    refine z_bipush 14 (nI 8) dX5_drinks_14 kB8 ?_
    refine z_icgeN 16 33 dX5_drinks_16 (by decide) (by omega) (by omega) (fun c_16 => absurd c_16 (by omega)) (fun c_16 => ?_)
    refine z_aload0 19 dX5_drinks_19 ?_
    refine z_get 20 gX5_29 dX5_drinks_20 T.kd (T.rf 9 rfl) ?_
    refine z_iload4 23 dX5_drinks_23 ?_
    refine z_iconst 25 (nI 0) dX5_drinks_25 kI0 ?_
    refine z_zast (n := 8) 26 (i) dX5_drinks_26 (T.ak 9 rfl rfl) (T.al 9 rfl rfl) (rfl) ((by omega)) (by decide) (nb0) ?_
    have T := T.putX 9 i 0 rfl (by decide)
    refine z_iinc4 27 ((nI (i + 1))) dX5_drinks_27 (nI_add _ _) rfl ?_
    refine z_goto 30 12 dX5_drinks_30 (by decide) ?_
    exact ih_i (upx a 9 i 0) _ (by rfl) T

