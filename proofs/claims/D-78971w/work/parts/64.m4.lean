/-! THE REFERENCE: outings go, a day -/
theorem upx_89 (X : Nat → Nat → Nat) (p q : Nat → Nat) (i v : Nat) : upx (stx (stx X 8 p) 9 q) 8 i v = stx (stx X 8 (upn p i v)) 9 q := by
  rw [stx_comm _ _ _ (show 8 ≠ 9 by decide), upx_stx, stx_comm _ _ _ (show 9 ≠ 8 by decide)]
set_option maxHeartbeats 4000000 in
theorem m_drops {E : Ev} {h : HP} {m : Nat} {A P : Nat → Nat} {X : Nat → Nat → Nat} {hs : Int64} (T0 : MdAt h m A P X hs) {y : Nat} (hy : y < 4096) (W : WF P) (d k : Nat) (hd : 1 ≤ d) : Call E yX5_drops d k [.ref m, .int (nI y)] h (rI fun x h' => x = nI (dpL P y).2.2 ∧ MdTo h m A (dpP P y) X hs h') := by
  have T := T0.to
  have h7 := W.h7
  refine Call.of [.ref m, .int (nI y), dum, dum, dum, dum, dum] q2255 (by decide) pn_X5 (Nat.le_of_ble_eq_true rfl) rfl ?_
  refine z_iconst 0 (nI 0) dX5_drops_0 kI0 ?_
  refine z_istore2 1 dX5_drops_1 rfl ?_
  refine z_iconst 2 (nI 0) dX5_drops_2 kI0 ?_
  refine z_istore3 3 dX5_drops_3 rfl ?_
  refine z_iconst 4 (nI 0) dX5_drops_4 kI0 ?_
  refine z_istore4 5 dX5_drops_5 rfl ?_
  refine lpB 7 (P 7) (dpS y) (((P, 0, 0) : Dp)) ((dpL P y)) (rfl) (fun i a => [.ref m, .int (nI y), .int (nI a.2.1), .int (nI a.2.2), .int (nI i), dum, dum]) (fun i a h9 => MdTo h m A a.1 X hs h9) (fun i s => s.1 7 = P 7 ∧ Bd s.1 ∧ s.2.1 ≤ i) (fun _ => k) (T) (⟨rfl, W.B, Nat.le_refl 0⟩) (fun i s hi hJ => ⟨(dpS_at y i 7 s (by omega)).trans hJ.1, dpS_bd hJ.2.1 (by omega) (by omega) hJ.2.2, Nat.le_trans (dpS_n y i s).2 (by omega)⟩) (fun h_1 T hJ => ?_) (fun i a h_1 hi_i hJ T ih_i => ?_)
  · have T : MdTo h m A ((dpL P y).1) X hs h_1 := T
    have e7 : (dpL P y).1 7 = P 7 := hJ.1
    have hn : (dpL P y).2.1 ≤ P 7 := hJ.2.2
    refine z_iload4 7 dX5_drops_7 ?_
    refine z_aload0 9 dX5_drops_9 ?_
    refine z_get 10 gX5_7 dX5_drops_10 T.kd (T.rf 1 rfl) ?_
    refine z_bipush 13 (nI 7) dX5_drops_13 kB7 ?_
    refine z_iald (n := 204) 15 (7) dX5_drops_15 (T.ak 1 rfl rfl) (T.al 1 rfl rfl) (rfl) ((by omega)) (by decide) (T.at1 (by omega)) ?_
    refine z_icgeN 16 126 dX5_drops_16 (by decide) (by omega) (by omega) (fun c_16 => ?_) (fun c_16 => absurd c_16 (by omega))
    refine z_iconst 126 (nI 3) dX5_drops_126 kI3 ?_
    refine z_iload2 127 dX5_drops_127 ?_
    refine z_imulN 128 dX5_drops_128 ?_
    refine z_istore4 129 dX5_drops_129 rfl ?_
    refine lpB 131 (3 * P 7 - 3 * (dpL P y).2.1) (fun i Q => upn Q (153 + (3 * (dpL P y).2.1 + i)) 0) ((dpL P y).1) ((dpZ (dpL P y).1 (dpL P y).2.1 (3 * P 7 - 3 * (dpL P y).2.1))) (rfl) (fun i a => [.ref m, .int (nI y), .int (nI ((dpL P y).2.1)), .int (nI ((dpL P y).2.2)), .int (nI (3 * (dpL P y).2.1 + i)), dum, dum]) (fun i a h9 => MdTo h m A a X hs h9) (fun i a => a 7 = P 7) (fun _ => k) (T) (e7) (fun i a hi hJ => (upn_n _ _ (by omega)).trans hJ) (fun h_2 T hJ => ?_) (fun i a h_2 hi_i hJ T ih_i => ?_)
    · have T : MdTo h m A (dpZ (dpL P y).1 (dpL P y).2.1 (3 * P 7 - 3 * (dpL P y).2.1)) X hs h_2 := T
      have e8 : dpZ (dpL P y).1 (dpL P y).2.1 (3 * P 7 - 3 * (dpL P y).2.1) 7 = P 7 := hJ
      refine z_iload4 131 dX5_drops_131 ?_
      refine z_iconst 133 (nI 3) dX5_drops_133 kI3 ?_
      refine z_aload0 134 dX5_drops_134 ?_
      refine z_get 135 gX5_7 dX5_drops_135 T.kd (T.rf 1 rfl) ?_
      refine z_bipush 138 (nI 7) dX5_drops_138 kB7 ?_
      refine z_iald (n := 204) 140 (7) dX5_drops_140 (T.ak 1 rfl rfl) (T.al 1 rfl rfl) (rfl) ((by omega)) (by decide) (T.at1 (by omega)) ?_
      refine z_imulN 141 dX5_drops_141 ?_
      refine z_icgeN 142 163 dX5_drops_142 (by decide) (by omega) (by omega) (fun c_142 => ?_) (fun c_142 => absurd c_142 (by omega))
      refine z_aload0 163 dX5_drops_163 ?_
      refine z_get 164 gX5_7 dX5_drops_164 T.kd (T.rf 1 rfl) ?_
      refine z_bipush 167 (nI 7) dX5_drops_167 kB7 ?_
      refine z_iload2 169 dX5_drops_169 ?_
      refine z_iast (n := 204) 170 (7) dX5_drops_170 (T.ak 1 rfl rfl) (T.al 1 rfl rfl) (rfl) ((by omega)) (by decide) ?_
      have T := T.put1 7 ((dpL P y).2.1)
      refine z_iload3 171 dX5_drops_171 ?_
      refine z_ireturn 172 rfl dX5_drops_172 ?_
      exact ⟨_, rfl, rfl, T⟩
    · have e8 : a 7 = P 7 := hJ
      refine z_iload4 131 dX5_drops_131 ?_
      refine z_iconst 133 (nI 3) dX5_drops_133 kI3 ?_
      refine z_aload0 134 dX5_drops_134 ?_
      refine z_get 135 gX5_7 dX5_drops_135 T.kd (T.rf 1 rfl) ?_
      refine z_bipush 138 (nI 7) dX5_drops_138 kB7 ?_
      refine z_iald (n := 204) 140 (7) dX5_drops_140 (T.ak 1 rfl rfl) (T.al 1 rfl rfl) (rfl) ((by omega)) (by decide) (T.at1 (by omega)) ?_
      refine z_imulN 141 dX5_drops_141 ?_
      refine z_icgeN 142 163 dX5_drops_142 (by decide) (by omega) (by omega) (fun c_142 => absurd c_142 (by omega)) (fun c_142 => ?_)
      refine z_aload0 145 dX5_drops_145 ?_
      refine z_get 146 gX5_7 dX5_drops_146 T.kd (T.rf 1 rfl) ?_
      refine z_sipush 149 (nI 153) dX5_drops_149 kS153 ?_
      refine z_iload4 152 dX5_drops_152 ?_
      refine z_iaddN 154 dX5_drops_154 ?_
      refine z_iconst 155 (nI 0) dX5_drops_155 kI0 ?_
      refine z_iast (n := 204) 156 (153 + (3 * (dpL P y).2.1 + i)) dX5_drops_156 (T.ak 1 rfl rfl) (T.al 1 rfl rfl) (rfl) ((by omega)) (by decide) ?_
      have T := T.put1 (153 + (3 * (dpL P y).2.1 + i)) 0
      refine z_iinc4 157 ((nI (3 * (dpL P y).2.1 + i + 1))) dX5_drops_157 (nI_add _ _) rfl ?_
      refine z_goto 160 131 dX5_drops_160 (by decide) ?_
      exact ih_i (upn a (153 + (3 * (dpL P y).2.1 + i)) 0) _ (by rfl) T
  · obtain ⟨Q, n, ch⟩ := a
    have e7 : Q 7 = P 7 := hJ.1
    have BQ : Bd Q := hJ.2.1
    have hn : n ≤ i := hJ.2.2
    have T : MdTo h m A Q X hs _ := T
    have b0 := BQ.og (j := i) (w := 0) (by omega) (by omega)
    refine z_iload4 7 dX5_drops_7 ?_
    refine z_aload0 9 dX5_drops_9 ?_
    refine z_get 10 gX5_7 dX5_drops_10 T.kd (T.rf 1 rfl) ?_
    refine z_bipush 13 (nI 7) dX5_drops_13 kB7 ?_
    refine z_iald (n := 204) 15 (7) dX5_drops_15 (T.ak 1 rfl rfl) (T.al 1 rfl rfl) (rfl) ((by omega)) (by decide) (T.at1 (by omega)) ?_
    refine z_icgeN 16 126 dX5_drops_16 (by decide) (by omega) (by omega) (fun c_16 => absurd c_16 (by omega)) (fun c_16 => ?_)
    refine z_aload0 19 dX5_drops_19 ?_
    refine z_iload4 20 dX5_drops_20 ?_
    refine z_iconst 22 (nI 0) dX5_drops_22 kI0 ?_
    refine z_V2 (k' := k) 23 vX5_98 dX5_drops_23 T.kd (m_outingOf T.1 (by omega) (by omega) (d - 1) 0) (by omega) (by omega) (Nat.le_of_ble_eq_true rfl) (aft_P (x := (nI (ogP Q i 0))) ?_)
    refine z_iload1 26 dX5_drops_26 ?_
    refine z_icneN 27 34 dX5_drops_27 (by decide) (by omega) (by omega) (fun c_27 => ?_) (fun c_27 => ?_)
    · refine z_iconst 34 (nI 0) dX5_drops_34 kI0 ?_
      refine z_istore5 35 dX5_drops_35 rfl ?_
      refine z_iload3 37 dX5_drops_37 ?_
      refine z_iload5 38 dX5_drops_38 ?_
      refine z_ifeqN 40 53 dX5_drops_40 (by decide) (by omega) (fun c_40 => ?_) (fun c_40 => absurd c_40 (by decide))
      refine z_iconst 53 (nI 0) dX5_drops_53 kI0 ?_
      refine z_iaddN 54 dX5_drops_54 ?_
      refine z_istore3 55 dX5_drops_55 rfl ?_
      refine z_iconst 56 (nI 0) dX5_drops_56 kI0 ?_
      refine z_istore6 57 dX5_drops_57 rfl ?_
      refine lpB 59 (3) (fun i2 Q => upn Q (153 + 3 * n + i2) (Q (153 + 3 * i + i2))) (Q) ((itN 3 (fun i2 Q => upn Q (153 + 3 * n + i2) (Q (153 + 3 * i + i2))) Q)) (rfl) (fun i2 R => [.ref m, .int (nI y), .int (nI n), .int (nI (ch + 0)), .int (nI i), .int (nI 0), .int (nI i2)]) (fun i2 R h9 => MdTo h m A R X hs h9) (fun _ _ => True) (fun _ => k) (T) (trivial) (fun _ _ _ _ => trivial) (fun h_3 T hJ => ?_) (fun i2 R h_3 hi_i2 hJ T ih_i2 => ?_)
      · have T : MdTo h m A (itN 3 (fun i2 Q => upn Q (153 + 3 * n + i2) (Q (153 + 3 * i + i2))) Q) X hs h_3 := T
        refine z_iload6 59 dX5_drops_59 ?_
        refine z_iconst 61 (nI 3) dX5_drops_61 kI3 ?_
        refine z_icgeN 62 107 dX5_drops_62 (by decide) (by omega) (by omega) (fun c_62 => ?_) (fun c_62 => absurd c_62 (by omega))
        refine z_iload2 107 dX5_drops_107 ?_
        refine z_iload5 108 dX5_drops_108 ?_
        refine z_ifeqN 110 117 dX5_drops_110 (by decide) (by omega) (fun c_110 => ?_) (fun c_110 => absurd c_110 (by decide))
        refine z_iconst 117 (nI 1) dX5_drops_117 kI1 ?_
        refine z_iaddN 118 dX5_drops_118 ?_
        refine z_istore2 119 dX5_drops_119 rfl ?_
        refine z_iinc4 120 ((nI (i + 1))) dX5_drops_120 (nI_add _ _) rfl ?_
        refine z_goto 123 7 dX5_drops_123 (by decide) ?_
        refine z_fog 5 ?_
        refine z_fog 6 ?_
        exact ih_i (((itN 3 (fun i2 Q => upn Q (153 + 3 * n + i2) (Q (153 + 3 * i + i2))) Q), n + 1, ch + 0)) _ (by simp only [dpS]; first | (rw [if_pos c_27]; done) | (rw [if_neg c_27]; done) | (rw [if_pos c_27]; rfl) | (rw [if_neg c_27]; rfl)) T
      · refine z_iload6 59 dX5_drops_59 ?_
        refine z_iconst 61 (nI 3) dX5_drops_61 kI3 ?_
        refine z_icgeN 62 107 dX5_drops_62 (by decide) (by omega) (by omega) (fun c_62 => absurd c_62 (by omega)) (fun c_62 => ?_)
        refine z_iload5 65 dX5_drops_65 ?_
        refine z_ifneN 67 107 dX5_drops_67 (by decide) (by omega) (fun c_67 => absurd c_67 (by decide)) (fun c_67 => ?_)
        refine z_aload0 70 dX5_drops_70 ?_
        refine z_get 71 gX5_7 dX5_drops_71 T.kd (T.rf 1 rfl) ?_
        refine z_sipush 74 (nI 153) dX5_drops_74 kS153 ?_
        refine z_iconst 77 (nI 3) dX5_drops_77 kI3 ?_
        refine z_iload2 78 dX5_drops_78 ?_
        refine z_imulN 79 dX5_drops_79 ?_
        refine z_iaddN 80 dX5_drops_80 ?_
        refine z_iload6 81 dX5_drops_81 ?_
        refine z_iaddN 83 dX5_drops_83 ?_
        refine z_aload0 84 dX5_drops_84 ?_
        refine z_get 85 gX5_7 dX5_drops_85 T.kd (T.rf 1 rfl) ?_
        refine z_sipush 88 (nI 153) dX5_drops_88 kS153 ?_
        refine z_iconst 91 (nI 3) dX5_drops_91 kI3 ?_
        refine z_iload4 92 dX5_drops_92 ?_
        refine z_imulN 94 dX5_drops_94 ?_
        refine z_iaddN 95 dX5_drops_95 ?_
        refine z_iload6 96 dX5_drops_96 ?_
        refine z_iaddN 98 dX5_drops_98 ?_
        refine z_iald (n := 204) 99 (153 + 3 * i + i2) dX5_drops_99 (T.ak 1 rfl rfl) (T.al 1 rfl rfl) (rfl) ((by omega)) (by decide) (T.at1 (by omega)) ?_
        refine z_iast (n := 204) 100 (153 + 3 * n + i2) dX5_drops_100 (T.ak 1 rfl rfl) (T.al 1 rfl rfl) (rfl) ((by omega)) (by decide) ?_
        have T := T.put1 (153 + 3 * n + i2) (R (153 + 3 * i + i2))
        refine z_iinc6 101 ((nI (i2 + 1))) dX5_drops_101 (nI_add _ _) rfl ?_
        refine z_goto 104 59 dX5_drops_104 (by decide) ?_
        exact ih_i2 (upn R (153 + 3 * n + i2) (R (153 + 3 * i + i2))) _ (by rfl) T
    · refine z_iconst 30 (nI 1) dX5_drops_30 kI1 ?_
      refine z_goto 31 35 dX5_drops_31 (by decide) ?_
      refine z_istore5 35 dX5_drops_35 rfl ?_
      refine z_iload3 37 dX5_drops_37 ?_
      refine z_iload5 38 dX5_drops_38 ?_
      refine z_ifeqN 40 53 dX5_drops_40 (by decide) (by omega) (fun c_40 => absurd c_40 (by decide)) (fun c_40 => ?_)
      refine z_aload0 43 dX5_drops_43 ?_
      refine z_iload4 44 dX5_drops_44 ?_
      refine z_iconst 46 (nI 1) dX5_drops_46 kI1 ?_
      refine z_V2 (k' := k) 47 vX5_98 dX5_drops_47 T.kd (m_outingOf T.1 (by omega) (by omega) (d - 1) 0) (by omega) (by omega) (Nat.le_of_ble_eq_true rfl) (aft_P (x := (nI (ogP Q i 1))) ?_)
      refine z_goto 50 54 dX5_drops_50 (by decide) ?_
      refine z_iaddN 54 dX5_drops_54 ?_
      refine z_istore3 55 dX5_drops_55 rfl ?_
      refine z_iconst 56 (nI 0) dX5_drops_56 kI0 ?_
      refine z_istore6 57 dX5_drops_57 rfl ?_
      refine z_iload6 59 dX5_drops_59 ?_
      refine z_iconst 61 (nI 3) dX5_drops_61 kI3 ?_
      refine z_icgeN 62 107 dX5_drops_62 (by decide) (by omega) (by omega) (fun c_62 => absurd c_62 (by omega)) (fun c_62 => ?_)
      refine z_iload5 65 dX5_drops_65 ?_
      refine z_ifneN 67 107 dX5_drops_67 (by decide) (by omega) (fun c_67 => ?_) (fun c_67 => absurd c_67 (by decide))
      refine z_iload2 107 dX5_drops_107 ?_
      refine z_iload5 108 dX5_drops_108 ?_
      refine z_ifeqN 110 117 dX5_drops_110 (by decide) (by omega) (fun c_110 => absurd c_110 (by decide)) (fun c_110 => ?_)
      refine z_iconst 113 (nI 0) dX5_drops_113 kI0 ?_
      refine z_goto 114 118 dX5_drops_114 (by decide) ?_
      refine z_iaddN 118 dX5_drops_118 ?_
      refine z_istore2 119 dX5_drops_119 rfl ?_
      refine z_iinc4 120 ((nI (i + 1))) dX5_drops_120 (nI_add _ _) rfl ?_
      refine z_goto 123 7 dX5_drops_123 (by decide) ?_
      refine z_fog 5 ?_
      refine z_fog 6 ?_
      exact ih_i ((Q, n + 0, ch + ogP Q i 1)) _ (by simp only [dpS]; first | (rw [if_pos c_27]; done) | (rw [if_neg c_27]; done) | (rw [if_pos c_27]; rfl) | (rw [if_neg c_27]; rfl)) T

set_option maxHeartbeats 4000000 in
theorem m_day {E : Ev} {h : HP} {m : Nat} {A P : Nat → Nat} {X : Nat → Nat → Nat} {hs : Int64} (T0 : MdAt h m A P X hs) (W : WF P) (d k : Nat) (hd : 4 ≤ d) : Call E yX5_day d k [.ref m] h (rV (fun h' => ∃ FL D K, MdTo h m A (dyP P) (stx (stx (stx X 7 FL) 8 D) 9 K) hs h')) := by
  have T := T0.to
  have b5 := W.B.s 5 (by omega)
  have W0 : WF (dy0 P) := by
    unfold dy0; split
    · exact W.fz
    · exact W
  have W1 : WF (dy1 P) := W0.wk _
  refine Call.of [.ref m, dum, dum, dum] q2278 (by decide) pn_X5 (Nat.le_of_ble_eq_true rfl) rfl ?_
  refine z_aload0 0 dX5_day_0 ?_
  refine z_aload0 1 dX5_day_1 ?_
  refine z_get 2 gX5_7 dX5_day_2 T.kd (T.rf 1 rfl) ?_
  refine z_iconst 5 (nI 5) dX5_day_5 kI5 ?_
  refine z_iald (n := 204) 6 (5) dX5_day_6 (T.ak 1 rfl rfl) (T.al 1 rfl rfl) (rfl) ((by omega)) (by decide) (T.at1 (by omega)) ?_
  refine z_V1 (k' := k) 7 vX5_50 dX5_day_7 T.kd (m_isFrosty T.1 (by omega) (W.h6) (W.B) (d - 1) 0 (by omega)) (by omega) (by omega) (Nat.le_of_ble_eq_true rfl) (aft_P (x := (nI (bN (frP P (P 5))))) ?_)
  refine z_istore1 10 dX5_day_10 rfl ?_
  refine joinH 19 [.ref m, .int (nI (bN (frP P (P 5)))), dum, dum] [] (fun h9 => MdTo h m A (dy0 P) X hs h9) (fun h_j T => ?_) (fun J => ?_)
  · have T : MdTo h m A (dy0 P) X hs h_j := T
    refine z_aload0 19 dX5_day_19 ?_
    refine z_iload1 20 dX5_day_20 ?_
    refine z_V1 (k' := k) 21 vX5_104 dX5_day_21 T.kd (m_works (fz := frP P (P 5)) T.1 W0 (d - 1) 0 (by omega)) (by omega) (by omega) (Nat.le_of_ble_eq_true rfl) (aft_V fun h_w hq => ?_)
    obtain ⟨D1, T1⟩ := hq
    have T : MdTo h m A (dy1 P) (stx X 8 D1) hs h_w := T.trans T1
    refine z_iconst 24 (nI 0) dX5_day_24 kI0 ?_
    refine z_istore2 25 dX5_day_25 rfl ?_
    refine lpB 26 (8) (fun i Y => upx Y 7 i (4 * ofP (dy1 P) i 0)) (stx X 8 D1) ((itN 8 (fun i Y => upx Y 7 i (4 * ofP (dy1 P) i 0)) (stx X 8 D1))) (rfl) (fun i a => [.ref m, .int (nI (bN (frP P (P 5)))), .int (nI i), dum]) (fun i a h9 => MdTo h m A (dy1 P) a hs h9) (fun _ _ => True) (fun _ => k) (T) (trivial) (fun _ _ _ _ => trivial) (fun h_2 T hJ => ?_) (fun i a h_2 hi_i hJ T ih_i => ?_)
    · have T : MdTo h m A (dy1 P) (itN 8 (fun i Y => upx Y 7 i (4 * ofP (dy1 P) i 0)) (stx X 8 D1)) hs h_2 := T
      have e : itN 8 (fun i Y => upx Y 7 i (4 * ofP (dy1 P) i 0)) (stx X 8 D1) = stx (stx X 8 D1) 7 (fun j => if j < 8 then 4 * ofP (dy1 P) j 0 else stx X 8 D1 7 j) := itN_fill 8 7 (fun i => 4 * ofP (dy1 P) i 0) (stx X 8 D1)
      rw [e] at T
      have T : MdTo h m A (dy1 P) (stx (stx X 8 D1) 7 (fun p => 4 * ofP (dy1 P) p 0)) hs _ := T.reX (fun p => 4 * ofP (dy1 P) p 0) (c := 8) rfl rfl (fun j hj => by rw [if_pos hj])
      refine z_iload2 26 dX5_day_26 ?_
      refine z_bipush 27 (nI 8) dX5_day_27 kB8 ?_
      refine z_icgeN 29 52 dX5_day_29 (by decide) (by omega) (by omega) (fun c_29 => ?_) (fun c_29 => absurd c_29 (by omega))
      refine z_aload0 52 dX5_day_52 ?_
      refine z_V0 (k' := k) 53 vX5_76 dX5_day_53 T.kd (m_opensRound T.1  (d - 1) 0) (by omega) (by omega) (Nat.le_of_ble_eq_true rfl) (aft_V fun h_3 hq => ?_)
      have T : MdTo h m A (dy1 P) (stx (stx X 7 (fun p => 4 * ofP (dy1 P) p 0)) 8 (fun _ => 0)) hs h_3 := by have q := T.trans hq; rw [stx_comm _ _ _ (show 7 ≠ 8 by decide), stx_stx, stx_comm _ _ _ (show 8 ≠ 7 by decide)] at q; exact q
      have b51 := W1.B.s 5 (by omega)
      refine z_aload0 56 dX5_day_56 ?_
      refine z_aload0 57 dX5_day_57 ?_
      refine z_get 58 gX5_7 dX5_day_58 T.kd (T.rf 1 rfl) ?_
      refine z_iconst 61 (nI 5) dX5_day_61 kI5 ?_
      refine z_iald (n := 204) 62 (5) dX5_day_62 (T.ak 1 rfl rfl) (T.al 1 rfl rfl) (rfl) ((by omega)) (by decide) (T.at1 (by omega)) ?_
      refine z_V1 (k' := k) 63 vX5_108 dX5_day_63 T.kd (m_nextOuting T.1 (by omega) (W1.h7) (W1.B) (fun _ _ => Nat.zero_le _) (d - 1) 0 (by omega)) (by omega) (by omega) (Nat.le_of_ble_eq_true rfl) (aft_P (x := (oI (noP (dy1 P) (fun _ => 0) ((dy1 P) 5)))) ?_)
      refine z_istore2 66 dX5_day_66 rfl ?_
      have T := (show stx (stx X 7 (fun p => 4 * ofP (dy1 P) p 0)) 8 (fun _ => 0) = stx (stx (stx X 7 (fun p => 4 * ofP (dy1 P) p 0)) 8 (fun _ => 0)) 9 (X 9) from by rw [stx_comm _ _ _ (show 8 ≠ 9 by decide), stx_comm _ _ _ (show 7 ≠ 9 by decide), stx_id]) ▸ T
      refine lpW 67 (fun s : Nat × (Nat → Nat) × (Nat → Nat) × (Nat → Nat) => [.ref m, .int (nI (bN (frP P (P 5)))), .int (oI (noP s.2.1 s.2.2.2 (s.2.1 5))), dum]) (fun s h9 => (∃ K : Nat → Nat, MdTo h m A s.2.1 (stx (stx (stx X 7 s.2.2.1) 8 s.2.2.2) 9 K) hs h9) ∧ WF s.2.1 ∧ svF s.1 s.2.1 s.2.2.1 s.2.2.2 = dy2 P ∧ cuD 17 s.2.2.2 < s.1 ∧ (∀ j, s.2.2.2 j ≤ 1) ∧ ∀ p, p < 8 → s.2.2.1 p < 4096) (fun _ => k) (fun s => s.1) (18, dy1 P, fun p => 4 * ofP (dy1 P) p 0, fun _ => 0) ⟨⟨X 9, T⟩, W1, rfl, by show cuD 17 (fun _ => 0) < 18; rw [cuD_0]; decide, fun _ => Nat.zero_le _, fun p hp => by have := (W1.pl hp).2.2.2.2.1; show 4 * ofP (dy1 P) p 0 < 4096; omega⟩ (fun s h9 hI ih => ?_)
      obtain ⟨n, Q, FL, D⟩ := s
      have hc0 : cuD 17 D < n := hI.2.2.2.1
      obtain ⟨n', rfl⟩ : ∃ n', n = n' + 1 := ⟨n - 1, by omega⟩
      obtain ⟨⟨K, T⟩, WQ, he, hc, hD, hF⟩ := hI
      have T : MdTo h m A Q (stx (stx (stx X 7 FL) 8 D) 9 K) hs h9 := T
      have WQ : WF Q := WQ
      have he : svF (n' + 1) Q FL D = dy2 P := he
      have hc : cuD 17 D < n' + 1 := hc
      have hD : ∀ j, D j ≤ 1 := hD
      have hF : ∀ p, p < 8 → FL p < 4096 := hF
      have b5 := WQ.B.s 5 (by omega)
      have h7 := WQ.h7
      show Z E _ _ _ _ h9 67 [.ref m, .int (nI (bN (frP P (P 5)))), .int (oI (noP Q D (Q 5))), dum] []
      refine z_iload2 67 dX5_day_67 ?_
      refine z_iconst 68 (-1) dX5_day_68 kIm1 ?_
      rcases hn : noP Q D (Q 5) with _ | o
      · refine z_iceq 69 109 dX5_day_69 (by decide) (fun _ => ?_) (fun q => absurd rfl q)
        refine z_aload0 109 dX5_day_109 ?_
        refine z_aload0 110 dX5_day_110 ?_
        refine z_get 111 gX5_7 dX5_day_111 T.kd (T.rf 1 rfl) ?_
        refine z_iconst 114 (nI 5) dX5_day_114 kI5 ?_
        refine z_iald (n := 204) 115 (5) dX5_day_115 (T.ak 1 rfl rfl) (T.al 1 rfl rfl) (rfl) ((by omega)) (by decide) (T.at1 (by omega)) ?_
        refine z_V1 (k' := k) 116 vX5_115 dX5_day_116 T.kd (m_drops T.1 (b5) (WQ) (d - 1) 0 (by omega)) (by omega) (by omega) (Nat.le_of_ble_eq_true rfl) (aft_I fun x_4 h_4 hq => ?_)
        obtain ⟨hx, T1⟩ := hq
        have hx : x_4 = (nI ((dpL Q (Q 5)).2.2)) := hx
        subst hx
        have T : MdTo h m A (dpP Q (Q 5)) (stx (stx (stx X 7 FL) 8 D) 9 K) hs h_4 := T.trans T1
        refine z_pop 119 dX5_day_119 (rfl) ?_
        refine z_iconst 120 (nI 0) dX5_day_120 kI0 ?_
        refine z_istore3 121 dX5_day_121 rfl ?_
        have e9 : itN 8 vsS (dpP Q (Q 5), FL) = dy3 P := by unfold dy3; rw [← he, svF_none hn]
        refine lpB 122 (8) (vsS) ((dpP Q (Q 5), FL)) ((dy3 P)) (e9) (fun i a => [.ref m, .int (nI (bN (frP P (P 5)))), .int (-1), .int (nI i)]) (fun i a h9 => MdTo h m A a.1 (stx (stx (stx X 7 a.2) 8 D) 9 K) hs h9) (fun i s => WF s.1 ∧ ∀ p, p < 8 → s.2 p < 4096) (fun _ => k) (T) (⟨(WQ.dp _).1, hF⟩) (fun i s hi hJ => vsS_J hi hJ) (fun h_5 T hJ => ?_) (fun i a h_5 hi_i hJ T ih_i => ?_)
        · have T : MdTo h m A ((dy3 P).1) (stx (stx (stx X 7 (dy3 P).2) 8 D) 9 K) hs h_5 := T
          refine z_iload3 122 dX5_day_122 ?_
          refine z_bipush 123 (nI 8) dX5_day_123 kB8 ?_
          refine z_icgeN 125 156 dX5_day_125 (by decide) (by omega) (by omega) (fun c_125 => ?_) (fun c_125 => absurd c_125 (by omega))
          refine z_aload0 156 dX5_day_156 ?_
          refine z_get 157 gX5_7 dX5_day_157 T.kd (T.rf 1 rfl) ?_
          refine z_iconst 160 (nI 5) dX5_day_160 kI5 ?_
          refine z_dup2 161 dX5_day_161 rfl rfl ?_
          refine z_iald (n := 204) 162 (5) dX5_day_162 (T.ak 1 rfl rfl) (T.al 1 rfl rfl) (rfl) ((by omega)) (by decide) (T.at1 (by omega)) ?_
          refine z_iconst 163 (nI 1) dX5_day_163 kI1 ?_
          refine z_iaddN 164 dX5_day_164 ?_
          refine z_iast (n := 204) 165 (5) dX5_day_165 (T.ak 1 rfl rfl) (T.al 1 rfl rfl) (rfl) ((by omega)) (by decide) ?_
          have T := T.put1 5 (((dy3 P).1) 5 + 1)
          refine z_return 166 rfl dX5_day_166 ?_
          exact ⟨rfl, _, _, _, T⟩
        · obtain ⟨R, GL⟩ := a
          have WR : WF R := hJ.1
          have hG : ∀ p, p < 8 → GL p < 4096 := hJ.2
          have T : MdTo h m A R (stx (stx (stx X 7 GL) 8 D) 9 K) hs _ := T
          have c9 := clP_lt R i
          have s9 := WR.st
          refine z_iload3 122 dX5_day_122 ?_
          refine z_bipush 123 (nI 8) dX5_day_123 kB8 ?_
          refine z_icgeN 125 156 dX5_day_125 (by decide) (by omega) (by omega) (fun c_125 => absurd c_125 (by omega)) (fun c_125 => ?_)
          refine z_aload0 128 dX5_day_128 ?_
          refine z_iload3 129 dX5_day_129 ?_
          refine z_V1 (k' := k) 130 vX5_54 dX5_day_130 T.kd (m_closed T.1 (hi_i) (WR.h6) (WR.B) (d - 1) 0 (by omega)) (by omega) (by omega) (Nat.le_of_ble_eq_true rfl) (aft_P (x := (nI (clP R i))) ?_)
          refine z_ifneN 133 150 dX5_day_133 (by decide) (by omega) (fun c_133 => ?_) (fun c_133 => ?_)
          · refine z_iinc3 150 ((nI (i + 1))) dX5_day_150 (nI_add _ _) rfl ?_
            refine z_goto 153 122 dX5_day_153 (by decide) ?_
            exact ih_i ((R, GL)) _ (by simp only [vsS]; first | (rw [if_pos c_133]; done) | (rw [if_neg c_133]; done)) T
          · refine z_aload0 136 dX5_day_136 ?_
            refine z_iload3 137 dX5_day_137 ?_
            refine z_iconst 138 (nI 4) dX5_day_138 kI4 ?_
            refine z_aload0 139 dX5_day_139 ?_
            refine z_get 140 gX5_7 dX5_day_140 T.kd (T.rf 1 rfl) ?_
            refine z_iconst 143 (nI 3) dX5_day_143 kI3 ?_
            refine z_iald (n := 204) 144 (3) dX5_day_144 (T.ak 1 rfl rfl) (T.al 1 rfl rfl) (rfl) ((by omega)) (by decide) (T.at1 (by omega)) ?_
            refine z_imulN 145 dX5_day_145 ?_
            refine z_V2 (k' := k) 146 vX5_95 dX5_day_146 T.kd (m_gives T.1 (hi_i) (WR) (by omega) (hG _ hi_i) (d - 1) 0 (by omega)) (by omega) (by omega) (Nat.le_of_ble_eq_true rfl) (aft_I fun x_6 h_6 hq => ?_)
            obtain ⟨hx, T1⟩ := hq
            have hx : x_6 = (nI (gvA R GL i (4 * (R 3)))) := hx
            subst hx
            have T : MdTo h m A (gvP R GL i (4 * R 3)) (stx (stx (stx X 7 (gwF R GL i (4 * R 3))) 8 D) 9 K) hs h_6 := by have q := T.trans T1; rw [stx_comm _ _ _ (show 9 ≠ 7 by decide), stx_comm _ _ _ (show 8 ≠ 7 by decide), stx_stx] at q; exact q
            refine z_pop 149 dX5_day_149 (rfl) ?_
            refine z_iinc3 150 ((nI (i + 1))) dX5_day_150 (nI_add _ _) rfl ?_
            refine z_goto 153 122 dX5_day_153 (by decide) ?_
            exact ih_i ((gvP R GL i (4 * R 3), (gwF R GL i (4 * R 3)))) _ (by simp only [vsS]; first | (rw [if_pos c_133]; done) | (rw [if_neg c_133]; done)) T
      · have ho := noP_lt hn
        have hD0 := (noP_some hn).2
        have ho9 := WQ.og ho
        have W2 : WF (drP Q FL (ogP Q o 1) (ogP Q o 2)) := WQ.dr ho9.2.2.2 hF
        have b52 := W2.B.s 5 (by omega)
        refine z_iceq 69 109 dX5_day_69 (by decide) (fun q => absurd q (nI_nm1 (by have := noP_lt hn; omega))) (fun _ => ?_)
        refine z_aload0 72 dX5_day_72 ?_
        refine z_get 73 gX5_25 dX5_day_73 T.kd (T.rf 8 rfl) ?_
        refine z_iload2 76 dX5_day_76 ?_
        refine z_iconst 77 (nI 1) dX5_day_77 kI1 ?_
        refine z_zast (n := 17) 78 (o) dX5_day_78 (T.ak 8 rfl rfl) (T.al 8 rfl rfl) (rfl) ((by omega)) (by decide) (nb1) ?_
        have T := T.putX 8 o 1 rfl (by decide)
        rw [upx_89] at T
        have hD2 : ∀ i, upn D o 1 i ≤ 1 := upn_le hD
        refine z_aload0 79 dX5_day_79 ?_
        refine z_aload0 80 dX5_day_80 ?_
        refine z_iload2 81 dX5_day_81 ?_
        refine z_iconst 82 (nI 1) dX5_day_82 kI1 ?_
        refine z_V2 (k' := k) 83 vX5_98 dX5_day_83 T.kd (m_outingOf T.1 (by omega) (by omega) (d - 1) 0) (by omega) (by omega) (Nat.le_of_ble_eq_true rfl) (aft_P (x := (nI (ogP Q o 1))) ?_)
        refine z_aload0 86 dX5_day_86 ?_
        refine z_iload2 87 dX5_day_87 ?_
        refine z_iconst 88 (nI 2) dX5_day_88 kI2 ?_
        refine z_V2 (k' := k) 89 vX5_98 dX5_day_89 T.kd (m_outingOf T.1 (by omega) (by omega) (d - 1) 0) (by omega) (by omega) (Nat.le_of_ble_eq_true rfl) (aft_P (x := (nI (ogP Q o 2))) ?_)
        refine z_V2 (k' := k) 92 vX5_111 dX5_day_92 T.kd (m_drinks T.1 (ho9.2.2.1) (ho9.2.2.2) (WQ) (hF) (d - 1) 0 (by omega)) (by omega) (by omega) (Nat.le_of_ble_eq_true rfl) (aft_V fun h_7 hq => ?_)
        have T : MdTo h m A (drP Q FL (ogP Q o 1) (ogP Q o 2)) (stx (stx (stx X 7 (drF Q FL (ogP Q o 1) (ogP Q o 2))) 8 (upn D o 1)) 9 (ngD (ogP Q o 2) 8)) hs h_7 := by have q := T.trans hq; rw [stx_comm _ _ _ (show 9 ≠ 7 by decide), stx_stx, stx_comm _ _ _ (show 8 ≠ 7 by decide), stx_stx] at q; exact q
        refine z_aload0 95 dX5_day_95 ?_
        refine z_aload0 96 dX5_day_96 ?_
        refine z_get 97 gX5_7 dX5_day_97 T.kd (T.rf 1 rfl) ?_
        refine z_iconst 100 (nI 5) dX5_day_100 kI5 ?_
        refine z_iald (n := 204) 101 (5) dX5_day_101 (T.ak 1 rfl rfl) (T.al 1 rfl rfl) (rfl) ((by omega)) (by decide) (T.at1 (by omega)) ?_
        refine z_V1 (k' := k) 102 vX5_108 dX5_day_102 T.kd (m_nextOuting T.1 (by omega) (W2.h7) (W2.B) (fun i _ => hD2 i) (d - 1) 0 (by omega)) (by omega) (by omega) (Nat.le_of_ble_eq_true rfl) (aft_P (x := (oI (noP (drP Q FL (ogP Q o 1) (ogP Q o 2)) (upn D o 1) ((drP Q FL (ogP Q o 1) (ogP Q o 2)) 5)))) ?_)
        refine z_istore2 105 dX5_day_105 rfl ?_
        refine z_goto 106 67 dX5_day_106 (by decide) ?_
        have he2 : svF n' (drP Q FL (ogP Q o 1) (ogP Q o 2)) (drF Q FL (ogP Q o 1) (ogP Q o 2)) (upn D o 1) = dy2 P := (svF_some hn).symm.trans he
        have hc2 := cuD_s (n := 17) (j := o) (D := D) (by omega) hD0
        have hF2 : ∀ p, p < 8 → drF Q FL (ogP Q o 1) (ogP Q o 2) p < 4096 := drF_lt (ch := ogP Q o 1) (g := ogP Q o 2) ho9.2.2.2 WQ hF
        generalize hp2 : drP Q FL (ogP Q o 1) (ogP Q o 2) = P2 at T W2 he2 ⊢
        generalize hf2 : drF Q FL (ogP Q o 1) (ogP Q o 2) = F2 at T he2 hF2 ⊢
        exact ih (n', P2, F2, upn D o 1) _ (Nat.lt_succ_self n') ⟨⟨_, T⟩, W2, he2, (by show cuD 17 (upn D o 1) < n'; omega), hD2, hF2⟩
    · refine z_iload2 26 dX5_day_26 ?_
      refine z_bipush 27 (nI 8) dX5_day_27 kB8 ?_
      refine z_icgeN 29 52 dX5_day_29 (by decide) (by omega) (by omega) (fun c_29 => absurd c_29 (by omega)) (fun c_29 => ?_)
      refine z_aload0 32 dX5_day_32 ?_
      refine z_get 33 gX5_22 dX5_day_33 T.kd (T.rf 7 rfl) ?_
      refine z_iload2 36 dX5_day_36 ?_
      refine z_iconst 37 (nI 4) dX5_day_37 kI4 ?_
      refine z_aload0 38 dX5_day_38 ?_
      refine z_iload2 39 dX5_day_39 ?_
      refine z_iconst 40 (nI 0) dX5_day_40 kI0 ?_
      refine z_V2 (k' := k) 41 vX5_46 dX5_day_41 T.kd (m_of T.1 (by omega) (by omega) (d - 1) 0) (by omega) (by omega) (Nat.le_of_ble_eq_true rfl) (aft_P (x := (nI (ofP (dy1 P) i 0))) ?_)
      refine z_imulN 44 dX5_day_44 ?_
      refine z_iast (n := 8) 45 (i) dX5_day_45 (T.ak 7 rfl rfl) (T.al 7 rfl rfl) (rfl) ((by omega)) (by decide) ?_
      have T := T.putX 7 i (4 * (ofP (dy1 P) i 0)) rfl (by decide)
      refine z_iinc2 46 ((nI (i + 1))) dX5_day_46 (nI_add _ _) rfl ?_
      refine z_goto 49 26 dX5_day_49 (by decide) ?_
      exact ih_i (upx a 7 i (4 * (ofP (dy1 P) i 0))) _ (by rfl) T
  · refine z_iload1 11 dX5_day_11 ?_
    refine z_ifeqB 12 19 dX5_day_12 (by decide) (fun c_12 => ?_) (fun c_12 => ?_)
    · exact J _ (by unfold dy0; first | (rw [if_pos c_12]; exact T) | (rw [if_neg (by rw [c_12]; decide)]; exact T))
    · refine z_aload0 15 dX5_day_15 ?_
      refine z_V0 (k' := k) 16 vX5_101 dX5_day_16 T.kd (m_freezes T.1 (W) (d - 1) 0 (by omega)) (by omega) (by omega) (Nat.le_of_ble_eq_true rfl) (aft_V fun h_8 hq => ?_)
      have T : MdTo h m A (fzP P) X hs h_8 := T.trans hq
      exact J _ (by unfold dy0; first | (rw [if_pos c_12]; exact T) | (rw [if_neg (by rw [c_12]; decide)]; exact T))

