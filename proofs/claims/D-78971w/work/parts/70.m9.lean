/-! THE REFERENCE: the public methods, second part: frosts, outings, settings, days -/
set_option maxHeartbeats 4000000 in
theorem a_mfrost {E : Ev} {h : HP} {m : Nat} {A : Nat → Nat} {S : Sx} {hs : Int64} {c9 : Nat} (T0 : MdL h m A S hs c9) (WS : WFS S) {xf xl : Int32} (d k : Nat) (hd : 3 ≤ d) : Call E yX5_frost d k [.ref m, .int xf, .int xl] h (MdApi h m A hs (a_frost S xf xl)) := by
  obtain ⟨P, SV, n, BF, L⟩ := S
  obtain ⟨X, M, e0, e3, e4, e5, e6⟩ := T0
  have e3 : X 3 = SV := e3
  have e4 : X 4 0 = n := e4
  have e5 : X 5 = BF := e5
  have e6 : X 6 0 = L := e6
  obtain ⟨⟨W, w5, w7⟩, hn6, hL, hB, hsv⟩ := id WS
  have W : WF P := W
  have w5 : P 5 ≤ 999 := w5
  have w7 : P 7 ≤ 16 := w7
  have hn6 : n ≤ 6 := hn6
  have hL : L ≤ 60 := hL
  have hB : ∀ j, j < L → 33 ≤ BF j ∧ BF j ≤ 126 := hB
  have T : MdTo h m A P X hs h := M.to
  have h6 := W.h6
  have b5 := W.B.s 5 (by omega)
  refine Call.of [.ref m, .int xf, .int xl, dum, dum, dum] q2235 (by decide) pn_X5 (Nat.le_of_ble_eq_true rfl) rfl ?_
  refine z_aload0 0 dX5_frost_0 ?_
  refine z_iconst 1 (nI 0) dX5_frost_1 kI0 ?_
  refine z_put 2 pX5_35 (fun h => by cases h) dX5_frost_2 T.kd (rfl) (rfl) ?_
  have T := T.putS 0 0 rfl
  refine z_iload1 5 dX5_frost_5 ?_
  refine z_aload0 6 dX5_frost_6 ?_
  refine z_get 7 gX5_7 dX5_frost_7 T.kd (T.rf 1 rfl) ?_
  refine z_iconst 10 (nI 5) dX5_frost_10 kI5 ?_
  refine z_iald (n := 204) 11 (5) dX5_frost_11 (T.ak 1 rfl rfl) (T.al 1 rfl rfl) (rfl) ((by omega)) (by decide) (T.at1 (by omega)) ?_
  refine z_sipush 12 (nI 999) dX5_frost_12 kS999 ?_
  refine z_S3 (k' := k) 15 sX5_39 dX5_frost_15 (m_inI (d - 1) 0) (by omega) (by omega) (Nat.le_of_ble_eq_true rfl) (aft_P ?_)
  refine z_ifeqB 18 32 dX5_frost_18 (by decide) (fun c_18 => ?_) (fun c_18 => ?_)
  · refine z_aload0 32 dX5_frost_32 ?_
    refine z_iconst 33 (nI 1) dX5_frost_33 kI1 ?_
    refine z_V1 (k' := k) 34 vX5_124 dX5_frost_34 T.kd (m_fails T.1 (d - 1) 0) (by omega) (by omega) (Nat.le_of_ble_eq_true rfl) (aft_I fun x_1 h_1 hq => ?_)
    obtain ⟨hx, T1⟩ := hq
    have hx : x_1 = nI 0 := hx
    subst hx
    have T := T.trans T1
    refine z_ireturn 37 rfl dX5_frost_37 ?_
    first | exact mdApi_of (c := 1) (v := nI 0) (by unfold a_frost; rw [if_pos (by rw [c_18]; rfl)]) (fun q => by cases q) T rfl e3 e4 e5 e6 | exact mdApi_of (c := 1) (v := nI 0) (by unfold a_frost; rw [t_f, if_pos (by rw [c_18, c_29]; rfl)]) (fun q => by cases q) T rfl e3 e4 e5 e6
  · obtain ⟨f, lo_f, hp_f, rfl⟩ := inI_nat (by omega) (by omega) c_18
    have t_f : tn (nI f) = f := tn_nI (by omega)
    refine z_iload2 21 dX5_frost_21 ?_
    refine z_iload1 22 dX5_frost_22 ?_
    refine z_sipush 23 (nI 999) dX5_frost_23 kS999 ?_
    refine z_S3 (k' := k) 26 sX5_39 dX5_frost_26 (m_inI (d - 1) 0) (by omega) (by omega) (Nat.le_of_ble_eq_true rfl) (aft_P ?_)
    refine z_ifneB 29 38 dX5_frost_29 (by decide) (fun c_29 => ?_) (fun c_29 => ?_)
    · obtain ⟨l, lo_l, hp_l, rfl⟩ := inI_nat (by omega) (by omega) c_29
      have t_l : tn (nI l) = l := tn_nI (by omega)
      refine z_aload0 38 dX5_frost_38 ?_
      refine z_get 39 gX5_7 dX5_frost_39 T.kd (T.rf 1 rfl) ?_
      refine z_bipush 42 (nI 6) dX5_frost_42 kB6 ?_
      refine z_iald (n := 204) 44 (6) dX5_frost_44 (T.ak 1 rfl rfl) (T.al 1 rfl rfl) (rfl) ((by omega)) (by decide) (T.at1 (by omega)) ?_
      refine z_bipush 45 (nI 6) dX5_frost_45 kB6 ?_
      refine joinZ 55 (fun v9 => [.ref m, .int (nI f), .int (nI l), dum, dum, dum]) (fun v9 => [.int v9]) ((nI (bN (decide (P 6 = 6))))) ?_ (fun J => ?_)
      · refine z_istore3 55 dX5_frost_55 rfl ?_
        refine z_iconst 56 (nI 0) dX5_frost_56 kI0 ?_
        refine z_istore4 57 dX5_frost_57 rfl ?_
        refine z_iconst 59 (nI 0) dX5_frost_59 kI0 ?_
        refine z_istore5 60 dX5_frost_60 rfl ?_
        refine lpA0 62 (P 6) (frL P f l) (((decide (P 6 = 6), 0) : Bool × Nat)) ((frM P f l, frA P f)) (frL_pair P f l) (fun i a => [.ref m, .int (nI f), .int (nI l), .int (nI (bN a.1)), .int (nI a.2), .int (nI i)]) ?_ (fun i a hi_i ih_i => ?_)
        · show Z E _ _ _ _ _ 62 [.ref m, .int (nI f), .int (nI l), .int (nI (bN (frM P f l))), .int (nI (frA P f)), .int (nI (P 6))] []
          refine z_iload5 62 dX5_frost_62 ?_
          refine z_aload0 64 dX5_frost_64 ?_
          refine z_get 65 gX5_7 dX5_frost_65 T.kd (T.rf 1 rfl) ?_
          refine z_bipush 68 (nI 6) dX5_frost_68 kB6 ?_
          refine z_iald (n := 204) 70 (6) dX5_frost_70 (T.ak 1 rfl rfl) (T.al 1 rfl rfl) (rfl) ((by omega)) (by decide) (T.at1 (by omega)) ?_
          refine z_icgeN 71 153 dX5_frost_71 (by decide) (by omega) (by omega) (fun c_71 => ?_) (fun c_71 => absurd c_71 (by omega))
          refine z_iload3 153 dX5_frost_153 ?_
          refine z_ifeqB 154 163 dX5_frost_154 (by decide) (fun c_154 => ?_) (fun c_154 => ?_)
          · have n6 : P 6 ≤ 5 := by
              have q : ¬ P 6 = 6 := fun q => by rw [frM_six q] at c_154; cases c_154
              omega
            have hfa := frA_le P f
            refine z_aload0 163 dX5_frost_163 ?_
            refine z_V0 (k' := k) 164 vX5_127 dX5_frost_164 T.kd (m_saves T.1 (by show X 4 0 ≤ 6; rw [e4]; exact hn6) (d - 1) 0) (by omega) (by omega) (Nat.le_of_ble_eq_true rfl) (aft_V fun h_s hq => ?_)
            obtain ⟨X9, s3, s4, sF, T1⟩ := hq
            have T : MdTo h m A P X9 hs h_s := T.trans T1
            have f0 : X9 0 0 = 0 := by rw [sF 0 (by decide) (by decide)]; first | rfl | exact e0
            have f3 : X9 3 = svX SV n P := s3.trans (by show svX (X 3) (X 4 0) P = svX SV n P; rw [e3, e4])
            have f4 : X9 4 0 = svN n := s4.trans (by show svN (X 4 0) = svN n; rw [e4])
            have f5 : X9 5 = BF := (sF 5 (by decide) (by decide)).trans e5
            have f6 : X9 6 0 = L := by rw [sF 6 (by decide) (by decide)]; exact e6
            refine z_iconst 167 (nI 2) dX5_frost_167 kI2 ?_
            refine z_aload0 168 dX5_frost_168 ?_
            refine z_get 169 gX5_7 dX5_frost_169 T.kd (T.rf 1 rfl) ?_
            refine z_bipush 172 (nI 6) dX5_frost_172 kB6 ?_
            refine z_iald (n := 204) 174 (6) dX5_frost_174 (T.ak 1 rfl rfl) (T.al 1 rfl rfl) (rfl) ((by omega)) (by decide) (T.at1 (by omega)) ?_
            refine z_imulN 175 dX5_frost_175 ?_
            refine z_iconst 176 (nI 1) dX5_frost_176 kI1 ?_
            refine z_isub 177 dX5_frost_177 ?_
            refine z_istore5 178 dX5_frost_178 rfl ?_
            refine lpB 180 (2 * P 6 - 2 * frA P f) (fun t Q => upn Q (141 + (2 * P 6 - t - 1) + 2) (Q (141 + (2 * P 6 - t - 1)))) (P) ((frS P (frA P f))) (rfl) (fun t Q => [.ref m, .int (nI f), .int (nI l), .int (nI (bN (frM P f l))), .int (nI (frA P f)), .int (nI (2 * P 6 - t) - nI 1)]) (fun t Q h9 => MdTo h m A Q X9 hs h9) (fun _ _ => True) (fun _ => k) (T) (trivial) (fun _ _ _ _ => trivial) (fun h_2 T hJ => ?_) (fun t Q h_2 hi_t hJ T ih_t => ?_)
            · have T : MdTo h m A (frS P (frA P f)) X9 hs h_2 := T
              refine z_iload5 180 dX5_frost_180 ?_
              refine z_iconst 182 (nI 2) dX5_frost_182 kI2 ?_
              refine z_iload4 183 dX5_frost_183 ?_
              refine z_imulN 185 dX5_frost_185 ?_
              refine z_icltD1 186 219 dX5_frost_186 (by decide) (by omega) (by omega) (fun c_186 => ?_) (fun c_186 => absurd c_186 (by omega))
              refine z_aload0 219 dX5_frost_219 ?_
              refine z_get 220 gX5_7 dX5_frost_220 T.kd (T.rf 1 rfl) ?_
              refine z_sipush 223 (nI 141) dX5_frost_223 kS141 ?_
              refine z_iconst 226 (nI 2) dX5_frost_226 kI2 ?_
              refine z_iload4 227 dX5_frost_227 ?_
              refine z_imulN 229 dX5_frost_229 ?_
              refine z_iaddN 230 dX5_frost_230 ?_
              refine z_iload1 231 dX5_frost_231 ?_
              refine z_iast (n := 204) 232 (141 + 2 * (frA P f)) dX5_frost_232 (T.ak 1 rfl rfl) (T.al 1 rfl rfl) (rfl) ((by omega)) (by decide) ?_
              have T := T.put1 (141 + 2 * (frA P f)) f
              refine z_aload0 233 dX5_frost_233 ?_
              refine z_get 234 gX5_7 dX5_frost_234 T.kd (T.rf 1 rfl) ?_
              refine z_sipush 237 (nI 141) dX5_frost_237 kS141 ?_
              refine z_iconst 240 (nI 2) dX5_frost_240 kI2 ?_
              refine z_iload4 241 dX5_frost_241 ?_
              refine z_imulN 243 dX5_frost_243 ?_
              refine z_iaddN 244 dX5_frost_244 ?_
              refine z_iconst 245 (nI 1) dX5_frost_245 kI1 ?_
              refine z_iaddN 246 dX5_frost_246 ?_
              refine z_iload2 247 dX5_frost_247 ?_
              refine z_iast (n := 204) 248 (141 + 2 * (frA P f) + 1) dX5_frost_248 (T.ak 1 rfl rfl) (T.al 1 rfl rfl) (rfl) ((by omega)) (by decide) ?_
              have T := T.put1 (141 + 2 * (frA P f) + 1) l
              refine z_aload0 249 dX5_frost_249 ?_
              refine z_get 250 gX5_7 dX5_frost_250 T.kd (T.rf 1 rfl) ?_
              refine z_bipush 253 (nI 6) dX5_frost_253 kB6 ?_
              refine z_dup2 255 dX5_frost_255 rfl rfl ?_
              refine z_iald (n := 204) 256 (6) dX5_frost_256 (T.ak 1 rfl rfl) (T.al 1 rfl rfl) (rfl) ((by omega)) (by decide) (T.at1 (by omega)) ?_
              refine z_iconst 257 (nI 1) dX5_frost_257 kI1 ?_
              refine z_iaddN 258 dX5_frost_258 ?_
              refine z_iast (n := 204) 259 (6) dX5_frost_259 (T.ak 1 rfl rfl) (T.al 1 rfl rfl) (rfl) ((by omega)) (by decide) ?_
              have T := T.put1 6 ((upn (upn (frS P (frA P f)) (141 + 2 * (frA P f)) f) (141 + 2 * (frA P f) + 1) l) 6 + 1)
              have T : MdTo h m A (frI P f l) X9 hs _ := T
              refine z_aload0 260 dX5_frost_260 ?_
              refine z_get 261 gX5_7 dX5_frost_261 T.kd (T.rf 1 rfl) ?_
              refine z_bipush 264 (nI 6) dX5_frost_264 kB6 ?_
              refine z_iald (n := 204) 266 (6) dX5_frost_266 (T.ak 1 rfl rfl) (T.al 1 rfl rfl) (rfl) ((by omega)) (by decide) (T.at1 (by omega)) ?_
              rw [show (frI P f l) 6 = P 6 + 1 from frI_6 P f l n6]
              refine z_ireturn 267 rfl dX5_frost_267 ?_
              exact mdApi_of (c := 0) (by unfold a_frost; rw [if_neg (by show ¬ (inI (nI f) (nI (P 5)) (nI 999) && inI (nI l) (nI f) (nI 999)) = false; rw [c_18, c_29]; decide), t_f, t_l, if_neg (by rw [c_154]; decide)]; rfl) (fun _ => rfl) T f0 f3 f4 f5 f6
            · refine z_iload5 180 dX5_frost_180 ?_
              refine z_iconst 182 (nI 2) dX5_frost_182 kI2 ?_
              refine z_iload4 183 dX5_frost_183 ?_
              refine z_imulN 185 dX5_frost_185 ?_
              refine z_icltD1 186 219 dX5_frost_186 (by decide) (by omega) (by omega) (fun c_186 => absurd c_186 (by omega)) (fun c_186 => ?_)
              rw [show nI (2 * P 6 - t) - nI 1 = nI (2 * P 6 - t - 1) from pk_sub (by omega)]
              refine z_aload0 189 dX5_frost_189 ?_
              refine z_get 190 gX5_7 dX5_frost_190 T.kd (T.rf 1 rfl) ?_
              refine z_sipush 193 (nI 141) dX5_frost_193 kS141 ?_
              refine z_iload5 196 dX5_frost_196 ?_
              refine z_iaddN 198 dX5_frost_198 ?_
              refine z_iconst 199 (nI 2) dX5_frost_199 kI2 ?_
              refine z_iaddN 200 dX5_frost_200 ?_
              refine z_aload0 201 dX5_frost_201 ?_
              refine z_get 202 gX5_7 dX5_frost_202 T.kd (T.rf 1 rfl) ?_
              refine z_sipush 205 (nI 141) dX5_frost_205 kS141 ?_
              refine z_iload5 208 dX5_frost_208 ?_
              refine z_iaddN 210 dX5_frost_210 ?_
              refine z_iald (n := 204) 211 (141 + (2 * P 6 - t - 1)) dX5_frost_211 (T.ak 1 rfl rfl) (T.al 1 rfl rfl) (rfl) ((by omega)) (by decide) (T.at1 (by omega)) ?_
              refine z_iast (n := 204) 212 (141 + (2 * P 6 - t - 1) + 2) dX5_frost_212 (T.ak 1 rfl rfl) (T.al 1 rfl rfl) (rfl) ((by omega)) (by decide) ?_
              have T := T.put1 (141 + (2 * P 6 - t - 1) + 2) (Q (141 + (2 * P 6 - t - 1)))
              refine z_iinc5 213 ((nI (2 * P 6 - (t + 1)) - nI 1)) dX5_frost_213 (dec9 _ _ (by omega)) rfl ?_
              refine z_goto 216 180 dX5_frost_216 (by decide) ?_
              exact ih_t (upn Q (141 + (2 * P 6 - t - 1) + 2) (Q (141 + (2 * P 6 - t - 1)))) _ (by rfl) T
          · refine z_aload0 157 dX5_frost_157 ?_
            refine z_iconst 158 (nI 2) dX5_frost_158 kI2 ?_
            refine z_V1 (k' := k) 159 vX5_124 dX5_frost_159 T.kd (m_fails T.1 (d - 1) 0) (by omega) (by omega) (Nat.le_of_ble_eq_true rfl) (aft_I fun x_3 h_3 hq => ?_)
            obtain ⟨hx, T1⟩ := hq
            have hx : x_3 = nI 0 := hx
            subst hx
            have T := T.trans T1
            refine z_ireturn 162 rfl dX5_frost_162 ?_
            exact mdApi_of (c := 2) (v := nI 0) (by unfold a_frost; rw [if_neg (by show ¬ (inI (nI f) (nI (P 5)) (nI 999) && inI (nI l) (nI f) (nI 999)) = false; rw [c_18, c_29]; decide), t_f, t_l, if_pos c_154]) (fun q => by cases q) T rfl e3 e4 e5 e6
        · obtain ⟨b, ah⟩ := a
          have q0 := W.B.f0 (j := i) (by omega)
          have q1 := W.B.f1 (j := i) (by omega)
          refine z_iload5 62 dX5_frost_62 ?_
          refine z_aload0 64 dX5_frost_64 ?_
          refine z_get 65 gX5_7 dX5_frost_65 T.kd (T.rf 1 rfl) ?_
          refine z_bipush 68 (nI 6) dX5_frost_68 kB6 ?_
          refine z_iald (n := 204) 70 (6) dX5_frost_70 (T.ak 1 rfl rfl) (T.al 1 rfl rfl) (rfl) ((by omega)) (by decide) (T.at1 (by omega)) ?_
          refine z_icgeN 71 153 dX5_frost_71 (by decide) (by omega) (by omega) (fun c_71 => absurd c_71 (by omega)) (fun c_71 => ?_)
          refine z_iload3 74 dX5_frost_74 ?_
          refine z_ifneB 75 114 dX5_frost_75 (by decide) (fun c_75 => ?_) (fun c_75 => ?_)
          · refine z_iconst 114 (nI 1) dX5_frost_114 kI1 ?_
            refine z_goto 115 119 dX5_frost_115 (by decide) ?_
            refine z_istore3 119 dX5_frost_119 rfl ?_
            refine z_iload4 120 dX5_frost_120 ?_
            refine z_aload0 122 dX5_frost_122 ?_
            refine z_get 123 gX5_7 dX5_frost_123 T.kd (T.rf 1 rfl) ?_
            refine z_sipush 126 (nI 141) dX5_frost_126 kS141 ?_
            refine z_iconst 129 (nI 2) dX5_frost_129 kI2 ?_
            refine z_iload5 130 dX5_frost_130 ?_
            refine z_imulN 132 dX5_frost_132 ?_
            refine z_iaddN 133 dX5_frost_133 ?_
            refine z_iald (n := 204) 134 (141 + 2 * i) dX5_frost_134 (T.ak 1 rfl rfl) (T.al 1 rfl rfl) (rfl) ((by omega)) (by decide) (T.at1 (by omega)) ?_
            refine z_iload1 135 dX5_frost_135 ?_
            refine z_icgeN 136 143 dX5_frost_136 (by decide) (by omega) (by omega) (fun c_136 => ?_) (fun c_136 => ?_)
            · refine z_iconst 143 (nI 0) dX5_frost_143 kI0 ?_
              refine z_iaddN 144 dX5_frost_144 ?_
              refine z_istore4 145 dX5_frost_145 rfl ?_
              refine z_iinc5 147 ((nI (i + 1))) dX5_frost_147 (nI_add _ _) rfl ?_
              refine z_goto 150 62 dX5_frost_150 (by decide) ?_
              exact ih_i ((true, ah + 0)) (by first | (simp [frL, *]; done) | grind [frL])
            · refine z_iconst 139 (nI 1) dX5_frost_139 kI1 ?_
              refine z_goto 140 144 dX5_frost_140 (by decide) ?_
              refine z_iaddN 144 dX5_frost_144 ?_
              refine z_istore4 145 dX5_frost_145 rfl ?_
              refine z_iinc5 147 ((nI (i + 1))) dX5_frost_147 (nI_add _ _) rfl ?_
              refine z_goto 150 62 dX5_frost_150 (by decide) ?_
              exact ih_i ((true, ah + 1)) (by first | (simp [frL, *]; done) | grind [frL])
          · refine z_iload1 78 dX5_frost_78 ?_
            refine z_aload0 79 dX5_frost_79 ?_
            refine z_get 80 gX5_7 dX5_frost_80 T.kd (T.rf 1 rfl) ?_
            refine z_sipush 83 (nI 141) dX5_frost_83 kS141 ?_
            refine z_iconst 86 (nI 2) dX5_frost_86 kI2 ?_
            refine z_iload5 87 dX5_frost_87 ?_
            refine z_imulN 89 dX5_frost_89 ?_
            refine z_iaddN 90 dX5_frost_90 ?_
            refine z_iconst 91 (nI 1) dX5_frost_91 kI1 ?_
            refine z_iaddN 92 dX5_frost_92 ?_
            refine z_iald (n := 204) 93 (141 + 2 * i + 1) dX5_frost_93 (T.ak 1 rfl rfl) (T.al 1 rfl rfl) (rfl) ((by omega)) (by decide) (T.at1 (by omega)) ?_
            refine z_icgtN 94 118 dX5_frost_94 (by decide) (by omega) (by omega) (fun c_94 => ?_) (fun c_94 => ?_)
            · refine z_iconst 118 (nI 0) dX5_frost_118 kI0 ?_
              refine z_istore3 119 dX5_frost_119 rfl ?_
              refine z_iload4 120 dX5_frost_120 ?_
              refine z_aload0 122 dX5_frost_122 ?_
              refine z_get 123 gX5_7 dX5_frost_123 T.kd (T.rf 1 rfl) ?_
              refine z_sipush 126 (nI 141) dX5_frost_126 kS141 ?_
              refine z_iconst 129 (nI 2) dX5_frost_129 kI2 ?_
              refine z_iload5 130 dX5_frost_130 ?_
              refine z_imulN 132 dX5_frost_132 ?_
              refine z_iaddN 133 dX5_frost_133 ?_
              refine z_iald (n := 204) 134 (141 + 2 * i) dX5_frost_134 (T.ak 1 rfl rfl) (T.al 1 rfl rfl) (rfl) ((by omega)) (by decide) (T.at1 (by omega)) ?_
              refine z_iload1 135 dX5_frost_135 ?_
              refine z_icgeN 136 143 dX5_frost_136 (by decide) (by omega) (by omega) (fun c_136 => ?_) (fun c_136 => ?_)
              · refine z_iconst 143 (nI 0) dX5_frost_143 kI0 ?_
                refine z_iaddN 144 dX5_frost_144 ?_
                refine z_istore4 145 dX5_frost_145 rfl ?_
                refine z_iinc5 147 ((nI (i + 1))) dX5_frost_147 (nI_add _ _) rfl ?_
                refine z_goto 150 62 dX5_frost_150 (by decide) ?_
                exact ih_i ((false, ah + 0)) (by first | (simp [frL, *]; done) | grind [frL])
              · refine z_iconst 139 (nI 1) dX5_frost_139 kI1 ?_
                refine z_goto 140 144 dX5_frost_140 (by decide) ?_
                refine z_iaddN 144 dX5_frost_144 ?_
                refine z_istore4 145 dX5_frost_145 rfl ?_
                refine z_iinc5 147 ((nI (i + 1))) dX5_frost_147 (nI_add _ _) rfl ?_
                refine z_goto 150 62 dX5_frost_150 (by decide) ?_
                exact ih_i ((false, ah + 1)) (by first | (simp [frL, *]; done) | grind [frL])
            · refine z_iload2 97 dX5_frost_97 ?_
              refine z_aload0 98 dX5_frost_98 ?_
              refine z_get 99 gX5_7 dX5_frost_99 T.kd (T.rf 1 rfl) ?_
              refine z_sipush 102 (nI 141) dX5_frost_102 kS141 ?_
              refine z_iconst 105 (nI 2) dX5_frost_105 kI2 ?_
              refine z_iload5 106 dX5_frost_106 ?_
              refine z_imulN 108 dX5_frost_108 ?_
              refine z_iaddN 109 dX5_frost_109 ?_
              refine z_iald (n := 204) 110 (141 + 2 * i) dX5_frost_110 (T.ak 1 rfl rfl) (T.al 1 rfl rfl) (rfl) ((by omega)) (by decide) (T.at1 (by omega)) ?_
              refine z_icltN 111 118 dX5_frost_111 (by decide) (by omega) (by omega) (fun c_111 => ?_) (fun c_111 => ?_)
              · refine z_iconst 118 (nI 0) dX5_frost_118 kI0 ?_
                refine z_istore3 119 dX5_frost_119 rfl ?_
                refine z_iload4 120 dX5_frost_120 ?_
                refine z_aload0 122 dX5_frost_122 ?_
                refine z_get 123 gX5_7 dX5_frost_123 T.kd (T.rf 1 rfl) ?_
                refine z_sipush 126 (nI 141) dX5_frost_126 kS141 ?_
                refine z_iconst 129 (nI 2) dX5_frost_129 kI2 ?_
                refine z_iload5 130 dX5_frost_130 ?_
                refine z_imulN 132 dX5_frost_132 ?_
                refine z_iaddN 133 dX5_frost_133 ?_
                refine z_iald (n := 204) 134 (141 + 2 * i) dX5_frost_134 (T.ak 1 rfl rfl) (T.al 1 rfl rfl) (rfl) ((by omega)) (by decide) (T.at1 (by omega)) ?_
                refine z_iload1 135 dX5_frost_135 ?_
                refine z_icgeN 136 143 dX5_frost_136 (by decide) (by omega) (by omega) (fun c_136 => ?_) (fun c_136 => ?_)
                · refine z_iconst 143 (nI 0) dX5_frost_143 kI0 ?_
                  refine z_iaddN 144 dX5_frost_144 ?_
                  refine z_istore4 145 dX5_frost_145 rfl ?_
                  refine z_iinc5 147 ((nI (i + 1))) dX5_frost_147 (nI_add _ _) rfl ?_
                  refine z_goto 150 62 dX5_frost_150 (by decide) ?_
                  exact ih_i ((false, ah + 0)) (by first | (simp [frL, *]; done) | grind [frL])
                · refine z_iconst 139 (nI 1) dX5_frost_139 kI1 ?_
                  refine z_goto 140 144 dX5_frost_140 (by decide) ?_
                  refine z_iaddN 144 dX5_frost_144 ?_
                  refine z_istore4 145 dX5_frost_145 rfl ?_
                  refine z_iinc5 147 ((nI (i + 1))) dX5_frost_147 (nI_add _ _) rfl ?_
                  refine z_goto 150 62 dX5_frost_150 (by decide) ?_
                  exact ih_i ((false, ah + 1)) (by first | (simp [frL, *]; done) | grind [frL])
              · refine z_iconst 114 (nI 1) dX5_frost_114 kI1 ?_
                refine z_goto 115 119 dX5_frost_115 (by decide) ?_
                refine z_istore3 119 dX5_frost_119 rfl ?_
                refine z_iload4 120 dX5_frost_120 ?_
                refine z_aload0 122 dX5_frost_122 ?_
                refine z_get 123 gX5_7 dX5_frost_123 T.kd (T.rf 1 rfl) ?_
                refine z_sipush 126 (nI 141) dX5_frost_126 kS141 ?_
                refine z_iconst 129 (nI 2) dX5_frost_129 kI2 ?_
                refine z_iload5 130 dX5_frost_130 ?_
                refine z_imulN 132 dX5_frost_132 ?_
                refine z_iaddN 133 dX5_frost_133 ?_
                refine z_iald (n := 204) 134 (141 + 2 * i) dX5_frost_134 (T.ak 1 rfl rfl) (T.al 1 rfl rfl) (rfl) ((by omega)) (by decide) (T.at1 (by omega)) ?_
                refine z_iload1 135 dX5_frost_135 ?_
                refine z_icgeN 136 143 dX5_frost_136 (by decide) (by omega) (by omega) (fun c_136 => ?_) (fun c_136 => ?_)
                · refine z_iconst 143 (nI 0) dX5_frost_143 kI0 ?_
                  refine z_iaddN 144 dX5_frost_144 ?_
                  refine z_istore4 145 dX5_frost_145 rfl ?_
                  refine z_iinc5 147 ((nI (i + 1))) dX5_frost_147 (nI_add _ _) rfl ?_
                  refine z_goto 150 62 dX5_frost_150 (by decide) ?_
                  exact ih_i ((true, ah + 0)) (by first | (simp [frL, *]; done) | grind [frL])
                · refine z_iconst 139 (nI 1) dX5_frost_139 kI1 ?_
                  refine z_goto 140 144 dX5_frost_140 (by decide) ?_
                  refine z_iaddN 144 dX5_frost_144 ?_
                  refine z_istore4 145 dX5_frost_145 rfl ?_
                  refine z_iinc5 147 ((nI (i + 1))) dX5_frost_147 (nI_add _ _) rfl ?_
                  refine z_goto 150 62 dX5_frost_150 (by decide) ?_
                  exact ih_i ((true, ah + 1)) (by first | (simp [frL, *]; done) | grind [frL])
      · refine z_icneN 47 54 dX5_frost_47 (by decide) (by omega) (by omega) (fun c_47 => ?_) (fun c_47 => ?_)
        · refine z_iconst 54 (nI 0) dX5_frost_54 kI0 ?_
          exact J _ (by simp [bN, c_47])
        · refine z_iconst 50 (nI 1) dX5_frost_50 kI1 ?_
          refine z_goto 51 55 dX5_frost_51 (by decide) ?_
          exact J _ (by simp [bN, c_47])
    · refine z_aload0 32 dX5_frost_32 ?_
      refine z_iconst 33 (nI 1) dX5_frost_33 kI1 ?_
      refine z_V1 (k' := k) 34 vX5_124 dX5_frost_34 T.kd (m_fails T.1 (d - 1) 0) (by omega) (by omega) (Nat.le_of_ble_eq_true rfl) (aft_I fun x_4 h_4 hq => ?_)
      obtain ⟨hx, T1⟩ := hq
      have hx : x_4 = nI 0 := hx
      subst hx
      have T := T.trans T1
      refine z_ireturn 37 rfl dX5_frost_37 ?_
      first | exact mdApi_of (c := 1) (v := nI 0) (by unfold a_frost; rw [if_pos (by rw [c_18]; rfl)]) (fun q => by cases q) T rfl e3 e4 e5 e6 | exact mdApi_of (c := 1) (v := nI 0) (by unfold a_frost; rw [t_f, if_pos (by rw [c_18, c_29]; rfl)]) (fun q => by cases q) T rfl e3 e4 e5 e6

set_option maxHeartbeats 4000000 in
theorem a_mthaw {E : Ev} {h : HP} {m : Nat} {A : Nat → Nat} {S : Sx} {hs : Int64} {c9 : Nat} (T0 : MdL h m A S hs c9) (WS : WFS S) {xf : Int32} (d k : Nat) (hd : 3 ≤ d) : Call E yX5_thaw d k [.ref m, .int xf] h (MdApi h m A hs (a_thaw S xf)) := by
  obtain ⟨P, SV, n, BF, L⟩ := S
  obtain ⟨X, M, e0, e3, e4, e5, e6⟩ := T0
  have e3 : X 3 = SV := e3
  have e4 : X 4 0 = n := e4
  have e5 : X 5 = BF := e5
  have e6 : X 6 0 = L := e6
  obtain ⟨⟨W, w5, w7⟩, hn6, hL, hB, hsv⟩ := id WS
  have W : WF P := W
  have w5 : P 5 ≤ 999 := w5
  have w7 : P 7 ≤ 16 := w7
  have hn6 : n ≤ 6 := hn6
  have hL : L ≤ 60 := hL
  have hB : ∀ j, j < L → 33 ≤ BF j ∧ BF j ≤ 126 := hB
  have T : MdTo h m A P X hs h := M.to
  have h6 := W.h6
  refine Call.of [.ref m, .int xf, dum, dum, dum] q2239 (by decide) pn_X5 (Nat.le_of_ble_eq_true rfl) rfl ?_
  refine z_aload0 0 dX5_thaw_0 ?_
  refine z_iconst 1 (nI 0) dX5_thaw_1 kI0 ?_
  refine z_put 2 pX5_35 (fun h => by cases h) dX5_thaw_2 T.kd (rfl) (rfl) ?_
  have T := T.putS 0 0 rfl
  refine z_iconst 5 (-1) dX5_thaw_5 kIm1 ?_
  refine z_istore2 6 dX5_thaw_6 rfl ?_
  refine z_iconst 7 (nI 0) dX5_thaw_7 kI0 ?_
  refine z_istore3 8 dX5_thaw_8 rfl ?_
  refine lpA0 9 (P 6) (fun k o => if nI (P (141 + 2 * k)) = xf then some k else o) (none) ((thF P xf)) (rfl) (fun i o => [.ref m, .int xf, .int (oI o), .int (nI i), dum]) ?_ (fun i o hi_i ih_i => ?_)
  · refine z_iload3 9 dX5_thaw_9 ?_
    refine z_aload0 10 dX5_thaw_10 ?_
    refine z_get 11 gX5_7 dX5_thaw_11 T.kd (T.rf 1 rfl) ?_
    refine z_bipush 14 (nI 6) dX5_thaw_14 kB6 ?_
    refine z_iald (n := 204) 16 (6) dX5_thaw_16 (T.ak 1 rfl rfl) (T.al 1 rfl rfl) (rfl) ((by omega)) (by decide) (T.at1 (by omega)) ?_
    refine z_icgeN 17 48 dX5_thaw_17 (by decide) (by omega) (by omega) (fun c_17 => ?_) (fun c_17 => absurd c_17 (by omega))
    refine z_iload2 48 dX5_thaw_48 ?_
    refine z_iconst 49 (-1) dX5_thaw_49 kIm1 ?_
    rcases hf : (thF P xf) with _ | k9
    · refine z_icne 50 59 dX5_thaw_50 (by decide) (fun q => absurd rfl q) (fun _ => ?_)
      refine z_aload0 53 dX5_thaw_53 ?_
      refine z_iconst 54 (nI 1) dX5_thaw_54 kI1 ?_
      refine z_V1 (k' := k) 55 vX5_124 dX5_thaw_55 T.kd (m_fails T.1 (d - 1) 0) (by omega) (by omega) (Nat.le_of_ble_eq_true rfl) (aft_I fun x_1 h_1 hq => ?_)
      obtain ⟨hx, T1⟩ := hq
      have hx : x_1 = nI 0 := hx
      subst hx
      have T := T.trans T1
      refine z_ireturn 58 rfl dX5_thaw_58 ?_
      exact mdApi_of (c := 1) (v := nI 0) (by unfold a_thaw; show (match thF P xf with | none => _ | some k => _) = _; rw [hf]) (fun q => by cases q) T rfl e3 e4 e5 e6
    · have hk := (thF_lt hf).1
      refine z_icne 50 59 dX5_thaw_50 (by decide) (fun _ => ?_) (fun q => absurd q (nI_nm1 (by have := (thF_lt hf).1; omega)))
      refine z_aload0 59 dX5_thaw_59 ?_
      refine z_V0 (k' := k) 60 vX5_127 dX5_thaw_60 T.kd (m_saves T.1 (by show X 4 0 ≤ 6; rw [e4]; exact hn6) (d - 1) 0) (by omega) (by omega) (Nat.le_of_ble_eq_true rfl) (aft_V fun h_s hq => ?_)
      obtain ⟨X9, s3, s4, sF, T1⟩ := hq
      have T : MdTo h m A P X9 hs h_s := T.trans T1
      have f0 : X9 0 0 = 0 := by rw [sF 0 (by decide) (by decide)]; first | rfl | exact e0
      have f3 : X9 3 = svX SV n P := s3.trans (by show svX (X 3) (X 4 0) P = svX SV n P; rw [e3, e4])
      have f4 : X9 4 0 = svN n := s4.trans (by show svN (X 4 0) = svN n; rw [e4])
      have f5 : X9 5 = BF := (sF 5 (by decide) (by decide)).trans e5
      have f6 : X9 6 0 = L := by rw [sF 6 (by decide) (by decide)]; exact e6
      refine z_aload0 63 dX5_thaw_63 ?_
      refine z_get 64 gX5_7 dX5_thaw_64 T.kd (T.rf 1 rfl) ?_
      refine z_sipush 67 (nI 141) dX5_thaw_67 kS141 ?_
      refine z_iconst 70 (nI 2) dX5_thaw_70 kI2 ?_
      refine z_iload2 71 dX5_thaw_71 ?_
      refine z_imulN 72 dX5_thaw_72 ?_
      refine z_iaddN 73 dX5_thaw_73 ?_
      refine z_iconst 74 (nI 1) dX5_thaw_74 kI1 ?_
      refine z_iaddN 75 dX5_thaw_75 ?_
      refine z_iald (n := 204) 76 (141 + 2 * k9 + 1) dX5_thaw_76 (T.ak 1 rfl rfl) (T.al 1 rfl rfl) (rfl) ((by omega)) (by decide) (T.at1 (by omega)) ?_
      refine z_iload1 77 dX5_thaw_77 ?_
      refine z_isub 78 dX5_thaw_78 ?_
      refine z_iconst 79 (nI 1) dX5_thaw_79 kI1 ?_
      refine z_iadd 80 dX5_thaw_80 ?_
      refine z_istore3 81 dX5_thaw_81 rfl ?_
      refine z_aload0 82 dX5_thaw_82 ?_
      refine z_get 83 gX5_7 dX5_thaw_83 T.kd (T.rf 1 rfl) ?_
      refine z_bipush 86 (nI 6) dX5_thaw_86 kB6 ?_
      refine z_dup2 88 dX5_thaw_88 rfl rfl ?_
      refine z_iald (n := 204) 89 (6) dX5_thaw_89 (T.ak 1 rfl rfl) (T.al 1 rfl rfl) (rfl) ((by omega)) (by decide) (T.at1 (by omega)) ?_
      refine z_iconst 90 (nI 1) dX5_thaw_90 kI1 ?_
      refine z_isubN 91 dX5_thaw_91 (by omega) ?_
      have hk6 : 1 ≤ P 6 := by omega
      refine z_iast (n := 204) 92 (6) dX5_thaw_92 (T.ak 1 rfl rfl) (T.al 1 rfl rfl) (rfl) ((by omega)) (by decide) ?_
      have T := T.put1 6 (P 6 - 1)
      refine z_iconst 93 (nI 2) dX5_thaw_93 kI2 ?_
      refine z_iload2 94 dX5_thaw_94 ?_
      refine z_imulN 95 dX5_thaw_95 ?_
      refine z_istore4 96 dX5_thaw_96 rfl ?_
      refine lpB 98 (2 * (P 6 - 1) - 2 * k9) (fun t Q => upn Q (141 + (2 * k9 + t)) (Q (141 + (2 * k9 + t) + 2))) (upn P 6 (P 6 - 1)) ((thL P k9)) (rfl) (fun t Q => [.ref m, .int xf, .int (nI k9), .int (((nI (P (141 + 2 * k9 + 1))) - xf) + (nI 1)), .int (nI (2 * k9 + t))]) (fun t Q h9 => MdTo h m A Q X9 hs h9) (fun _ Q => Q 6 = P 6 - 1) (fun _ => k) (T) (upn_s _ _ _) (fun t Q ht hJ => (upn_n _ _ (by omega)).trans hJ) (fun h_2 T hJ => ?_) (fun t Q h_2 hi_t hJ T ih_t => ?_)
      · have T : MdTo h m A (thL P k9) X9 hs h_2 := T
        have hQ6 : thL P k9 6 = P 6 - 1 := hJ
        refine z_iload4 98 dX5_thaw_98 ?_
        refine z_iconst 100 (nI 2) dX5_thaw_100 kI2 ?_
        refine z_aload0 101 dX5_thaw_101 ?_
        refine z_get 102 gX5_7 dX5_thaw_102 T.kd (T.rf 1 rfl) ?_
        refine z_bipush 105 (nI 6) dX5_thaw_105 kB6 ?_
        refine z_iald (n := 204) 107 (6) dX5_thaw_107 (T.ak 1 rfl rfl) (T.al 1 rfl rfl) (rfl) ((by omega)) (by decide) (T.at1 (by omega)) ?_
        rw [hQ6]
        refine z_imulN 108 dX5_thaw_108 ?_
        refine z_icgeN 109 142 dX5_thaw_109 (by decide) (by omega) (by omega) (fun c_109 => ?_) (fun c_109 => absurd c_109 (by omega))
        refine z_aload0 142 dX5_thaw_142 ?_
        refine z_get 143 gX5_7 dX5_thaw_143 T.kd (T.rf 1 rfl) ?_
        refine z_sipush 146 (nI 141) dX5_thaw_146 kS141 ?_
        refine z_iconst 149 (nI 2) dX5_thaw_149 kI2 ?_
        refine z_aload0 150 dX5_thaw_150 ?_
        refine z_get 151 gX5_7 dX5_thaw_151 T.kd (T.rf 1 rfl) ?_
        refine z_bipush 154 (nI 6) dX5_thaw_154 kB6 ?_
        refine z_iald (n := 204) 156 (6) dX5_thaw_156 (T.ak 1 rfl rfl) (T.al 1 rfl rfl) (rfl) ((by omega)) (by decide) (T.at1 (by omega)) ?_
        rw [thL_6]
        refine z_imulN 157 dX5_thaw_157 ?_
        refine z_iaddN 158 dX5_thaw_158 ?_
        refine z_iconst 159 (nI 0) dX5_thaw_159 kI0 ?_
        refine z_iast (n := 204) 160 (141 + (2 * (P 6 - 1))) dX5_thaw_160 (T.ak 1 rfl rfl) (T.al 1 rfl rfl) (rfl) ((by omega)) (by decide) ?_
        have T := T.put1 (141 + (2 * (P 6 - 1))) 0
        refine z_aload0 161 dX5_thaw_161 ?_
        refine z_get 162 gX5_7 dX5_thaw_162 T.kd (T.rf 1 rfl) ?_
        refine z_sipush 165 (nI 141) dX5_thaw_165 kS141 ?_
        refine z_iconst 168 (nI 2) dX5_thaw_168 kI2 ?_
        refine z_aload0 169 dX5_thaw_169 ?_
        refine z_get 170 gX5_7 dX5_thaw_170 T.kd (T.rf 1 rfl) ?_
        refine z_bipush 173 (nI 6) dX5_thaw_173 kB6 ?_
        refine z_iald (n := 204) 175 (6) dX5_thaw_175 (T.ak 1 rfl rfl) (T.al 1 rfl rfl) (rfl) ((by omega)) (by decide) (T.at1 (by omega)) ?_
        rw [show upn (thL P k9) (141 + 2 * (P 6 - 1)) 0 6 = P 6 - 1 from (upn_n _ _ (by omega)).trans (thL_6 P k9)]
        refine z_imulN 176 dX5_thaw_176 ?_
        refine z_iaddN 177 dX5_thaw_177 ?_
        refine z_iconst 178 (nI 1) dX5_thaw_178 kI1 ?_
        refine z_iaddN 179 dX5_thaw_179 ?_
        refine z_iconst 180 (nI 0) dX5_thaw_180 kI0 ?_
        refine z_iast (n := 204) 181 (141 + (2 * (P 6 - 1)) + 1) dX5_thaw_181 (T.ak 1 rfl rfl) (T.al 1 rfl rfl) (rfl) ((by omega)) (by decide) ?_
        have T := T.put1 (141 + (2 * (P 6 - 1)) + 1) 0
        refine z_iload3 182 dX5_thaw_182 ?_
        refine z_ireturn 183 rfl dX5_thaw_183 ?_
        exact mdApi_of (c := 0) (by unfold a_thaw; show (match thF P xf with | none => _ | some k => _) = _; rw [hf]; rfl) (fun _ => rfl) T f0 f3 f4 f5 f6
      · have hQ6 : Q 6 = P 6 - 1 := hJ
        refine z_iload4 98 dX5_thaw_98 ?_
        refine z_iconst 100 (nI 2) dX5_thaw_100 kI2 ?_
        refine z_aload0 101 dX5_thaw_101 ?_
        refine z_get 102 gX5_7 dX5_thaw_102 T.kd (T.rf 1 rfl) ?_
        refine z_bipush 105 (nI 6) dX5_thaw_105 kB6 ?_
        refine z_iald (n := 204) 107 (6) dX5_thaw_107 (T.ak 1 rfl rfl) (T.al 1 rfl rfl) (rfl) ((by omega)) (by decide) (T.at1 (by omega)) ?_
        rw [hQ6]
        refine z_imulN 108 dX5_thaw_108 ?_
        refine z_icgeN 109 142 dX5_thaw_109 (by decide) (by omega) (by omega) (fun c_109 => absurd c_109 (by omega)) (fun c_109 => ?_)
        refine z_aload0 112 dX5_thaw_112 ?_
        refine z_get 113 gX5_7 dX5_thaw_113 T.kd (T.rf 1 rfl) ?_
        refine z_sipush 116 (nI 141) dX5_thaw_116 kS141 ?_
        refine z_iload4 119 dX5_thaw_119 ?_
        refine z_iaddN 121 dX5_thaw_121 ?_
        refine z_aload0 122 dX5_thaw_122 ?_
        refine z_get 123 gX5_7 dX5_thaw_123 T.kd (T.rf 1 rfl) ?_
        refine z_sipush 126 (nI 141) dX5_thaw_126 kS141 ?_
        refine z_iload4 129 dX5_thaw_129 ?_
        refine z_iaddN 131 dX5_thaw_131 ?_
        refine z_iconst 132 (nI 2) dX5_thaw_132 kI2 ?_
        refine z_iaddN 133 dX5_thaw_133 ?_
        refine z_iald (n := 204) 134 (141 + (2 * k9 + t) + 2) dX5_thaw_134 (T.ak 1 rfl rfl) (T.al 1 rfl rfl) (rfl) ((by omega)) (by decide) (T.at1 (by omega)) ?_
        refine z_iast (n := 204) 135 (141 + (2 * k9 + t)) dX5_thaw_135 (T.ak 1 rfl rfl) (T.al 1 rfl rfl) (rfl) ((by omega)) (by decide) ?_
        have T := T.put1 (141 + (2 * k9 + t)) (Q (141 + (2 * k9 + t) + 2))
        refine z_iinc4 136 ((nI (2 * k9 + t + 1))) dX5_thaw_136 (nI_add _ _) rfl ?_
        refine z_goto 139 98 dX5_thaw_139 (by decide) ?_
        exact ih_t (upn Q (141 + (2 * k9 + t)) (Q (141 + (2 * k9 + t) + 2))) _ (by rfl) T
  · refine z_iload3 9 dX5_thaw_9 ?_
    refine z_aload0 10 dX5_thaw_10 ?_
    refine z_get 11 gX5_7 dX5_thaw_11 T.kd (T.rf 1 rfl) ?_
    refine z_bipush 14 (nI 6) dX5_thaw_14 kB6 ?_
    refine z_iald (n := 204) 16 (6) dX5_thaw_16 (T.ak 1 rfl rfl) (T.al 1 rfl rfl) (rfl) ((by omega)) (by decide) (T.at1 (by omega)) ?_
    refine z_icgeN 17 48 dX5_thaw_17 (by decide) (by omega) (by omega) (fun c_17 => absurd c_17 (by omega)) (fun c_17 => ?_)
    refine z_aload0 20 dX5_thaw_20 ?_
    refine z_get 21 gX5_7 dX5_thaw_21 T.kd (T.rf 1 rfl) ?_
    refine z_sipush 24 (nI 141) dX5_thaw_24 kS141 ?_
    refine z_iconst 27 (nI 2) dX5_thaw_27 kI2 ?_
    refine z_iload3 28 dX5_thaw_28 ?_
    refine z_imulN 29 dX5_thaw_29 ?_
    refine z_iaddN 30 dX5_thaw_30 ?_
    refine z_iald (n := 204) 31 (141 + 2 * i) dX5_thaw_31 (T.ak 1 rfl rfl) (T.al 1 rfl rfl) (rfl) ((by omega)) (by decide) (T.at1 (by omega)) ?_
    refine z_iload1 32 dX5_thaw_32 ?_
    refine z_icne 33 40 dX5_thaw_33 (by decide) (fun c_33 => ?_) (fun c_33 => ?_)
    · refine z_iload2 40 dX5_thaw_40 ?_
      refine z_istore2 41 dX5_thaw_41 rfl ?_
      refine z_iinc3 42 ((nI (i + 1))) dX5_thaw_42 (nI_add _ _) rfl ?_
      refine z_goto 45 9 dX5_thaw_45 (by decide) ?_
      exact ih_i (o) (by first | exact (if_pos c_33).symm | exact (if_neg c_33).symm)
    · refine z_iload3 36 dX5_thaw_36 ?_
      refine z_goto 37 41 dX5_thaw_37 (by decide) ?_
      refine z_istore2 41 dX5_thaw_41 rfl ?_
      refine z_iinc3 42 ((nI (i + 1))) dX5_thaw_42 (nI_add _ _) rfl ?_
      refine z_goto 45 9 dX5_thaw_45 (by decide) ?_
      exact ih_i (some i) (by first | exact (if_pos c_33).symm | exact (if_neg c_33).symm)

set_option maxHeartbeats 4000000 in
theorem a_mplan {E : Ev} {h : HP} {m : Nat} {A : Nat → Nat} {S : Sx} {hs : Int64} {c9 : Nat} (T0 : MdL h m A S hs c9) (WS : WFS S) {xy xc xg : Int32} (d k : Nat) (hd : 3 ≤ d) : Call E yX5_plan d k [.ref m, .int xy, .int xc, .int xg] h (MdApi h m A hs (a_plan S xy xc xg)) := by
  obtain ⟨P, SV, n, BF, L⟩ := S
  obtain ⟨X, M, e0, e3, e4, e5, e6⟩ := T0
  have e3 : X 3 = SV := e3
  have e4 : X 4 0 = n := e4
  have e5 : X 5 = BF := e5
  have e6 : X 6 0 = L := e6
  obtain ⟨⟨W, w5, w7⟩, hn6, hL, hB, hsv⟩ := id WS
  have W : WF P := W
  have w5 : P 5 ≤ 999 := w5
  have w7 : P 7 ≤ 16 := w7
  have hn6 : n ≤ 6 := hn6
  have hL : L ≤ 60 := hL
  have hB : ∀ j, j < L → 33 ≤ BF j ∧ BF j ≤ 126 := hB
  have T : MdTo h m A P X hs h := M.to
  have b5 := W.B.s 5 (by omega)
  refine Call.of [.ref m, .int xy, .int xc, .int xg] q2243 (by decide) pn_X5 (Nat.le_of_ble_eq_true rfl) rfl ?_
  refine z_aload0 0 dX5_plan_0 ?_
  refine z_iconst 1 (nI 0) dX5_plan_1 kI0 ?_
  refine z_put 2 pX5_35 (fun h => by cases h) dX5_plan_2 T.kd (rfl) (rfl) ?_
  have T := T.putS 0 0 rfl
  refine z_iload1 5 dX5_plan_5 ?_
  refine z_aload0 6 dX5_plan_6 ?_
  refine z_get 7 gX5_7 dX5_plan_7 T.kd (T.rf 1 rfl) ?_
  refine z_iconst 10 (nI 5) dX5_plan_10 kI5 ?_
  refine z_iald (n := 204) 11 (5) dX5_plan_11 (T.ak 1 rfl rfl) (T.al 1 rfl rfl) (rfl) ((by omega)) (by decide) (T.at1 (by omega)) ?_
  refine z_sipush 12 (nI 999) dX5_plan_12 kS999 ?_
  refine z_S3 (k' := k) 15 sX5_39 dX5_plan_15 (m_inI (d - 1) 0) (by omega) (by omega) (Nat.le_of_ble_eq_true rfl) (aft_P ?_)
  refine z_ifeqB 18 38 dX5_plan_18 (by decide) (fun c_18 => ?_) (fun c_18 => ?_)
  · refine z_aload0 38 dX5_plan_38 ?_
    refine z_iconst 39 (nI 1) dX5_plan_39 kI1 ?_
    refine z_V1 (k' := k) 40 vX5_124 dX5_plan_40 T.kd (m_fails T.1 (d - 1) 0) (by omega) (by omega) (Nat.le_of_ble_eq_true rfl) (aft_I fun x_1 h_1 hq => ?_)
    obtain ⟨hx, T1⟩ := hq
    have hx : x_1 = nI 0 := hx
    subst hx
    have T := T.trans T1
    refine z_ireturn 43 rfl dX5_plan_43 ?_
    first | exact mdApi_of (c := 1) (v := nI 0) (by unfold a_plan; rw [if_pos (by rw [c_18]; rfl)]) (fun q => by cases q) T rfl e3 e4 e5 e6 | exact mdApi_of (c := 1) (v := nI 0) (by unfold a_plan; rw [if_pos (by rw [c_28]; exact Bool.and_false _)]) (fun q => by cases q) T rfl e3 e4 e5 e6 | exact mdApi_of (c := 1) (v := nI 0) (by unfold a_plan; rw [if_pos (by rw [c_35, Bool.and_false]; exact Bool.and_false _)]) (fun q => by cases q) T rfl e3 e4 e5 e6
  · obtain ⟨y, lo_y, hp_y, rfl⟩ := inI_nat (by omega) (by omega) c_18
    have t_y : tn (nI y) = y := tn_nI (by omega)
    refine z_iload2 21 dX5_plan_21 ?_
    refine z_iconst 22 (nI 1) dX5_plan_22 kI1 ?_
    refine z_bipush 23 (nI 99) dX5_plan_23 kB99 ?_
    refine z_S3 (k' := k) 25 sX5_39 dX5_plan_25 (m_inI (d - 1) 0) (by omega) (by omega) (Nat.le_of_ble_eq_true rfl) (aft_P ?_)
    refine z_ifeqB 28 38 dX5_plan_28 (by decide) (fun c_28 => ?_) (fun c_28 => ?_)
    · refine z_aload0 38 dX5_plan_38 ?_
      refine z_iconst 39 (nI 1) dX5_plan_39 kI1 ?_
      refine z_V1 (k' := k) 40 vX5_124 dX5_plan_40 T.kd (m_fails T.1 (d - 1) 0) (by omega) (by omega) (Nat.le_of_ble_eq_true rfl) (aft_I fun x_2 h_2 hq => ?_)
      obtain ⟨hx, T1⟩ := hq
      have hx : x_2 = nI 0 := hx
      subst hx
      have T := T.trans T1
      refine z_ireturn 43 rfl dX5_plan_43 ?_
      first | exact mdApi_of (c := 1) (v := nI 0) (by unfold a_plan; rw [if_pos (by rw [c_18]; rfl)]) (fun q => by cases q) T rfl e3 e4 e5 e6 | exact mdApi_of (c := 1) (v := nI 0) (by unfold a_plan; rw [if_pos (by rw [c_28]; exact Bool.and_false _)]) (fun q => by cases q) T rfl e3 e4 e5 e6 | exact mdApi_of (c := 1) (v := nI 0) (by unfold a_plan; rw [if_pos (by rw [c_35, Bool.and_false]; exact Bool.and_false _)]) (fun q => by cases q) T rfl e3 e4 e5 e6
    · obtain ⟨c, lo_c, hp_c, rfl⟩ := inI_nat (by omega) (by omega) c_28
      have t_c : tn (nI c) = c := tn_nI (by omega)
      refine z_iload3 31 dX5_plan_31 ?_
      refine z_S1 (k' := k) 32 sX5_121 dX5_plan_32 (m_isPlace (d - 1) 0 (by omega)) (by omega) (by omega) (Nat.le_of_ble_eq_true rfl) (aft_P ?_)
      refine z_ifneB 35 44 dX5_plan_35 (by decide) (fun c_35 => ?_) (fun c_35 => ?_)
      · obtain ⟨g, lo_g, hp_g, rfl⟩ := inI_nat (by omega) (by omega) c_35
        have t_g : tn (nI g) = g := tn_nI (by omega)
        refine z_aload0 44 dX5_plan_44 ?_
        refine z_get 45 gX5_7 dX5_plan_45 T.kd (T.rf 1 rfl) ?_
        refine z_bipush 48 (nI 7) dX5_plan_48 kB7 ?_
        refine z_iald (n := 204) 50 (7) dX5_plan_50 (T.ak 1 rfl rfl) (T.al 1 rfl rfl) (rfl) ((by omega)) (by decide) (T.at1 (by omega)) ?_
        refine z_bipush 51 (nI 16) dX5_plan_51 kB16 ?_
        refine z_icneN 53 62 dX5_plan_53 (by decide) (by omega) (by omega) (fun c_53 => ?_) (fun c_53 => ?_)
        · refine z_aload0 62 dX5_plan_62 ?_
          refine z_V0 (k' := k) 63 vX5_127 dX5_plan_63 T.kd (m_saves T.1 (by show X 4 0 ≤ 6; rw [e4]; exact hn6) (d - 1) 0) (by omega) (by omega) (Nat.le_of_ble_eq_true rfl) (aft_V fun h_s hq => ?_)
          obtain ⟨X9, s3, s4, sF, T1⟩ := hq
          have T : MdTo h m A P X9 hs h_s := T.trans T1
          have f0 : X9 0 0 = 0 := by rw [sF 0 (by decide) (by decide)]; first | rfl | exact e0
          have f3 : X9 3 = svX SV n P := s3.trans (by show svX (X 3) (X 4 0) P = svX SV n P; rw [e3, e4])
          have f4 : X9 4 0 = svN n := s4.trans (by show svN (X 4 0) = svN n; rw [e4])
          have f5 : X9 5 = BF := (sF 5 (by decide) (by decide)).trans e5
          have f6 : X9 6 0 = L := by rw [sF 6 (by decide) (by decide)]; exact e6
          refine z_aload0 66 dX5_plan_66 ?_
          refine z_iload1 67 dX5_plan_67 ?_
          refine z_iload2 68 dX5_plan_68 ?_
          refine z_iload3 69 dX5_plan_69 ?_
          refine z_V3 (k' := k) 70 vX5_137 dX5_plan_70 T.kd (m_plans T.1 (by omega) (d - 1) 0) (by omega) (by omega) (Nat.le_of_ble_eq_true rfl) (aft_V fun h_3 hq => ?_)
          have T : MdTo h m A (plP P y c g) X9 hs h_3 := T.trans hq
          refine z_aload0 73 dX5_plan_73 ?_
          refine z_get 74 gX5_7 dX5_plan_74 T.kd (T.rf 1 rfl) ?_
          refine z_bipush 77 (nI 7) dX5_plan_77 kB7 ?_
          refine z_iald (n := 204) 79 (7) dX5_plan_79 (T.ak 1 rfl rfl) (T.al 1 rfl rfl) (rfl) ((by omega)) (by decide) (T.at1 (by omega)) ?_
          rw [plP_7]
          refine z_ireturn 80 rfl dX5_plan_80 ?_
          exact mdApi_of (c := 0) (by unfold a_plan; rw [if_neg (by rw [c_18, c_28, c_35]; decide), if_neg c_53, t_y, t_c, t_g]; rfl) (fun _ => rfl) T f0 f3 f4 f5 f6
        · refine z_aload0 56 dX5_plan_56 ?_
          refine z_iconst 57 (nI 2) dX5_plan_57 kI2 ?_
          refine z_V1 (k' := k) 58 vX5_124 dX5_plan_58 T.kd (m_fails T.1 (d - 1) 0) (by omega) (by omega) (Nat.le_of_ble_eq_true rfl) (aft_I fun x_4 h_4 hq => ?_)
          obtain ⟨hx, T1⟩ := hq
          have hx : x_4 = nI 0 := hx
          subst hx
          have T := T.trans T1
          refine z_ireturn 61 rfl dX5_plan_61 ?_
          exact mdApi_of (c := 2) (v := nI 0) (by unfold a_plan; rw [if_neg (by rw [c_18, c_28, c_35]; decide), if_pos c_53]) (fun q => by cases q) T rfl e3 e4 e5 e6
      · refine z_aload0 38 dX5_plan_38 ?_
        refine z_iconst 39 (nI 1) dX5_plan_39 kI1 ?_
        refine z_V1 (k' := k) 40 vX5_124 dX5_plan_40 T.kd (m_fails T.1 (d - 1) 0) (by omega) (by omega) (Nat.le_of_ble_eq_true rfl) (aft_I fun x_5 h_5 hq => ?_)
        obtain ⟨hx, T1⟩ := hq
        have hx : x_5 = nI 0 := hx
        subst hx
        have T := T.trans T1
        refine z_ireturn 43 rfl dX5_plan_43 ?_
        first | exact mdApi_of (c := 1) (v := nI 0) (by unfold a_plan; rw [if_pos (by rw [c_18]; rfl)]) (fun q => by cases q) T rfl e3 e4 e5 e6 | exact mdApi_of (c := 1) (v := nI 0) (by unfold a_plan; rw [if_pos (by rw [c_28]; exact Bool.and_false _)]) (fun q => by cases q) T rfl e3 e4 e5 e6 | exact mdApi_of (c := 1) (v := nI 0) (by unfold a_plan; rw [if_pos (by rw [c_35, Bool.and_false]; exact Bool.and_false _)]) (fun q => by cases q) T rfl e3 e4 e5 e6

set_option maxHeartbeats 4000000 in
theorem a_mcallOff {E : Ev} {h : HP} {m : Nat} {A : Nat → Nat} {S : Sx} {hs : Int64} {c9 : Nat} (T0 : MdL h m A S hs c9) (WS : WFS S) {xy : Int32} (d k : Nat) (hd : 3 ≤ d) : Call E yX5_callOff d k [.ref m, .int xy] h (MdApi h m A hs (a_callOff S xy)) := by
  obtain ⟨P, SV, n, BF, L⟩ := S
  obtain ⟨X, M, e0, e3, e4, e5, e6⟩ := T0
  have e3 : X 3 = SV := e3
  have e4 : X 4 0 = n := e4
  have e5 : X 5 = BF := e5
  have e6 : X 6 0 = L := e6
  obtain ⟨⟨W, w5, w7⟩, hn6, hL, hB, hsv⟩ := id WS
  have W : WF P := W
  have w5 : P 5 ≤ 999 := w5
  have w7 : P 7 ≤ 16 := w7
  have hn6 : n ≤ 6 := hn6
  have hL : L ≤ 60 := hL
  have hB : ∀ j, j < L → 33 ≤ BF j ∧ BF j ≤ 126 := hB
  have T : MdTo h m A P X hs h := M.to
  refine Call.of [.ref m, .int xy] q2251 (by decide) pn_X5 (Nat.le_of_ble_eq_true rfl) rfl ?_
  refine z_aload0 0 dX5_callOff_0 ?_
  refine z_iconst 1 (nI 0) dX5_callOff_1 kI0 ?_
  refine z_put 2 pX5_35 (fun h => by cases h) dX5_callOff_2 T.kd (rfl) (rfl) ?_
  have T := T.putS 0 0 rfl
  refine z_iload1 5 dX5_callOff_5 ?_
  refine z_iconst 6 (nI 0) dX5_callOff_6 kI0 ?_
  refine z_sipush 7 (nI 999) dX5_callOff_7 kS999 ?_
  refine z_S3 (k' := k) 10 sX5_39 dX5_callOff_10 (m_inI (d - 1) 0) (by omega) (by omega) (Nat.le_of_ble_eq_true rfl) (aft_P ?_)
  refine z_ifneB 13 22 dX5_callOff_13 (by decide) (fun c_13 => ?_) (fun c_13 => ?_)
  · obtain ⟨y, lo_y, hp_y, rfl⟩ := inI_nat (by omega) (by omega) c_13
    have t_y : tn (nI y) = y := tn_nI (by omega)
    refine z_aload0 22 dX5_callOff_22 ?_
    refine z_V0 (k' := k) 23 vX5_127 dX5_callOff_23 T.kd (m_saves T.1 (by show X 4 0 ≤ 6; rw [e4]; exact hn6) (d - 1) 0) (by omega) (by omega) (Nat.le_of_ble_eq_true rfl) (aft_V fun h_s hq => ?_)
    obtain ⟨X9, s3, s4, sF, T1⟩ := hq
    have T : MdTo h m A P X9 hs h_s := T.trans T1
    have f0 : X9 0 0 = 0 := by rw [sF 0 (by decide) (by decide)]; first | rfl | exact e0
    have f3 : X9 3 = svX SV n P := s3.trans (by show svX (X 3) (X 4 0) P = svX SV n P; rw [e3, e4])
    have f4 : X9 4 0 = svN n := s4.trans (by show svN (X 4 0) = svN n; rw [e4])
    have f5 : X9 5 = BF := (sF 5 (by decide) (by decide)).trans e5
    have f6 : X9 6 0 = L := by rw [sF 6 (by decide) (by decide)]; exact e6
    refine z_aload0 26 dX5_callOff_26 ?_
    refine z_iload1 27 dX5_callOff_27 ?_
    refine z_V1 (k' := k) 28 vX5_115 dX5_callOff_28 T.kd (m_drops T.1 (by omega) (W) (d - 1) 0 (by omega)) (by omega) (by omega) (Nat.le_of_ble_eq_true rfl) (aft_I fun x_1 h_1 hq => ?_)
    obtain ⟨hx, T1⟩ := hq
    have hx : x_1 = (nI ((dpL P y).2.2)) := hx
    subst hx
    have T : MdTo h m A (dpP P y) X9 hs h_1 := T.trans T1
    refine z_ireturn 31 rfl dX5_callOff_31 ?_
    exact mdApi_of (c := 0) (by unfold a_callOff; rw [t_y, if_neg (by rw [c_13]; decide)]; rfl) (fun _ => rfl) T f0 f3 f4 f5 f6
  · refine z_aload0 16 dX5_callOff_16 ?_
    refine z_iconst 17 (nI 1) dX5_callOff_17 kI1 ?_
    refine z_V1 (k' := k) 18 vX5_124 dX5_callOff_18 T.kd (m_fails T.1 (d - 1) 0) (by omega) (by omega) (Nat.le_of_ble_eq_true rfl) (aft_I fun x_2 h_2 hq => ?_)
    obtain ⟨hx, T1⟩ := hq
    have hx : x_2 = nI 0 := hx
    subst hx
    have T := T.trans T1
    refine z_ireturn 21 rfl dX5_callOff_21 ?_
    exact mdApi_of (c := 1) (v := nI 0) (by unfold a_callOff; rw [if_pos c_13]) (fun q => by cases q) T rfl e3 e4 e5 e6

set_option maxHeartbeats 4000000 in
theorem m_isSetting {E : Ev} {h : HP} {i : Nat} {v : Int32} (hi : i < 5) (d k : Nat) (hd : 1 ≤ d) : Call E yX5_isSetting d k [.int (nI i), .int v] h (rP h (nI (bN (inI v (nI (lsM i)) (nI (mxM i)))))) := by
  refine Call.of [.int (nI i), .int v] q2266 (by decide) pn_X5 (Nat.le_of_ble_eq_true rfl) rfl ?_
  refine z_iload0 0 dX5_isSetting_0 ?_
  rcases (by omega : i = 0 ∨ i = 1 ∨ i = 2 ∨ i = 3 ∨ i = 4) with rfl | rfl | rfl | rfl | rfl
  · refine z_swIn (off := 31) 1 32 dX5_isSetting_1 (by decide) (by decide) (by rfl) (by decide) ?_
    refine z_iload1 32 dX5_isSetting_32 ?_
    refine z_iconst 33 (nI 0) dX5_isSetting_33 kI0 ?_
    refine z_bipush 34 (nI 20) dX5_isSetting_34 kB20 ?_
    refine z_S3 (k' := k) 36 sX5_39 dX5_isSetting_36 (m_inI (d - 1) 0) (by omega) (by omega) (Nat.le_of_ble_eq_true rfl) (aft_P ?_)
    refine z_zreturn 39 rfl (bN_nb _) dX5_isSetting_39 ?_
    exact rP_of (rfl)
  · refine z_swIn (off := 39) 1 40 dX5_isSetting_1 (by decide) (by decide) (by rfl) (by decide) ?_
    refine z_iload1 40 dX5_isSetting_40 ?_
    refine z_iconst 41 (nI 0) dX5_isSetting_41 kI0 ?_
    refine z_iconst 42 (nI 2) dX5_isSetting_42 kI2 ?_
    refine z_S3 (k' := k) 43 sX5_39 dX5_isSetting_43 (m_inI (d - 1) 0) (by omega) (by omega) (Nat.le_of_ble_eq_true rfl) (aft_P ?_)
    refine z_zreturn 46 rfl (bN_nb _) dX5_isSetting_46 ?_
    exact rP_of (rfl)
  · refine z_swIn (off := 46) 1 47 dX5_isSetting_1 (by decide) (by decide) (by rfl) (by decide) ?_
    refine z_iload1 47 dX5_isSetting_47 ?_
    refine z_iconst 48 (nI 1) dX5_isSetting_48 kI1 ?_
    refine z_bipush 49 (nI 9) dX5_isSetting_49 kB9 ?_
    refine z_S3 (k' := k) 51 sX5_39 dX5_isSetting_51 (m_inI (d - 1) 0) (by omega) (by omega) (Nat.le_of_ble_eq_true rfl) (aft_P ?_)
    refine z_zreturn 54 rfl (bN_nb _) dX5_isSetting_54 ?_
    exact rP_of (rfl)
  · refine z_swIn (off := 54) 1 55 dX5_isSetting_1 (by decide) (by decide) (by rfl) (by decide) ?_
    refine z_iload1 55 dX5_isSetting_55 ?_
    refine z_iconst 56 (nI 0) dX5_isSetting_56 kI0 ?_
    refine z_bipush 57 (nI 90) dX5_isSetting_57 kB90 ?_
    refine z_S3 (k' := k) 59 sX5_39 dX5_isSetting_59 (m_inI (d - 1) 0) (by omega) (by omega) (Nat.le_of_ble_eq_true rfl) (aft_P ?_)
    refine z_zreturn 62 rfl (bN_nb _) dX5_isSetting_62 ?_
    exact rP_of (rfl)
  · refine z_swOut 1 63 dX5_isSetting_1 (by decide) (by decide) ?_
    refine z_iload1 63 dX5_isSetting_63 ?_
    refine z_iconst 64 (nI 0) dX5_isSetting_64 kI0 ?_
    refine z_bipush 65 (nI 50) dX5_isSetting_65 kB50 ?_
    refine z_S3 (k' := k) 67 sX5_39 dX5_isSetting_67 (m_inI (d - 1) 0) (by omega) (by omega) (Nat.le_of_ble_eq_true rfl) (aft_P ?_)
    refine z_zreturn 70 rfl (bN_nb _) dX5_isSetting_70 ?_
    exact rP_of (rfl)

set_option maxHeartbeats 4000000 in
theorem a_mset {E : Ev} {h : HP} {m : Nat} {A : Nat → Nat} {S : Sx} {hs : Int64} {c9 : Nat} (T0 : MdL h m A S hs c9) (WS : WFS S) {xi xv : Int32} (d k : Nat) (hd : 3 ≤ d) : Call E yX5_set d k [.ref m, .int xi, .int xv] h (MdApi h m A hs (a_set S xi xv)) := by
  obtain ⟨P, SV, n, BF, L⟩ := S
  obtain ⟨X, M, e0, e3, e4, e5, e6⟩ := T0
  have e3 : X 3 = SV := e3
  have e4 : X 4 0 = n := e4
  have e5 : X 5 = BF := e5
  have e6 : X 6 0 = L := e6
  obtain ⟨⟨W, w5, w7⟩, hn6, hL, hB, hsv⟩ := id WS
  have W : WF P := W
  have w5 : P 5 ≤ 999 := w5
  have w7 : P 7 ≤ 16 := w7
  have hn6 : n ≤ 6 := hn6
  have hL : L ≤ 60 := hL
  have hB : ∀ j, j < L → 33 ≤ BF j ∧ BF j ≤ 126 := hB
  have T : MdTo h m A P X hs h := M.to
  have ml : ∀ i, lsM i < 2 ^ 31 ∧ mxM i < 2 ^ 31 := fun i => ⟨by unfold lsM; split <;> decide, by unfold mxM; split <;> decide⟩
  refine Call.of [.ref m, .int xi, .int xv, dum] q2263 (by decide) pn_X5 (Nat.le_of_ble_eq_true rfl) rfl ?_
  refine z_aload0 0 dX5_set_0 ?_
  refine z_iconst 1 (nI 0) dX5_set_1 kI0 ?_
  refine z_put 2 pX5_35 (fun h => by cases h) dX5_set_2 T.kd (rfl) (rfl) ?_
  have T := T.putS 0 0 rfl
  refine z_iload1 5 dX5_set_5 ?_
  refine z_iconst 6 (nI 0) dX5_set_6 kI0 ?_
  refine z_iconst 7 (nI 4) dX5_set_7 kI4 ?_
  refine z_S3 (k' := k) 8 sX5_39 dX5_set_8 (m_inI (d - 1) 0) (by omega) (by omega) (Nat.le_of_ble_eq_true rfl) (aft_P ?_)
  refine z_ifneB 11 20 dX5_set_11 (by decide) (fun c_11 => ?_) (fun c_11 => ?_)
  · obtain ⟨i, lo_i, hp_i, rfl⟩ := inI_nat (by omega) (by omega) c_11
    have t_i : tn (nI i) = i := tn_nI (by omega)
    refine z_iload1 20 dX5_set_20 ?_
    refine z_iload2 21 dX5_set_21 ?_
    refine z_S2 (k' := k) 22 sX5_140 dX5_set_22 (m_isSetting (by omega) (d - 1) 0 (by omega)) (by omega) (by omega) (Nat.le_of_ble_eq_true rfl) (aft_P (x := nI (bN (inI xv (nI (lsM i)) (nI (mxM i))))) ?_)
    refine z_ifneB 25 34 dX5_set_25 (by decide) (fun c_25 => ?_) (fun c_25 => ?_)
    · obtain ⟨v, lo_v, hp_v, rfl⟩ := inI_nat (ml i).1 (ml i).2 c_25
      have t_v : tn (nI v) = v := tn_nI (by have := (ml i).2; omega)
      refine z_aload0 34 dX5_set_34 ?_
      refine z_V0 (k' := k) 35 vX5_127 dX5_set_35 T.kd (m_saves T.1 (by show X 4 0 ≤ 6; rw [e4]; exact hn6) (d - 1) 0) (by omega) (by omega) (Nat.le_of_ble_eq_true rfl) (aft_V fun h_s hq => ?_)
      obtain ⟨X9, s3, s4, sF, T1⟩ := hq
      have T : MdTo h m A P X9 hs h_s := T.trans T1
      have f0 : X9 0 0 = 0 := by rw [sF 0 (by decide) (by decide)]; first | rfl | exact e0
      have f3 : X9 3 = svX SV n P := s3.trans (by show svX (X 3) (X 4 0) P = svX SV n P; rw [e3, e4])
      have f4 : X9 4 0 = svN n := s4.trans (by show svN (X 4 0) = svN n; rw [e4])
      have f5 : X9 5 = BF := (sF 5 (by decide) (by decide)).trans e5
      have f6 : X9 6 0 = L := by rw [sF 6 (by decide) (by decide)]; exact e6
      refine z_aload0 38 dX5_set_38 ?_
      refine z_get 39 gX5_7 dX5_set_39 T.kd (T.rf 1 rfl) ?_
      refine z_iload1 42 dX5_set_42 ?_
      refine z_iald (n := 204) 43 (i) dX5_set_43 (T.ak 1 rfl rfl) (T.al 1 rfl rfl) (rfl) ((by omega)) (by decide) (T.at1 (by omega)) ?_
      refine z_istore3 44 dX5_set_44 rfl ?_
      refine z_aload0 45 dX5_set_45 ?_
      refine z_get 46 gX5_7 dX5_set_46 T.kd (T.rf 1 rfl) ?_
      refine z_iload1 49 dX5_set_49 ?_
      refine z_iload2 50 dX5_set_50 ?_
      refine z_iast (n := 204) 51 (i) dX5_set_51 (T.ak 1 rfl rfl) (T.al 1 rfl rfl) (rfl) ((by omega)) (by decide) ?_
      have T := T.put1 i v
      refine z_iload3 52 dX5_set_52 ?_
      refine z_ireturn 53 rfl dX5_set_53 ?_
      exact mdApi_of (c := 0) (by unfold a_set; rw [t_i, t_v, if_neg (by rw [c_11]; decide), if_neg (by rw [c_25]; decide)]; rfl) (fun _ => rfl) T f0 f3 f4 f5 f6
    · refine z_aload0 28 dX5_set_28 ?_
      refine z_iconst 29 (nI 2) dX5_set_29 kI2 ?_
      refine z_V1 (k' := k) 30 vX5_124 dX5_set_30 T.kd (m_fails T.1 (d - 1) 0) (by omega) (by omega) (Nat.le_of_ble_eq_true rfl) (aft_I fun x_1 h_1 hq => ?_)
      obtain ⟨hx, T1⟩ := hq
      have hx : x_1 = nI 0 := hx
      subst hx
      have T := T.trans T1
      refine z_ireturn 33 rfl dX5_set_33 ?_
      exact mdApi_of (c := 2) (v := nI 0) (by unfold a_set; rw [t_i, if_neg (by rw [c_11]; decide), if_pos c_25]) (fun q => by cases q) T rfl e3 e4 e5 e6
  · refine z_aload0 14 dX5_set_14 ?_
    refine z_iconst 15 (nI 1) dX5_set_15 kI1 ?_
    refine z_V1 (k' := k) 16 vX5_124 dX5_set_16 T.kd (m_fails T.1 (d - 1) 0) (by omega) (by omega) (Nat.le_of_ble_eq_true rfl) (aft_I fun x_2 h_2 hq => ?_)
    obtain ⟨hx, T1⟩ := hq
    have hx : x_2 = nI 0 := hx
    subst hx
    have T := T.trans T1
    refine z_ireturn 19 rfl dX5_set_19 ?_
    exact mdApi_of (c := 1) (v := nI 0) (by unfold a_set; rw [if_pos c_11]) (fun q => by cases q) T rfl e3 e4 e5 e6

set_option maxHeartbeats 4000000 in
theorem a_mpass {E : Ev} {h : HP} {m : Nat} {A : Nat → Nat} {S : Sx} {hs : Int64} {c9 : Nat} (T0 : MdL h m A S hs c9) (WS : WFS S) {xn : Int32} (d k : Nat) (hd : 6 ≤ d) : Call E yX5_pass d k [.ref m, .int xn] h (MdApi h m A hs (a_pass S xn)) := by
  obtain ⟨P, SV, n, BF, L⟩ := S
  obtain ⟨X, M, e0, e3, e4, e5, e6⟩ := T0
  have e3 : X 3 = SV := e3
  have e4 : X 4 0 = n := e4
  have e5 : X 5 = BF := e5
  have e6 : X 6 0 = L := e6
  obtain ⟨⟨W, w5, w7⟩, hn6, hL, hB, hsv⟩ := id WS
  have W : WF P := W
  have w5 : P 5 ≤ 999 := w5
  have w7 : P 7 ≤ 16 := w7
  have hn6 : n ≤ 6 := hn6
  have hL : L ≤ 60 := hL
  have hB : ∀ j, j < L → 33 ≤ BF j ∧ BF j ≤ 126 := hB
  have T : MdTo h m A P X hs h := M.to
  refine Call.of [.ref m, .int xn] q2270 (by decide) pn_X5 (Nat.le_of_ble_eq_true rfl) rfl ?_
  refine z_aload0 0 dX5_pass_0 ?_
  refine z_iconst 1 (nI 0) dX5_pass_1 kI0 ?_
  refine z_put 2 pX5_35 (fun h => by cases h) dX5_pass_2 T.kd (rfl) (rfl) ?_
  have T := T.putS 0 0 rfl
  refine z_iload1 5 dX5_pass_5 ?_
  refine z_iconst 6 (nI 1) dX5_pass_6 kI1 ?_
  refine z_bipush 7 (nI 60) dX5_pass_7 kB60 ?_
  refine z_S3 (k' := k) 9 sX5_39 dX5_pass_9 (m_inI (d - 1) 0) (by omega) (by omega) (Nat.le_of_ble_eq_true rfl) (aft_P ?_)
  refine z_ifneB 12 21 dX5_pass_12 (by decide) (fun c_12 => ?_) (fun c_12 => ?_)
  · obtain ⟨q, lo_q, hp_q, rfl⟩ := inI_nat (by omega) (by omega) c_12
    have t_q : tn (nI q) = q := tn_nI (by omega)
    refine z_aload0 21 dX5_pass_21 ?_
    refine z_get 22 gX5_7 dX5_pass_22 T.kd (T.rf 1 rfl) ?_
    refine z_iconst 25 (nI 5) dX5_pass_25 kI5 ?_
    refine z_iald (n := 204) 26 (5) dX5_pass_26 (T.ak 1 rfl rfl) (T.al 1 rfl rfl) (rfl) ((by omega)) (by decide) (T.at1 (by omega)) ?_
    refine z_iload1 27 dX5_pass_27 ?_
    refine z_iaddN 28 dX5_pass_28 ?_
    refine z_sipush 29 (nI 999) dX5_pass_29 kS999 ?_
    refine z_icleN 32 41 dX5_pass_32 (by decide) (by omega) (by omega) (fun c_32 => ?_) (fun c_32 => ?_)
    · refine z_aload0 41 dX5_pass_41 ?_
      refine z_V0 (k' := k) 42 vX5_127 dX5_pass_42 T.kd (m_saves T.1 (by show X 4 0 ≤ 6; rw [e4]; exact hn6) (d - 1) 0) (by omega) (by omega) (Nat.le_of_ble_eq_true rfl) (aft_V fun h_s hq => ?_)
      obtain ⟨X9, s3, s4, sF, T1⟩ := hq
      have T : MdTo h m A P X9 hs h_s := T.trans T1
      have f0 : X9 0 0 = 0 := by rw [sF 0 (by decide) (by decide)]; first | rfl | exact e0
      have f3 : X9 3 = svX SV n P := s3.trans (by show svX (X 3) (X 4 0) P = svX SV n P; rw [e3, e4])
      have f4 : X9 4 0 = svN n := s4.trans (by show svN (X 4 0) = svN n; rw [e4])
      have f5 : X9 5 = BF := (sF 5 (by decide) (by decide)).trans e5
      have f6 : X9 6 0 = L := by rw [sF 6 (by decide) (by decide)]; exact e6
      refine z_aload0 45 dX5_pass_45 ?_
      refine z_iload1 46 dX5_pass_46 ?_
      refine z_V1 (k' := k) 47 vX5_143 dX5_pass_47 T.kd (m_days (n := q) T.1 W (by omega) (d - 1) 0 (by omega)) (by omega) (by omega) (Nat.le_of_ble_eq_true rfl) (aft_I fun x_1 h_1 hq => ?_)
      obtain ⟨hx, X1, S1, T1⟩ := hq
      have T := T.trans T1
      refine z_ireturn 50 rfl dX5_pass_50 ?_
      exact mdApi_look (by unfold a_pass; rw [t_q, if_neg (by rw [c_12]; decide), if_neg (Nat.not_lt.mpr c_32)]; rfl) hx (S1.mono (by decide)) T f0 f3 f4 f5 f6
    · refine z_aload0 35 dX5_pass_35 ?_
      refine z_iconst 36 (nI 2) dX5_pass_36 kI2 ?_
      refine z_V1 (k' := k) 37 vX5_124 dX5_pass_37 T.kd (m_fails T.1 (d - 1) 0) (by omega) (by omega) (Nat.le_of_ble_eq_true rfl) (aft_I fun x_1 h_1 hq => ?_)
      obtain ⟨hx, T1⟩ := hq
      have hx : x_1 = nI 0 := hx
      subst hx
      have T := T.trans T1
      refine z_ireturn 40 rfl dX5_pass_40 ?_
      exact mdApi_of (c := 2) (v := nI 0) (by unfold a_pass; rw [t_q, if_neg (by rw [c_12]; decide), if_pos c_32]) (fun q => by cases q) T rfl e3 e4 e5 e6
  · refine z_aload0 15 dX5_pass_15 ?_
    refine z_iconst 16 (nI 1) dX5_pass_16 kI1 ?_
    refine z_V1 (k' := k) 17 vX5_124 dX5_pass_17 T.kd (m_fails T.1 (d - 1) 0) (by omega) (by omega) (Nat.le_of_ble_eq_true rfl) (aft_I fun x_2 h_2 hq => ?_)
    obtain ⟨hx, T1⟩ := hq
    have hx : x_2 = nI 0 := hx
    subst hx
    have T := T.trans T1
    refine z_ireturn 20 rfl dX5_pass_20 ?_
    exact mdApi_of (c := 1) (v := nI 0) (by unfold a_pass; rw [if_pos c_12]) (fun q => by cases q) T rfl e3 e4 e5 e6

set_option maxHeartbeats 4000000 in
theorem a_mappend {E : Ev} {h : HP} {m : Nat} {A : Nat → Nat} {S : Sx} {hs : Int64} {c9 : Nat} (T0 : MdL h m A S hs c9) (WS : WFS S) {xc : Int32} (d k : Nat) (hd : 3 ≤ d) : Call E yX5_append d k [.ref m, .int xc] h (MdApi h m A hs (a_append S xc)) := by
  obtain ⟨P, SV, n, BF, L⟩ := S
  obtain ⟨X, M, e0, e3, e4, e5, e6⟩ := T0
  have e3 : X 3 = SV := e3
  have e4 : X 4 0 = n := e4
  have e5 : X 5 = BF := e5
  have e6 : X 6 0 = L := e6
  obtain ⟨⟨W, w5, w7⟩, hn6, hL, hB, hsv⟩ := id WS
  have W : WF P := W
  have w5 : P 5 ≤ 999 := w5
  have w7 : P 7 ≤ 16 := w7
  have hn6 : n ≤ 6 := hn6
  have hL : L ≤ 60 := hL
  have hB : ∀ j, j < L → 33 ≤ BF j ∧ BF j ≤ 126 := hB
  have T : MdTo h m A P X hs h := M.to
  refine Call.of [.ref m, .int xc] q2341 (by decide) pn_X5 (Nat.le_of_ble_eq_true rfl) rfl ?_
  refine z_aload0 0 dX5_append_0 ?_
  refine z_iconst 1 (nI 0) dX5_append_1 kI0 ?_
  refine z_put 2 pX5_35 (fun h => by cases h) dX5_append_2 T.kd (rfl) (rfl) ?_
  have T := T.putS 0 0 rfl
  refine z_iload1 5 dX5_append_5 ?_
  refine z_bipush 6 (nI 33) dX5_append_6 kB33 ?_
  refine z_bipush 8 (nI 126) dX5_append_8 kB126 ?_
  refine z_S3 (k' := k) 10 sX5_39 dX5_append_10 (m_inI (d - 1) 0) (by omega) (by omega) (Nat.le_of_ble_eq_true rfl) (aft_P ?_)
  refine z_ifneB 13 22 dX5_append_13 (by decide) (fun c_13 => ?_) (fun c_13 => ?_)
  · obtain ⟨c, lo_c, hp_c, rfl⟩ := inI_nat (by omega) (by omega) c_13
    have t_c : tn (nI c) = c := tn_nI (by omega)
    refine z_aload0 22 dX5_append_22 ?_
    refine z_get 23 gX5_146 dX5_append_23 T.kd (show HP.mm _ _ _ = .int (nI ((X 6) 0)) from T.sc 6 rfl) ?_
    rw [show X 6 0 = L from e6]
    refine z_bipush 26 (nI 60) dX5_append_26 kB60 ?_
    refine z_icneN 28 37 dX5_append_28 (by decide) (by omega) (by omega) (fun c_28 => ?_) (fun c_28 => ?_)
    · refine z_aload0 37 dX5_append_37 ?_
      refine z_get 38 gX5_19 dX5_append_38 T.kd (T.rf 5 rfl) ?_
      refine z_aload0 41 dX5_append_41 ?_
      refine z_get 42 gX5_146 dX5_append_42 T.kd (show HP.mm _ _ _ = .int (nI ((X 6) 0)) from T.sc 6 rfl) ?_
      rw [show X 6 0 = L from e6]
      refine z_iload1 45 dX5_append_45 ?_
      refine z_iast (n := 60) 46 (L) dX5_append_46 (T.ak 5 rfl rfl) (T.al 5 rfl rfl) (rfl) ((by omega)) (by decide) ?_
      have T := T.putX 5 L c rfl (by decide)
      refine z_aload0 47 dX5_append_47 ?_
      refine z_dup 48 dX5_append_48 (rfl) ?_
      refine z_get 49 gX5_146 dX5_append_49 T.kd (show HP.mm _ _ _ = .int (nI ((X 6) 0)) from T.sc 6 rfl) ?_
      rw [show X 6 0 = L from e6]
      refine z_iconst 52 (nI 1) dX5_append_52 kI1 ?_
      refine z_iaddN 53 dX5_append_53 ?_
      refine z_put 54 pX5_146 (fun h => by cases h) dX5_append_54 T.kd (rfl) (rfl) ?_
      have T := T.putS 6 (L + 1) rfl
      refine z_aload0 57 dX5_append_57 ?_
      refine z_get 58 gX5_146 dX5_append_58 T.kd (show HP.mm _ _ _ = .int (nI ((upn (X 6) 0 (L + 1)) 0)) from T.sc 6 rfl) ?_
      rw [show (upn (X 6) 0 (L + 1)) 0 = L + 1 from upn_s _ _ _]
      refine z_ireturn 61 rfl dX5_append_61 ?_
      have eB : upx (upx (upx X 0 0 0) 5 L c) 6 0 (L + 1) 5 = upn BF L c := by show upn (X 5) L c = upn BF L c; rw [e5]
      exact mdApi_of (c := 0) (by unfold a_append; rw [if_neg (by rw [c_13]; decide), if_neg c_28, t_c]; rfl) (fun _ => rfl) T rfl e3 e4 eB rfl
    · refine z_aload0 31 dX5_append_31 ?_
      refine z_iconst 32 (nI 2) dX5_append_32 kI2 ?_
      refine z_V1 (k' := k) 33 vX5_124 dX5_append_33 T.kd (m_fails T.1 (d - 1) 0) (by omega) (by omega) (Nat.le_of_ble_eq_true rfl) (aft_I fun x_1 h_1 hq => ?_)
      obtain ⟨hx, T1⟩ := hq
      have hx : x_1 = nI 0 := hx
      subst hx
      have T := T.trans T1
      refine z_ireturn 36 rfl dX5_append_36 ?_
      exact mdApi_of (c := 2) (v := nI 0) (by unfold a_append; rw [if_neg (by rw [c_13]; decide), if_pos c_28]) (fun q => by cases q) T rfl e3 e4 e5 e6
  · refine z_aload0 16 dX5_append_16 ?_
    refine z_iconst 17 (nI 1) dX5_append_17 kI1 ?_
    refine z_V1 (k' := k) 18 vX5_124 dX5_append_18 T.kd (m_fails T.1 (d - 1) 0) (by omega) (by omega) (Nat.le_of_ble_eq_true rfl) (aft_I fun x_2 h_2 hq => ?_)
    obtain ⟨hx, T1⟩ := hq
    have hx : x_2 = nI 0 := hx
    subst hx
    have T := T.trans T1
    refine z_ireturn 21 rfl dX5_append_21 ?_
    exact mdApi_of (c := 1) (v := nI 0) (by unfold a_append; rw [if_pos c_13]) (fun q => by cases q) T rfl e3 e4 e5 e6

set_option maxHeartbeats 4000000 in
theorem a_mclear {E : Ev} {h : HP} {m : Nat} {A : Nat → Nat} {S : Sx} {hs : Int64} {c9 : Nat} (T0 : MdL h m A S hs c9) (WS : WFS S)  (d k : Nat) (hd : 1 ≤ d) : Call E yX5_clearBuffer d k [.ref m] h (MdApi h m A hs (a_clear S)) := by
  obtain ⟨P, SV, n, BF, L⟩ := S
  obtain ⟨X, M, e0, e3, e4, e5, e6⟩ := T0
  have e3 : X 3 = SV := e3
  have e4 : X 4 0 = n := e4
  have e5 : X 5 = BF := e5
  have e6 : X 6 0 = L := e6
  obtain ⟨⟨W, w5, w7⟩, hn6, hL, hB, hsv⟩ := id WS
  have W : WF P := W
  have w5 : P 5 ≤ 999 := w5
  have w7 : P 7 ≤ 16 := w7
  have hn6 : n ≤ 6 := hn6
  have hL : L ≤ 60 := hL
  have hB : ∀ j, j < L → 33 ≤ BF j ∧ BF j ≤ 126 := hB
  have T : MdTo h m A P X hs h := M.to
  refine Call.of [.ref m, dum] q2345 (by decide) pn_X5 (Nat.le_of_ble_eq_true rfl) rfl ?_
  refine z_aload0 0 dX5_clearBuffer_0 ?_
  refine z_iconst 1 (nI 0) dX5_clearBuffer_1 kI0 ?_
  refine z_put 2 pX5_35 (fun h => by cases h) dX5_clearBuffer_2 T.kd (rfl) (rfl) ?_
  have T := T.putS 0 0 rfl
  refine z_aload0 5 dX5_clearBuffer_5 ?_
  refine z_get 6 gX5_146 dX5_clearBuffer_6 T.kd (show HP.mm _ _ _ = .int (nI ((X 6) 0)) from T.sc 6 rfl) ?_
  rw [show X 6 0 = L from e6]
  refine z_istore1 9 dX5_clearBuffer_9 rfl ?_
  refine z_aload0 10 dX5_clearBuffer_10 ?_
  refine z_iconst 11 (nI 0) dX5_clearBuffer_11 kI0 ?_
  refine z_put 12 pX5_146 (fun h => by cases h) dX5_clearBuffer_12 T.kd (rfl) (rfl) ?_
  have T := T.putS 6 0 rfl
  refine z_iload1 15 dX5_clearBuffer_15 ?_
  refine z_ireturn 16 rfl dX5_clearBuffer_16 ?_
  exact mdApi_of (c := 0) (by rfl) (fun _ => rfl) T rfl e3 e4 e5 rfl

set_option maxHeartbeats 4000000 in
theorem a_mundo {E : Ev} {h : HP} {m : Nat} {A : Nat → Nat} {S : Sx} {hs : Int64} {c9 : Nat} (T0 : MdL h m A S hs c9) (WS : WFS S)  (d k : Nat) (hd : 2 ≤ d) : Call E yX5_undo d k [.ref m] h (MdApi h m A hs (a_undo S)) := by
  obtain ⟨P, SV, n, BF, L⟩ := S
  obtain ⟨X, M, e0, e3, e4, e5, e6⟩ := T0
  have e3 : X 3 = SV := e3
  have e4 : X 4 0 = n := e4
  have e5 : X 5 = BF := e5
  have e6 : X 6 0 = L := e6
  obtain ⟨⟨W, w5, w7⟩, hn6, hL, hB, hsv⟩ := id WS
  have W : WF P := W
  have w5 : P 5 ≤ 999 := w5
  have w7 : P 7 ≤ 16 := w7
  have hn6 : n ≤ 6 := hn6
  have hL : L ≤ 60 := hL
  have hB : ∀ j, j < L → 33 ≤ BF j ∧ BF j ≤ 126 := hB
  have T : MdTo h m A P X hs h := M.to
  have he3 : ∀ j, X 3 j = SV j := fun j => by rw [e3]
  refine Call.of [.ref m, dum] q2385 (by decide) pn_X5 (Nat.le_of_ble_eq_true rfl) rfl ?_
  refine z_aload0 0 dX5_undo_0 ?_
  refine z_iconst 1 (nI 0) dX5_undo_1 kI0 ?_
  refine z_put 2 pX5_35 (fun h => by cases h) dX5_undo_2 T.kd (rfl) (rfl) ?_
  have T := T.putS 0 0 rfl
  refine z_aload0 5 dX5_undo_5 ?_
  refine z_get 6 gX5_43 dX5_undo_6 T.kd (show HP.mm _ _ _ = .int (nI ((X 4) 0)) from T.sc 4 rfl) ?_
  rw [show X 4 0 = n from e4]
  refine z_ifneN 9 18 dX5_undo_9 (by decide) (by omega) (fun c_9 => ?_) (fun c_9 => ?_)
  · refine z_aload0 18 dX5_undo_18 ?_
    refine z_dup 19 dX5_undo_19 (rfl) ?_
    refine z_get 20 gX5_43 dX5_undo_20 T.kd (show HP.mm _ _ _ = .int (nI ((X 4) 0)) from T.sc 4 rfl) ?_
    rw [show X 4 0 = n from e4]
    refine z_iconst 23 (nI 1) dX5_undo_23 kI1 ?_
    refine z_isubN 24 dX5_undo_24 (by omega) ?_
    refine z_put 25 pX5_43 (fun h => by cases h) dX5_undo_25 T.kd (rfl) (rfl) ?_
    have T := T.putS 4 (n - 1) rfl
    refine z_iconst 28 (nI 0) dX5_undo_28 kI0 ?_
    refine z_istore1 29 dX5_undo_29 rfl ?_
    refine lpB 30 (204) (fun i Q => upn Q i (SV (204 * (n - 1) + i))) (P) ((itN 204 (fun i Q => upn Q i (SV (204 * (n - 1) + i))) P)) (rfl) (fun i Q => [.ref m, .int (nI i)]) (fun i Q h9 => MdTo h m A Q (upx (upx X 0 0 0) 4 0 (n - 1)) hs h9) (fun _ _ => True) (fun _ => k) (T) (trivial) (fun _ _ _ _ => trivial) (fun h_1 T hJ => ?_) (fun i Q h_1 hi_i hJ T ih_i => ?_)
    · have T : MdTo h m A (itN 204 (fun i Q => upn Q i (SV (204 * (n - 1) + i))) P) (upx (upx X 0 0 0) 4 0 (n - 1)) hs h_1 := T
      refine z_iload1 30 dX5_undo_30 ?_
      refine z_sipush 31 (nI 204) dX5_undo_31 kS204 ?_
      refine z_icgeN 34 64 dX5_undo_34 (by decide) (by omega) (by omega) (fun c_34 => ?_) (fun c_34 => absurd c_34 (by omega))
      refine z_aload0 64 dX5_undo_64 ?_
      refine z_get 65 gX5_43 dX5_undo_65 T.kd (show HP.mm _ _ _ = .int (nI ((upn (X 4) 0 (n - 1)) 0)) from T.sc 4 rfl) ?_
      rw [show (upn (X 4) 0 (n - 1)) 0 = n - 1 from upn_s _ _ _]
      refine z_ireturn 68 rfl dX5_undo_68 ?_
      have eU : itN 204 (fun i Q => upn Q i (SV (204 * (n - 1) + i))) P = fun k => if k < 204 then SV (204 * (n - 1) + k) else P k := itN_fil1 204 (fun i => SV (204 * (n - 1) + i)) P
      rw [eU] at T
      exact mdApi_of (c := 0) (by unfold a_undo; rw [if_neg c_9]; rfl) (fun _ => rfl) T rfl e3 rfl e5 e6
    · refine z_iload1 30 dX5_undo_30 ?_
      refine z_sipush 31 (nI 204) dX5_undo_31 kS204 ?_
      refine z_icgeN 34 64 dX5_undo_34 (by decide) (by omega) (by omega) (fun c_34 => absurd c_34 (by omega)) (fun c_34 => ?_)
      refine z_aload0 37 dX5_undo_37 ?_
      refine z_get 38 gX5_7 dX5_undo_38 T.kd (T.rf 1 rfl) ?_
      refine z_iload1 41 dX5_undo_41 ?_
      refine z_aload0 42 dX5_undo_42 ?_
      refine z_get 43 gX5_16 dX5_undo_43 T.kd (T.rf 3 rfl) ?_
      refine z_sipush 46 (nI 204) dX5_undo_46 kS204 ?_
      refine z_aload0 49 dX5_undo_49 ?_
      refine z_get 50 gX5_43 dX5_undo_50 T.kd (show HP.mm _ _ _ = .int (nI ((upn (X 4) 0 (n - 1)) 0)) from T.sc 4 rfl) ?_
      rw [show (upn (X 4) 0 (n - 1)) 0 = n - 1 from upn_s _ _ _]
      refine z_imulN 53 dX5_undo_53 ?_
      refine z_iload1 54 dX5_undo_54 ?_
      refine z_iaddN 55 dX5_undo_55 ?_
      refine z_iald (n := 1224) 56 (204 * (n - 1) + i) dX5_undo_56 (T.ak 3 rfl rfl) (T.al 3 rfl rfl) (rfl) ((by omega)) (by decide) (show HP.mm _ _ _ = .int (nI ((X 3) (204 * (n - 1) + i))) from T.at 3 rfl (by decide) (c := 1224) rfl (by omega)) ?_
      rw [he3]
      refine z_iast (n := 204) 57 (i) dX5_undo_57 (T.ak 1 rfl rfl) (T.al 1 rfl rfl) (rfl) ((by omega)) (by decide) ?_
      have T := T.put1 i (SV (204 * (n - 1) + i))
      refine z_iinc1 58 ((nI (i + 1))) dX5_undo_58 (nI_add _ _) rfl ?_
      refine z_goto 61 30 dX5_undo_61 (by decide) ?_
      exact ih_i (upn Q i (SV (204 * (n - 1) + i))) _ (by rfl) T
  · refine z_aload0 12 dX5_undo_12 ?_
    refine z_iconst 13 (nI 1) dX5_undo_13 kI1 ?_
    refine z_V1 (k' := k) 14 vX5_124 dX5_undo_14 T.kd (m_fails T.1 (d - 1) 0) (by omega) (by omega) (Nat.le_of_ble_eq_true rfl) (aft_I fun x_2 h_2 hq => ?_)
    obtain ⟨hx, T1⟩ := hq
    have hx : x_2 = nI 0 := hx
    subst hx
    have T := T.trans T1
    refine z_ireturn 17 rfl dX5_undo_17 ?_
    exact mdApi_of (c := 1) (v := nI 0) (by unfold a_undo; rw [if_pos c_9]) (fun q => by cases q) T rfl e3 e4 e5 e6

