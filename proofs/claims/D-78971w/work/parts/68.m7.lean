/-! THE REFERENCE: what is saved; the public methods -/
theorem itN_shf (X : Nat → Nat → Nat) (n : Nat) : itN n (fun i Y => upx Y 3 i (Y 3 (i + 204))) X = stx X 3 (fun j => if j < n then X 3 (j + 204) else X 3 j) := by
  induction n with
  | zero => funext g; by_cases e : g = 3 <;> simp [itN, stx, e]
  | succ n ih =>
    rw [itN_s, ih]
    funext g
    by_cases e : g = 3
    · subst e
      rw [upx_s, stx_s, stx_s]
      funext j
      by_cases ej : j = n
      · subst ej; rw [upn_s, if_neg (by omega), if_pos (by omega)]
      · rw [upn_n _ _ ej]
        by_cases q : j < n
        · rw [if_pos q, if_pos (by omega)]
        · rw [if_neg q, if_neg (by omega)]
    · rw [upx_n _ _ _ e, stx_n _ _ e, stx_n _ _ e]
theorem itN_seg (X : Nat → Nat → Nat) (P : Nat → Nat) (b n : Nat) : itN n (fun i Y => upx Y 3 (b + i) (P i)) X = stx X 3 (fun j => if b ≤ j ∧ j < b + n then P (j - b) else X 3 j) := by
  induction n with
  | zero =>
    funext g
    by_cases e : g = 3
    · subst e; rw [stx_s]; funext j; rw [if_neg (by omega)]; rfl
    · rw [stx_n _ _ e]; rfl
  | succ n ih =>
    rw [itN_s, ih]
    funext g
    by_cases e : g = 3
    · subst e
      rw [upx_s, stx_s, stx_s]
      funext j
      by_cases ej : j = b + n
      · subst ej; rw [upn_s, if_pos (by omega), Nat.add_sub_cancel_left]
      · rw [upn_n _ _ ej]
        by_cases q : b ≤ j ∧ j < b + n
        · rw [if_pos q, if_pos (by omega)]
        · rw [if_neg q, if_neg (by omega)]
    · rw [upx_n _ _ _ e, stx_n _ _ e, stx_n _ _ e]
set_option maxHeartbeats 4000000 in
theorem m_saves {E : Ev} {h : HP} {m : Nat} {A P : Nat → Nat} {X : Nat → Nat → Nat} {hs : Int64} (T0 : MdAt h m A P X hs) (hn : X 4 0 ≤ 6) (d k : Nat) : Call E yX5_saves d k [.ref m] h (rV (fun h' => ∃ X', X' 3 = svX (X 3) (X 4 0) P ∧ X' 4 0 = svN (X 4 0) ∧ (∀ f, f ≠ 3 → f ≠ 4 → X' f = X f) ∧ MdTo h m A P X' hs h')) := by
  have T := T0.to
  refine Call.of [.ref m, dum] q2199 (by decide) pn_X5 (Nat.le_of_ble_eq_true rfl) rfl ?_
  refine z_aload0 0 dX5_saves_0 ?_
  refine z_get 1 gX5_43 dX5_saves_1 T.kd (show HP.mm _ _ _ = .int (nI (X 4 0)) from T.sc 4 rfl) ?_
  refine z_bipush 4 (nI 6) dX5_saves_4 kB6 ?_
  refine z_icneN 6 50 dX5_saves_6 (by decide) (by omega) (by omega) (fun c_6 => ?_) (fun c_6 => ?_)
  · refine z_iconst 50 (nI 0) dX5_saves_50 kI0 ?_
    refine z_istore1 51 dX5_saves_51 rfl ?_
    obtain ⟨Y9, hY9⟩ : ∃ Y9, Y9 = X := ⟨_, rfl⟩
    rw [← hY9] at T
    obtain ⟨q9, hq0⟩ : ∃ q9, q9 = X 4 0 := ⟨_, rfl⟩
    have hq9 : Y9 4 0 = q9 := by rw [hY9, hq0]
    have hSV : (fun j => if 204 * q9 ≤ j ∧ j < 204 * q9 + 204 then P (j - 204 * q9) else Y9 3 j) = svX (X 3) (X 4 0) P := by
      funext j
      unfold svX
      rw [if_neg c_6, hq0, hY9]
    have hF9 : ∀ f, f ≠ 3 → f ≠ 4 → Y9 f = X f := fun f _ _ => by rw [hY9]
    have hN9 : q9 + 1 = svN (X 4 0) := by rw [hq0]; unfold svN; rw [if_neg c_6]
    have h69 : q9 ≤ 5 := by omega
    refine lpB 52 (204) (fun i Y => upx Y 3 (204 * q9 + i) (P i)) (Y9) ((itN 204 (fun i Y => upx Y 3 (204 * q9 + i) (P i)) Y9)) (rfl) (fun i Y => [.ref m, .int (nI i)]) (fun i Y h9 => MdTo h m A P Y hs h9) (fun _ Y => Y 4 0 = q9) (fun _ => k) (T) (hq9) (fun i Y hi hJ => hJ) (fun h_1 T hJ => ?_) (fun i Y h_1 hi_i hJ T ih_i => ?_)
    · have T : MdTo h m A P (itN 204 (fun i Y => upx Y 3 (204 * q9 + i) (P i)) Y9) hs h_1 := T
      have hY : itN 204 (fun i Y => upx Y 3 (204 * q9 + i) (P i)) Y9 4 0 = q9 := hJ
      refine z_iload1 52 dX5_saves_52 ?_
      refine z_sipush 53 (nI 204) dX5_saves_53 kS204 ?_
      refine z_icgeN 56 86 dX5_saves_56 (by decide) (by omega) (by omega) (fun c_56 => ?_) (fun c_56 => absurd c_56 (by omega))
      refine z_aload0 86 dX5_saves_86 ?_
      refine z_dup 87 dX5_saves_87 (rfl) ?_
      refine z_get 88 gX5_43 dX5_saves_88 T.kd (show HP.mm _ _ _ = .int (nI ((itN 204 (fun i Y => upx Y 3 (204 * q9 + i) (P i)) Y9) 4 0)) from T.sc 4 rfl) ?_
      rw [hY]
      refine z_iconst 91 (nI 1) dX5_saves_91 kI1 ?_
      refine z_iaddN 92 dX5_saves_92 ?_
      refine z_put 93 pX5_43 (fun h => by cases h) dX5_saves_93 T.kd (rfl) (rfl) ?_
      have T := T.putS 4 (q9 + 1) rfl
      refine z_return 96 rfl dX5_saves_96 ?_
      refine ⟨rfl, _, ?_, ?_, ?_, T⟩
      · show (itN 204 (fun i Y => upx Y 3 (204 * q9 + i) (P i)) Y9) 3 = svX (X 3) (X 4 0) P
        rw [itN_seg, stx_s]; exact hSV
      · exact hN9
      · intro f h3 h4
        show (upx (itN 204 (fun i Y => upx Y 3 (204 * q9 + i) (P i)) Y9) 4 0 _) f = X f
        rw [upx_n _ _ _ h4, itN_seg, stx_n _ _ h3]; exact hF9 f h3 h4
    · have hY : Y 4 0 = q9 := hJ
      refine z_iload1 52 dX5_saves_52 ?_
      refine z_sipush 53 (nI 204) dX5_saves_53 kS204 ?_
      refine z_icgeN 56 86 dX5_saves_56 (by decide) (by omega) (by omega) (fun c_56 => absurd c_56 (by omega)) (fun c_56 => ?_)
      refine z_aload0 59 dX5_saves_59 ?_
      refine z_get 60 gX5_16 dX5_saves_60 T.kd (T.rf 3 rfl) ?_
      refine z_sipush 63 (nI 204) dX5_saves_63 kS204 ?_
      refine z_aload0 66 dX5_saves_66 ?_
      refine z_get 67 gX5_43 dX5_saves_67 T.kd (show HP.mm _ _ _ = .int (nI (Y 4 0)) from T.sc 4 rfl) ?_
      rw [hY]
      refine z_imulN 70 dX5_saves_70 ?_
      refine z_iload1 71 dX5_saves_71 ?_
      refine z_iaddN 72 dX5_saves_72 ?_
      refine z_aload0 73 dX5_saves_73 ?_
      refine z_get 74 gX5_7 dX5_saves_74 T.kd (T.rf 1 rfl) ?_
      refine z_iload1 77 dX5_saves_77 ?_
      refine z_iald (n := 204) 78 (i) dX5_saves_78 (T.ak 1 rfl rfl) (T.al 1 rfl rfl) (rfl) ((by omega)) (by decide) (T.at1 (by omega)) ?_
      refine z_iast (n := 1224) 79 (204 * q9 + i) dX5_saves_79 (T.ak 3 rfl rfl) (T.al 3 rfl rfl) (rfl) ((by omega)) (by decide) ?_
      have T := T.putX 3 (204 * q9 + i) (P i) rfl (by decide)
      refine z_iinc1 80 ((nI (i + 1))) dX5_saves_80 (nI_add _ _) rfl ?_
      refine z_goto 83 52 dX5_saves_83 (by decide) ?_
      exact ih_i (upx Y 3 (204 * q9 + i) (P i)) _ (by rfl) T
  · refine z_iconst 9 (nI 0) dX5_saves_9 kI0 ?_
    refine z_istore1 10 dX5_saves_10 rfl ?_
    refine lpB 11 (1020) (fun i Y => upx Y 3 i (Y 3 (i + 204))) (X) ((itN 1020 (fun i Y => upx Y 3 i (Y 3 (i + 204))) X)) (rfl) (fun i Y => [.ref m, .int (nI i)]) (fun i Y h9 => MdTo h m A P Y hs h9) (fun _ Y => Y 4 0 = 6) (fun _ => k) (T) (c_6) (fun i Y hi hJ => hJ) (fun h_2 T hJ => ?_) (fun i Y h_2 hi_i hJ T ih_i => ?_)
    · have T : MdTo h m A P (itN 1020 (fun i Y => upx Y 3 i (Y 3 (i + 204))) X) hs h_2 := T
      have hY : itN 1020 (fun i Y => upx Y 3 i (Y 3 (i + 204))) X 4 0 = 6 := hJ
      refine z_iload1 11 dX5_saves_11 ?_
      refine z_sipush 12 (nI 1020) dX5_saves_12 kS1020 ?_
      refine z_icgeN 15 40 dX5_saves_15 (by decide) (by omega) (by omega) (fun c_15 => ?_) (fun c_15 => absurd c_15 (by omega))
      refine z_aload0 40 dX5_saves_40 ?_
      refine z_dup 41 dX5_saves_41 (rfl) ?_
      refine z_get 42 gX5_43 dX5_saves_42 T.kd (show HP.mm _ _ _ = .int (nI ((itN 1020 (fun i Y => upx Y 3 i (Y 3 (i + 204))) X) 4 0)) from T.sc 4 rfl) ?_
      refine z_iconst 45 (nI 1) dX5_saves_45 kI1 ?_
      refine z_isubN 46 dX5_saves_46 (by omega) ?_
      refine z_put 47 pX5_43 (fun h => by cases h) dX5_saves_47 T.kd (rfl) (rfl) ?_
      have T := T.putS 4 ((itN 1020 (fun i Y => upx Y 3 i (Y 3 (i + 204))) X) 4 0 - 1) rfl
      refine z_iconst 50 (nI 0) dX5_saves_50 kI0 ?_
      refine z_istore1 51 dX5_saves_51 rfl ?_
      obtain ⟨Y9, hY9⟩ : ∃ Y9, Y9 = upx (itN 1020 (fun i Y => upx Y 3 i (Y 3 (i + 204))) X) 4 0 ((itN 1020 (fun i Y => upx Y 3 i (Y 3 (i + 204))) X) 4 0 - 1) := ⟨_, rfl⟩
      rw [← hY9] at T
      obtain ⟨q9, hq0⟩ : ∃ q9, q9 = (5 : Nat) := ⟨_, rfl⟩
      have hq9 : Y9 4 0 = q9 := by
        rw [hY9, hq0, itN_shf]
        show (stx X 3 _) 4 0 - 1 = 5
        rw [stx_n _ _ (by decide), c_6]
      have hSV : (fun j => if 204 * q9 ≤ j ∧ j < 204 * q9 + 204 then P (j - 204 * q9) else Y9 3 j) = svX (X 3) (X 4 0) P := by
        funext j
        unfold svX
        rw [if_pos c_6, hq0, hY9, itN_shf]
        show (if _ then _ else (stx X 3 (fun j => if j < 1020 then X 3 (j + 204) else X 3 j)) 3 j) = _
        rw [stx_s]
        by_cases q1 : j < 1020
        · rw [if_neg (by omega), if_pos q1, if_pos q1]
        · rw [if_neg q1, if_neg q1]
          by_cases q2 : j < 1224
          · rw [if_pos (by omega), if_pos q2]
          · rw [if_neg (by omega), if_neg q2]
      have hF9 : ∀ f, f ≠ 3 → f ≠ 4 → Y9 f = X f := fun f h3 h4 => by rw [hY9, upx_n _ _ _ h4, itN_shf, stx_n _ _ h3]
      have hN9 : q9 + 1 = svN (X 4 0) := by rw [hq0, c_6]; rfl
      have h69 : q9 ≤ 5 := by omega
      refine lpB 52 (204) (fun i Y => upx Y 3 (204 * q9 + i) (P i)) (Y9) ((itN 204 (fun i Y => upx Y 3 (204 * q9 + i) (P i)) Y9)) (rfl) (fun i Y => [.ref m, .int (nI i)]) (fun i Y h9 => MdTo h m A P Y hs h9) (fun _ Y => Y 4 0 = q9) (fun _ => k) (T) (hq9) (fun i Y hi hJ => hJ) (fun h_3 T hJ => ?_) (fun i Y h_3 hi_i hJ T ih_i => ?_)
      · have T : MdTo h m A P (itN 204 (fun i Y => upx Y 3 (204 * q9 + i) (P i)) Y9) hs h_3 := T
        have hY : itN 204 (fun i Y => upx Y 3 (204 * q9 + i) (P i)) Y9 4 0 = q9 := hJ
        refine z_iload1 52 dX5_saves_52 ?_
        refine z_sipush 53 (nI 204) dX5_saves_53 kS204 ?_
        refine z_icgeN 56 86 dX5_saves_56 (by decide) (by omega) (by omega) (fun c_56 => ?_) (fun c_56 => absurd c_56 (by omega))
        refine z_aload0 86 dX5_saves_86 ?_
        refine z_dup 87 dX5_saves_87 (rfl) ?_
        refine z_get 88 gX5_43 dX5_saves_88 T.kd (show HP.mm _ _ _ = .int (nI ((itN 204 (fun i Y => upx Y 3 (204 * q9 + i) (P i)) Y9) 4 0)) from T.sc 4 rfl) ?_
        rw [hY]
        refine z_iconst 91 (nI 1) dX5_saves_91 kI1 ?_
        refine z_iaddN 92 dX5_saves_92 ?_
        refine z_put 93 pX5_43 (fun h => by cases h) dX5_saves_93 T.kd (rfl) (rfl) ?_
        have T := T.putS 4 (q9 + 1) rfl
        refine z_return 96 rfl dX5_saves_96 ?_
        refine ⟨rfl, _, ?_, ?_, ?_, T⟩
        · show (itN 204 (fun i Y => upx Y 3 (204 * q9 + i) (P i)) Y9) 3 = svX (X 3) (X 4 0) P
          rw [itN_seg, stx_s]; exact hSV
        · exact hN9
        · intro f h3 h4
          show (upx (itN 204 (fun i Y => upx Y 3 (204 * q9 + i) (P i)) Y9) 4 0 _) f = X f
          rw [upx_n _ _ _ h4, itN_seg, stx_n _ _ h3]; exact hF9 f h3 h4
      · have hY : Y 4 0 = q9 := hJ
        refine z_iload1 52 dX5_saves_52 ?_
        refine z_sipush 53 (nI 204) dX5_saves_53 kS204 ?_
        refine z_icgeN 56 86 dX5_saves_56 (by decide) (by omega) (by omega) (fun c_56 => absurd c_56 (by omega)) (fun c_56 => ?_)
        refine z_aload0 59 dX5_saves_59 ?_
        refine z_get 60 gX5_16 dX5_saves_60 T.kd (T.rf 3 rfl) ?_
        refine z_sipush 63 (nI 204) dX5_saves_63 kS204 ?_
        refine z_aload0 66 dX5_saves_66 ?_
        refine z_get 67 gX5_43 dX5_saves_67 T.kd (show HP.mm _ _ _ = .int (nI (Y 4 0)) from T.sc 4 rfl) ?_
        rw [hY]
        refine z_imulN 70 dX5_saves_70 ?_
        refine z_iload1 71 dX5_saves_71 ?_
        refine z_iaddN 72 dX5_saves_72 ?_
        refine z_aload0 73 dX5_saves_73 ?_
        refine z_get 74 gX5_7 dX5_saves_74 T.kd (T.rf 1 rfl) ?_
        refine z_iload1 77 dX5_saves_77 ?_
        refine z_iald (n := 204) 78 (i) dX5_saves_78 (T.ak 1 rfl rfl) (T.al 1 rfl rfl) (rfl) ((by omega)) (by decide) (T.at1 (by omega)) ?_
        refine z_iast (n := 1224) 79 (204 * q9 + i) dX5_saves_79 (T.ak 3 rfl rfl) (T.al 3 rfl rfl) (rfl) ((by omega)) (by decide) ?_
        have T := T.putX 3 (204 * q9 + i) (P i) rfl (by decide)
        refine z_iinc1 80 ((nI (i + 1))) dX5_saves_80 (nI_add _ _) rfl ?_
        refine z_goto 83 52 dX5_saves_83 (by decide) ?_
        exact ih_i (upx Y 3 (204 * q9 + i) (P i)) _ (by rfl) T
    · refine z_iload1 11 dX5_saves_11 ?_
      refine z_sipush 12 (nI 1020) dX5_saves_12 kS1020 ?_
      refine z_icgeN 15 40 dX5_saves_15 (by decide) (by omega) (by omega) (fun c_15 => absurd c_15 (by omega)) (fun c_15 => ?_)
      refine z_aload0 18 dX5_saves_18 ?_
      refine z_get 19 gX5_16 dX5_saves_19 T.kd (T.rf 3 rfl) ?_
      refine z_iload1 22 dX5_saves_22 ?_
      refine z_aload0 23 dX5_saves_23 ?_
      refine z_get 24 gX5_16 dX5_saves_24 T.kd (T.rf 3 rfl) ?_
      refine z_iload1 27 dX5_saves_27 ?_
      refine z_sipush 28 (nI 204) dX5_saves_28 kS204 ?_
      refine z_iaddN 31 dX5_saves_31 ?_
      refine z_iald (n := 1224) 32 (i + 204) dX5_saves_32 (T.ak 3 rfl rfl) (T.al 3 rfl rfl) (rfl) ((by omega)) (by decide) (T.at 3 rfl (by decide) (c := 1224) rfl (by omega)) ?_
      refine z_iast (n := 1224) 33 (i) dX5_saves_33 (T.ak 3 rfl rfl) (T.al 3 rfl rfl) (rfl) ((by omega)) (by decide) ?_
      have T := T.putX 3 i (Y 3 (i + 204)) rfl (by decide)
      refine z_iinc1 34 ((nI (i + 1))) dX5_saves_34 (nI_add _ _) rfl ?_
      refine z_goto 37 11 dX5_saves_37 (by decide) ?_
      exact ih_i (upx Y 3 i (Y 3 (i + 204))) _ (by rfl) T

