/-! PARK: a day -/
theorem PkTo.today {h0 h : HP} {L tg0 tg P td : Nat → Nat} {pn : Nat} {fz : Bool} (T : PkTo h0 L tg0 tg P td pn fz h) {i : Nat} (hi : i < 8) (v : Nat) (h6 : P 6 ≤ 6) : PkTo h0 L tg0 tg P (upn td i v) pn fz (h.put (L (10 + i)) 10 (.int (nI v))) := by
  obtain ⟨W, x, xw⟩ := T.V.2.2.2 i hi
  refine T.ft hi ⟨x.put 10 (by decide) (nI v), Sm.put (Or.inl rfl), rfl⟩ (ftF_all rfl rfl rfl rfl rfl rfl rfl rfl rfl rfl ?_) (fun k hk => rfl) xw (fun _ _ => rfl) (fun j hj => upn_n _ _ hj) h6
  rw [upn_s]; rfl
/-- what the visitors take: the reference's state and the component's -/
abbrev Vc : Type := (Nat → Nat) × (Nat → Nat) × (Nat → Nat)
def vcS (fz : Bool) (i : Nat) (s : Vc) : Vc := ((vsS i (s.1, s.2.1)).1, (vsS i (s.1, s.2.1)).2, gvT fz s.1 s.2.2 i (4 * s.1 3))
def VcJ (fz : Bool) (s : Vc) : Prop := WF s.1 ∧ tdO s.1 s.2.2 ∧ (∀ p, p < 8 → s.2.1 p = flP s.1 s.2.2 p) ∧ frP s.1 (s.1 5) = fz
theorem vs_drA (i : Nat) (A F : Nat → Nat) : vsS i (A, F) = ((drA i (A, F, 4 * A 3)).1, (drA i (A, F, 4 * A 3)).2.1) := by
  unfold vsS drA
  simp only []
  by_cases c : clP A i = 0
  · simp only [if_pos c]
  · simp only [if_neg c]
theorem vcS_J {fz : Bool} {i : Nat} {s : Vc} (hi : i < 8) (J : VcJ fz s) : VcJ fz (vcS fz i s) ∧ (vcS fz i s).1 = gvR fz s.1 s.2.2 i (4 * s.1 3) := by
  obtain ⟨A, F, td⟩ := s
  obtain ⟨j1, j2, j3, j4⟩ := J
  have R := svA_R (p := i) (show SvR fz (A, td, 4 * A 3) (A, F, 4 * A 3) from ⟨rfl, rfl, j3, j2, j4⟩) hi
  obtain ⟨r1, r2, r3, r4, r5⟩ := R
  rw [svA_t rfl] at r1 r3 r4 r5
  have e1 : (vcS fz i (A, F, td)).1 = gvR fz A td i (4 * A 3) := by
    show (vsS i (A, F)).1 = _
    rw [vs_drA]; exact r1
  have e2 : (vcS fz i (A, F, td)).2.1 = (drA i (A, F, 4 * A 3)).2.1 := by
    show (vsS i (A, F)).2 = _
    rw [vs_drA]
  refine ⟨⟨?_, ?_, fun p hp => ?_, ?_⟩, e1⟩
  · rw [e1]; exact gvR_WF j1 hi
  · rw [e1]; exact r4
  · rw [e1, e2]; exact r3 p hp
  · rw [e1]; exact r5
theorem vc_vs (fz : Bool) (n : Nat) (A F td : Nat → Nat) : ((itN n (vcS fz) (A, F, td)).1, (itN n (vcS fz) (A, F, td)).2.1) = itN n vsS (A, F) := by
  induction n with
  | zero => rfl
  | succ n ih =>
    rw [itN_s, itN_s, ← ih]
    rfl
theorem vcS_5 (fz : Bool) (i : Nat) (s : Vc) (hi : i < 8) : (vcS fz i s).1 5 = s.1 5 := vsS_at (s := (s.1, s.2.1)) hi (Or.inl (by decide))
set_option maxHeartbeats 4000000 in
theorem c_pkPass {E : Ev} {h : HP} {L tg P td : Nat → Nat} {pn : Nat} {fz : Bool} (T0 : Pk h L tg P td pn fz) (W : WF P) (b5 : P 5 + 1 < 4096) (hp : pn < 1048576) (d k : Nat) (hd : 8 ≤ d) (hk : 16 ≤ k) : Call E yX2_pass d k [.ref (L 0)] h (rV fun h' => ∃ tg' td', PkTo h L tg tg' (dyP P) td' pn (frP (dyP P) (dyP P 5)) h') := by
  obtain ⟨fz1, efz⟩ : ∃ fz1, fz1 = frP P (P 5) := ⟨_, rfl⟩
  refine Call.of [.ref (L 0), dum, dum, dum, dum] q1463 (by decide) pn_X2 (Nat.le_of_ble_eq_true rfl) rfl ?_
  refine z_aload0 0 dX2_pass_0 ?_
  refine z_V0 (k' := (k - 1)) 1 vX2_223 dX2_pass_1 T0.v.k0 (c_pkLook T0 W (d - 1) 1 (by omega) (by omega)) (by omega) (by omega) (Nat.le_of_ble_eq_true rfl) (aft_V fun h1 T => ?_)
  rw [← efz] at T
  refine z_aload0 4 dX2_pass_4 ?_
  refine z_get 5 gX2_11 dX2_pass_5 T.V.k0 (T.V.2.1.2.1.1) ?_
  refine z_astore1 8 dX2_pass_8 rfl ?_
  refine z_aload1 9 dX2_pass_9 ?_
  refine z_len (i := 5) 10 dX2_pass_10 (by decide) T.V.k1 T.V.l1 ?_
  refine z_istore2 11 dX2_pass_11 rfl ?_
  refine z_iconst 12 (nI 0) dX2_pass_12 kI0 ?_
  refine z_istore3 13 dX2_pass_13 rfl ?_
  obtain ⟨t8, e8⟩ : ∃ t8, t8 = itN 8 (fun i t => upn t i 0) td := ⟨_, rfl⟩
  refine lpB 14 (8) (fun i t => upn t i 0) (td) (t8) (e8.symm) (fun i a => [.ref (L 0), .ref (L 1), .int (nI 8), .int (nI i), dum]) (fun i a h9 => PkTo h L tg tg P a pn fz1 h9) (fun _ _ => True) (fun _ => k - 1) (T) (trivial) (fun _ _ _ _ => trivial) (fun h_1 T hJ => ?_) (fun i a h_1 hi_i hJ T ih_i => ?_)
  · have T : PkTo h L tg tg P t8 pn fz1 h_1 := T
    refine z_iload3 14 dX2_pass_14 ?_
    refine z_iload2 15 dX2_pass_15 ?_
    refine z_icgeN 16 36 dX2_pass_16 (by decide) (by omega) (by omega) (fun c_16 => ?_) (fun c_16 => absurd c_16 (by omega))
    refine z_aload0 36 dX2_pass_36 ?_
    refine z_V0 (k' := (k - 1)) 37 vX2_229 dX2_pass_37 T.V.k0 (c_pkFreeze T.1 W (d - 1) 0 (by omega)) (by omega) (by omega) (Nat.le_of_ble_eq_true rfl) (aft_V fun h3 T3 => ?_)
    have T := T.trans T3
    have e0 : itN 8 (fzL fz1) P = dy0 P := by rw [fzL_P, efz]; rfl
    rw [e0] at T
    have W0 := dy0_W W
    refine z_aload0 40 dX2_pass_40 ?_
    refine z_V0 (k' := (k - 15)) 41 vX2_232 dX2_pass_41 T.V.k0 (c_pkWork T.1 W0 (d - 1) 14 (by omega) (by omega)) (by omega) (by omega) (Nat.le_of_ble_eq_true rfl) (aft_V fun h4 hq => ?_)
    obtain ⟨tg', T4⟩ := hq
    have T := T.trans T4
    have e1 : wkP fz1 (dy0 P) = dy1 P := by rw [efz]; rfl
    rw [e1] at T
    have W1 := dy1_W W
    have a1 : ∀ i, i < 10 ∨ i = 12 ∨ 141 ≤ i → dy1 P i = P i := fun i hi => dy1_at P i hi
    have f1 : frP (dy1 P) (dy1 P 5) = fz1 := by rw [a1 5 (by omega), efz]; exact fr_cong W.h6 (fun i hi => a1 i (by omega)) _
    have z8 : ∀ p, p < 8 → t8 p = 0 := fun p hp => by rw [e8, itN_fil1]; exact if_pos hp
    obtain ⟨FL1, eFL⟩ : ∃ FL1, FL1 = fun pl => 4 * ofP (dy1 P) pl 0 := ⟨_, rfl⟩
    have hFL : ∀ p, p < 8 → FL1 p = flP (dy1 P) t8 p := fun p hp => by rw [eFL]; unfold flP; rw [z8 p hp]; rfl
    have H1 : tdO (dy1 P) t8 := fun p hp => by rw [z8 p hp]; exact Nat.zero_le _
    refine z_aload0 44 dX2_pass_44 ?_
    refine z_V0 (k' := (k - 15)) 45 vX2_235 dX2_pass_45 T.V.k0 (c_pkServeAll T.1 W1 H1 f1 hp hFL (d - 1) 0 (by omega)) (by omega) (by omega) (Nat.le_of_ble_eq_true rfl) (aft_V fun h5 hq => ?_)
    obtain ⟨td3, T5, H3, F3h⟩ := hq
    have T := T.trans T5
    have e2 : svF 18 (dy1 P) FL1 (fun _ => 0) = dy2 P := by rw [eFL]; rfl
    rw [e2] at T H3 F3h
    have w2 := dy2_W W
    obtain ⟨F3, eF3⟩ : ∃ F3, F3 = (dy2 P).2 := ⟨_, rfl⟩
    have q25 : (dy2 P).1 5 = P 5 := w2.2 5 (by omega)
    obtain ⟨Q3, eQ3⟩ : ∃ Q3, Q3 = dpP (dy2 P).1 (dy1 P 5) := ⟨_, rfl⟩
    rw [← eQ3] at T H3 F3h
    have e15 : dy1 P 5 = (dy2 P).1 5 := by rw [q25, a1 5 (by omega)]
    have W3 : WF Q3 := by rw [eQ3]; exact (w2.1.1.dp _).1
    have a3 : ∀ i, (i < 8 ∧ i ≠ 7) ∨ (141 ≤ i ∧ i < 153) → Q3 i = P i := fun i hi => by rw [eQ3, dpP_lo _ _ _ (by omega)]; exact w2.2 i (by omega)
    have q35 : Q3 5 = P 5 := a3 5 (by omega)
    have f3 : frP Q3 (Q3 5) = fz1 := by rw [q35, efz]; exact fr_cong W.h6 a3 _
    have J3 : VcJ fz1 (Q3, F3, td3) := ⟨W3, H3, fun p hp => by rw [eF3]; exact F3h p hp, f3⟩
    have T : PkTo h L tg tg' Q3 td3 pn fz1 h5 := T
    refine z_iconst 48 (nI 0) dX2_pass_48 kI0 ?_
    refine z_istore1 49 dX2_pass_49 rfl ?_
    obtain ⟨q8, eq8⟩ : ∃ q8, q8 = itN 8 (vcS fz1) (Q3, F3, td3) := ⟨_, rfl⟩
    refine lpB 50 (8) (vcS fz1) ((Q3, F3, td3)) (q8) (eq8.symm) (fun i a => [.ref (L 0), .int (nI i), .int (nI 8), .int (nI 8), dum]) (fun i a h9 => PkTo h L tg tg' a.1 a.2.2 pn fz1 h9) (fun _ s => VcJ fz1 s ∧ s.1 5 = P 5) (fun _ => k - 15) (T) (⟨J3, q35⟩) (fun i s hi H => ⟨(vcS_J hi H.1).1, (vcS_5 fz1 i s hi).trans H.2⟩) (fun h_2 T hJ => ?_) (fun i a h_2 hi_i hJ T ih_i => ?_)
    · have T : PkTo h L tg tg' q8.1 q8.2.2 pn fz1 h_2 := T
      refine z_iload1 50 dX2_pass_50 ?_
      refine z_bipush 51 (nI 8) dX2_pass_51 kB8 ?_
      refine z_icgeN 53 76 dX2_pass_53 (by decide) (by omega) (by omega) (fun c_53 => ?_) (fun c_53 => absurd c_53 (by omega))
      refine z_aload0 76 dX2_pass_76 ?_
      refine z_dup 77 dX2_pass_77 (rfl) ?_
      have eD : upn q8.1 5 (q8.1 5 + 1) = dyP P := by
        have e3 : q8.1 = (dy3 P).1 := by
          have := congrArg Prod.fst (vc_vs fz1 8 Q3 F3 td3)
          rw [← eq8] at this
          rw [show q8.1 = (itN 8 vsS (Q3, F3)).1 from this, eQ3, eF3, e15]; rfl
        rw [e3]; rfl
      refine z_get 78 gX2_103 dX2_pass_78 T.V.k0 T.V.day ?_
      refine z_iconst 81 (nI 1) dX2_pass_81 kI1 ?_
      refine z_iaddN 82 dX2_pass_82 ?_
      refine z_put 83 pX2_103 (fun h => by cases h) dX2_pass_83 T.V.k0 (rfl) (rfl) ?_
      have T := T.daS (q8.1 5 + 1) hJ.1.1.h6
      rw [eD] at T
      refine z_aload0 86 dX2_pass_86 ?_
      refine z_V0 (k' := (k - 16)) 87 vX2_223 dX2_pass_87 T.V.k0 (c_pkLook T.1 (W.dy b5) (d - 1) 1 (by omega) (by omega)) (by omega) (by omega) (Nat.le_of_ble_eq_true rfl) (aft_V fun h8 T8 => ?_)
      refine z_return 90 rfl dX2_pass_90 ?_
      exact ⟨rfl, tg', _, T.trans T8⟩
    · have T : PkTo h L tg tg' a.1 a.2.2 pn fz1 h_2 := T
      refine z_iload1 50 dX2_pass_50 ?_
      refine z_bipush 51 (nI 8) dX2_pass_51 kB8 ?_
      refine z_icgeN 53 76 dX2_pass_53 (by decide) (by omega) (by omega) (fun c_53 => absurd c_53 (by omega)) (fun c_53 => ?_)
      refine z_aload0 56 dX2_pass_56 ?_
      refine z_iload1 57 dX2_pass_57 ?_
      refine z_iconst 58 (nI 4) dX2_pass_58 kI4 ?_
      refine z_aload0 59 dX2_pass_59 ?_
      refine z_get 60 gX2_44 dX2_pass_60 T.V.k0 (T.V.2.1.2.1.2.2.2.2.2) ?_
      refine z_iconst 63 (nI 3) dX2_pass_63 kI3 ?_
      refine z_iald (n := 5) 64 (3) dX2_pass_64 T.V.k7 T.V.l7 (rfl) ((by decide)) (by decide) (T.V.a7 (i := 3) (by decide)) ?_
      refine z_imulN 65 dX2_pass_65 ?_
      refine z_V2 (k' := (k - 15)) 66 vX2_210 dX2_pass_66 T.V.k0 (c_pkGive T.1 hJ.1.1 (i := i) (wn := 4 * a.1 3) hi_i (hJ.1.2.1 i hi_i) (by have := hJ.1.1.st; omega) (d - 1) 0 (by omega)) (by omega) (by omega) (Nat.le_of_ble_eq_true rfl) (aft_I fun x h7 hq => ?_)
      have T9 : PkTo h L tg tg' (vcS fz1 i a).1 (vcS fz1 i a).2.2 pn fz1 h7 := by
        rw [(vcS_J hi_i hJ.1).2]; exact T.trans hq.2
      refine z_pop 69 dX2_pass_69 (rfl) ?_
      refine z_iinc1 70 ((nI (i + 1))) dX2_pass_70 (nI_add _ _) rfl ?_
      refine z_goto 73 50 dX2_pass_73 (by decide) ?_
      exact ih_i (vcS fz1 i a) _ (by rfl) T9
  · have T : PkTo h L tg tg P a pn fz1 h_1 := T
    refine z_iload3 14 dX2_pass_14 ?_
    refine z_iload2 15 dX2_pass_15 ?_
    refine z_icgeN 16 36 dX2_pass_16 (by decide) (by omega) (by omega) (fun c_16 => absurd c_16 (by omega)) (fun c_16 => ?_)
    refine z_aload1 19 dX2_pass_19 ?_
    refine z_iload3 20 dX2_pass_20 ?_
    refine z_aald (i := 5) (n := 8) 21 (i) dX2_pass_21 (by decide) (by decide) T.V.k1 T.V.l1 (rfl) (hi_i) (by decide) (T.V.a1 hi_i) ?_
    refine z_astore4 22 dX2_pass_22 rfl ?_
    refine z_aload4 24 dX2_pass_24 ?_
    refine z_iconst 26 (nI 0) dX2_pass_26 kI0 ?_
    refine z_put 27 pX2_226 (fun h => by cases h) dX2_pass_27 (T.V.kf hi_i) (rfl) (rfl) ?_
    have T := T.today hi_i 0 W.h6
    refine z_iinc3 30 ((nI (i + 1))) dX2_pass_30 (nI_add _ _) rfl ?_
    refine z_goto 33 14 dX2_pass_33 (by decide) ?_
    refine z_fog 4 ?_
    exact ih_i (upn a i 0) _ (by rfl) T

set_option maxHeartbeats 4000000 in
theorem c_pkDays {E : Ev} {h : HP} {L tg P td : Nat → Nat} {pn : Nat} {fz : Bool} (T0 : Pk h L tg P td pn fz) (W : WF P) {n : Nat} (hn : P 5 + n < 4096) (hp : pn < 1048576) (hfz : fz = frP P (P 5)) (d k : Nat) (hd : 9 ≤ d) (hk : 16 * n ≤ k) : Call E yX2_pass_2 d k [.ref (L 0), .int (nI n)] h (rI fun x h' => x = nI (dsP n P 8) - nI (P 8) ∧ ∃ tg' td', PkTo h L tg tg' (dsP n P) td' pn (frP (dsP n P) (dsP n P 5)) h') := by
  refine Call.of [.ref (L 0), .int (nI n), dum, dum] q1749 (by decide) pn_X2 (Nat.le_of_ble_eq_true rfl) rfl ?_
  refine z_aload0 0 dX2_pass_2_0 ?_
  refine z_get 1 gX2_110 dX2_pass_2_1 T0.v.k0 (T0.v.sm (k := 8) (by decide) (by decide)) ?_
  refine z_istore2 4 dX2_pass_2_4 rfl ?_
  refine z_iconst 5 (nI 0) dX2_pass_2_5 kI0 ?_
  refine z_istore3 6 dX2_pass_2_6 rfl ?_
  refine lpB 7 n (fun _ Q => dyP Q) P (dsP n P) rfl (fun i a => [.ref (L 0), .int (nI n), .int (nI (P 8)), .int (nI i)]) (fun i a h9 => ∃ tg' td', PkTo h L tg tg' a td' pn (frP a (a 5)) h9) (fun i a => WF a ∧ a 5 = P 5 + i) (fun i => k - 16 * i) ⟨tg, td, by rw [← hfz]; exact T0.to⟩ ⟨W, rfl⟩ (fun i a hi J => ⟨J.1.dy (by omega), by rw [dyP_5 J.1]; omega⟩) (fun h1 T hJ => ?_) (fun i a h1 hi hJ T ih => ?_)
  · obtain ⟨tg', td', T⟩ := T
    obtain ⟨A, eA⟩ : ∃ A, A = dsP n P := ⟨_, rfl⟩
    rw [← eA] at T ⊢
    refine z_iload3 7 dX2_pass_2_7 ?_
    refine z_iload1 8 dX2_pass_2_8 ?_
    refine z_icgeN 9 22 dX2_pass_2_9 (by decide) (by omega) (by omega) (fun c_9 => ?_) (fun c_9 => absurd c_9 (by omega))
    refine z_aload0 22 dX2_pass_2_22 ?_
    refine z_get 23 gX2_110 dX2_pass_2_23 T.V.k0 (T.V.sm (k := 8) (by decide) (by decide)) ?_
    refine z_iload2 26 dX2_pass_2_26 ?_
    refine z_isub 27 dX2_pass_2_27 ?_
    refine z_ireturn 28 rfl dX2_pass_2_28 ?_
    exact ⟨_, rfl, rfl, tg', td', T⟩
  · obtain ⟨tg', td', T⟩ := T
    refine z_iload3 7 dX2_pass_2_7 ?_
    refine z_iload1 8 dX2_pass_2_8 ?_
    refine z_icgeN 9 22 dX2_pass_2_9 (by decide) (by omega) (by omega) (fun c_9 => absurd c_9 (by omega)) (fun c_9 => ?_)
    refine z_aload0 12 dX2_pass_2_12 ?_
    refine z_V0 (k' := (k - 16 * (i + 1))) 13 vX2_238 dX2_pass_2_13 T.V.k0 (c_pkPass T.1 hJ.1 (by omega) hp (d - 1) 16 (by omega) (by omega)) (by omega) (by omega) (Nat.le_of_ble_eq_true rfl) (aft_V fun h8 hq => ?_)
    obtain ⟨tg2, td2, T8⟩ := hq
    refine z_iinc3 16 ((nI (i + 1))) dX2_pass_2_16 (nI_add _ _) rfl ?_
    refine z_goto 19 7 dX2_pass_2_19 (by decide) ?_
    exact ih _ _ rfl ⟨_, _, T.trans T8⟩

