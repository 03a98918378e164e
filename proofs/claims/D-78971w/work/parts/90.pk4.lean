/-! PARK: serve -/
theorem PkTo.out {h0 h : HP} {L tg0 tg P td : Nat → Nat} {pn : Nat} {fz : Bool} (T : PkTo h0 L tg0 tg P td pn fz h) (O : PkO h0 L tg0) {o y c g n : Nat} (ho : o < h0.sz) (X : OutAt h0 o y c g n) : OutAt h o y c g n := by
  have m := T.2.1.2 o ho
  have nv : ¬ tg0 o ≠ 100 := O.imm (Or.inl rfl) o X.1
  unfold OutAt at X ⊢
  rw [m.1, m.2.2 nv]; exact X
theorem svA_t {fz : Bool} {p : Nat} {ok : Bool} {s : Sv} (h : ok = true) : svA fz p ok s = (gvR fz s.1 s.2.1 p s.2.2, gvT fz s.1 s.2.1 p s.2.2, s.2.2 - gvX fz s.1 s.2.1 p s.2.2) := if_pos h
theorem svA_f {fz : Bool} {p : Nat} {ok : Bool} {s : Sv} (h : ok = false) : svA fz p ok s = s := by unfold svA; rw [h]; rfl
set_option maxHeartbeats 4000000 in
theorem c_pkServe {E : Ev} {h : HP} {L tg P td : Nat → Nat} {pn : Nat} {fz : Bool} (T0 : Pk h L tg P td pn fz) (W : WF P) {o y c g n : Nat} (H : tdO P td) (ho : o < h.sz) (X : OutAt h o y c g n) (hg : g < 8) (hc : c < 100) (d k : Nat) (hd : 4 ≤ d) : Call E yX2_serve d k [.ref (L 0), .ref o] h (rV (PkTo h L tg tg (drE (svL fz g P td c).1 c (svL fz g P td c).2.2) (svL fz g P td c).2.1 pn fz)) := by
  have st := W.st
  have T := T0.to
  have J0 : SvJ ((P, td, c * P 2) : Sv) ∧ P 2 = P 2 := ⟨⟨W, H, by show c * P 2 < 1000000; have : c * P 2 ≤ 100 * 9 := Nat.mul_le_mul (by omega) (by omega); omega⟩, rfl⟩
  refine Call.of [.ref (L 0), .ref o, dum, dum] q1694 (by decide) pn_X2 (Nat.le_of_ble_eq_true rfl) rfl ?_
  refine z_aload1 0 dX2_serve_0 ?_
  refine z_get 1 gX2_206 dX2_serve_1 X.1 X.2.2.1 ?_
  refine z_aload0 4 dX2_serve_4 ?_
  refine z_get 5 gX2_44 dX2_serve_5 T0.v.k0 (T0.v.2.1.2.1.2.2.2.2.2) ?_
  refine z_iconst 8 (nI 2) dX2_serve_8 kI2 ?_
  refine z_iald (n := 5) 9 (2) dX2_serve_9 T0.v.k7 T0.v.l7 (rfl) ((by decide)) (by decide) (T0.v.a7 (i := 2) (by decide)) ?_
  refine z_imulN 10 dX2_serve_10 ?_
  refine z_istore2 11 dX2_serve_11 rfl ?_
  refine z_iconst 12 (nI 0) dX2_serve_12 kI0 ?_
  refine z_istore3 13 dX2_serve_13 rfl ?_
  refine lpB 14 (3) (svD fz g) ((P, td, c * P 2)) ((svL fz g P td c)) (rfl) (fun i a => [.ref (L 0), .ref o, .int (nI a.2.2), .int (nI i)]) (fun i a h9 => PkTo h L tg tg a.1 a.2.1 pn fz h9) (fun _ s => SvJ s ∧ s.1 2 = P 2) (fun _ => k) (T) (J0) (fun _ _ _ H => ⟨svD_J hg H.1, (svD_c (by decide)).trans H.2⟩) (fun h_1 T hJ => ?_) (fun i a h_1 hi_i hJ T ih_i => ?_)
  · have T : PkTo h L tg tg ((svL fz g P td c).1) ((svL fz g P td c).2.1) pn fz h_1 := T
    have hl := hJ.1.2.2
    refine z_iload3 14 dX2_serve_14 ?_
    refine z_iconst 15 (nI 2) dX2_serve_15 kI2 ?_
    refine z_icgtN 16 85 dX2_serve_16 (by decide) (by omega) (by omega) (fun c_16 => ?_) (fun c_16 => absurd c_16 (by omega))
    refine z_aload0 85 dX2_serve_85 ?_
    refine z_dup 86 dX2_serve_86 (rfl) ?_
    refine z_get 87 gX2_110 dX2_serve_87 T.V.k0 (T.V.sm (k := 8) (by decide) (by decide)) ?_
    refine z_iload2 90 dX2_serve_90 ?_
    refine z_aload0 91 dX2_serve_91 ?_
    refine z_get 92 gX2_44 dX2_serve_92 T.V.k0 (T.V.2.1.2.1.2.2.2.2.2) ?_
    refine z_iconst 95 (nI 2) dX2_serve_95 kI2 ?_
    refine z_iald (n := 5) 96 (2) dX2_serve_96 T.V.k7 T.V.l7 (rfl) ((by decide)) (by decide) ((T.V.a7 (i := 2) (by decide)).trans (by rw [hJ.2])) ?_
    refine z_iaddN 97 dX2_serve_97 ?_
    refine z_iconst 98 (nI 1) dX2_serve_98 kI1 ?_
    refine z_isubN 99 dX2_serve_99 (by omega) ?_
    refine z_aload0 100 dX2_serve_100 ?_
    refine z_get 101 gX2_44 dX2_serve_101 T.V.k0 (T.V.2.1.2.1.2.2.2.2.2) ?_
    refine z_iconst 104 (nI 2) dX2_serve_104 kI2 ?_
    refine z_iald (n := 5) 105 (2) dX2_serve_105 T.V.k7 T.V.l7 (rfl) ((by decide)) (by decide) ((T.V.a7 (i := 2) (by decide)).trans (by rw [hJ.2])) ?_
    refine z_idivN 106 dX2_serve_106 (by omega) (by omega) (by omega) ?_
    refine z_iaddN 107 dX2_serve_107 ?_
    refine z_put 108 pX2_110 (fun h => by cases h) dX2_serve_108 T.V.k0 (rfl) (rfl) ?_
    have U1 := T.sum (k := 8) (by decide) (by decide) ((svL fz g P td c).1 8 + ((svL fz g P td c).2.2 + P 2 - 1) / P 2) hJ.1.1.h6
    refine z_aload0 111 dX2_serve_111 ?_
    refine z_dup 112 dX2_serve_112 (rfl) ?_
    refine z_get 113 gX2_113 dX2_serve_113 U1.V.k0 ((U1.V.sm (k := 9) (by decide) (by decide)).trans (by rw [upn_n _ _ (by decide)])) ?_
    refine z_aload1 116 dX2_serve_116 ?_
    refine z_get 117 gX2_206 dX2_serve_117 (U1.out T0.1 ho X).1 (U1.out T0.1 ho X).2.2.1 ?_
    refine z_iaddN 120 dX2_serve_120 ?_
    refine z_put 121 pX2_113 (fun h => by cases h) dX2_serve_121 U1.V.k0 (rfl) (rfl) ?_
    have U2 := U1.sum (k := 9) (by decide) (by decide) ((svL fz g P td c).1 9 + c) (by rw [upn_n _ _ (by decide)]; exact hJ.1.1.h6)
    refine z_return 124 rfl dX2_serve_124 ?_
    refine ⟨rfl, ?_⟩
    have e9 : drE (svL fz g P td c).1 c (svL fz g P td c).2.2 = upn (upn (svL fz g P td c).1 8 ((svL fz g P td c).1 8 + ((svL fz g P td c).2.2 + P 2 - 1) / P 2)) 9 ((svL fz g P td c).1 9 + c) := by
      simp only [drE]
      rw [hJ.2, upn_n _ _ (by decide)]
    rw [e9]
    exact U2
  · have T : PkTo h L tg tg a.1 a.2.1 pn fz h_1 := T
    refine z_iload3 14 dX2_serve_14 ?_
    refine z_iconst 15 (nI 2) dX2_serve_15 kI2 ?_
    refine z_icgtN 16 85 dX2_serve_16 (by decide) (by omega) (by omega) (fun c_16 => absurd c_16 (by omega)) (fun c_16 => ?_)
    refine z_iload2 19 dX2_serve_19 ?_
    refine z_aload1 20 dX2_serve_20 ?_
    refine z_get 21 gX2_207 dX2_serve_21 (T.out T0.1 ho X).1 (T.out T0.1 ho X).2.2.2.1 ?_
    refine z_iload3 24 dX2_serve_24 ?_
    refine z_isub 25 dX2_serve_25 ?_
    refine z_ifltD 26 43 dX2_serve_26 (by decide) (by omega) (by omega) (fun c_26 => ?_) (fun c_26 => ?_)
    · refine z_iconst 43 (nI 0) dX2_serve_43 kI0 ?_
      refine z_isubN 44 dX2_serve_44 (Nat.zero_le _) ?_
      obtain ⟨s1, e1⟩ : ∃ s1 : Sv, s1 = svA fz (g - i) (decide (i ≤ g)) a := ⟨_, rfl⟩
      have e1t := e1.trans (svA_f (by simp; omega))
      have hJ1 : SvJ s1 := by rw [e1]; exact svA_J hJ.1 (fun _ => by omega)
      have l1 : a.2.2 - 0 = s1.2.2 := by rw [e1t]; rfl
      rw [l1]
      have T1 := T
      rw [← e1t] at T1
      refine z_istore2 45 dX2_serve_45 rfl ?_
      refine z_iload2 46 dX2_serve_46 ?_
      refine z_iload3 47 dX2_serve_47 ?_
      refine z_ifleN 48 76 dX2_serve_48 (by decide) (by omega) (fun c_48 => ?_) (fun c_48 => ?_)
      · refine z_iconst 76 (nI 0) dX2_serve_76 kI0 ?_
        refine z_isubN 77 dX2_serve_77 (Nat.zero_le _) ?_
        have e2t : svA fz (g + i) (decide (0 < i) && decide (g + i < 8)) s1 = _ := svA_f (by simp; omega)
        have l2 : s1.2.2 - 0 = (svA fz (g + i) (decide (0 < i) && decide (g + i < 8)) s1).2.2 := by rw [e2t]; rfl
        rw [l2]
        have T2 := T1
        rw [← e2t] at T2
        subst e1
        refine z_istore2 78 dX2_serve_78 rfl ?_
        refine z_iinc3 79 ((nI (i + 1))) dX2_serve_79 (nI_add _ _) rfl ?_
        refine z_goto 82 14 dX2_serve_82 (by decide) ?_
        exact ih_i (svD fz g i a) _ (by rfl) T2
      · refine z_aload1 51 dX2_serve_51 ?_
        refine z_get 52 gX2_207 dX2_serve_52 (T1.out T0.1 ho X).1 (T1.out T0.1 ho X).2.2.2.1 ?_
        refine z_iload3 55 dX2_serve_55 ?_
        refine z_iaddN 56 dX2_serve_56 ?_
        refine z_bipush 57 (nI 8) dX2_serve_57 kB8 ?_
        refine z_icgeN 59 76 dX2_serve_59 (by decide) (by omega) (by omega) (fun c_59 => ?_) (fun c_59 => ?_)
        · refine z_iconst 76 (nI 0) dX2_serve_76 kI0 ?_
          refine z_isubN 77 dX2_serve_77 (Nat.zero_le _) ?_
          have e2t : svA fz (g + i) (decide (0 < i) && decide (g + i < 8)) s1 = _ := svA_f (by simp; omega)
          have l2 : s1.2.2 - 0 = (svA fz (g + i) (decide (0 < i) && decide (g + i < 8)) s1).2.2 := by rw [e2t]; rfl
          rw [l2]
          have T2 := T1
          rw [← e2t] at T2
          subst e1
          refine z_istore2 78 dX2_serve_78 rfl ?_
          refine z_iinc3 79 ((nI (i + 1))) dX2_serve_79 (nI_add _ _) rfl ?_
          refine z_goto 82 14 dX2_serve_82 (by decide) ?_
          exact ih_i (svD fz g i a) _ (by rfl) T2
        · refine z_aload0 62 dX2_serve_62 ?_
          refine z_aload1 63 dX2_serve_63 ?_
          refine z_get 64 gX2_207 dX2_serve_64 (T1.out T0.1 ho X).1 (T1.out T0.1 ho X).2.2.2.1 ?_
          refine z_iload3 67 dX2_serve_67 ?_
          refine z_iaddN 68 dX2_serve_68 ?_
          refine z_iload2 69 dX2_serve_69 ?_
          refine z_V2 (k' := k) 70 vX2_210 dX2_serve_70 T1.V.k0 (c_pkGive T1.1 hJ1.1 (i := g + i) (wn := s1.2.2) (by omega) (hJ1.2.1 _ (by omega)) hJ1.2.2 (d - 1) 0 (by omega)) (by omega) (by omega) (Nat.le_of_ble_eq_true rfl) (aft_I fun x hB hq => ?_)
          obtain ⟨hx, TB0⟩ := hq
          have hx : x = nI (gvX fz s1.1 s1.2.1 (g + i) s1.2.2) := hx
          subst hx
          have TB := T1.trans TB0
          refine z_goto 73 77 dX2_serve_73 (by decide) ?_
          refine z_isubN 77 dX2_serve_77 (gvX_le _ _ _ _ _) ?_
          have e2t : svA fz (g + i) (decide (0 < i) && decide (g + i < 8)) s1 = _ := svA_t (by simp; omega)
          have l2 : s1.2.2 - gvX fz s1.1 s1.2.1 (g + i) s1.2.2 = (svA fz (g + i) (decide (0 < i) && decide (g + i < 8)) s1).2.2 := by rw [e2t]
          rw [l2]
          have T2 : PkTo h L tg tg (svA fz (g + i) (decide (0 < i) && decide (g + i < 8)) s1).1 (svA fz (g + i) (decide (0 < i) && decide (g + i < 8)) s1).2.1 pn fz hB := by rw [e2t]; exact TB
          subst e1
          refine z_istore2 78 dX2_serve_78 rfl ?_
          refine z_iinc3 79 ((nI (i + 1))) dX2_serve_79 (nI_add _ _) rfl ?_
          refine z_goto 82 14 dX2_serve_82 (by decide) ?_
          exact ih_i (svD fz g i a) _ (by rfl) T2
    · refine z_aload0 29 dX2_serve_29 ?_
      refine z_aload1 30 dX2_serve_30 ?_
      refine z_get 31 gX2_207 dX2_serve_31 (T.out T0.1 ho X).1 (T.out T0.1 ho X).2.2.2.1 ?_
      refine z_iload3 34 dX2_serve_34 ?_
      refine z_isubN 35 dX2_serve_35 (by omega) ?_
      refine z_iload2 36 dX2_serve_36 ?_
      refine z_V2 (k' := k) 37 vX2_210 dX2_serve_37 T.V.k0 (c_pkGive T.1 hJ.1.1 (i := g - i) (wn := a.2.2) (by omega) (hJ.1.2.1 _ (by omega)) hJ.1.2.2 (d - 1) 0 (by omega)) (by omega) (by omega) (Nat.le_of_ble_eq_true rfl) (aft_I fun x hA hq => ?_)
      obtain ⟨hx, TA0⟩ := hq
      have hx : x = nI (gvX fz a.1 a.2.1 (g - i) a.2.2) := hx
      subst hx
      have TA := T.trans TA0
      refine z_goto 40 44 dX2_serve_40 (by decide) ?_
      refine z_isubN 44 dX2_serve_44 (gvX_le _ _ _ _ _) ?_
      obtain ⟨s1, e1⟩ : ∃ s1 : Sv, s1 = svA fz (g - i) (decide (i ≤ g)) a := ⟨_, rfl⟩
      have e1t := e1.trans (svA_t (by simp; omega))
      have hJ1 : SvJ s1 := by rw [e1]; exact svA_J hJ.1 (fun _ => by omega)
      have l1 : a.2.2 - gvX fz a.1 a.2.1 (g - i) a.2.2 = s1.2.2 := by rw [e1t]
      rw [l1]
      have T1 : PkTo h L tg tg s1.1 s1.2.1 pn fz hA := by rw [e1t]; exact TA
      refine z_istore2 45 dX2_serve_45 rfl ?_
      refine z_iload2 46 dX2_serve_46 ?_
      refine z_iload3 47 dX2_serve_47 ?_
      refine z_ifleN 48 76 dX2_serve_48 (by decide) (by omega) (fun c_48 => ?_) (fun c_48 => ?_)
      · refine z_iconst 76 (nI 0) dX2_serve_76 kI0 ?_
        refine z_isubN 77 dX2_serve_77 (Nat.zero_le _) ?_
        have e2t : svA fz (g + i) (decide (0 < i) && decide (g + i < 8)) s1 = _ := svA_f (by simp; omega)
        have l2 : s1.2.2 - 0 = (svA fz (g + i) (decide (0 < i) && decide (g + i < 8)) s1).2.2 := by rw [e2t]; rfl
        rw [l2]
        have T2 := T1
        rw [← e2t] at T2
        subst e1
        refine z_istore2 78 dX2_serve_78 rfl ?_
        refine z_iinc3 79 ((nI (i + 1))) dX2_serve_79 (nI_add _ _) rfl ?_
        refine z_goto 82 14 dX2_serve_82 (by decide) ?_
        exact ih_i (svD fz g i a) _ (by rfl) T2
      · refine z_aload1 51 dX2_serve_51 ?_
        refine z_get 52 gX2_207 dX2_serve_52 (T1.out T0.1 ho X).1 (T1.out T0.1 ho X).2.2.2.1 ?_
        refine z_iload3 55 dX2_serve_55 ?_
        refine z_iaddN 56 dX2_serve_56 ?_
        refine z_bipush 57 (nI 8) dX2_serve_57 kB8 ?_
        refine z_icgeN 59 76 dX2_serve_59 (by decide) (by omega) (by omega) (fun c_59 => ?_) (fun c_59 => ?_)
        · refine z_iconst 76 (nI 0) dX2_serve_76 kI0 ?_
          refine z_isubN 77 dX2_serve_77 (Nat.zero_le _) ?_
          have e2t : svA fz (g + i) (decide (0 < i) && decide (g + i < 8)) s1 = _ := svA_f (by simp; omega)
          have l2 : s1.2.2 - 0 = (svA fz (g + i) (decide (0 < i) && decide (g + i < 8)) s1).2.2 := by rw [e2t]; rfl
          rw [l2]
          have T2 := T1
          rw [← e2t] at T2
          subst e1
          refine z_istore2 78 dX2_serve_78 rfl ?_
          refine z_iinc3 79 ((nI (i + 1))) dX2_serve_79 (nI_add _ _) rfl ?_
          refine z_goto 82 14 dX2_serve_82 (by decide) ?_
          exact ih_i (svD fz g i a) _ (by rfl) T2
        · refine z_aload0 62 dX2_serve_62 ?_
          refine z_aload1 63 dX2_serve_63 ?_
          refine z_get 64 gX2_207 dX2_serve_64 (T1.out T0.1 ho X).1 (T1.out T0.1 ho X).2.2.2.1 ?_
          refine z_iload3 67 dX2_serve_67 ?_
          refine z_iaddN 68 dX2_serve_68 ?_
          refine z_iload2 69 dX2_serve_69 ?_
          refine z_V2 (k' := k) 70 vX2_210 dX2_serve_70 T1.V.k0 (c_pkGive T1.1 hJ1.1 (i := g + i) (wn := s1.2.2) (by omega) (hJ1.2.1 _ (by omega)) hJ1.2.2 (d - 1) 0 (by omega)) (by omega) (by omega) (Nat.le_of_ble_eq_true rfl) (aft_I fun x hB hq => ?_)
          obtain ⟨hx, TB0⟩ := hq
          have hx : x = nI (gvX fz s1.1 s1.2.1 (g + i) s1.2.2) := hx
          subst hx
          have TB := T1.trans TB0
          refine z_goto 73 77 dX2_serve_73 (by decide) ?_
          refine z_isubN 77 dX2_serve_77 (gvX_le _ _ _ _ _) ?_
          have e2t : svA fz (g + i) (decide (0 < i) && decide (g + i < 8)) s1 = _ := svA_t (by simp; omega)
          have l2 : s1.2.2 - gvX fz s1.1 s1.2.1 (g + i) s1.2.2 = (svA fz (g + i) (decide (0 < i) && decide (g + i < 8)) s1).2.2 := by rw [e2t]
          rw [l2]
          have T2 : PkTo h L tg tg (svA fz (g + i) (decide (0 < i) && decide (g + i < 8)) s1).1 (svA fz (g + i) (decide (0 < i) && decide (g + i < 8)) s1).2.1 pn fz hB := by rw [e2t]; exact TB
          subst e1
          refine z_istore2 78 dX2_serve_78 rfl ?_
          refine z_iinc3 79 ((nI (i + 1))) dX2_serve_79 (nI_add _ _) rfl ?_
          refine z_goto 82 14 dX2_serve_82 (by decide) ?_
          exact ih_i (svD fz g i a) _ (by rfl) T2

