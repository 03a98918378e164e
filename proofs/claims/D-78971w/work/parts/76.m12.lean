/-! THE REFERENCE: texts -/
set_option maxHeartbeats 4000000 in
theorem m_sign {E : Ev} {h : HP} {m : Nat} {A P : Nat → Nat} {X : Nat → Nat → Nat} {hs : Int64} (T0 : MdAt h m A P X hs) {BF : Nat → Nat} {L a : Nat} (eB : X 5 = BF) (eL : X 6 0 = L) (ea : X 10 0 = a) (hL : L ≤ 60) (ha : a ≤ 60) (d k : Nat) : Call E yX5_sign d k [.ref m] h (rP h (nI (sgF BF L a))) := by
  have T := T0.to
  have eB9 : ∀ j, X 5 j = BF j := fun j => by rw [eB]
  refine Call.of [.ref m] q2365 (by decide) pn_X5 (Nat.le_of_ble_eq_true rfl) rfl ?_
  refine z_aload0 0 dX5_sign_0 ?_
  refine z_get 1 gX5_149 dX5_sign_1 T.kd (show HP.mm _ _ _ = .int (nI (X 10 0)) from T.sc 10 rfl) ?_
  rw [ea]
  refine z_aload0 4 dX5_sign_4 ?_
  refine z_get 5 gX5_146 dX5_sign_5 T.kd (show HP.mm _ _ _ = .int (nI (X 6 0)) from T.sc 6 rfl) ?_
  rw [eL]
  refine z_icgeN 8 23 dX5_sign_8 (by decide) (by omega) (by omega) (fun c_8 => ?_) (fun c_8 => ?_)
  · refine z_iconst 23 (nI 0) dX5_sign_23 kI0 ?_
    refine z_ireturn 24 rfl dX5_sign_24 ?_
    exact rP_of (congrArg nI (by unfold sgF; first | (rw [if_pos (by assumption)]; done) | (rw [if_neg (Nat.not_lt.mpr (by assumption))]; done)))
  · refine z_aload0 11 dX5_sign_11 ?_
    refine z_get 12 gX5_19 dX5_sign_12 T.kd (T.rf 5 rfl) ?_
    refine z_aload0 15 dX5_sign_15 ?_
    refine z_get 16 gX5_149 dX5_sign_16 T.kd (show HP.mm _ _ _ = .int (nI (X 10 0)) from T.sc 10 rfl) ?_
    rw [ea]
    refine z_iald (n := 60) 19 (a) dX5_sign_19 (T.ak 5 rfl rfl) (T.al 5 rfl rfl) (rfl) ((by omega)) (by decide) (T.at 5 rfl (by decide) (c := 60) rfl (by omega)) ?_
    rw [eB9]
    refine z_goto 20 24 dX5_sign_20 (by decide) ?_
    refine z_ireturn 24 rfl dX5_sign_24 ?_
    exact rP_of (congrArg nI (by unfold sgF; first | (rw [if_pos (by assumption)]; done) | (rw [if_neg (Nat.not_lt.mpr (by assumption))]; done)))

set_option maxHeartbeats 4000000 in
theorem m_takes {E : Ev} {h : HP} {m : Nat} {A P : Nat → Nat} {X : Nat → Nat → Nat} {hs : Int64} (T0 : MdAt h m A P X hs) {BF : Nat → Nat} {L a : Nat} (eB : X 5 = BF) (eL : X 6 0 = L) (ea : X 10 0 = a) (hL : L ≤ 60) (ha : a ≤ 60) (hB : ∀ j, j < L → BF j ≤ 126) {w : Bool} (ew : X 11 0 = bN w) {c : Nat} (hc : c < 127) (d k : Nat) (hd : 1 ≤ d) : Call E yX5_takes d k [.ref m, .int (nI c)] h (rI fun x h' => x = nI (bN (w && decide (sgF BF L a = c))) ∧ MdTo h m A P (upx X 10 0 (a + bN (w && decide (sgF BF L a = c)))) hs h') := by
  have T := T0.to
  have sb : ∀ q, sgF BF L q ≤ 126 := fun q => by
    unfold sgF; split
    · exact hB q (by assumption)
    · omega
  have sba := sb a
  refine Call.of [.ref m, .int (nI c), dum] q2373 (by decide) pn_X5 (Nat.le_of_ble_eq_true rfl) rfl ?_
  refine z_aload0 0 dX5_takes_0 ?_
  refine z_get 1 gX5_152 dX5_takes_1 T.kd (show HP.mm _ _ _ = .int (nI (X 11 0)) from T.sc 11 rfl) ?_
  rw [ew]
  refine joinZ 20 (fun v9 => [.ref m, .int (nI c), dum]) (fun v9 => [.int v9]) ((nI (bN (w && decide (sgF BF L a = c))))) ?_ (fun J => ?_)
  · refine z_istore2 20 dX5_takes_20 rfl ?_
    refine z_aload0 21 dX5_takes_21 ?_
    refine z_dup 22 dX5_takes_22 (rfl) ?_
    refine z_get 23 gX5_149 dX5_takes_23 T.kd (show HP.mm _ _ _ = .int (nI (X 10 0)) from T.sc 10 rfl) ?_
    rw [ea]
    refine z_iload2 26 dX5_takes_26 ?_
    refine joinZ 35 (fun v9 => [.ref m, .int (nI c), .int (nI (bN (w && decide (sgF BF L a = c))))]) (fun v9 => [.int v9, .int (nI a), .ref m]) ((nI (bN (w && decide (sgF BF L a = c))))) ?_ (fun J => ?_)
    · refine z_iaddN 35 dX5_takes_35 ?_
      refine z_put 36 pX5_149 (fun h => by cases h) dX5_takes_36 T.kd (rfl) (rfl) ?_
      have T := T.putS 10 (a + (bN (w && decide (sgF BF L a = c)))) rfl
      refine z_iload2 39 dX5_takes_39 ?_
      refine z_zreturn 40 rfl (bN_nb _) dX5_takes_40 ?_
      exact ⟨_, rfl, rfl, T⟩
    · refine z_ifeqB 27 34 dX5_takes_27 (by decide) (fun c_27 => ?_) (fun c_27 => ?_)
      · refine z_iconst 34 (nI 0) dX5_takes_34 kI0 ?_
        exact J _ (by rw [c_27]; rfl)
      · refine z_iconst 30 (nI 1) dX5_takes_30 kI1 ?_
        refine z_goto 31 35 dX5_takes_31 (by decide) ?_
        exact J _ (by rw [c_27]; rfl)
  · refine z_ifeqB 4 19 dX5_takes_4 (by decide) (fun c_4 => ?_) (fun c_4 => ?_)
    · refine z_iconst 19 (nI 0) dX5_takes_19 kI0 ?_
      exact J _ (congrArg nI (by simp [bN, *]))
    · refine z_aload0 7 dX5_takes_7 ?_
      refine z_V0 (k' := k) 8 vX5_156 dX5_takes_8 T.kd (m_sign (BF := BF) (L := L) (a := a) T.1 (eB) (eL) (ea) (hL) (ha) (d - 1) 0) (by omega) (by omega) (Nat.le_of_ble_eq_true rfl) (aft_P (x := nI (sgF BF L a)) ?_)
      refine z_iload1 11 dX5_takes_11 ?_
      refine z_icneN 12 19 dX5_takes_12 (by decide) (by omega) (by omega) (fun c_12 => ?_) (fun c_12 => ?_)
      · refine z_iconst 19 (nI 0) dX5_takes_19 kI0 ?_
        exact J _ (congrArg nI (by simp [bN, *]))
      · refine z_iconst 15 (nI 1) dX5_takes_15 kI1 ?_
        refine z_goto 16 20 dX5_takes_16 (by decide) ?_
        exact J _ (congrArg nI (by simp [bN, *]))

set_option maxHeartbeats 4000000 in
theorem m_wants {E : Ev} {h : HP} {m : Nat} {A P : Nat → Nat} {X : Nat → Nat → Nat} {hs : Int64} (T0 : MdAt h m A P X hs) {BF : Nat → Nat} {L a : Nat} (eB : X 5 = BF) (eL : X 6 0 = L) (ea : X 10 0 = a) (hL : L ≤ 60) (ha : a ≤ 60) (hB : ∀ j, j < L → BF j ≤ 126) {w : Bool} (ew : X 11 0 = bN w) {c : Nat} (hc : c < 127) (d k : Nat) (hd : 2 ≤ d) : Call E yX5_wants d k [.ref m, .int (nI c)] h (rV (MdTo h m A P (upx (upx X 10 0 (a + bN (w && decide (sgF BF L a = c)))) 11 0 (bN (w && decide (sgF BF L a = c)))) hs)) := by
  have T := T0.to
  refine Call.of [.ref m, .int (nI c)] q2369 (by decide) pn_X5 (Nat.le_of_ble_eq_true rfl) rfl ?_
  refine z_aload0 0 dX5_wants_0 ?_
  refine z_aload0 1 dX5_wants_1 ?_
  refine z_iload1 2 dX5_wants_2 ?_
  refine z_V1 (k' := k) 3 vX5_159 dX5_wants_3 T.kd (m_takes (BF := BF) (L := L) (a := a) (w := w) T.1 (eB) (eL) (ea) (hL) (ha) (hB) (ew) (hc) (d - 1) 0 (by omega)) (by omega) (by omega) (Nat.le_of_ble_eq_true rfl) (aft_I fun x_1 h_1 hq => ?_)
  obtain ⟨hx, T1⟩ := hq
  have hx : x_1 = nI (bN (w && decide (sgF BF L a = c))) := hx
  subst hx
  have T : MdTo h m A P (upx X 10 0 (a + bN (w && decide (sgF BF L a = c)))) hs h_1 := T.trans T1
  refine z_put 6 pX5_152 (fun h => by cases h) dX5_wants_6 T.kd (bN_nb _) (bN_fb _) ?_
  have T := T.putS 11 (bN (w && decide (sgF BF L a = c))) rfl
  refine z_return 9 rfl dX5_wants_9 ?_
  exact ⟨rfl, T⟩

set_option maxHeartbeats 4000000 in
theorem m_number {E : Ev} {h : HP} {m : Nat} {A P : Nat → Nat} {X : Nat → Nat → Nat} {hs : Int64} (T0 : MdAt h m A P X hs) {BF : Nat → Nat} {L a : Nat} (eB : X 5 = BF) (eL : X 6 0 = L) (ea : X 10 0 = a) (hL : L ≤ 60) (ha : a ≤ 60) (hB : ∀ j, j < L → BF j ≤ 126) {w : Bool} (ew : X 11 0 = bN w) {least most : Nat} (hl1 : least ≤ 1) (hm : most < 1000) (d k : Nat) (hd : 1 ≤ d) : Call E yX5_number d k [.ref m, .int (nI least), .int (nI most)] h (rI fun x h' => ∃ X', Scr [10, 11] X X' ∧ MdTo h m A P X' hs h' ∧ ((∃ a' v, w = true ∧ numP BF L least most a = some (a', v) ∧ x = nI v ∧ X' 10 0 = a' ∧ X' 11 0 = 1) ∨ ((w = false ∨ numP BF L least most a = none) ∧ X' 10 0 = a ∧ X' 11 0 = 0))) := by
  have T := T0.to
  have sb : ∀ q, sgF BF L q ≤ 126 := fun q => by
    unfold sgF; split
    · exact hB q (by assumption)
    · omega
  have sba := sb a
  refine Call.of [.ref m, .int (nI least), .int (nI most), dum] q2361 (by decide) pn_X5 (Nat.le_of_ble_eq_true rfl) rfl ?_
  refine z_aload0 0 dX5_number_0 ?_
  refine z_aload0 1 dX5_number_1 ?_
  refine z_get 2 gX5_152 dX5_number_2 T.kd (show HP.mm _ _ _ = .int (nI (X 11 0)) from T.sc 11 rfl) ?_
  rw [ew]
  refine joinZ 42 (fun v9 => [.ref m, .int (nI least), .int (nI most), dum]) (fun v9 => [.int v9, .ref m]) ((nI (bN (w && inN (sgF BF L a) (48 + least) (hiM most))))) ?_ (fun J => ?_)
  · refine z_put 42 pX5_152 (fun h => by cases h) dX5_number_42 T.kd (bN_nb _) (bN_fb _) ?_
    have T := T.putS 11 (bN (w && inN (sgF BF L a) (48 + least) (hiM most))) rfl
    refine z_aload0 45 dX5_number_45 ?_
    refine z_V0 (k' := k) 46 vX5_156 dX5_number_46 T.kd (m_sign (BF := BF) (L := L) (a := a) T.1 (eB) (eL) (ea) (hL) (ha) (d - 1) 0) (by omega) (by omega) (Nat.le_of_ble_eq_true rfl) (aft_P (x := nI (sgF BF L a)) ?_)
    refine z_bipush 49 (nI 48) dX5_number_49 kB48 ?_
    refine z_isub 51 dX5_number_51 ?_
    refine z_istore3 52 dX5_number_52 rfl ?_
    refine z_aload0 53 dX5_number_53 ?_
    refine z_dup 54 dX5_number_54 (rfl) ?_
    refine z_get 55 gX5_149 dX5_number_55 T.kd (show HP.mm _ _ _ = .int (nI ((X 10) 0)) from T.sc 10 rfl) ?_
    rw [ea]
    refine z_aload0 58 dX5_number_58 ?_
    refine z_get 59 gX5_152 dX5_number_59 T.kd (show HP.mm _ _ _ = .int (nI ((upn (X 11) 0 (bN (w && inN (sgF BF L a) (48 + least) (hiM most)))) 0)) from T.sc 11 rfl) ?_
    rw [upn_s]
    refine joinZ 70 (fun v9 => [.ref m, .int (nI least), .int (nI most), .int (nI (sgF BF L a) - nI 48)]) (fun v9 => [.int v9, .int (nI a), .ref m]) ((nI (bN (w && inN (sgF BF L a) (48 + least) (hiM most))))) ?_ (fun J => ?_)
    · refine z_iaddN 70 dX5_number_70 ?_
      refine z_put 71 pX5_149 (fun h => by cases h) dX5_number_71 T.kd (rfl) (rfl) ?_
      have T := T.putS 10 (a + (bN (w && inN (sgF BF L a) (48 + least) (hiM most)))) rfl
      cases hw1 : (w && inN (sgF BF L a) (48 + least) (hiM most))
      · rw [hw1] at T
        have hF : w = false ∨ numP BF L least most a = none := by
          cases w
          · exact Or.inl rfl
          · refine Or.inr ?_
            unfold numP
            rw [if_neg (by rw [Bool.true_and] at hw1; rw [hw1]; decide)]
        have X9a : (upx (upx X 11 0 (bN false)) 10 0 (a + (bN false))) 10 0 = a := rfl
        have X9w : (upx (upx X 11 0 (bN false)) 10 0 (a + (bN false))) 11 0 = 0 := rfl
        have X9s : Scr [10, 11] X (upx (upx X 11 0 (bN false)) 10 0 (a + (bN false))) := ((Scr.refl [10, 11] X).upx 0 _ (by decide)).upx 0 _ (by decide)
        refine z_aload0 74 dX5_number_74 ?_
        refine z_get 75 gX5_152 dX5_number_75 T.kd (show HP.mm _ _ _ = .int (nI (bN false)) from T.sc 11 rfl) ?_
        refine z_ifeqB 78 141 dX5_number_78 (by decide) (fun _ => ?_) (fun q => by cases q)
        refine z_iload3 141 dX5_number_141 ?_
        refine z_ireturn 142 rfl dX5_number_142 ?_
        exact ⟨_, rfl, _, X9s, T, Or.inr ⟨hF, X9a, X9w⟩⟩
      · rw [hw1] at T
        have hwt : w = true ∧ inN (sgF BF L a) (48 + least) (hiM most) = true := by
          rw [Bool.and_eq_true] at hw1; exact hw1
        have q9 := inN_t hwt.2
        have hn : numP BF L least most a = some (nmF BF L most 61 (a + 1) (sgF BF L a - 48)) := by
          unfold numP; rw [if_pos hwt.2]
        rw [pk_sub (show 48 ≤ sgF BF L a by omega)]
        have hh : hiM most ≤ 57 ∧ hiM most ≤ 48 + most := by unfold hiM; split <;> omega
        have haL : a < L := sgF_lt (BF := BF) (by omega)
        refine lpW 74 (fun s : Nat × Nat × Nat => [.ref m, .int (nI least), .int (nI most), .int (nI s.2.2)]) (fun s h9 => (∃ X2, Scr [10, 11] X X2 ∧ X2 10 0 = s.2.1 ∧ X2 11 0 = 1 ∧ MdTo h m A P X2 hs h9) ∧ L < s.1 + s.2.1 ∧ s.2.1 ≤ L ∧ s.2.2 ≤ most ∧ nmF BF L most s.1 s.2.1 s.2.2 = nmF BF L most 61 (a + 1) (sgF BF L a - 48)) (fun _ => k) (fun s => s.1) (61, a + 1, sgF BF L a - 48) ⟨⟨upx (upx X 11 0 (bN true)) 10 0 (a + bN true), ((Scr.refl [10, 11] X).upx 0 _ (by decide)).upx 0 _ (by decide), rfl, rfl, T⟩, by show L < 61 + (a + 1); omega, by show a + 1 ≤ L; omega, by show sgF BF L a - 48 ≤ most; omega, rfl⟩ (fun s h9 hI ih => ?_)
        obtain ⟨f, b, v⟩ := s
        obtain ⟨⟨X2, S2, xa, xw, T⟩, hf, hbL, hvm, he⟩ := hI
        have xa : X2 10 0 = b := xa
        have hf : L < f + b := hf
        have hbL : b ≤ L := hbL
        have hvm : v ≤ most := hvm
        have he : nmF BF L most f b v = nmF BF L most 61 (a + 1) (sgF BF L a - 48) := he
        have eB2 : X2 5 = BF := (S2 5 (by decide)).trans eB
        have eL2 : X2 6 0 = L := by rw [S2 6 (by decide)]; exact eL
        obtain ⟨g, hg⟩ : ∃ g, f = g + 1 := ⟨f - 1, by omega⟩
        have sb9 := sb b
        show Z E _ _ _ _ h9 74 [.ref m, .int (nI least), .int (nI most), .int (nI v)] []
        refine z_aload0 74 dX5_number_74 ?_
        refine z_get 75 gX5_152 dX5_number_75 T.kd (show HP.mm _ _ _ = .int (nI (X2 11 0)) from T.sc 11 rfl) ?_
        rw [xw]
        refine z_ifeqN 78 141 dX5_number_78 (by decide) (by omega) (fun c_78 => absurd c_78 (by decide)) (fun c_78 => ?_)
        refine z_iload3 81 dX5_number_81 ?_
        refine z_ifleN 82 141 dX5_number_82 (by decide) (by omega) (fun c_82 => ?_) (fun c_82 => ?_)
        · refine z_iload3 141 dX5_number_141 ?_
          refine z_ireturn 142 rfl dX5_number_142 ?_
          have he3 : nmF BF L most 61 (a + 1) (sgF BF L a - 48) = (b, v) := by
            rw [← he, hg]
            refine if_neg (fun q => ?_)
            first | omega | (rw [c_96] at q; exact absurd q.2.1 (by decide)) | exact absurd q.2.2 (by omega)
          exact ⟨_, rfl, X2, S2, T, Or.inl ⟨b, v, hwt.1, by rw [hn, he3], rfl, xa, xw⟩⟩
        · refine z_aload0 85 dX5_number_85 ?_
          refine z_V0 (k' := k) 86 vX5_156 dX5_number_86 T.kd (m_sign (BF := BF) (L := L) (a := b) T.1 (eB2) (eL2) (xa) (hL) (by omega) (d - 1) 0) (by omega) (by omega) (Nat.le_of_ble_eq_true rfl) (aft_P (x := nI (sgF BF L b)) ?_)
          refine z_bipush 89 (nI 48) dX5_number_89 kB48 ?_
          refine z_bipush 91 (nI 57) dX5_number_91 kB57 ?_
          refine z_S3 (k' := k) 93 sX5_39 dX5_number_93 (m_inN (by omega) (by omega) (by omega) (d - 1) 0) (by omega) (by omega) (Nat.le_of_ble_eq_true rfl) (aft_P ?_)
          refine z_ifeqB 96 141 dX5_number_96 (by decide) (fun c_96 => ?_) (fun c_96 => ?_)
          · refine z_iload3 141 dX5_number_141 ?_
            refine z_ireturn 142 rfl dX5_number_142 ?_
            have he3 : nmF BF L most 61 (a + 1) (sgF BF L a - 48) = (b, v) := by
              rw [← he, hg]
              refine if_neg (fun q => ?_)
              first | omega | (rw [c_96] at q; exact absurd q.2.1 (by decide)) | exact absurd q.2.2 (by omega)
            exact ⟨_, rfl, X2, S2, T, Or.inl ⟨b, v, hwt.1, by rw [hn, he3], rfl, xa, xw⟩⟩
          · refine z_bipush 99 (nI 10) dX5_number_99 kB10 ?_
            refine z_iload3 101 dX5_number_101 ?_
            refine z_imulN 102 dX5_number_102 ?_
            refine z_aload0 103 dX5_number_103 ?_
            refine z_V0 (k' := k) 104 vX5_156 dX5_number_104 T.kd (m_sign (BF := BF) (L := L) (a := b) T.1 (eB2) (eL2) (xa) (hL) (by omega) (d - 1) 0) (by omega) (by omega) (Nat.le_of_ble_eq_true rfl) (aft_P (x := nI (sgF BF L b)) ?_)
            refine z_iaddN 107 dX5_number_107 ?_
            refine z_bipush 108 (nI 48) dX5_number_108 kB48 ?_
            refine z_isubN 110 dX5_number_110 (by have := (inN_t c_96).1; omega) ?_
            refine z_iload2 111 dX5_number_111 ?_
            refine z_icgtN 112 141 dX5_number_112 (by decide) (by omega) (by omega) (fun c_112 => ?_) (fun c_112 => ?_)
            · refine z_iload3 141 dX5_number_141 ?_
              refine z_ireturn 142 rfl dX5_number_142 ?_
              have he3 : nmF BF L most 61 (a + 1) (sgF BF L a - 48) = (b, v) := by
                rw [← he, hg]
                refine if_neg (fun q => ?_)
                first | omega | (rw [c_96] at q; exact absurd q.2.1 (by decide)) | exact absurd q.2.2 (by omega)
              exact ⟨_, rfl, X2, S2, T, Or.inl ⟨b, v, hwt.1, by rw [hn, he3], rfl, xa, xw⟩⟩
            · refine z_bipush 115 (nI 10) dX5_number_115 kB10 ?_
              refine z_iload3 117 dX5_number_117 ?_
              refine z_imulN 118 dX5_number_118 ?_
              refine z_aload0 119 dX5_number_119 ?_
              refine z_V0 (k' := k) 120 vX5_156 dX5_number_120 T.kd (m_sign (BF := BF) (L := L) (a := b) T.1 (eB2) (eL2) (xa) (hL) (by omega) (d - 1) 0) (by omega) (by omega) (Nat.le_of_ble_eq_true rfl) (aft_P (x := nI (sgF BF L b)) ?_)
              refine z_iaddN 123 dX5_number_123 ?_
              refine z_bipush 124 (nI 48) dX5_number_124 kB48 ?_
              refine z_isubN 126 dX5_number_126 (by have := (inN_t c_96).1; omega) ?_
              refine z_istore3 127 dX5_number_127 rfl ?_
              refine z_aload0 128 dX5_number_128 ?_
              refine z_dup 129 dX5_number_129 (rfl) ?_
              refine z_get 130 gX5_149 dX5_number_130 T.kd (show HP.mm _ _ _ = .int (nI (X2 10 0)) from T.sc 10 rfl) ?_
              rw [xa]
              refine z_iconst 133 (nI 1) dX5_number_133 kI1 ?_
              refine z_iaddN 134 dX5_number_134 ?_
              refine z_put 135 pX5_149 (fun h => by cases h) dX5_number_135 T.kd (rfl) (rfl) ?_
              have T := T.putS 10 (b + 1) rfl
              refine z_goto 138 74 dX5_number_138 (by decide) ?_
              have he2 : nmF BF L most g (b + 1) (10 * v + sgF BF L b - 48) = nmF BF L most 61 (a + 1) (sgF BF L a - 48) := by
                rw [← he, hg]; exact (if_pos ⟨c_82, c_96, c_112⟩).symm
              have q8 := inN_t c_96
              have l8 : b < L := sgF_lt (BF := BF) (by omega)
              exact ih (g, b + 1, 10 * v + sgF BF L b - 48) _ (by show g < f; omega) ⟨⟨upx X2 10 0 (b + 1), S2.upx 0 _ (by decide), rfl, xw, T⟩, by show L < g + (b + 1); omega, by show b + 1 ≤ L; omega, c_112, he2⟩
    · refine z_ifeqB 62 69 dX5_number_62 (by decide) (fun c_62 => ?_) (fun c_62 => ?_)
      · refine z_iconst 69 (nI 0) dX5_number_69 kI0 ?_
        exact J _ (by rw [c_62]; rfl)
      · refine z_iconst 65 (nI 1) dX5_number_65 kI1 ?_
        refine z_goto 66 70 dX5_number_66 (by decide) ?_
        exact J _ (by rw [c_62]; rfl)
  · refine z_ifeqB 5 41 dX5_number_5 (by decide) (fun c_5 => ?_) (fun c_5 => ?_)
    · refine z_iconst 41 (nI 0) dX5_number_41 kI0 ?_
      exact J _ (congrArg nI (by first | (simp [bN, hiM, *]; done) | (unfold hiM; first | (rw [if_pos (by omega)]; simp [bN, *]; done) | (rw [if_neg (by omega)]; simp [bN, *]; done))))
    · refine z_aload0 8 dX5_number_8 ?_
      refine z_V0 (k' := k) 9 vX5_156 dX5_number_9 T.kd (m_sign (BF := BF) (L := L) (a := a) T.1 (eB) (eL) (ea) (hL) (ha) (d - 1) 0) (by omega) (by omega) (Nat.le_of_ble_eq_true rfl) (aft_P (x := nI (sgF BF L a)) ?_)
      refine z_bipush 12 (nI 48) dX5_number_12 kB48 ?_
      refine z_iload1 14 dX5_number_14 ?_
      refine z_iaddN 15 dX5_number_15 ?_
      refine z_iload2 16 dX5_number_16 ?_
      refine z_bipush 17 (nI 9) dX5_number_17 kB9 ?_
      refine z_icgeN 19 29 dX5_number_19 (by decide) (by omega) (by omega) (fun c_19 => ?_) (fun c_19 => ?_)
      · refine z_bipush 29 (nI 57) dX5_number_29 kB57 ?_
        refine z_S3 (k' := k) 31 sX5_39 dX5_number_31 (m_inN (by omega) (by omega) (by omega) (d - 1) 0) (by omega) (by omega) (Nat.le_of_ble_eq_true rfl) (aft_P ?_)
        refine z_ifeqB 34 41 dX5_number_34 (by decide) (fun c_34 => ?_) (fun c_34 => ?_)
        · refine z_iconst 41 (nI 0) dX5_number_41 kI0 ?_
          exact J _ (congrArg nI (by first | (simp [bN, hiM, *]; done) | (unfold hiM; first | (rw [if_pos (by omega)]; simp [bN, *]; done) | (rw [if_neg (by omega)]; simp [bN, *]; done))))
        · refine z_iconst 37 (nI 1) dX5_number_37 kI1 ?_
          refine z_goto 38 42 dX5_number_38 (by decide) ?_
          exact J _ (congrArg nI (by first | (simp [bN, hiM, *]; done) | (unfold hiM; first | (rw [if_pos (by omega)]; simp [bN, *]; done) | (rw [if_neg (by omega)]; simp [bN, *]; done))))
      · refine z_bipush 22 (nI 48) dX5_number_22 kB48 ?_
        refine z_iload2 24 dX5_number_24 ?_
        refine z_iaddN 25 dX5_number_25 ?_
        refine z_goto 26 31 dX5_number_26 (by decide) ?_
        refine z_S3 (k' := k) 31 sX5_39 dX5_number_31 (m_inN (by omega) (by omega) (by omega) (d - 1) 0) (by omega) (by omega) (Nat.le_of_ble_eq_true rfl) (aft_P ?_)
        refine z_ifeqB 34 41 dX5_number_34 (by decide) (fun c_34 => ?_) (fun c_34 => ?_)
        · refine z_iconst 41 (nI 0) dX5_number_41 kI0 ?_
          exact J _ (congrArg nI (by first | (simp [bN, hiM, *]; done) | (unfold hiM; first | (rw [if_pos (by omega)]; simp [bN, *]; done) | (rw [if_neg (by omega)]; simp [bN, *]; done))))
        · refine z_iconst 37 (nI 1) dX5_number_37 kI1 ?_
          refine z_goto 38 42 dX5_number_38 (by decide) ?_
          exact J _ (congrArg nI (by first | (simp [bN, hiM, *]; done) | (unfold hiM; first | (rw [if_pos (by omega)]; simp [bN, *]; done) | (rw [if_neg (by omega)]; simp [bN, *]; done))))

