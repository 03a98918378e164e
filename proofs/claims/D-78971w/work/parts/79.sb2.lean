/-! STRINGBUILDER of 60 bytes: append, charAt, setLength(0), the constructor -/
theorem st_sio {E : Ev} (B : Base E) : va_Zq "jdk/internal/util/Preconditions" "SIOOBE_FORMATTER" "Ljava/util/function/BiFunction;" (fun q => E.z ≤ q) E.s E.s.heap :=
  va_Zqof (args := #[Value.ref E.b]) (B.2.1 _ q615) (B.tw q119) (B.nw (w := .isRef (.static "jdk/internal/util/Preconditions" "SIOOBE_FORMATTER" "Ljava/util/function/BiFunction;")) (by decide +kernel)) Base.nA
theorem i2b_q : ∀ q, q < 128 → (nI q).toInt8.toInt32 = nI q := by decide +kernel
theorem SbP.keep {S : Nat → Prop} {h h' : HP} {b ar n : Nat} {c : Nat → Nat} (X : SbP h b ar n c) (M : Sm S h h') (hb : ¬ S b) (ha : ¬ S ar) : SbP h' b ar n c := by
  obtain ⟨s1, s2, s3, s4, s5, s6, s7, s8, s9, s10⟩ := X
  obtain ⟨a1, a2, a3⟩ := M.2 b s5
  obtain ⟨b1, b2, b3⟩ := M.2 ar s8
  rw [← a1] at s1; rw [← a3 hb] at s2 s3 s4; rw [← b1] at s6; rw [← b2] at s7; rw [← b3 ha] at s10
  exact ⟨s1, s2, s3, s4, Nat.lt_of_lt_of_le s5 M.1, s6, s7, Nat.lt_of_lt_of_le s8 M.1, s9, s10⟩
set_option maxHeartbeats 4000000 in
theorem c_chk21r {E : Ev} {h : HP} {i n t : Nat} (hi : i < n) (hn : n < 2147483648) (d k : Nat) : Call E yJ21_checkIndex d k [.int (nI i), .int (nI n), .ref t] h (rP h (nI i)) := by
  refine Call.of [.int (nI i), .int (nI n), .ref t] q874 (by decide) pn_J21 (Nat.le_of_ble_eq_true rfl) rfl ?_
  refine z_iload0 0 dJ21_checkIndex_0 ?_
  refine z_ifltN 1 dJ21_checkIndex_1 9 (by decide) (by omega) ?_
  refine z_iload0 4 dJ21_checkIndex_4 ?_
  refine z_iload1 5 dJ21_checkIndex_5 ?_
  refine z_icltN 6 16 dJ21_checkIndex_6 (by decide) (by omega) (by omega) (fun c_6 => ?_) (fun c_6 => by omega)
  refine z_iload0 16 dJ21_checkIndex_16 ?_
  refine z_ireturn 17 rfl dJ21_checkIndex_17 ?_
  exact rP_of rfl

set_option maxHeartbeats 4000000 in
theorem c_chk21n {E : Ev} {h : HP} {i n : Nat} (hi : i < n) (hn : n < 2147483648) (d k : Nat) : Call E yJ21_checkIndex d k [.int (nI i), .int (nI n), .null] h (rP h (nI i)) := by
  refine Call.of [.int (nI i), .int (nI n), .null] q874 (by decide) pn_J21 (Nat.le_of_ble_eq_true rfl) rfl ?_
  refine z_iload0 0 dJ21_checkIndex_0 ?_
  refine z_ifltN 1 dJ21_checkIndex_1 9 (by decide) (by omega) ?_
  refine z_iload0 4 dJ21_checkIndex_4 ?_
  refine z_iload1 5 dJ21_checkIndex_5 ?_
  refine z_icltN 6 16 dJ21_checkIndex_6 (by decide) (by omega) (by omega) (fun c_6 => ?_) (fun c_6 => by omega)
  refine z_iload0 16 dJ21_checkIndex_16 ?_
  refine z_ireturn 17 rfl dJ21_checkIndex_17 ?_
  exact rP_of rfl

set_option maxHeartbeats 4000000 in
theorem c_strChk {E : Ev} {h : HP} {i n : Nat} (hi : i < n) (hn : n < 2147483648) (d k : Nat) (hd : 1 ≤ d) : Call E yJ15_checkIndex d k [.int (nI i), .int (nI n)] h (rV (fun h' => h' = h)) := by
  refine Call.of [.int (nI i), .int (nI n)] q871 (by decide) pn_J15 (Nat.le_of_ble_eq_true rfl) rfl ?_
  refine z_iload0 0 dJ15_checkIndex_0 ?_
  refine z_iload1 1 dJ15_checkIndex_1 ?_
  refine z_base 2 fun B => ?_
  rcases st_sio B with hz | ⟨t, hz⟩
  · refine z_gets 2 hz q614 dJ15_checkIndex_2 ?_
    refine z_S3 (k' := k) 5 sJ15_1059 dJ15_checkIndex_5 (c_chk21n hi hn (d - 1) 0) (by omega) (by omega) (Nat.le_of_ble_eq_true rfl) (aft_P ?_)
    refine z_pop 8 dJ15_checkIndex_8 (rfl) ?_
    refine z_return 9 rfl dJ15_checkIndex_9 ?_
    exact ⟨rfl, rfl⟩
  · refine z_gets 2 hz q614 dJ15_checkIndex_2 ?_
    refine z_S3 (k' := k) 5 sJ15_1059 dJ15_checkIndex_5 (c_chk21r hi hn (d - 1) 0) (by omega) (by omega) (Nat.le_of_ble_eq_true rfl) (aft_P ?_)
    refine z_pop 8 dJ15_checkIndex_8 (rfl) ?_
    refine z_return 9 rfl dJ15_checkIndex_9 ?_
    exact ⟨rfl, rfl⟩

set_option maxHeartbeats 4000000 in
theorem c_sbChar0 {E : Ev} {h : HP} {b ar n : Nat} {c : Nat → Nat} (SP : SbP h b ar n c) {i : Nat} (hi : i < n) (d k : Nat) (hd : 2 ≤ d) : Call E yJ13_charAt d k [.ref b, .int (nI i)] h (rP h (nI (c i))) := by
  obtain ⟨s1, s2, s3, s4, s5, s6, s7, s8, s9, s10⟩ := id SP
  have hne : ¬ b = ar := fun e => by rw [e, s6] at s1; cases s1
  have e9 : nI 60 >>> (nI 0 &&& 31) = nI 60 := by decide
  have eM : (if nI 60 < nI n then nI 60 else nI n) = nI n := if_neg (nI_nlt s9 (by decide))
  have eA : nI (c i) &&& nI 255 = nI (c i) := by rw [pk_andN (by have := (s10 i hi).2; omega) 8 (by decide), Nat.mod_eq_of_lt (by have := (s10 i hi).2; omega)]
  have eC : ((nI (c i)).toUInt32 % 65536).toInt32 = nI (c i) := by
    have h2 := (s10 i hi).2
    rw [pk_char, pk_tn (by omega), Nat.mod_eq_of_lt (by omega)]
  refine Call.of [.ref b, .int (nI i), dum, dum, dum] q867 (by decide) pn_J13 (Nat.le_of_ble_eq_true rfl) rfl ?_
  refine z_aload0 0 dJ13_charAt_0 ?_
  refine z_get 1 gJ13_22 dJ13_charAt_1 s1 s3 ?_
  refine z_istore2 4 dJ13_charAt_4 rfl ?_
  refine z_aload0 5 dJ13_charAt_5 ?_
  refine z_get 6 gJ13_15 dJ13_charAt_6 s1 s2 ?_
  refine z_astore3 9 dJ13_charAt_9 rfl ?_
  refine z_aload0 10 dJ13_charAt_10 ?_
  refine z_get 11 gJ13_79 dJ13_charAt_11 s1 s4 ?_
  refine z_aload3 14 dJ13_charAt_14 ?_
  refine z_len (i := 2) 15 dJ13_charAt_15 (by decide) s6 s7 ?_
  refine z_iload2 16 dJ13_charAt_16 ?_
  refine z_ishr 17 dJ13_charAt_17 ?_
  rw [e9]
  refine z_mmin 18 q868 q592 q128 q593 dJ13_charAt_18 (by omega) (Nat.le_of_ble_eq_true rfl) ?_
  rw [eM]
  refine z_istore4 21 dJ13_charAt_21 rfl ?_
  refine z_iload1 23 dJ13_charAt_23 ?_
  refine z_iload4 24 dJ13_charAt_24 ?_
  refine z_S2 (k' := k) 26 sJ13_144 dJ13_charAt_26 (c_strChk hi (by omega) (d - 1) 0 (by omega)) (by omega) (by omega) (Nat.le_of_ble_eq_true rfl) (aft_V fun h2 hq => ?_)
  rw [hq]
  refine z_iload2 29 dJ13_charAt_29 ?_
  refine z_ifneN 30 42 dJ13_charAt_30 (by decide) (by omega) (fun c_30 => absurd rfl c_30) (fun c_30 => ?_)
  refine z_aload3 33 dJ13_charAt_33 ?_
  refine z_iload1 34 dJ13_charAt_34 ?_
  refine z_bald (n := 60) 35 (i) dJ13_charAt_35 s6 s7 (rfl) ((by omega)) (by decide) (s10 i hi).1 ?_
  refine z_sipush 36 (nI 255) dJ13_charAt_36 kS255 ?_
  refine z_iand 39 dJ13_charAt_39 ?_
  rw [eA]
  refine z_i2c 40 dJ13_charAt_40 ?_
  rw [eC]
  refine z_zreturn 41 rfl ((pk_charN (by have := (s10 i hi).2; omega)).1) dJ13_charAt_41 ?_
  exact rP_of rfl

set_option maxHeartbeats 4000000 in
theorem c_sbChar {E : Ev} {h : HP} {b ar n : Nat} {c : Nat → Nat} (SP : SbP h b ar n c) {i : Nat} (hi : i < n) (d k : Nat) (hd : 3 ≤ d) : Call E yJ14_charAt d k [.ref b, .int (nI i)] h (rP h (nI (c i))) := by
  refine Call.of [.ref b, .int (nI i)] q864 (by decide) pn_J14 (Nat.le_of_ble_eq_true rfl) rfl ?_
  refine z_aload0 0 dJ14_charAt_0 ?_
  refine z_iload1 1 dJ14_charAt_1 ?_
  refine z_SU1 (k' := k) 2 uJ14_329 dJ14_charAt_2 SP.1 (c_sbChar0 SP hi (d - 1) 0 (by omega)) (by omega) (by omega) (Nat.le_of_ble_eq_true rfl) (aft_P ?_)
  refine z_zreturn 5 rfl ((pk_charN (by have := (SP.2.2.2.2.2.2.2.2.2 i hi).2; omega)).1) dJ14_charAt_5 ?_
  exact rP_of rfl

set_option maxHeartbeats 4000000 in
theorem c_sbApp0 {E : Ev} {h : HP} {b ar n : Nat} {c : Nat → Nat} (SP : SbP h b ar n c) {q : Nat} (hn : n < 60) (hq : q < 128) (d k : Nat) (hd : 2 ≤ d) : Call E yJ13_append_3 d k [.ref b, .int (nI q)] h (rR (fun a h' => a = b ∧ SbP h' b ar (n + 1) (upn c n q) ∧ Sm (fun a => a = b ∨ a = ar) h h' ∧ h'.sz = h.sz)) := by
  obtain ⟨s1, s2, s3, s4, s5, s6, s7, s8, s9, s10⟩ := id SP
  have hne : ¬ b = ar := fun e => by rw [e, s6] at s1; cases s1
  refine Call.of [.ref b, .int (nI q)] q2015 (by decide) pn_J13 (Nat.le_of_ble_eq_true rfl) rfl ?_
  refine z_aload0 0 dJ13_append_3_0 ?_
  refine z_aload0 1 dJ13_append_3_1 ?_
  refine z_get 2 gJ13_79 dJ13_append_3_2 s1 s4 ?_
  refine z_iconst 5 (nI 1) dJ13_append_3_5 kI1 ?_
  refine z_iaddN 6 dJ13_append_3_6 ?_
  refine z_UP1 (k' := k) 7 upJ13_100 dJ13_append_3_7 s1 (c_sbEns (d - 1) 0 SP (q := n + 1) (by omega)) (by omega) (by omega) (Nat.le_of_ble_eq_true rfl) (aft_V fun h2 hq2 => ?_)
  rw [hq2]
  refine z_aload0 10 dJ13_append_3_10 ?_
  refine z_U0 (k' := k) 11 wJ13_83_14 dJ13_append_3_11 s1 (c_sbLat (d - 1) 0 SP) (by omega) (by omega) (Nat.le_of_ble_eq_true rfl) (aft_I fun x h3 hL => ?_)
  rw [hL.1, hL.2]
  refine z_ifeqN 14 45 dJ13_append_3_14 (by decide) (by omega) (fun c_14 => by cases c_14) (fun c_14 => ?_)
  refine z_iload1 17 dJ13_append_3_17 ?_
  refine z_S1 (k' := k) 18 sJ13_191 dJ13_append_3_18 (c_canEnc (d - 1) 0 hq) (by omega) (by omega) (Nat.le_of_ble_eq_true rfl) (aft_I fun x h3 hq3 => ?_)
  rw [hq3.1, hq3.2]
  refine z_ifeqN 21 45 dJ13_append_3_21 (by decide) (by omega) (fun c_21 => by cases c_21) (fun c_21 => ?_)
  refine z_aload0 24 dJ13_append_3_24 ?_
  refine z_get 25 gJ13_15 dJ13_append_3_25 s1 s2 ?_
  refine z_aload0 28 dJ13_append_3_28 ?_
  refine z_dup 29 dJ13_append_3_29 (rfl) ?_
  refine z_get 30 gJ13_79 dJ13_append_3_30 s1 s4 ?_
  refine z_dup_x1 33 dJ13_append_3_33 rfl rfl ?_
  refine z_iconst 34 (nI 1) dJ13_append_3_34 kI1 ?_
  refine z_iaddN 35 dJ13_append_3_35 ?_
  refine z_put 36 pJ13_79 (fun h => by cases h) dJ13_append_3_36 s1 (rfl) (rfl) ?_
  have k2 : HP.kd (h.put b 3 (.int (nI (n + 1)))) ar = 102 := s6
  refine z_iload1 39 dJ13_append_3_39 ?_
  refine z_i2b 40 dJ13_append_3_40 ?_
  rw [i2b_q q hq]
  refine z_bast (n := 60) 41 (n) dJ13_append_3_41 k2 s7 (rfl) (hn) (by decide) (by rw [← i2b_q q hq]; exact pk_nb _) ?_
  refine z_goto 42 75 dJ13_append_3_42 (by decide) ?_
  refine z_aload0 75 dJ13_append_3_75 ?_
  refine z_areturn 76 rfl (Or.inl ⟨_, rfl⟩) (by first | exact Or.inl rfl | exact Or.inr ⟨_, rfl⟩ | exact va_rf_or _) dJ13_append_3_76 ?_
  refine ⟨_, rfl, rfl, ⟨s1, ?_, ?_, ?_, s5, s6, s7, s8, hn, fun i hi => ?_⟩, ((Sm.refl _ h).putS (Or.inl rfl)).putS (Or.inr rfl), rfl⟩
  · rw [mm_nea _ _ _ _ _ hne, mm_nek _ _ _ _ _ (by decide)]; exact s2
  · rw [mm_nea _ _ _ _ _ hne, mm_nek _ _ _ _ _ (by decide)]; exact s3
  · rw [mm_nea _ _ _ _ _ hne, mm_self]
  · by_cases e : i = n
    · rw [e, mm_self, upn_s]; exact ⟨rfl, hq⟩
    · rw [mm_nek _ _ _ _ _ e, mm_nea _ _ _ _ _ (fun e => hne e.symm), upn_n _ _ e]; exact s10 i (by omega)

set_option maxHeartbeats 4000000 in
theorem c_sbApp {E : Ev} {h : HP} {b ar n : Nat} {c : Nat → Nat} (SP : SbP h b ar n c) {q : Nat} (hn : n < 60) (hq : q < 128) (d k : Nat) (hd : 3 ≤ d) : Call E yJ14_append_3 d k [.ref b, .int (nI q)] h (rR (fun a h' => a = b ∧ SbP h' b ar (n + 1) (upn c n q) ∧ Sm (fun a => a = b ∨ a = ar) h h' ∧ h'.sz = h.sz)) := by
  refine Call.of [.ref b, .int (nI q)] q2012 (by decide) pn_J14 (Nat.le_of_ble_eq_true rfl) rfl ?_
  refine z_aload0 0 dJ14_append_3_0 ?_
  refine z_iload1 1 dJ14_append_3_1 ?_
  refine z_SU1 (k' := k) 2 uJ14_50 dJ14_append_3_2 SP.1 (c_sbApp0 SP hn hq (d - 1) 0 (by omega)) (by omega) (by omega) (Nat.le_of_ble_eq_true rfl) (aft_R fun x h2 hq2 => ?_)
  refine z_pop 5 dJ14_append_3_5 (rfl) ?_
  refine z_aload0 6 dJ14_append_3_6 ?_
  refine z_areturn 7 rfl (Or.inl ⟨_, rfl⟩) (by first | exact Or.inl rfl | exact Or.inr ⟨_, rfl⟩ | exact va_rf_or _) dJ14_append_3_7 ?_
  exact ⟨_, rfl, rfl, hq2.2⟩

set_option maxHeartbeats 4000000 in
theorem c_sbLen00 {E : Ev} {h : HP} {b ar n : Nat} {c : Nat → Nat} (SP : SbP h b ar n c) (d k : Nat) (hd : 1 ≤ d) : Call E yJ13_setLength d k [.ref b, .int (nI 0)] h (rV (fun h' => SbP h' b ar 0 c ∧ Sm (fun a => a = b) h h' ∧ h'.sz = h.sz)) := by
  obtain ⟨s1, s2, s3, s4, s5, s6, s7, s8, s9, s10⟩ := id SP
  have hne : ¬ b = ar := fun e => by rw [e, s6] at s1; cases s1
  refine Call.of [.ref b, .int (nI 0)] q540 (by decide) pn_J13 (Nat.le_of_ble_eq_true rfl) rfl ?_
  refine z_iload1 0 dJ13_setLength_0 ?_
  refine z_ifgeN 1 13 dJ13_setLength_1 (by decide) (by omega) ?_
  refine z_aload0 13 dJ13_setLength_13 ?_
  refine z_iload1 14 dJ13_setLength_14 ?_
  refine z_UP1 (k' := k) 15 upJ13_100 dJ13_setLength_15 s1 (c_sbEns (d - 1) 0 SP (q := 0) (by omega)) (by omega) (by omega) (Nat.le_of_ble_eq_true rfl) (aft_V fun h2 hq2 => ?_)
  rw [hq2]
  refine z_aload0 18 dJ13_setLength_18 ?_
  refine z_get 19 gJ13_79 dJ13_setLength_19 s1 s4 ?_
  refine z_iload1 22 dJ13_setLength_22 ?_
  refine z_icgeN 23 63 dJ13_setLength_23 (by decide) (by omega) (by omega) (fun c_23 => ?_) (fun c_23 => by omega)
  refine z_aload0 63 dJ13_setLength_63 ?_
  refine z_get 64 gJ13_79 dJ13_setLength_64 s1 s4 ?_
  refine z_iload1 67 dJ13_setLength_67 ?_
  refine z_icleN 68 76 dJ13_setLength_68 (by decide) (by omega) (by omega) (fun c_68 => ?_) (fun c_68 => ?_)
  · refine z_aload0 76 dJ13_setLength_76 ?_
    refine z_iload1 77 dJ13_setLength_77 ?_
    refine z_put 78 pJ13_79 (fun h => by cases h) dJ13_setLength_78 s1 (rfl) (rfl) ?_
    refine z_return 81 rfl dJ13_setLength_81 ?_
    first | (refine ⟨rfl, ⟨s1, ?_, ?_, ?_, s5, s6, s7, s8, Nat.zero_le _, fun i hi => absurd hi (Nat.not_lt_zero i)⟩, (Sm.refl (fun a => a = b) h).putS rfl, rfl⟩ <;> simp [mm_put, s2, s3]) | (refine ⟨rfl, ⟨s1, ?_, ?_, ?_, s5, s6, s7, s8, Nat.zero_le _, fun i hi => absurd hi (Nat.not_lt_zero i)⟩, ((Sm.refl (fun a => a = b) h).putS rfl).putS rfl, rfl⟩ <;> simp [mm_put, s2, s3])
  · refine z_aload0 71 dJ13_setLength_71 ?_
    refine z_iconst 72 (nI 1) dJ13_setLength_72 kI1 ?_
    refine z_put 73 pJ13_73 (fun h => by cases h) dJ13_setLength_73 s1 (nb1) (fb1) ?_
    refine z_aload0 76 dJ13_setLength_76 ?_
    refine z_iload1 77 dJ13_setLength_77 ?_
    refine z_put 78 pJ13_79 (fun h => by cases h) dJ13_setLength_78 s1 (rfl) (rfl) ?_
    refine z_return 81 rfl dJ13_setLength_81 ?_
    first | (refine ⟨rfl, ⟨s1, ?_, ?_, ?_, s5, s6, s7, s8, Nat.zero_le _, fun i hi => absurd hi (Nat.not_lt_zero i)⟩, (Sm.refl (fun a => a = b) h).putS rfl, rfl⟩ <;> simp [mm_put, s2, s3]) | (refine ⟨rfl, ⟨s1, ?_, ?_, ?_, s5, s6, s7, s8, Nat.zero_le _, fun i hi => absurd hi (Nat.not_lt_zero i)⟩, ((Sm.refl (fun a => a = b) h).putS rfl).putS rfl, rfl⟩ <;> simp [mm_put, s2, s3])

set_option maxHeartbeats 4000000 in
theorem c_sbClear {E : Ev} {h : HP} {b ar n : Nat} {c : Nat → Nat} (SP : SbP h b ar n c) (d k : Nat) (hd : 2 ≤ d) : Call E yJ14_setLength d k [.ref b, .int (nI 0)] h (rV (fun h' => SbP h' b ar 0 c ∧ Sm (fun a => a = b) h h' ∧ h'.sz = h.sz)) := by
  refine Call.of [.ref b, .int (nI 0)] q537 (by decide) pn_J14 (Nat.le_of_ble_eq_true rfl) rfl ?_
  refine z_aload0 0 dJ14_setLength_0 ?_
  refine z_iload1 1 dJ14_setLength_1 ?_
  refine z_SU1 (k' := k) 2 uJ14_333 dJ14_setLength_2 SP.1 (c_sbLen00 SP (d - 1) 0 (by omega)) (by omega) (by omega) (Nat.le_of_ble_eq_true rfl) (aft_V fun h2 hq2 => ?_)
  refine z_return 5 rfl dJ14_setLength_5 ?_
  exact ⟨rfl, hq2⟩

set_option maxHeartbeats 4000000 in
theorem c_sbNew0 {E : Ev} {h : HP} {b : Nat} (hb : h.kd b = 14) (hlt : b < h.sz) (g1 : h.mm b 1 = .int (nI 0)) (g3 : h.mm b 3 = .int (nI 0)) (d k : Nat) (hd : 1 ≤ d) (hk : 20 ≤ k) : Call E yJ13_init d k [.ref b, .int (nI 60)] h (rV (fun h' => SbP h' b h.sz 0 (fun _ => 0) ∧ Sm (fun a => a = b) h h' ∧ h'.sz = h.sz + 1)) := by
  refine Call.of [.ref b, .int (nI 60)] q480 (by decide) pn_J13 (Nat.le_of_ble_eq_true rfl) rfl ?_
  refine z_aload0 0 dJ13_init_0 ?_
  refine z_objInit 1 q481 q147 q148 dJ13_init_1 (by omega) (Nat.le_of_ble_eq_true rfl) ?_
  refine z_base 4 fun B => ?_
  refine z_gets 4 (st_compact B) q482 dJ13_init_4 ?_
  refine z_ifeqN 7 25 dJ13_init_7 (by decide) (by omega) (fun c_7 => by cases c_7) (fun c_7 => ?_)
  refine z_aload0 10 dJ13_init_10 ?_
  refine z_iload1 11 dJ13_init_11 ?_
  refine z_newa (atype := .byte) (i := 2) (n := 60) (k' := k - 16) 12 q505 (by decide) rfl dJ13_init_12 (rfl) (by decide) (by omega) (fun h1 e1 => ?_)
  have hn1 : ¬ b = h.sz := by omega
  have k1 : h1.kd b = 14 := by rw [e1, kd_mk, if_neg hn1]; exact hb
  refine z_put 14 pJ13_15 (fun h => by cases h) dJ13_init_14 k1 (rfl) (rfl) ?_
  refine z_aload0 17 dJ13_init_17 ?_
  refine z_iconst 18 (nI 0) dJ13_init_18 kI0 ?_
  refine z_put 19 pJ13_22 (fun h => by cases h) dJ13_init_19 k1 (by decide) (by decide) ?_
  refine z_goto 22 38 dJ13_init_22 (by decide) ?_
  refine z_return 38 rfl dJ13_init_38 ?_
  subst e1
  refine ⟨rfl, ⟨k1, by simp [mm_put], by simp [mm_put], by simp [mm_put, mm_mk, hn1, g3], by simp only [sz_put, sz_mk]; omega, ?_, ?_, by simp only [sz_put, sz_mk]; omega, Nat.zero_le _, fun i hi => absurd hi (Nat.not_lt_zero i)⟩, ((Sm.mkS (Sm.refl (fun a => a = b) h)).putS rfl).putS rfl, by simp only [sz_put, sz_mk]⟩
  · simp [kd_put, kd_mk]
  · simp [ln_put, ln_mk]

set_option maxHeartbeats 4000000 in
theorem c_sbNew {E : Ev} {h : HP} {b : Nat} (hb : h.kd b = 14) (hlt : b < h.sz) (g1 : h.mm b 1 = .int (nI 0)) (g3 : h.mm b 3 = .int (nI 0)) (d k : Nat) (hd : 2 ≤ d) (hk : 20 ≤ k) : Call E yJ14_init d k [.ref b, .int (nI 60)] h (rV (fun h' => SbP h' b h.sz 0 (fun _ => 0) ∧ Sm (fun a => a = b) h h' ∧ h'.sz = h.sz + 1)) := by
  refine Call.of [.ref b, .int (nI 60)] q477 (by decide) pn_J14 (Nat.le_of_ble_eq_true rfl) rfl ?_
  refine z_aload0 0 dJ14_init_0 ?_
  refine z_iload1 1 dJ14_init_1 ?_
  refine z_I1 (k' := 0) 2 iJ14_1 dJ14_init_2 (c_sbNew0 hb hlt g1 g3 (d - 1) 20 (by omega) (by omega)) (by omega) (by omega) (Nat.le_of_ble_eq_true rfl) (aft_V fun h2 hq2 => ?_)
  refine z_return 5 rfl dJ14_init_5 ?_
  exact ⟨rfl, hq2⟩

