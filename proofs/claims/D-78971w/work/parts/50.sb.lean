/-! STRINGBUILDER of 60 bytes, Latin-1 -/
/-- n signs c i (below 128) in the bytes ar -/
def SbP (h : HP) (b ar n : Nat) (c : Nat → Nat) : Prop := h.kd b = 14 ∧ h.mm b 0 = .ref ar ∧ h.mm b 1 = .int (nI 0) ∧ h.mm b 3 = .int (nI n) ∧ b < h.sz ∧ h.kd ar = 102 ∧ h.ln ar = 60 ∧ ar < h.sz ∧ n ≤ 60 ∧ ∀ i, i < n → h.mm ar i = .int (nI (c i)) ∧ c i < 128
set_option maxHeartbeats 4000000 in
theorem c_sbLen0 {E : Ev} {h : HP} {b ar n : Nat} {c : Nat → Nat} (d k : Nat) (SP : SbP h b ar n c) : Call E yJ13_length d k [.ref b] h (rI (fun x h' => h' = h ∧ x = nI n)) := by
  obtain ⟨s1, s2, s3, s4, s5, s6, s7, s8, s9, s10⟩ := id SP
  refine Call.of [.ref b] q533 (by decide) pn_J13 (Nat.le_of_ble_eq_true rfl) rfl ?_
  first | refine z_aload0 0 dJ13_length_0 ?_ | refine z_aload0N 0 dJ13_length_0 ?_ | refine z_aload0o 0 dJ13_length_0 ?_
  refine z_get 1 gJ13_79 dJ13_length_1 s1 s4 ?_
  refine z_ireturn 4 rfl dJ13_length_4 ?_
  exact ⟨_, rfl, rfl, rfl⟩

set_option maxHeartbeats 4000000 in
theorem c_sbLen {E : Ev} {h : HP} {b ar n : Nat} {c : Nat → Nat} (d k : Nat) (SP : SbP h b ar n c) (hd1 : 1 ≤ d) : Call E yJ14_length d k [.ref b] h (rI (fun x h' => h' = h ∧ x = nI n)) := by
  refine Call.of [.ref b] q530 (by decide) pn_J14 (Nat.le_of_ble_eq_true rfl) rfl ?_
  first | refine z_aload0 0 dJ14_length_0 ?_ | refine z_aload0N 0 dJ14_length_0 ?_ | refine z_aload0o 0 dJ14_length_0 ?_
  refine z_SU0 (k' := k) 1 uJ14_343 dJ14_length_1 SP.1 (c_sbLen0 (d - 1) 0 SP) (by omega) (by omega) (Nat.le_of_ble_eq_true rfl) (aft_I fun x h2 hq => ?_)
  refine z_ireturn 4 rfl dJ14_length_4 ?_
  exact ⟨_, rfl, hq⟩

set_option maxHeartbeats 4000000 in
theorem c_sbEns {E : Ev} {h : HP} {b ar n : Nat} {c : Nat → Nat} (d k : Nat) (SP : SbP h b ar n c) {q : Nat} (hq : q ≤ 60) : Call E yJ13_ensureCapacityInternal d k [.ref b, .int (nI q)] h (rV (fun h' => h' = h)) := by
  obtain ⟨s1, s2, s3, s4, s5, s6, s7, s8, s9, s10⟩ := id SP
  have e9 : nI 60 >>> (nI 0 &&& 31) = nI 60 := by decide
  have e8 : nI q - nI 60 ≤ 0 := by
    rw [Int32.le_iff_toInt_le, pk_sub_toInt (by omega) (by decide)]
    show (q : Int) - 60 ≤ 0
    omega
  refine Call.of [.ref b, .int (nI q), dum] q565 (by decide) pn_J13 (Nat.le_of_ble_eq_true rfl) rfl ?_
  first | refine z_aload0 0 dJ13_ensureCapacityInternal_0 ?_ | refine z_aload0N 0 dJ13_ensureCapacityInternal_0 ?_ | refine z_aload0o 0 dJ13_ensureCapacityInternal_0 ?_
  refine z_get 1 gJ13_15 dJ13_ensureCapacityInternal_1 s1 s2 ?_
  refine z_len (i := 2) 4 dJ13_ensureCapacityInternal_4 (by decide) s6 s7 ?_
  first | refine z_aload0 5 dJ13_ensureCapacityInternal_5 ?_ | refine z_aload0N 5 dJ13_ensureCapacityInternal_5 ?_ | refine z_aload0o 5 dJ13_ensureCapacityInternal_5 ?_
  refine z_get 6 gJ13_22 dJ13_ensureCapacityInternal_6 s1 s3 ?_
  refine z_ishr 9 dJ13_ensureCapacityInternal_9 ?_
  rw [e9]
  refine z_istore2 10 dJ13_ensureCapacityInternal_10 rfl ?_
  refine z_iload1 11 dJ13_ensureCapacityInternal_11 ?_
  refine z_iload2 12 dJ13_ensureCapacityInternal_12 ?_
  refine z_isub 13 dJ13_ensureCapacityInternal_13 ?_
  refine z_ifle 14 38 dJ13_ensureCapacityInternal_14 (by decide) (fun c14 => ?_) (fun c14 => by first | exact absurd c14 (e8) | exact absurd (e8) c14)
  refine z_return 38 rfl dJ13_ensureCapacityInternal_38 ?_
  exact ⟨rfl, rfl⟩

set_option maxHeartbeats 4000000 in
theorem c_sbLat {E : Ev} {h : HP} {b ar n : Nat} {c : Nat → Nat} (d k : Nat) (SP : SbP h b ar n c) : Call E yJ13_isLatin1 d k [.ref b] h (rI (fun x h' => h' = h ∧ x = nI 1)) := by
  obtain ⟨s1, s2, s3, s4, s5, s6, s7, s8, s9, s10⟩ := id SP
  refine Call.of [.ref b] q601 (by decide) pn_J13 (Nat.le_of_ble_eq_true rfl) rfl ?_
  refine z_base 0 fun B => ?_
  refine z_gets 0 (st_compact B) q482 dJ13_isLatin1_0 ?_
  refine z_ifeq 3 17 dJ13_isLatin1_3 (by decide) (fun c3 => by first | exact absurd c3 (nI01) | exact absurd (nI01) c3) (fun c3 => ?_)
  first | refine z_aload0 6 dJ13_isLatin1_6 ?_ | refine z_aload0N 6 dJ13_isLatin1_6 ?_ | refine z_aload0o 6 dJ13_isLatin1_6 ?_
  refine z_get 7 gJ13_22 dJ13_isLatin1_7 s1 s3 ?_
  refine z_ifne 10 17 dJ13_isLatin1_10 (by decide) (fun c10 => by first | exact absurd c10 (fun e => e rfl) | exact absurd (fun e => e rfl) c10) (fun c10 => ?_)
  refine z_iconst 13 (nI 1) dJ13_isLatin1_13 kI1 ?_
  refine z_goto 14 18 dJ13_isLatin1_14 (by decide) ?_
  refine z_zreturn 18 rfl (nb1) dJ13_isLatin1_18 ?_
  exact ⟨_, rfl, rfl, rfl⟩

set_option maxHeartbeats 4000000 in
theorem c_canEnc {E : Ev} {h : HP} {q : Nat} (d k : Nat) (hq : q < 128) : Call E yJ28_canEncode d k [.int (nI q)] h (rI (fun x h' => h' = h ∧ x = nI 1)) := by
  refine Call.of [.int (nI q)] q2018 (by decide) pn_J28 (Nat.le_of_ble_eq_true rfl) rfl ?_
  refine z_iload0 0 dJ28_canEncode_0 ?_
  refine z_sipush 1 (nI 255) dJ28_canEncode_1 kS255 ?_
  refine z_icgt 4 11 dJ28_canEncode_4 (by decide) (fun c4 => by first | exact absurd c4 (nI_nlt (by omega) (by decide)) | exact absurd (nI_nlt (by omega) (by decide)) c4) (fun c4 => ?_)
  refine z_iconst 7 (nI 1) dJ28_canEncode_7 kI1 ?_
  refine z_goto 8 12 dJ28_canEncode_8 (by decide) ?_
  refine z_zreturn 12 rfl (nb1) dJ28_canEncode_12 ?_
  exact ⟨_, rfl, rfl, rfl⟩

