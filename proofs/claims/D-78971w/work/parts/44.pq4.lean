/-! PRIORITYQUEUE of Jobs: clear, the constructor -/
set_option maxHeartbeats 4000000 in
theorem c_absQueue {E : Ev} {h : HP} {a : Nat} (d k : Nat) (hd1 : 2 ≤ d) : Call E yJ1_init d k [.ref a] h (rV (fun h' => h' = h)) := by
  refine Call.of [.ref a] q169 (by decide) pn_J1 (Nat.le_of_ble_eq_true rfl) rfl ?_
  first | refine z_aload0 0 dJ1_init_0 ?_ | refine z_aload0N 0 dJ1_init_0 ?_ | refine z_aload0o 0 dJ1_init_0 ?_
  refine z_I0 (k' := k) 1 iJ1_1 dJ1_init_1 (c_absColl (d - 1) 0 (by omega)) (by omega) (by omega) (Nat.le_of_ble_eq_true rfl) (aft_V fun h' hq => ?_)
  subst hq
  refine z_return 4 rfl dJ1_init_4 ?_
  exact ⟨rfl, rfl⟩

set_option maxHeartbeats 4000000 in
theorem c_pqNew2 {E : Ev} {h : HP} {p : Nat} {κ : Nat → Nat} (d k : Nat) (hd1 : 3 ≤ d) (hk1 : 3 ≤ k) (hp : h.kd p = 12) (hpl : p < h.sz) (h1 : h.mm p 1 = .int (nI 0)) (h3 : h.mm p 3 = .int (nI 0)) : Call E yJ2_init_2 d k [.ref p, .int (nI 11), .null] h (rV (fun h' => PqP h' p h.sz 0 11 id κ (nI 0) ∧ Sm (fun a => a = p) h h' ∧ h'.sz = h.sz + 1)) := by
  refine Call.of [.ref p, .int (nI 11), .null] q166 (by decide) pn_J2 (Nat.le_of_ble_eq_true rfl) rfl ?_
  first | refine z_aload0 0 dJ2_init_2_0 ?_ | refine z_aload0N 0 dJ2_init_2_0 ?_ | refine z_aload0o 0 dJ2_init_2_0 ?_
  refine z_I0 (k' := k) 1 iJ2_7 dJ2_init_2_1 (c_absQueue (d - 1) 0 (by omega)) (by omega) (by omega) (Nat.le_of_ble_eq_true rfl) (aft_V fun h' hq => ?_)
  rw [hq]
  refine z_iload1 4 dJ2_init_2_4 ?_
  refine z_iconst 5 (nI 1) dJ2_init_2_5 kI1 ?_
  refine z_icge 6 17 dJ2_init_2_6 (by decide) (fun c6 => ?_) (fun c6 => by first | exact absurd c6 ((by decide : nI 1 ≤ nI 11)) | exact absurd ((by decide : nI 1 ≤ nI 11)) c6)
  first | refine z_aload0 17 dJ2_init_2_17 ?_ | refine z_aload0N 17 dJ2_init_2_17 ?_ | refine z_aload0o 17 dJ2_init_2_17 ?_
  refine z_iload1 18 dJ2_init_2_18 ?_
  refine z_anew (X := "java/lang/Object") (i := 4) (n := 11) (k' := k - 3) 19 q241 q240 (by decide) (by decide) rfl dJ2_init_2_19 (rfl) (by decide) (by omega) (fun h1' e1 => ?_)
  have hp1 : h1'.kd p = 12 := by rw [e1]; simp [kd_mk, hp]; omega
  have hne : ¬ h.sz = p := by omega
  refine z_put 22 pJ2_17 (fun h => by cases h) dJ2_init_2_22 hp1 (rfl) (rfl) ?_
  first | refine z_aload0 25 dJ2_init_2_25 ?_ | refine z_aload0N 25 dJ2_init_2_25 ?_ | refine z_aload0o 25 dJ2_init_2_25 ?_
  first | refine z_aload2 26 dJ2_init_2_26 ?_ | refine z_aload2N 26 dJ2_init_2_26 ?_ | refine z_aload2o 26 dJ2_init_2_26 ?_
  refine z_put 27 pJ2_21 (fun _ => rfl) dJ2_init_2_27 hp1 (rfl) (rfl) ?_
  refine z_return 30 rfl dJ2_init_2_30 ?_
  subst e1
  have hn2 : ¬ p = h.sz := by omega
  refine ⟨rfl, ⟨hp1, by simp [mm_put], by simp [mm_put, mm_mk, hn2, h1], by simp [mm_put], by simp [mm_put, mm_mk, hn2, h3], by simp only [sz_put, sz_mk]; omega, ⟨?_, ?_, by decide, by decide, fun i hi => absurd hi (Nat.not_lt_zero i), fun i _ hi _ => ?_, by simp only [sz_put, sz_mk]; omega⟩, fun i h0 hi => absurd hi (Nat.not_lt_zero i), fun i j hi => absurd hi (Nat.not_lt_zero i), by decide⟩, ((Sm.mkS (Sm.refl (fun a => a = p) h)).putS rfl).putS rfl, by simp only [sz_put, sz_mk]⟩
  · simp [kd_put, kd_mk]
  · simp [ln_put, ln_mk]
  · simp [mm_put, mm_mk, hne]

set_option maxHeartbeats 4000000 in
theorem c_pqNew {E : Ev} {h : HP} {p : Nat} {κ : Nat → Nat} (d k : Nat) (hd1 : 4 ≤ d) (hk1 : 3 ≤ k) (hp : h.kd p = 12) (hpl : p < h.sz) (h1 : h.mm p 1 = .int (nI 0)) (h3 : h.mm p 3 = .int (nI 0)) : Call E yJ2_init d k [.ref p] h (rV (fun h' => PqP h' p h.sz 0 11 id κ (nI 0) ∧ Sm (fun a => a = p) h h' ∧ h'.sz = h.sz + 1)) := by
  refine Call.of [.ref p] q163 (by decide) pn_J2 (Nat.le_of_ble_eq_true rfl) rfl ?_
  first | refine z_aload0 0 dJ2_init_0 ?_ | refine z_aload0N 0 dJ2_init_0 ?_ | refine z_aload0o 0 dJ2_init_0 ?_
  refine z_bipush 1 (nI 11) dJ2_init_1 kB11 ?_
  refine z_null 3 dJ2_init_3 ?_
  refine z_I2 (k' := 0) 4 iJ2_3 dJ2_init_4 (c_pqNew2 (κ := κ) (d - 1) 3 (by omega) (Nat.le_refl _) hp hpl h1 h3) (by omega) (by omega) (Nat.le_of_ble_eq_true rfl) (aft_V fun h2 hq => ?_)
  refine z_return 7 rfl dJ2_init_7 ?_
  exact ⟨rfl, hq⟩

set_option maxHeartbeats 4000000 in
theorem c_pqClear {E : Ev} {h : HP} {p ar n cap : Nat} {g κ : Nat → Nat} {mc : Int32} (d k : Nat) (QP : PqP h p ar n cap g κ mc) (hpa : ¬ p = ar) : Call E yJ2_clear d k [.ref p] h (rV (fun h' => PqP h' p ar 0 cap g κ (mc + nI 1) ∧ Sm (fun a => a = p ∨ a = ar) h h' ∧ h'.sz = h.sz)) := by
  obtain ⟨hp, h0, h1, h2, h3, hpl, PA, HH, IJ, hc1⟩ := id QP
  obtain ⟨a1, a2, a3, a4, a5, a6, a7⟩ := PA
  have LOOP := loopZ (σ := Unit) n (fun i _ h9 => h9.kd ar = 104 ∧ h9.ln ar = cap ∧ h9.kd p = 12 ∧ (∀ j, h9.mm p j = (h.put p 3 (.int (mc + nI 1))).mm p j) ∧ (∀ j, j < i ∨ n ≤ j → j < cap → h9.mm ar j = .null) ∧ Sm (fun a => a = p ∨ a = ar) h h9 ∧ h9.sz = h.sz) (fun i _ h9 => Z E mJ2_clear d (rV (fun h' => PqP h' p ar 0 cap g κ (mc + nI 1) ∧ Sm (fun a => a = p ∨ a = ar) h h' ∧ h'.sz = h.sz)) k h9 22 [.ref p, .ref ar, .int (nI i), .int (nI n)] [])
    (fun _ h9 ⟨b1, b2, b3, b4, b5, b6, b7⟩ => by
      refine z_iload2 22 dJ2_clear_22 ?_
      refine z_iload3 23 dJ2_clear_23 ?_
      refine z_icge 24 37 dJ2_clear_24 (by decide) (fun c24 => ?_) (fun c24 => by first | exact absurd c24 (nI_le (Nat.le_refl n) (by omega)) | exact absurd (nI_le (Nat.le_refl n) (by omega)) c24)
      first | refine z_aload0 37 dJ2_clear_37 ?_ | refine z_aload0N 37 dJ2_clear_37 ?_ | refine z_aload0o 37 dJ2_clear_37 ?_
      refine z_iconst 38 (nI 0) dJ2_clear_38 kI0 ?_
      refine z_put 39 pJ2_58 (fun h => by cases h) dJ2_clear_39 b3 (rfl) (rfl) ?_
      refine z_return 42 rfl dJ2_clear_42 ?_
      refine ⟨rfl, ⟨b3, ?_, ?_, ?_, ?_, by simp only [sz_put]; omega, ⟨b1, b2, Nat.zero_le _, a4, fun j hj => absurd hj (Nat.not_lt_zero j), fun j _ hj _ => ?_, by simp only [sz_put]; omega⟩, fun j h0 hj => absurd hj (Nat.not_lt_zero j), fun j i hj => absurd hj (Nat.not_lt_zero j), hc1⟩, b6.putS (Or.inl rfl), b7⟩
      · rw [mm_nek _ _ _ _ _ (by decide), b4]; simp [mm_put, h0]
      · simp [mm_put]
      · rw [mm_nek _ _ _ _ _ (by decide), b4]; simp [mm_put, h2]
      · rw [mm_nek _ _ _ _ _ (by decide), b4]; simp [mm_put]
      · rw [mm_nea _ _ _ _ _ (fun e => hpa e.symm)]; exact b5 j (by omega) hj)
    (fun i _ h9 hi ⟨b1, b2, b3, b4, b5, b6, b7⟩ ih => by
      refine z_iload2 22 dJ2_clear_22 ?_
      refine z_iload3 23 dJ2_clear_23 ?_
      refine z_icge 24 37 dJ2_clear_24 (by decide) (fun c24 => by first | exact absurd c24 (nI_ge hi (by omega)) | exact absurd (nI_ge hi (by omega)) c24) (fun c24 => ?_)
      first | refine z_aload1 27 dJ2_clear_27 ?_ | refine z_aload1N 27 dJ2_clear_27 ?_ | refine z_aload1o 27 dJ2_clear_27 ?_
      refine z_iload2 28 dJ2_clear_28 ?_
      refine z_null 29 dJ2_clear_29 ?_
      refine z_aastN (i := 4) 30 i dJ2_clear_30 (by decide) (by decide) b1 b2 rfl (by omega) (by omega) ?_
      refine z_iinc2 31 (nI (i + 1)) dJ2_clear_31 (nI_1 i) rfl ?_
      refine z_goto 34 22 dJ2_clear_34 (by decide) ?_
      refine ih () _ ⟨b1, b2, b3, fun j => by rw [mm_nea _ _ _ _ _ hpa]; exact b4 j, fun j hj hc => ?_, b6.putS (Or.inr rfl), b7⟩
      by_cases e : j = i
      · subst e; rw [mm_self]
      · rw [mm_nek _ _ _ _ _ e]; exact b5 j (by omega) hc)
  refine Call.of [.ref p, dum, dum, dum] q1525 (by decide) pn_J2 (Nat.le_of_ble_eq_true rfl) rfl ?_
  first | refine z_aload0 0 dJ2_clear_0 ?_ | refine z_aload0N 0 dJ2_clear_0 ?_ | refine z_aload0o 0 dJ2_clear_0 ?_
  refine z_dup 1 dJ2_clear_1 (by first | rfl | exact va_rf_cat _) ?_
  refine z_get 2 gJ2_93 dJ2_clear_2 hp h3 ?_
  refine z_iconst 5 (nI 1) dJ2_clear_5 kI1 ?_
  refine z_iadd 6 dJ2_clear_6 ?_
  refine z_put 7 pJ2_93 (fun h => by cases h) dJ2_clear_7 hp (rfl) (rfl) ?_
  first | refine z_aload0 10 dJ2_clear_10 ?_ | refine z_aload0N 10 dJ2_clear_10 ?_ | refine z_aload0o 10 dJ2_clear_10 ?_
  refine z_get 11 gJ2_17 dJ2_clear_11 hp (show HP.mm _ p 0 = .ref ar from by simp [mm_put, h0]) ?_
  first | refine z_astore1 14 dJ2_clear_14 rfl ?_ | refine z_astore1N 14 dJ2_clear_14 rfl ?_ | refine z_astore1o 14 dJ2_clear_14 rfl ?_
  refine z_iconst 15 (nI 0) dJ2_clear_15 kI0 ?_
  refine z_istore2 16 dJ2_clear_16 rfl ?_
  first | refine z_aload0 17 dJ2_clear_17 ?_ | refine z_aload0N 17 dJ2_clear_17 ?_ | refine z_aload0o 17 dJ2_clear_17 ?_
  refine z_get 18 gJ2_58 dJ2_clear_18 hp (show HP.mm _ p 1 = .int (nI n) from by simp [mm_put, h1]) ?_
  refine z_istore3 21 dJ2_clear_21 rfl ?_
  refine LOOP 0 () _ (Nat.zero_le _) ⟨a1, a2, hp, fun j => rfl, fun j hj hc => ?_, (Sm.refl _ h).putS (Or.inl rfl), rfl⟩
  rw [mm_nea _ _ _ _ _ (fun e => hpa e.symm)]
  exact a6 j (by omega) hc (by omega)

