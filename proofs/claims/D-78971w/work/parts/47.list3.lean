/-! ARRAYLIST: add -/
theorem AlP.modc {E : Ev} {h : HP} {l n ci : Nat} {ar : Option Nat} {f : Nat → Nat} {mc mc' : Int32} (AP : AlP E h l ar n ci f mc) (hci : ¬ ci = 13) : AlP E (h.put l 0 (.int mc')) l ar n ci f mc' := by
  obtain ⟨l1, l2, l3, l4, l5, l6⟩ := AP
  refine ⟨l1, by simp [mm_put], by simp [mm_put, l3], l4, l5, ?_⟩
  cases ar with
  | none =>
    obtain ⟨g1, t, g2, g3⟩ := l6
    exact ⟨g1, t, by simp [mm_put, g2], g3⟩
  | some a =>
    obtain ⟨g1, g2, g3, g4, g5, g6, g7, g8, g9⟩ := l6
    have hn : ¬ a = l := fun e => g7 e.symm
    exact ⟨by simp [mm_put, g1], g2, g3, g4, g5, g6, g7, fun i hi => ⟨by rw [mm_nea _ _ _ _ _ hn]; exact (g8 i hi).1, (g8 i hi).2⟩, fun i hi hc => by rw [mm_nea _ _ _ _ _ hn]; exact g9 i hi hc⟩
theorem AlP.arr {E : Ev} {h : HP} {l n ci : Nat} {ar : Option Nat} {f : Nat → Nat} {mc : Int32} (AP : AlP E h l ar n ci f mc) : ∃ t, h.mm l 1 = .ref t := by
  obtain ⟨l1, l2, l3, l4, l5, l6⟩ := AP
  cases ar with
  | none => obtain ⟨g1, t, g2, g3⟩ := l6; exact ⟨t, g2⟩
  | some a => exact ⟨a, l6.1⟩
set_option maxHeartbeats 4000000 in
theorem c_alAdd {E : Ev} {h : HP} {l n ci x : Nat} {ar : Option Nat} {f : Nat → Nat} {mc : Int32} (d k : Nat) (hd1 : 6 ≤ d) (hk1 : 20 ≤ k) (AP : AlP E h l ar n ci f mc) (hn : n < 32) (hx : h.kd x = ci) (hxz : x < h.sz) (hci : ¬ ci = 13 ∧ ¬ ci = 104) : Call E yJ12_add d k [.ref l, .ref x] h (rI (fun r h' => r = nI 1 ∧ ∃ a', AlP E h' l (some a') (n + 1) ci (fun i => if i = n then x else f i) (mc + nI 1) ∧ Sm (fun b => b = l ∨ ar = some b) h h' ∧ h'.sz ≤ h.sz + 1 ∧ (ar = some a' ∨ a' = h.sz))) := by
  have AP2 := AP.modc (mc' := mc + nI 1) hci.1
  obtain ⟨t, ht⟩ := AP2.arr
  refine Call.of [.ref l, .ref x] q1876 (by decide) pn_J12 (Nat.le_of_ble_eq_true rfl) rfl ?_
  first | refine z_aload0 0 dJ12_add_0 ?_ | refine z_aload0N 0 dJ12_add_0 ?_ | refine z_aload0o 0 dJ12_add_0 ?_
  refine z_dup 1 dJ12_add_1 (by first | rfl | exact va_rf_cat _) ?_
  refine z_get 2 gJ12_63 dJ12_add_2 AP.1 AP.2.1 ?_
  refine z_iconst 5 (nI 1) dJ12_add_5 kI1 ?_
  refine z_iadd 6 dJ12_add_6 ?_
  refine z_put 7 pJ12_63 (fun h => by cases h) dJ12_add_7 AP.1 (rfl) (rfl) ?_
  first | refine z_aload0 10 dJ12_add_10 ?_ | refine z_aload0N 10 dJ12_add_10 ?_ | refine z_aload0o 10 dJ12_add_10 ?_
  first | refine z_aload1 11 dJ12_add_11 ?_ | refine z_aload1N 11 dJ12_add_11 ?_ | refine z_aload1o 11 dJ12_add_11 ?_
  first | refine z_aload0 12 dJ12_add_12 ?_ | refine z_aload0N 12 dJ12_add_12 ?_ | refine z_aload0o 12 dJ12_add_12 ?_
  refine z_get 13 gJ12_9 dJ12_add_13 AP.1 ht ?_
  first | refine z_aload0 16 dJ12_add_16 ?_ | refine z_aload0N 16 dJ12_add_16 ?_ | refine z_aload0o 16 dJ12_add_16 ?_
  refine z_get 17 gJ12_48 dJ12_add_17 AP.1 AP2.2.2.1 ?_
  refine z_V3 (k' := 0) 20 vJ12_131 dJ12_add_20 AP.1 (c_alAdd2 (d - 1) 20 (by omega) (Nat.le_refl _) AP2 hn hx hxz hci ht) (by omega) (by omega) (Nat.le_of_ble_eq_true rfl) (aft_V fun h2 hq => ?_)
  obtain ⟨a2, B1, B2, B3, B4⟩ := hq
  refine z_iconst 23 (nI 1) dJ12_add_23 kI1 ?_
  refine z_zreturn 24 rfl (nb1) dJ12_add_24 ?_
  exact ⟨_, rfl, rfl, a2, B1, ((Sm.refl _ h).putS (Or.inl rfl)).trans B2, B3, B4⟩

