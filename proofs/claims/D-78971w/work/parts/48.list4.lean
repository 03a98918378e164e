/-! ARRAYLIST: remove -/
set_option maxHeartbeats 4000000 in
theorem c_fastRemove {E : Ev} {h : HP} {l n ci a i : Nat} {f : Nat → Nat} {mc : Int32} (d k : Nat) (hd1 : 1 ≤ d) (AP : AlP E h l (some a) (n + 1) ci f mc) (hi : i ≤ n) (hci : ¬ ci = 13 ∧ ¬ ci = 104) : Call E yJ12_fastRemove d k [.ref l, .ref a, .int (nI i)] h (rV (fun h' => AlP E h' l (some a) n ci (fun j => if j < i then f j else f (j + 1)) (mc + nI 1) ∧ Sm (fun b => b = l ∨ b = a) h h' ∧ h'.sz = h.sz)) := by
  obtain ⟨l1, l2, l3, l4, l5, l6, l7, l8, l9, l10, l11, l12, l13, l14⟩ := id AP
  have hal : ¬ a = l := fun e => l12 e.symm
  refine Call.of [.ref l, .ref a, .int (nI i), dum] q1871 (by decide) pn_J12 (Nat.le_of_ble_eq_true rfl) rfl ?_
  first | refine z_aload0 0 dJ12_fastRemove_0 ?_ | refine z_aload0N 0 dJ12_fastRemove_0 ?_ | refine z_aload0o 0 dJ12_fastRemove_0 ?_
  refine z_dup 1 dJ12_fastRemove_1 (by first | rfl | exact va_rf_cat _) ?_
  refine z_get 2 gJ12_63 dJ12_fastRemove_2 l1 l2 ?_
  refine z_iconst 5 (nI 1) dJ12_fastRemove_5 kI1 ?_
  refine z_iadd 6 dJ12_fastRemove_6 ?_
  refine z_put 7 pJ12_63 (fun h => by cases h) dJ12_fastRemove_7 l1 (rfl) (rfl) ?_
  first | refine z_aload0 10 dJ12_fastRemove_10 ?_ | refine z_aload0N 10 dJ12_fastRemove_10 ?_ | refine z_aload0o 10 dJ12_fastRemove_10 ?_
  refine z_get 11 gJ12_48 dJ12_fastRemove_11 l1 (show HP.mm _ l 2 = .int (nI (n + 1)) from by simp [mm_put, l3]) ?_
  refine z_iconst 14 (nI 1) dJ12_fastRemove_14 kI1 ?_
  refine z_isub 15 dJ12_fastRemove_15 ?_
  rw [nI_pred9 n]
  refine z_dup 16 dJ12_fastRemove_16 (by first | rfl | exact va_rf_cat _) ?_
  refine z_istore3 17 dJ12_fastRemove_17 rfl ?_
  refine z_iload2 18 dJ12_fastRemove_18 ?_
  refine z_icle 19 34 dJ12_fastRemove_19 (by decide) (fun c19 => ?_) (fun d19 => ?_)
  · have hin : i = n := by
      rcases Nat.lt_or_ge i n with e | e
      · exact absurd c19 (nI_ge e (by omega))
      · omega
    first | refine z_aload1 34 dJ12_fastRemove_34 ?_ | refine z_aload1N 34 dJ12_fastRemove_34 ?_ | refine z_aload1o 34 dJ12_fastRemove_34 ?_
    first | refine z_aload0 35 dJ12_fastRemove_35 ?_ | refine z_aload0N 35 dJ12_fastRemove_35 ?_ | refine z_aload0o 35 dJ12_fastRemove_35 ?_
    refine z_iload3 36 dJ12_fastRemove_36 ?_
    refine z_dup_x1 37 dJ12_fastRemove_37 (by first | rfl | exact va_rf_cat _) (by first | rfl | exact va_rf_cat _) ?_
    refine z_put 38 pJ12_48 (fun h => by cases h) dJ12_fastRemove_38 l1 (rfl) (rfl) ?_
    refine z_null 41 dJ12_fastRemove_41 ?_
    refine z_aastN (i := 4) 42 n dJ12_fastRemove_42 (by decide) (by decide) l7 rfl rfl (by show n < h.ln a; omega) (by show h.ln a < 2147483648; omega) ?_
    refine z_return 43 rfl dJ12_fastRemove_43 ?_
    refine ⟨rfl, ⟨l1, ?_, ?_, ?_, l5, ?_, l7, Nat.le_of_succ_le l8, l9, l10, l11, l12, fun j hj => ⟨?_, ?_, ?_⟩, fun j hj hc => ?_⟩, (((Sm.refl _ h).putS (Or.inl rfl)).putS (Or.inl rfl)).putS (Or.inr rfl), rfl⟩
    · rw [mm_nea _ _ _ _ _ l12]; simp [mm_put]
    · rw [mm_nea _ _ _ _ _ l12]; simp [mm_put]
    · exact l4
    · rw [mm_nea _ _ _ _ _ l12]; simp [mm_put, l6]
    · show _ = Value.ref (if j < i then f j else f (j + 1))
      rw [mm_nek _ _ _ _ _ (by omega), mm_nea _ _ _ _ _ hal]; rw [if_pos (by omega), mm_nea _ _ _ _ _ hal]; exact (l13 j (by omega)).1
    · show h.kd (if j < i then f j else f (j + 1)) = ci
      split
      · exact (l13 j (by omega)).2.1
      · exact (l13 (j + 1) (by omega)).2.1
    · show (if j < i then f j else f (j + 1)) < h.sz
      split
      · exact (l13 j (by omega)).2.2
      · exact (l13 (j + 1) (by omega)).2.2
    · by_cases e : j = n
      · subst e; rw [mm_self]
      · rw [mm_nek _ _ _ _ _ e, mm_nea _ _ _ _ _ hal]; rw [mm_nea _ _ _ _ _ hal]; exact l14 j (by have : n ≤ j := hj; omega) hc
  · have hin : i < n := by
      rcases Nat.lt_or_ge i n with e | e
      · exact e
      · exact absurd (nI_le e (by omega)) d19
    first | refine z_aload1 22 dJ12_fastRemove_22 ?_ | refine z_aload1N 22 dJ12_fastRemove_22 ?_ | refine z_aload1o 22 dJ12_fastRemove_22 ?_
    refine z_iload2 23 dJ12_fastRemove_23 ?_
    refine z_iconst 24 (nI 1) dJ12_fastRemove_24 kI1 ?_
    refine z_iadd 25 dJ12_fastRemove_25 ?_
    rw [nI_add]
    first | refine z_aload1 26 dJ12_fastRemove_26 ?_ | refine z_aload1N 26 dJ12_fastRemove_26 ?_ | refine z_aload1o 26 dJ12_fastRemove_26 ?_
    refine z_iload2 27 dJ12_fastRemove_27 ?_
    refine z_iload3 28 dJ12_fastRemove_28 ?_
    refine z_iload2 29 dJ12_fastRemove_29 ?_
    refine z_isub 30 dJ12_fastRemove_30 ?_
    rw [pk_sub hi]
    refine z_copyR (sp := i + 1) (dp := i) (n := n - i) 31 q1872 dJ12_fastRemove_31 l7 l7 rfl rfl (by show i + 1 + (n - i) ≤ h.ln a; omega) (by show i + (n - i) ≤ h.ln a; omega) ⟨by show h.ln a < _; omega, by show h.ln a < _; omega⟩ (by omega) (fun j hj => Or.inr ⟨f (i + 1 + j), ci, by rw [mm_nea _ _ _ _ _ hal]; exact (l13 (i + 1 + j) (by omega)).1, (l13 (i + 1 + j) (by omega)).2.1, l5⟩) (Nat.le_of_ble_eq_true rfl) ?_
    first | refine z_aload1 34 dJ12_fastRemove_34 ?_ | refine z_aload1N 34 dJ12_fastRemove_34 ?_ | refine z_aload1o 34 dJ12_fastRemove_34 ?_
    first | refine z_aload0 35 dJ12_fastRemove_35 ?_ | refine z_aload0N 35 dJ12_fastRemove_35 ?_ | refine z_aload0o 35 dJ12_fastRemove_35 ?_
    refine z_iload3 36 dJ12_fastRemove_36 ?_
    refine z_dup_x1 37 dJ12_fastRemove_37 (by first | rfl | exact va_rf_cat _) (by first | rfl | exact va_rf_cat _) ?_
    refine z_put 38 pJ12_48 (fun h => by cases h) dJ12_fastRemove_38 l1 (rfl) (rfl) ?_
    refine z_null 41 dJ12_fastRemove_41 ?_
    refine z_aastN (i := 4) 42 n dJ12_fastRemove_42 (by decide) (by decide) l7 rfl rfl (by show n < h.ln a; omega) (by show h.ln a < 2147483648; omega) ?_
    refine z_return 43 rfl dJ12_fastRemove_43 ?_
    refine ⟨rfl, ⟨l1, ?_, ?_, ?_, l5, ?_, l7, Nat.le_of_succ_le l8, l9, l10, l11, l12, fun j hj => ⟨?_, ?_, ?_⟩, fun j hj hc => ?_⟩, ((((Sm.refl _ h).putS (Or.inl rfl)).trans (Sm.cpy (Or.inr rfl))).putS (Or.inl rfl)).putS (Or.inr rfl), rfl⟩
    · rw [mm_nea _ _ _ _ _ l12]; rw [mm_nek _ _ _ _ _ (by decide), mm_cpy, if_neg l12]; simp [mm_put]
    · rw [mm_nea _ _ _ _ _ l12]; simp [mm_put]
    · exact l4
    · rw [mm_nea _ _ _ _ _ l12]; rw [mm_nek _ _ _ _ _ (by decide), mm_cpy, if_neg l12]; simp [mm_put, l6]
    · show _ = Value.ref (if j < i then f j else f (j + 1))
      rw [mm_nek _ _ _ _ _ (by omega), mm_nea _ _ _ _ _ hal]; rw [mm_cpy, if_pos rfl]; unfold va_cpy
      by_cases e : j < i
      · rw [if_neg (by omega), if_pos e, mm_nea _ _ _ _ _ hal]; exact (l13 j (by omega)).1
      · rw [if_pos (by omega), if_neg e, mm_nea _ _ _ _ _ hal, show i + 1 + (j - i) = j + 1 from by omega]; exact (l13 (j + 1) (by omega)).1
    · show h.kd (if j < i then f j else f (j + 1)) = ci
      split
      · exact (l13 j (by omega)).2.1
      · exact (l13 (j + 1) (by omega)).2.1
    · show (if j < i then f j else f (j + 1)) < h.sz
      split
      · exact (l13 j (by omega)).2.2
      · exact (l13 (j + 1) (by omega)).2.2
    · by_cases e : j = n
      · subst e; rw [mm_self]
      · rw [mm_nek _ _ _ _ _ e, mm_nea _ _ _ _ _ hal]; rw [mm_cpy, if_pos rfl]; unfold va_cpy; rw [if_neg (by have : n ≤ j := hj; omega), mm_nea _ _ _ _ _ hal]; exact l14 j (by have : n ≤ j := hj; omega) hc

set_option maxHeartbeats 4000000 in
theorem c_alRemove {E : Ev} {h : HP} {l n ci a i : Nat} {f : Nat → Nat} {mc : Int32} (d k : Nat) (hd1 : 2 ≤ d) (AP : AlP E h l (some a) (n + 1) ci f mc) (hi : i ≤ n) (hci : ¬ ci = 13 ∧ ¬ ci = 104) : Call E yJ12_remove d k [.ref l, .int (nI i)] h (rR (fun r h' => r = f i ∧ AlP E h' l (some a) n ci (fun j => if j < i then f j else f (j + 1)) (mc + nI 1) ∧ Sm (fun b => b = l ∨ b = a) h h' ∧ h'.sz = h.sz)) := by
  obtain ⟨l1, l2, l3, l4, l5, l6, l7, l8, l9, l10, l11, l12, l13, l14⟩ := id AP
  refine Call.of [.ref l, .int (nI i), dum, dum] q1863 (by decide) pn_J12 (Nat.le_of_ble_eq_true rfl) rfl ?_
  refine z_iload1 0 dJ12_remove_0 ?_
  first | refine z_aload0 1 dJ12_remove_1 ?_ | refine z_aload0N 1 dJ12_remove_1 ?_ | refine z_aload0o 1 dJ12_remove_1 ?_
  refine z_get 2 gJ12_48 dJ12_remove_2 l1 l3 ?_
  refine z_S2 (k' := k) 5 sJ12_118 dJ12_remove_5 (c_chk20 (d - 1) 0 (by omega) (by omega : i < n + 1) (by omega)) (by omega) (by omega) (Nat.le_of_ble_eq_true rfl) (aft_I fun x h2 hq => ?_)
  obtain ⟨e2, -⟩ := hq
  rw [e2]
  refine z_pop 8 dJ12_remove_8 (by first | rfl | exact va_rf_cat _) ?_
  first | refine z_aload0 9 dJ12_remove_9 ?_ | refine z_aload0N 9 dJ12_remove_9 ?_ | refine z_aload0o 9 dJ12_remove_9 ?_
  refine z_get 10 gJ12_9 dJ12_remove_10 l1 l6 ?_
  refine z_astore2 13 dJ12_remove_13 rfl ?_
  first | refine z_aload2 14 dJ12_remove_14 ?_ | refine z_aload2N 14 dJ12_remove_14 ?_ | refine z_aload2o 14 dJ12_remove_14 ?_
  refine z_iload1 15 dJ12_remove_15 ?_
  refine z_aald (i := 4) 16 (i) dJ12_remove_16 (by decide) (by decide) l7 rfl (rfl) (by omega) (by omega) (l13 i (by omega)).1 ?_
  refine z_astore3 17 dJ12_remove_17 rfl ?_
  first | refine z_aload0 18 dJ12_remove_18 ?_ | refine z_aload0N 18 dJ12_remove_18 ?_ | refine z_aload0o 18 dJ12_remove_18 ?_
  first | refine z_aload2 19 dJ12_remove_19 ?_ | refine z_aload2N 19 dJ12_remove_19 ?_ | refine z_aload2o 19 dJ12_remove_19 ?_
  refine z_iload1 20 dJ12_remove_20 ?_
  refine z_V2 (k' := k) 21 vJ12_144 dJ12_remove_21 l1 (c_fastRemove (d - 1) 0 (by omega) AP hi hci) (by omega) (by omega) (Nat.le_of_ble_eq_true rfl) (aft_V fun h3 hq => ?_)
  first | refine z_aload3 24 dJ12_remove_24 ?_ | refine z_aload3N 24 dJ12_remove_24 ?_ | refine z_aload3o 24 dJ12_remove_24 ?_
  refine z_areturn 25 rfl (Or.inl ⟨_, rfl⟩) (by first | exact Or.inl rfl | exact Or.inr ⟨_, rfl⟩ | exact va_rf_or _) dJ12_remove_25 ?_
  exact ⟨_, rfl, rfl, hq⟩

