/-! ARRAYLIST: grow, add -/
theorem shr1 {n : Nat} (h : n < 2 ^ 31) : nI n >>> ((nI 1) &&& 31) = nI (n / 2) := pk_shrN (n := n) h ((nI 1) &&& 31) 1 (by decide)
set_option maxHeartbeats 4000000 in
theorem c_alGrow2 {E : Ev} {h : HP} {l n ci : Nat} {ar : Option Nat} {f : Nat → Nat} {mc : Int32} (d k : Nat) (hd1 : 3 ≤ d) (hk1 : 20 ≤ k) (AP : AlP E h l ar n ci f mc) (hn : n < 32) (hfull : ∀ a, ar = some a → n = h.ln a) : Call E yJ12_grow_2 d k [.ref l, .int (nI (n + 1))] h (rR (fun b h' => b = h.sz ∧ h'.mm l 1 = .ref h.sz ∧ h'.kd h.sz = 104 ∧ n + 1 ≤ h'.ln h.sz ∧ 10 ≤ h'.ln h.sz ∧ h'.ln h.sz < 60 ∧ (∀ j, j < n → h'.mm h.sz j = .ref (f j)) ∧ (∀ j, n ≤ j → h'.mm h.sz j = .null) ∧ (∀ j, ¬ j = 1 → h'.mm l j = h.mm l j) ∧ Sm (fun a => a = l) h h' ∧ h'.sz = h.sz + 1)) := by
  refine Call.of [.ref l, .int (nI (n + 1)), dum, dum] q1888 (by decide) pn_J12 (Nat.le_of_ble_eq_true rfl) rfl ?_
  rcases ar with _ | a
  · obtain ⟨l1, l2, l3, l4, l5, l6', t, l6, hE⟩ := id AP
    subst l6'
    first | refine z_aload0 0 dJ12_grow_2_0 ?_ | refine z_aload0N 0 dJ12_grow_2_0 ?_ | refine z_aload0o 0 dJ12_grow_2_0 ?_
    refine z_get 1 gJ12_9 dJ12_grow_2_1 l1 l6 ?_
    refine z_lenT 4 hE.2 dJ12_grow_2_4 ?_
    refine z_istore2 5 dJ12_grow_2_5 rfl ?_
    refine z_iload2 6 dJ12_grow_2_6 ?_
    refine z_ifgt 7 20 dJ12_grow_2_7 (by decide) (fun c7 => by first | exact absurd c7 (by decide) | exact absurd (by decide) c7) (fun c7 => ?_)
    first | refine z_aload0 10 dJ12_grow_2_10 ?_ | refine z_aload0N 10 dJ12_grow_2_10 ?_ | refine z_aload0o 10 dJ12_grow_2_10 ?_
    refine z_get 11 gJ12_9 dJ12_grow_2_11 l1 l6 ?_
    refine z_gets 14 hE.1 q459 dJ12_grow_2_14 ?_
    refine z_aceqR 17 45 dJ12_grow_2_17 (by decide) (fun c17 => ?_) (fun c17 => by first | exact absurd c17 (rfl) | exact absurd (rfl) c17)
    first | refine z_aload0 45 dJ12_grow_2_45 ?_ | refine z_aload0N 45 dJ12_grow_2_45 ?_ | refine z_aload0o 45 dJ12_grow_2_45 ?_
    refine z_bipush 46 (nI 10) dJ12_grow_2_46 kB10 ?_
    refine z_iload1 48 dJ12_grow_2_48 ?_
    refine z_mmax 49 q1891 q574 q128 q575 dJ12_grow_2_49 (by omega) (Nat.le_of_ble_eq_true rfl) ?_
    rw [mmax9 (by omega) (by omega), show max 10 (0 + 1) = 10 from by omega]
    refine z_anew (X := "java/lang/Object") (i := 4) (n := 10) (k' := k - 3) 52 q241 q1892 (by decide) (by decide) rfl dJ12_grow_2_52 (rfl) (by decide) (by omega) (fun h1 e1 => ?_)
    have hk9 : h1.kd l = 13 := by rw [e1, kd_mk, if_neg (by omega)]; exact l1
    have hne : ¬ h.sz = l := by omega
    refine z_dup_x1 55 dJ12_grow_2_55 (by first | rfl | exact va_rf_cat _) (by first | rfl | exact va_rf_cat _) ?_
    refine z_put 56 pJ12_9 (fun h => by cases h) dJ12_grow_2_56 hk9 (rfl) (rfl) ?_
    refine z_areturn 59 rfl (Or.inr ⟨_, rfl⟩) (Or.inr ⟨_, rfl⟩) dJ12_grow_2_59 ?_
    subst e1
    refine ⟨_, rfl, rfl, by simp [mm_put], by simp [kd_put, kd_mk], by simp [ln_put, ln_mk], by simp [ln_put, ln_mk], by simp [ln_put, ln_mk], fun j hj => by omega, fun j hj => by simp [mm_put, mm_mk, hne], fun j hj => ?_, (Sm.mkS (Sm.refl (fun a => a = l) h)).putS rfl, by simp only [sz_put, sz_mk]⟩
    rw [mm_nek _ _ _ _ _ hj, mm_mk, if_neg (fun e => hne e.symm)]
  · obtain ⟨l1, l2, l3, l4, l5, l6, l7, l8, l9, l10, l11, l12, l13, l14⟩ := id AP
    have hnl : h.ln a = n := (hfull a rfl).symm
    first | refine z_aload0 0 dJ12_grow_2_0 ?_ | refine z_aload0N 0 dJ12_grow_2_0 ?_ | refine z_aload0o 0 dJ12_grow_2_0 ?_
    refine z_get 1 gJ12_9 dJ12_grow_2_1 l1 l6 ?_
    refine z_len (i := 4) 4 dJ12_grow_2_4 (by decide) l7 hnl ?_
    refine z_istore2 5 dJ12_grow_2_5 rfl ?_
    refine z_iload2 6 dJ12_grow_2_6 ?_
    refine z_ifgt 7 20 dJ12_grow_2_7 (by decide) (fun c7 => ?_) (fun c7 => by first | exact absurd c7 (nI_lt (a := 0) (by omega) (by omega)) | exact absurd (nI_lt (a := 0) (by omega) (by omega)) c7)
    refine z_iload2 20 dJ12_grow_2_20 ?_
    refine z_iload1 21 dJ12_grow_2_21 ?_
    refine z_iload2 22 dJ12_grow_2_22 ?_
    refine z_isub 23 dJ12_grow_2_23 ?_
    rw [pk_sub (Nat.le_succ n), show n + 1 - n = 1 from by omega]
    refine z_iload2 24 dJ12_grow_2_24 ?_
    refine z_iconst 25 (nI 1) dJ12_grow_2_25 kI1 ?_
    refine z_ishr 26 dJ12_grow_2_26 ?_
    rw [shr1 (by omega)]
    refine z_S3 (k' := k) 27 sJ12_73 dJ12_grow_2_27 (c_newLength (d - 1) 0 (by omega) (by omega) (by omega) (by omega) (by omega)) (by omega) (by omega) (Nat.le_of_ble_eq_true rfl) (aft_I fun x h2 hq => ?_)
    obtain ⟨e2, rfl⟩ := hq
    rw [e2]
    refine z_istore3 30 dJ12_grow_2_30 rfl ?_
    first | refine z_aload0 31 dJ12_grow_2_31 ?_ | refine z_aload0N 31 dJ12_grow_2_31 ?_ | refine z_aload0o 31 dJ12_grow_2_31 ?_
    first | refine z_aload0 32 dJ12_grow_2_32 ?_ | refine z_aload0N 32 dJ12_grow_2_32 ?_ | refine z_aload0o 32 dJ12_grow_2_32 ?_
    refine z_get 33 gJ12_9 dJ12_grow_2_33 l1 l6 ?_
    refine z_iload3 36 dJ12_grow_2_36 ?_
    refine z_S2 (k' := 0) 37 sJ12_66 dJ12_grow_2_37 (c_copyOf (d - 1) 20 (by omega) (by omega) l7 hnl (by omega) (by omega) l11 (fun i hi => Or.inr ⟨f i, ci, (l13 i hi).1, (l13 i hi).2.1, l5, (l13 i hi).2.2⟩)) (by omega) (by omega) (Nat.le_of_ble_eq_true rfl) (aft_R fun b h3 hq => ?_)
    obtain ⟨e3, g1, g2, g3, g4, A3, z3⟩ := hq
    subst e3
    have hk9 : h3.kd l = 13 := (A3.2 l l4).1.trans l1
    have hne : ¬ h.sz = l := by omega
    refine z_dup_x1 40 dJ12_grow_2_40 (by first | rfl | exact va_rf_cat _) (by first | rfl | exact va_rf_cat _) ?_
    refine z_put 41 pJ12_9 (fun h => by cases h) dJ12_grow_2_41 hk9 (rfl) (rfl) ?_
    refine z_areturn 44 rfl (Or.inr ⟨_, rfl⟩) (Or.inr ⟨_, rfl⟩) dJ12_grow_2_44 ?_
    refine ⟨_, rfl, rfl, by simp [mm_put], g1, by rw [ln_put, g2]; omega, by rw [ln_put, g2]; omega, by rw [ln_put, g2]; omega, fun j hj => ?_, fun j hj => ?_, fun j hj => ?_, (A3.mono (fun _ _ f => f.elim)).putS rfl, z3⟩
    · rw [mm_nea _ _ _ _ _ hne, g3 j hj]; exact (l13 j hj).1
    · rw [mm_nea _ _ _ _ _ hne]; exact g4 j hj
    · rw [mm_nek _ _ _ _ _ hj, (A3.2 l l4).2.2 id]
set_option maxHeartbeats 4000000 in
theorem c_alGrow {E : Ev} {h : HP} {l n ci : Nat} {ar : Option Nat} {f : Nat → Nat} {mc : Int32} (d k : Nat) (hd1 : 4 ≤ d) (hk1 : 20 ≤ k) (AP : AlP E h l ar n ci f mc) (hn : n < 32) (hfull : ∀ a, ar = some a → n = h.ln a) : Call E yJ12_grow d k [.ref l] h (rR (fun b h' => b = h.sz ∧ h'.mm l 1 = .ref h.sz ∧ h'.kd h.sz = 104 ∧ n + 1 ≤ h'.ln h.sz ∧ 10 ≤ h'.ln h.sz ∧ h'.ln h.sz < 60 ∧ (∀ j, j < n → h'.mm h.sz j = .ref (f j)) ∧ (∀ j, n ≤ j → h'.mm h.sz j = .null) ∧ (∀ j, ¬ j = 1 → h'.mm l j = h.mm l j) ∧ Sm (fun a => a = l) h h' ∧ h'.sz = h.sz + 1)) := by
  refine Call.of [.ref l] q1884 (by decide) pn_J12 (Nat.le_of_ble_eq_true rfl) rfl ?_
  first | refine z_aload0 0 dJ12_grow_0 ?_ | refine z_aload0N 0 dJ12_grow_0 ?_ | refine z_aload0o 0 dJ12_grow_0 ?_
  first | refine z_aload0 1 dJ12_grow_1 ?_ | refine z_aload0N 1 dJ12_grow_1 ?_ | refine z_aload0o 1 dJ12_grow_1 ?_
  refine z_get 2 gJ12_48 dJ12_grow_2 AP.1 AP.2.2.1 ?_
  refine z_iconst 5 (nI 1) dJ12_grow_5 kI1 ?_
  refine z_iadd 6 dJ12_grow_6 ?_
  rw [nI_add]
  refine z_V1 (k' := 0) 7 vJ12_69 dJ12_grow_7 AP.1 (c_alGrow2 (d - 1) 20 (by omega) (Nat.le_refl _) AP hn hfull) (by omega) (by omega) (Nat.le_of_ble_eq_true rfl) (aft_R fun b h2 hq => ?_)
  refine z_areturn 10 rfl (Or.inr ⟨_, rfl⟩) (by first | exact Or.inl rfl | exact Or.inr ⟨_, rfl⟩ | exact va_rf_or _) dJ12_grow_10 ?_
  exact ⟨_, rfl, hq⟩

set_option maxHeartbeats 4000000 in
theorem c_alAdd2 {E : Ev} {h : HP} {l n ci x : Nat} {ar : Option Nat} {f : Nat → Nat} {mc : Int32} (d k : Nat) (hd1 : 5 ≤ d) (hk1 : 20 ≤ k) (AP : AlP E h l ar n ci f mc) (hn : n < 32) (hx : h.kd x = ci) (hxz : x < h.sz) (hci : ¬ ci = 13 ∧ ¬ ci = 104) {t0 : Nat} (ht0 : h.mm l 1 = .ref t0) : Call E yJ12_add_2 d k [.ref l, .ref x, .ref t0, .int (nI n)] h (rV (fun h' => ∃ a', AlP E h' l (some a') (n + 1) ci (fun i => if i = n then x else f i) mc ∧ Sm (fun b => b = l ∨ ar = some b) h h' ∧ h'.sz ≤ h.sz + 1 ∧ (ar = some a' ∨ a' = h.sz))) := by
  have REST : ∀ (k2 : Nat) (h2 : HP) (b : Nat) (v : Value), h2.kd l = 13 → h2.mm l 0 = .int mc → h2.mm l 1 = .ref b → l < h2.sz → h2.kd b = 104 → n + 1 ≤ h2.ln b → 10 ≤ h2.ln b → h2.ln b < 60 → b < h2.sz → ¬ l = b → (∀ i, i < n → h2.mm b i = .ref (f i) ∧ h2.kd (f i) = ci ∧ f i < h2.sz) → (∀ i, n ≤ i → i < h2.ln b → h2.mm b i = .null) → h2.kd x = ci → x < h2.sz → Sm (fun q => q = l ∨ ar = some q) h h2 → h2.sz ≤ h.sz + 1 → (ar = some b ∨ b = h.sz) → Z E mJ12_add_2 d (rV (fun h' => ∃ a', AlP E h' l (some a') (n + 1) ci (fun i => if i = n then x else f i) mc ∧ Sm (fun b => b = l ∨ ar = some b) h h' ∧ h'.sz ≤ h.sz + 1 ∧ (ar = some a' ∨ a' = h.sz))) k2 h2 11 [.ref l, .ref x, .ref b, .int (nI n)] [] := by
    intro k2 h2 b v hl2 c0 c1 hlz2 b1 b2 b3 b4 b7 hlb b5 b6 hx2 hxz2 A2 z2 o2
    have l5 := AP.2.2.2.2.1
    first | refine z_aload2 11 dJ12_add_2_11 ?_ | refine z_aload2N 11 dJ12_add_2_11 ?_ | refine z_aload2o 11 dJ12_add_2_11 ?_
    refine z_iload3 12 dJ12_add_2_12 ?_
    first | refine z_aload1 13 dJ12_add_2_13 ?_ | refine z_aload1N 13 dJ12_add_2_13 ?_ | refine z_aload1o 13 dJ12_add_2_13 ?_
    refine z_aast 14 n l5 dJ12_add_2_14 b1 hx2 rfl rfl (by omega) (by omega) ?_
    first | refine z_aload0 15 dJ12_add_2_15 ?_ | refine z_aload0N 15 dJ12_add_2_15 ?_ | refine z_aload0o 15 dJ12_add_2_15 ?_
    refine z_iload3 16 dJ12_add_2_16 ?_
    refine z_iconst 17 (nI 1) dJ12_add_2_17 kI1 ?_
    refine z_iadd 18 dJ12_add_2_18 ?_
    rw [nI_add]
    refine z_put 19 pJ12_48 (fun h => by cases h) dJ12_add_2_19 hl2 (rfl) (rfl) ?_
    refine z_return 22 rfl dJ12_add_2_22 ?_
    refine ⟨rfl, b, ⟨hl2, ?_, by simp [mm_put], by simp only [sz_put]; omega, l5, ?_, b1, b2, b3, b4, by simp only [sz_put]; omega, hlb, fun i hi => ⟨?_, ?_, ?_⟩, fun i hi hc => ?_⟩, (A2.tr (Sm.put (S := fun q => q = b) rfl) (fun q hq e => o2.elim (fun e2 => Or.inr (by rw [e]; exact e2)) (fun e2 => by omega))).putS (Or.inl rfl), z2, o2⟩
    · rw [mm_nek _ _ _ _ _ (by decide), mm_nea _ _ _ _ _ hlb]; exact c0
    · rw [mm_nek _ _ _ _ _ (by decide), mm_nea _ _ _ _ _ hlb]; exact c1
    · show _ = Value.ref (if i = n then x else f i)
      rw [mm_nea _ _ _ _ _ (fun e => hlb e.symm)]
      by_cases e : i = n
      · subst e; rw [mm_self, if_pos rfl]
      · rw [mm_nek _ _ _ _ _ e, if_neg e]; exact (b5 i (by omega)).1
    · show h2.kd (if i = n then x else f i) = ci
      by_cases e : i = n
      · rw [if_pos e]; exact hx2
      · rw [if_neg e]; exact (b5 i (by omega)).2.1
    · show (if i = n then x else f i) < h2.sz
      by_cases e : i = n
      · rw [if_pos e]; exact hxz2
      · rw [if_neg e]; exact (b5 i (by omega)).2.2
    · rw [mm_nea _ _ _ _ _ (fun e => hlb e.symm), mm_nek _ _ _ _ _ (by have hi : n + 1 ≤ i := hi; omega)]; exact b6 i (by have hi : n + 1 ≤ i := hi; omega) hc
  refine Call.of [.ref l, .ref x, .ref t0, .int (nI n)] q1880 (by decide) pn_J12 (Nat.le_of_ble_eq_true rfl) rfl ?_
  rcases ar with _ | a
  · obtain ⟨l1, l2, l3, l4, l5, l6', t, l6, hE⟩ := id AP
    have et : t = t0 := by rw [l6] at ht0; cases ht0; rfl
    subst et
    subst l6'
    refine z_iload3 0 dJ12_add_2_0 ?_
    first | refine z_aload2 1 dJ12_add_2_1 ?_ | refine z_aload2N 1 dJ12_add_2_1 ?_ | refine z_aload2o 1 dJ12_add_2_1 ?_
    refine z_lenT 2 hE.2 dJ12_add_2_2 ?_
    refine z_icne 3 11 dJ12_add_2_3 (by decide) (fun c3 => by first | exact absurd c3 (fun e => e rfl) | exact absurd (fun e => e rfl) c3) (fun c3 => ?_)
    first | refine z_aload0 6 dJ12_add_2_6 ?_ | refine z_aload0N 6 dJ12_add_2_6 ?_ | refine z_aload0o 6 dJ12_add_2_6 ?_
    refine z_V0 (k' := 0) 7 vJ12_129 dJ12_add_2_7 AP.1 (c_alGrow (d - 1) 20 (by omega) (Nat.le_refl _) AP hn (fun a e => nomatch e)) (by omega) (by omega) (Nat.le_of_ble_eq_true rfl) (aft_R fun b h2 hq => ?_)
    obtain ⟨rfl, g1, g2, g3, g4, g5, g6, g7, g8, A3, z3⟩ := hq
    have A4 : Sm (fun q => q = l ∨ none = some q) h h2 := A3.mono (fun _ _ e => Or.inl e)
    have e1 := A3.2 l AP.2.2.2.1
    refine z_astore2 10 dJ12_add_2_10 rfl ?_
    refine REST _ _ h.sz .null (e1.1.trans AP.1) (by rw [g8 0 (by decide)]; exact AP.2.1) g1 (Nat.lt_of_lt_of_le AP.2.2.2.1 A3.1) g2 g3 g4 g5 (by omega) (by have := AP.2.2.2.1; omega) (fun i hi => by omega) (fun i hi _ => g7 i hi) ((A3.2 x hxz).1.trans hx) (Nat.lt_of_lt_of_le hxz A3.1) A4 (by omega) (Or.inr rfl)
  · obtain ⟨l1, l2, l3, l4, l5, l6, l7, l8, l9, l10, l11, l12, l13, l14⟩ := id AP
    have et : a = t0 := by rw [l6] at ht0; cases ht0; rfl
    subst et
    refine z_iload3 0 dJ12_add_2_0 ?_
    first | refine z_aload2 1 dJ12_add_2_1 ?_ | refine z_aload2N 1 dJ12_add_2_1 ?_ | refine z_aload2o 1 dJ12_add_2_1 ?_
    refine z_len (i := 4) 2 dJ12_add_2_2 (by decide) l7 rfl ?_
    refine z_icne 3 11 dJ12_add_2_3 (by decide) (fun c3 => ?_) (fun d3 => ?_)
    · have hlt : n < h.ln a := by
        rcases Nat.lt_or_ge n (h.ln a) with e | e
        · exact e
        · exact absurd (by rw [Nat.le_antisymm l8 e]) c3
      exact REST _ _ a .null l1 l2 l6 l4 l7 hlt l9 l10 l11 l12 l13 l14 hx hxz (Sm.refl _ _) (Nat.le_succ _) (Or.inl rfl)
    · have heq : n = h.ln a := (nI_eq (by omega) (by omega)).mp (by first | exact d3 | exact Classical.not_not.mp d3)
      first | refine z_aload0 6 dJ12_add_2_6 ?_ | refine z_aload0N 6 dJ12_add_2_6 ?_ | refine z_aload0o 6 dJ12_add_2_6 ?_
      refine z_V0 (k' := 0) 7 vJ12_129 dJ12_add_2_7 AP.1 (c_alGrow (d - 1) 20 (by omega) (Nat.le_refl _) AP hn (fun a9 e => by cases e; exact heq)) (by omega) (by omega) (Nat.le_of_ble_eq_true rfl) (aft_R fun b h2 hq => ?_)
      obtain ⟨rfl, g1, g2, g3, g4, g5, g6, g7, g8, A3, z3⟩ := hq
      have A4 : Sm (fun q => q = l ∨ some a = some q) h h2 := A3.mono (fun _ _ e => Or.inl e)
      have e1 := A3.2 l AP.2.2.2.1
      refine z_astore2 10 dJ12_add_2_10 rfl ?_
      refine REST _ _ h.sz .null (e1.1.trans AP.1) (by rw [g8 0 (by decide)]; exact AP.2.1) g1 (Nat.lt_of_lt_of_le AP.2.2.2.1 A3.1) g2 g3 g4 g5 (by omega) (by have := AP.2.2.2.1; omega) (fun i hi => ⟨g6 i hi, (A3.2 _ (l13 i hi).2.2).1.trans (l13 i hi).2.1, Nat.lt_of_lt_of_le (l13 i hi).2.2 A3.1⟩) (fun i hi _ => g7 i hi) ((A3.2 x hxz).1.trans hx) (Nat.lt_of_lt_of_le hxz A3.1) A4 (by omega) (Or.inr rfl)
