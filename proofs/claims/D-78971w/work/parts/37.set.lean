/-! TREESET -/
/-- the set s over the map t: K is its content (key's number, key) -/
def TsP (h : HP) (s t : Nat) (U : Nat → Prop) (K : Nat → Nat → Prop) (n : Nat) (mc : Int32) (ks : Option Nat) : Prop := h.kd s = 11 ∧ h.mm s 0 = .ref t ∧ ∃ C : Nat → Nat → Nat → Prop, Mp h t U C n mc ks ∧ ∀ q x, K q x ↔ ∃ v, C q x v
theorem TsP.keep {h h' : HP} {s t n : Nat} {U V : Nat → Prop} {K : Nat → Nat → Prop} {mc : Int32} {ks : Option Nat} (X : TsP h s t U K n mc ks) (A : Sm V h h') (hs : s < h.sz) (hv : ∀ a, U a → ¬ V a) (hn : ¬ V s) : TsP h' s t U K n mc ks := by
  obtain ⟨k1, k2, C, M, hC⟩ := X
  obtain ⟨b1, b2, b3⟩ := A.2 s hs
  exact ⟨b1.trans k1, by rw [b3 hn]; exact k2, C, M.keep A hv, hC⟩
set_option maxHeartbeats 4000000 in
theorem c_tsNew2 {E : Ev} {h : HP} {s t : Nat} (d k : Nat) (hd1 : 3 ≤ d) (hs : h.kd s = 11) : Call E yJ10_init_2 d k [.ref s, .ref t] h (rV (fun h' => h' = h.put s 0 (.ref t))) := by
  refine Call.of [.ref s, .ref t] q299 (by decide) pn_J10 (Nat.le_of_ble_eq_true rfl) rfl ?_
  first | refine z_aload0 0 dJ10_init_2_0 ?_ | refine z_aload0N 0 dJ10_init_2_0 ?_ | refine z_aload0o 0 dJ10_init_2_0 ?_
  refine z_I0 (k' := k) 1 iJ10_1 dJ10_init_2_1 (c_absSet (d - 1) 0 (by omega)) (by omega) (by omega) (Nat.le_of_ble_eq_true rfl) (aft_V fun h' hq => ?_)
  subst hq
  first | refine z_aload0 4 dJ10_init_2_4 ?_ | refine z_aload0N 4 dJ10_init_2_4 ?_ | refine z_aload0o 4 dJ10_init_2_4 ?_
  first | refine z_aload1 5 dJ10_init_2_5 ?_ | refine z_aload1N 5 dJ10_init_2_5 ?_ | refine z_aload1o 5 dJ10_init_2_5 ?_
  refine z_put 6 pJ10_7 (fun h => by cases h) dJ10_init_2_6 hs (rfl) (rfl) ?_
  refine z_return 9 rfl dJ10_init_2_9 ?_
  exact ⟨rfl, rfl⟩

set_option maxHeartbeats 4000000 in
theorem c_tsNew {E : Ev} {h : HP} {s : Nat} (d k : Nat) (hd1 : 4 ≤ d) (hk1 : 3 ≤ k) (hs : h.kd s = 11) (hlt : s < h.sz) : Call E yJ10_init d k [.ref s] h (rV (fun h' => h'.kd s = 11 ∧ h'.mm s 0 = .ref h.sz ∧ MapO h' h.sz none (nI 0) (nI 0) none ∧ Sm (fun a => a = s) h h' ∧ h'.sz = h.sz + 1)) := by
  refine Call.of [.ref s] q294 (by decide) pn_J10 (Nat.le_of_ble_eq_true rfl) rfl ?_
  first | refine z_aload0 0 dJ10_init_0 ?_ | refine z_aload0N 0 dJ10_init_0 ?_ | refine z_aload0o 0 dJ10_init_0 ?_
  refine z_new (k' := k - 3) 1 nJ10_13 dJ10_init_1 (by omega) (fun h1 e1 => ?_)
  refine z_dup 4 dJ10_init_4 (by first | rfl | exact va_rf_cat _) ?_
  refine z_I0 (k' := k - 3) 5 iJ10_15 dJ10_init_5 (c_tmNew (d - 1) 0 (by omega) (by rw [e1]; simp [kd_mk]) (by rw [e1]; simp [mm_mk]; rfl) (by rw [e1]; simp [mm_mk]; rfl)) (by omega) (by omega) (Nat.le_of_ble_eq_true rfl) (aft_V fun h2 hq => ?_)
  obtain ⟨M2, A2, z2⟩ := hq
  have A1 : Sm (fun _ => False) h h1 := by rw [e1]; exact Sm.mk'
  have A12 : Sm (fun _ => False) h h2 := A1.tr A2 (fun q hq e => by omega)
  have z1 : h1.sz = h.sz + 1 := by rw [e1]; rfl
  have hs2 : h2.kd s = 11 := ((A12.2 s hlt).1).trans hs
  have hst : ¬ h.sz = s := by omega
  refine z_I1 (k' := k - 3) 8 iJ10_16 dJ10_init_8 (c_tsNew2 (d - 1) 0 (by omega) hs2) (by omega) (by omega) (Nat.le_of_ble_eq_true rfl) (aft_V fun h3 hq => ?_)
  subst hq
  refine z_return 11 rfl dJ10_init_11 ?_
  exact ⟨rfl, hs2, by simp [mm_put], M2.off hst, (A12.mono (fun _ _ f => f.elim)).putS rfl, by simp only [sz_put]; omega⟩

set_option maxHeartbeats 4000000 in
theorem c_tsSize {E : Ev} {h : HP} {s t n : Nat} {U : Nat → Prop} {K : Nat → Nat → Prop} {mc : Int32} {ks : Option Nat} (d k : Nat) (TP : TsP h s t U K n mc ks) (hd1 : 1 ≤ d) : Call E yJ10_size d k [.ref s] h (rI (fun x h' => h' = h ∧ x = nI n)) := by
  obtain ⟨sk, sm, C, MP, hC⟩ := id TP
  refine Call.of [.ref s] q932 (by decide) pn_J10 (Nat.le_of_ble_eq_true rfl) rfl ?_
  first | refine z_aload0 0 dJ10_size_0 ?_ | refine z_aload0N 0 dJ10_size_0 ?_ | refine z_aload0o 0 dJ10_size_0 ?_
  refine z_get 1 gJ10_7 dJ10_size_1 sk sm ?_
  refine z_UF0 (k' := k) 4 ufJ10_53 dJ10_size_4 MP.lt.1 (c_mpSize (d - 1) 0 MP) (by omega) (by omega) (Nat.le_of_ble_eq_true rfl) (aft_I fun x h2 hq => ?_)
  refine z_ireturn 9 rfl dJ10_size_9 ?_
  exact ⟨_, rfl, hq⟩

set_option maxHeartbeats 4000000 in
theorem c_mpIsEmpty {E : Ev} {h : HP} {t n : Nat} {U : Nat → Prop} {C : Nat → Nat → Nat → Prop} {mc : Int32} {ks : Option Nat} (d k : Nat) (MP : Mp h t U C n mc ks) (hd1 : 1 ≤ d) (hn : n < 2147483648) : Call E yJ7_isEmpty d k [.ref t] h (rI (fun x h' => h' = h ∧ ((x = nI 1 ∧ n = 0) ∨ (x = nI 0 ∧ ¬ n = 0)))) := by
  refine Call.of [.ref t] q1649 (by decide) pn_J7 (Nat.le_of_ble_eq_true rfl) rfl ?_
  first | refine z_aload0 0 dJ7_isEmpty_0 ?_ | refine z_aload0N 0 dJ7_isEmpty_0 ?_ | refine z_aload0o 0 dJ7_isEmpty_0 ?_
  refine z_U0 (k' := k) 1 wJ7_19_7 dJ7_isEmpty_1 MP.lt.1 (c_mpSize (d - 1) 0 MP) (by omega) (by omega) (Nat.le_of_ble_eq_true rfl) (aft_I fun x h2 hq => ?_)
  obtain ⟨rfl, rfl⟩ := hq
  have hz : nI n = 0 ↔ n = 0 := nI_eq (b := 0) (by omega) (by decide)
  refine z_ifne 4 11 dJ7_isEmpty_4 (by decide) (fun c4 => ?_) (fun d4 => ?_)
  · refine z_iconst 11 (nI 0) dJ7_isEmpty_11 kI0 ?_
    refine z_zreturn 12 rfl (by first | exact nb1 | exact nb0) dJ7_isEmpty_12 ?_
    first
      | exact ⟨_, rfl, rfl, Or.inl ⟨rfl, hz.mp (by first | exact d4 | exact Classical.not_not.mp d4)⟩⟩
      | exact ⟨_, rfl, rfl, Or.inr ⟨rfl, fun e => c4 (hz.mpr e)⟩⟩
  · refine z_iconst 7 (nI 1) dJ7_isEmpty_7 kI1 ?_
    refine z_goto 8 12 dJ7_isEmpty_8 (by decide) ?_
    refine z_zreturn 12 rfl (by first | exact nb1 | exact nb0) dJ7_isEmpty_12 ?_
    first
      | exact ⟨_, rfl, rfl, Or.inl ⟨rfl, hz.mp (by first | exact d4 | exact Classical.not_not.mp d4)⟩⟩
      | exact ⟨_, rfl, rfl, Or.inr ⟨rfl, fun e => c4 (hz.mpr e)⟩⟩

set_option maxHeartbeats 4000000 in
theorem c_tsIsEmpty {E : Ev} {h : HP} {s t n : Nat} {U : Nat → Prop} {K : Nat → Nat → Prop} {mc : Int32} {ks : Option Nat} (d k : Nat) (TP : TsP h s t U K n mc ks) (hd1 : 2 ≤ d) (hn : n < 2147483648) : Call E yJ10_isEmpty d k [.ref s] h (rI (fun x h' => h' = h ∧ ((x = nI 1 ∧ n = 0) ∨ (x = nI 0 ∧ ¬ n = 0)))) := by
  obtain ⟨sk, sm, C, MP, hC⟩ := id TP
  refine Call.of [.ref s] q1641 (by decide) pn_J10 (Nat.le_of_ble_eq_true rfl) rfl ?_
  first | refine z_aload0 0 dJ10_isEmpty_0 ?_ | refine z_aload0N 0 dJ10_isEmpty_0 ?_ | refine z_aload0o 0 dJ10_isEmpty_0 ?_
  refine z_get 1 gJ10_7 dJ10_isEmpty_1 sk sm ?_
  refine z_UF0 (k' := k) 4 ufJ10_57 dJ10_isEmpty_4 MP.lt.1 (c_mpIsEmpty (d - 1) 0 MP (by omega) hn) (by omega) (by omega) (Nat.le_of_ble_eq_true rfl) (aft_I fun x h2 hq => ?_)
  refine z_zreturn 9 rfl (by rcases hq.2 with e | e <;> rw [e.1] <;> decide) dJ10_isEmpty_9 ?_
  exact ⟨_, rfl, hq⟩

set_option maxHeartbeats 4000000 in
theorem c_tsFirst {E : Ev} {h : HP} {s t n : Nat} {U : Nat → Prop} {K : Nat → Nat → Prop} {mc : Int32} {ks : Option Nat} (d k : Nat) (TP : TsP h s t U K n mc ks) (hd1 : 3 ≤ d) (hne : ∃ q x, K q x) : Call E yJ10_first d k [.ref s] h (rR (fun a h' => h' = h ∧ ∃ q, K q a ∧ ∀ q9 x9, K q9 x9 → q ≤ q9)) := by
  obtain ⟨sk, sm, C, MP, hC⟩ := id TP
  refine Call.of [.ref s] q1658 (by decide) pn_J10 (Nat.le_of_ble_eq_true rfl) rfl ?_
  first | refine z_aload0 0 dJ10_first_0 ?_ | refine z_aload0N 0 dJ10_first_0 ?_ | refine z_aload0o 0 dJ10_first_0 ?_
  refine z_get 1 gJ10_7 dJ10_first_1 sk sm ?_
  refine z_UF0 (k' := k) 4 ufJ10_118 dJ10_first_4 MP.lt.1 (c_mpFirst (d - 1) 0 MP (by omega) (by obtain ⟨q, x, c9⟩ := hne; obtain ⟨v, c9⟩ := (hC _ _).mp c9; exact ⟨q, x, v, c9⟩)) (by omega) (by omega) (Nat.le_of_ble_eq_true rfl) (aft_R fun a h2 hq => ?_)
  obtain ⟨rfl, q, v, c9, hm⟩ := hq
  refine z_areturn 9 rfl (Or.inl ⟨_, rfl⟩) (by first | exact Or.inl rfl | exact Or.inr ⟨_, rfl⟩ | exact va_rf_or _) dJ10_first_9 ?_
  exact ⟨_, rfl, rfl, q, (hC _ _).mpr ⟨v, c9⟩, fun q9 x9 k9 => by obtain ⟨v9, c9⟩ := (hC _ _).mp k9; exact hm q9 x9 v9 c9⟩

set_option maxHeartbeats 4000000 in
theorem c_tsClear {E : Ev} {h : HP} {s t n : Nat} {U : Nat → Prop} {K : Nat → Nat → Prop} {mc : Int32} {ks : Option Nat} (d k : Nat) (TP : TsP h s t U K n mc ks) (hd1 : 1 ≤ d) (hs : s < h.sz) (hsU : ¬ U s) : Call E yJ10_clear d k [.ref s] h (rV (fun h' => TsP h' s t U (fun _ _ => False) 0 (mc + nI 1) ks ∧ Sm U h h' ∧ h'.sz = h.sz)) := by
  obtain ⟨sk, sm, C, MP, hC⟩ := id TP
  refine Call.of [.ref s] q1437 (by decide) pn_J10 (Nat.le_of_ble_eq_true rfl) rfl ?_
  first | refine z_aload0 0 dJ10_clear_0 ?_ | refine z_aload0N 0 dJ10_clear_0 ?_ | refine z_aload0o 0 dJ10_clear_0 ?_
  refine z_get 1 gJ10_7 dJ10_clear_1 sk sm ?_
  refine z_UF0 (k' := k) 4 ufJ10_77 dJ10_clear_4 MP.lt.1 (c_mpClear (d - 1) 0 MP) (by omega) (by omega) (Nat.le_of_ble_eq_true rfl) (aft_V fun h2 hq => ?_)
  obtain ⟨M2, A2, z2⟩ := hq
  refine z_return 9 rfl dJ10_clear_9 ?_
  exact ⟨rfl, ⟨(A2.2 s hs).1.trans sk, by rw [(A2.2 s hs).2.2 hsU]; exact sm, _, M2, fun q x => by simp⟩, A2, z2⟩

set_option maxHeartbeats 4000000 in
theorem c_tsAdd {E : Ev} {h : HP} {s t n x kx ci : Nat} {y : MethodName} {U : Nat → Prop} {K : Nat → Nat → Prop} {mc : Int32} {ks : Option Nat} (d k : Nat) (TP : TsP h s t U K n mc ks) (F : SiteF RJ8 107 cmpX y ci 1) (hx : h.kd x = ci) (CC : ∀ q y0, K q y0 → CmpOK E h y x y0 kx q) (hs : s < h.sz) (hsU : ¬ U s) (hd1 : 7 ≤ d) (hk2 : 2 ≤ k) (CX : CmpOK E h y x x kx kx) (fr : ∀ x9, ¬ K kx x9) : Call E yJ10_add d k [.ref s, .ref x] h (rI (fun r h' => r = nI 1 ∧ ∃ mc' : Int32, TsP h' s t (fun a => U a ∨ a = h.sz) (fun q x9 => K q x9 ∨ (q = kx ∧ x9 = x)) (n + 1) mc' ks ∧ Sm U h h' ∧ h'.sz = h.sz + 1)) := by
  obtain ⟨sk, sm, C, MP, hC⟩ := id TP
  refine Call.of [.ref s, .ref x] q1449 (by decide) pn_J10 (Nat.le_of_ble_eq_true rfl) rfl ?_
  refine z_base 0 fun B => ?_
  obtain ⟨v9, hv9⟩ := st_present B
  first | refine z_aload0 0 dJ10_add_0 ?_ | refine z_aload0N 0 dJ10_add_0 ?_ | refine z_aload0o 0 dJ10_add_0 ?_
  refine z_get 1 gJ10_7 dJ10_add_1 sk sm ?_
  first | refine z_aload1 4 dJ10_add_4 ?_ | refine z_aload1N 4 dJ10_add_4 ?_ | refine z_aload1o 4 dJ10_add_4 ?_
  refine z_gets 5 hv9 q1450 dJ10_add_5 ?_
  refine z_UF2 (k' := k - 2) 8 ufJ10_69 dJ10_add_8 MP.lt.1 (c_mpPut (d - 1) 2 MP (by omega) (by omega) F hx (fun q y0 v c9 => CC q y0 ((hC _ _).mpr ⟨v, c9⟩)) CX (fun x9 w9 c9 => fr x9 ((hC _ _).mpr ⟨w9, c9⟩))) (by omega) (by omega) (Nat.le_of_ble_eq_true rfl) (aft_A fun r h2 hq => ?_)
  obtain ⟨rfl, mc2, M2, A2, z2⟩ := hq
  refine z_ifnonnullN 13 dJ10_add_13 ?_
  refine z_iconst 16 (nI 1) dJ10_add_16 kI1 ?_
  refine z_goto 17 21 dJ10_add_17 (by decide) ?_
  refine z_zreturn 21 rfl (nb1) dJ10_add_21 ?_
  refine ⟨_, rfl, rfl, mc2, ⟨(A2.2 s hs).1.trans sk, by rw [(A2.2 s hs).2.2 hsU]; exact sm, _, M2, fun q x9 => ?_⟩, A2, z2⟩
  simp only [hC]
  constructor
  · rintro (⟨v, c9⟩ | ⟨e1, e2⟩)
    · exact ⟨v, Or.inl c9⟩
    · exact ⟨v9, Or.inr ⟨e1, e2, rfl⟩⟩
  · rintro ⟨v, c9 | ⟨e1, e2, -⟩⟩
    · exact Or.inl ⟨v, c9⟩
    · exact Or.inr ⟨e1, e2⟩

set_option maxHeartbeats 4000000 in
theorem c_tsRemove {E : Ev} {h : HP} {s t n x kx ci : Nat} {y : MethodName} {U : Nat → Prop} {K : Nat → Nat → Prop} {mc : Int32} {ks : Option Nat} (d k : Nat) (TP : TsP h s t U K n mc ks) (F : SiteF RJ8 107 cmpX y ci 1) (hx : h.kd x = ci) (CC : ∀ q y0, K q y0 → CmpOK E h y x y0 kx q) (hs : s < h.sz) (hsU : ¬ U s) (hd1 : 6 ≤ d) (hpr : ∃ x9, K kx x9) : Call E yJ10_remove d k [.ref s, .ref x] h (rI (fun r h' => ∃ mc' : Int32, TsP h' s t U (fun q x9 => K q x9 ∧ ¬ q = kx) (n - 1) mc' ks ∧ Sm U h h' ∧ h'.sz = h.sz)) := by
  obtain ⟨sk, sm, C, MP, hC⟩ := id TP
  refine Call.of [.ref s, .ref x] q1673 (by decide) pn_J10 (Nat.le_of_ble_eq_true rfl) rfl ?_
  refine z_base 0 fun B => ?_
  obtain ⟨v9, hv9⟩ := st_present B
  first | refine z_aload0 0 dJ10_remove_0 ?_ | refine z_aload0N 0 dJ10_remove_0 ?_ | refine z_aload0o 0 dJ10_remove_0 ?_
  refine z_get 1 gJ10_7 dJ10_remove_1 sk sm ?_
  first | refine z_aload1 4 dJ10_remove_4 ?_ | refine z_aload1N 4 dJ10_remove_4 ?_ | refine z_aload1o 4 dJ10_remove_4 ?_
  refine z_UF1 (k' := k) 5 ufJ10_73 dJ10_remove_5 MP.lt.1 (c_mpRemove (d - 1) 0 MP (by omega) F hx (fun q y0 v c9 => CC q y0 ((hC _ _).mpr ⟨v, c9⟩)) (by obtain ⟨x9, k9⟩ := hpr; obtain ⟨w, c9⟩ := (hC _ _).mp k9; exact ⟨x9, w, c9⟩)) (by omega) (by omega) (Nat.le_of_ble_eq_true rfl) (aft_A fun r h2 hq => ?_)
  obtain ⟨⟨w9, rfl, -⟩, mc2, M2, A2, z2⟩ := hq
  refine z_gets 10 hv9 q1450 dJ10_remove_10 ?_
  refine z_acne (some w9) (some v9) 13 20 dJ10_remove_13 (by decide) (fun c13 => ?_) (fun c13 => ?_)
  · refine z_iconst 20 (nI 0) dJ10_remove_20 kI0 ?_
    refine z_zreturn 21 rfl (by first | exact nb1 | exact nb0) dJ10_remove_21 ?_
    refine ⟨_, rfl, mc2, ⟨(A2.2 s hs).1.trans sk, by rw [(A2.2 s hs).2.2 hsU]; exact sm, _, M2, fun q x9 => ?_⟩, A2, z2⟩
    simp only [hC]
    constructor
    · rintro ⟨⟨v, c9⟩, hq⟩
      exact ⟨v, c9, hq⟩
    · rintro ⟨v, c9, hq⟩
      exact ⟨⟨v, c9⟩, hq⟩
  · refine z_iconst 16 (nI 1) dJ10_remove_16 kI1 ?_
    refine z_goto 17 21 dJ10_remove_17 (by decide) ?_
    refine z_zreturn 21 rfl (by first | exact nb1 | exact nb0) dJ10_remove_21 ?_
    refine ⟨_, rfl, mc2, ⟨(A2.2 s hs).1.trans sk, by rw [(A2.2 s hs).2.2 hsU]; exact sm, _, M2, fun q x9 => ?_⟩, A2, z2⟩
    simp only [hC]
    constructor
    · rintro ⟨⟨v, c9⟩, hq⟩
      exact ⟨v, c9, hq⟩
    · rintro ⟨v, c9, hq⟩
      exact ⟨⟨v, c9⟩, hq⟩

set_option maxHeartbeats 4000000 in
theorem c_tsIter {E : Ev} {h : HP} {s t n : Nat} {U : Nat → Prop} {K : Nat → Nat → Prop} {mc : Int32} {ks : Option Nat} (d k : Nat) (TP : TsP h s t U K n mc ks) (hd1 : 5 ≤ d) (hk2 : 3 ≤ k) (hks : ∀ s, ks = some s → KsA h s t) : Call E yJ10_iterator d k [.ref s] h (rR (fun it h' => ∃ (s2 : Nat) (C : Nat → Nat → Nat → Prop), (∀ q x, K q x ↔ ∃ v, C q x v) ∧ MpIt h' t U C n mc (some s2) it 0 ∧ KsA h' s2 t ∧ Sm U h h' ∧ h'.sz ≤ h.sz + 2 ∧ (ks = some s2 ∨ s2 = h.sz) ∧ h.sz ≤ it ∧ ¬ s2 = it)) := by
  obtain ⟨sk, sm, C, MP, hC⟩ := id TP
  refine Call.of [.ref s] q1058 (by decide) pn_J10 (Nat.le_of_ble_eq_true rfl) rfl ?_
  first | refine z_aload0 0 dJ10_iterator_0 ?_ | refine z_aload0N 0 dJ10_iterator_0 ?_ | refine z_aload0o 0 dJ10_iterator_0 ?_
  refine z_get 1 gJ10_7 dJ10_iterator_1 sk sm ?_
  refine z_F0 (k' := k - 1) 4 fxJ10_34_7 dJ10_iterator_4 MP.lt.1 (c_navKeySet (d - 1) 1 MP (by omega) (by omega) hks) (by omega) (by omega) (Nat.le_of_ble_eq_true rfl) (aft_R fun s2 h2 hq => ?_)
  obtain ⟨M2, K2, A2, z2, o2⟩ := hq
  refine z_F0 (k' := k - 3) 9 fxJ10_40_9 dJ10_iterator_9 K2.2.1 (c_ksIter (d - 1) 2 M2 (by omega) (by omega) K2) (by omega) (by omega) (Nat.le_of_ble_eq_true rfl) (aft_R fun it h3 hq => ?_)
  obtain ⟨rfl, I3, A3, z3⟩ := hq
  refine z_areturn 14 rfl (Or.inl ⟨_, rfl⟩) (by first | exact Or.inl rfl | exact Or.inr ⟨_, rfl⟩ | exact va_rf_or _) dJ10_iterator_14 ?_
  exact ⟨_, rfl, s2, C, hC, I3, K2.keep A3 id, A2.tr A3 (fun _ _ f => f.elim), by omega, o2, A2.1, fun e => Nat.lt_irrefl _ (e ▸ K2.1)⟩

