/-! MAPS from outside: the cells U, the content C (key's number, key, value), n many -/
def Mp (h : HP) (t : Nat) (U : Nat → Prop) (C : Nat → Nat → Nat → Prop) (n : Nat) (mc : Int32) (ks : Option Nat) : Prop :=
  ∃ (S : Nat → Prop) (κ ke va : Nat → Nat) (L R P : Nat → Option Nat) (rt : Option Nat) (D : Nat → Nat → Prop) (cl : Nat → Int32) (xs : List Nat), TW S (KO κ) L R P rt D ∧ EnS h S L R P ke va cl ∧ MapO h t rt (nI n) mc ks ∧ xs.Nodup ∧ (∀ a, S a ↔ a ∈ xs) ∧ xs.length = n ∧ (∀ a, S a → U a) ∧ U t ∧ (∀ a, U a → a < h.sz) ∧ ∀ q x v, C q x v ↔ ∃ a, S a ∧ κ a = q ∧ ke a = x ∧ va a = v
theorem Mp.keep {h h' : HP} {t : Nat} {U V : Nat → Prop} {C : Nat → Nat → Nat → Prop} {n : Nat} {mc : Int32} {ks : Option Nat} (X : Mp h t U C n mc ks) (A : Sm V h h') (hv : ∀ a, U a → ¬ V a) : Mp h' t U C n mc ks := by
  obtain ⟨S, κ, ke, va, L, R, P, rt, D, cl, xs, T, X, M, nd, hxs, hlen, hSU, hUt, hUz, hC⟩ := X
  exact ⟨S, κ, ke, va, L, R, P, rt, D, cl, xs, T, X.keep A (fun a ha => ⟨hUz a (hSU a ha), hv a (hSU a ha)⟩), M.keep A ⟨hUz t hUt, hv t hUt⟩, nd, hxs, hlen, hSU, hUt, fun a ha => Nat.lt_of_lt_of_le (hUz a ha) A.1, hC⟩
theorem Mp.lt {h : HP} {t : Nat} {U : Nat → Prop} {C : Nat → Nat → Nat → Prop} {n : Nat} {mc : Int32} {ks : Option Nat} (X : Mp h t U C n mc ks) : h.kd t = 7 ∧ U t ∧ (∀ a, U a → a < h.sz) ∧ h.mm t 4 = .int (nI n) ∧ h.mm t 5 = .int mc ∧ h.mm t 7 = va_rf ks := by
  obtain ⟨S, κ, ke, va, L, R, P, rt, D, cl, xs, T, X, M, nd, hxs, hlen, hSU, hUt, hUz, hC⟩ := X
  exact ⟨M.1, hUt, hUz, M.2.2.2.1, M.2.2.2.2.1, M.2.2.2.2.2⟩
theorem Mp.wide {h : HP} {t : Nat} {U V : Nat → Prop} {C : Nat → Nat → Nat → Prop} {n : Nat} {mc : Int32} {ks : Option Nat} (X : Mp h t U C n mc ks) (h1 : ∀ a, U a → V a) (h2 : ∀ a, V a → a < h.sz) : Mp h t V C n mc ks := by
  obtain ⟨S, κ, ke, va, L, R, P, rt, D, cl, xs, T, X, M, nd, hxs, hlen, hSU, hUt, hUz, hC⟩ := X
  exact ⟨S, κ, ke, va, L, R, P, rt, D, cl, xs, T, X, M, nd, hxs, hlen, fun a ha => h1 a (hSU a ha), h1 t hUt, h2, hC⟩
theorem Mp.congr {h : HP} {t : Nat} {U : Nat → Prop} {C C' : Nat → Nat → Nat → Prop} {n : Nat} {mc : Int32} {ks : Option Nat} (X : Mp h t U C n mc ks) (h1 : ∀ q x v, C q x v ↔ C' q x v) : Mp h t U C' n mc ks := by
  have e : C = C' := by funext q x v; exact propext (h1 q x v)
  rw [← e]; exact X
/-- a map with nothing in it -/
theorem Mp.nil {h : HP} {t : Nat} {U : Nat → Prop} {mc : Int32} {ks : Option Nat} (M : MapO h t none (nI 0) mc ks) (hU : U t) (hz : ∀ a, U a → a < h.sz) : Mp h t U (fun _ _ _ => False) 0 mc ks :=
  ⟨fun _ => False, id, id, id, fun _ => none, fun _ => none, fun _ => none, none, fun _ _ => False, fun _ => nI 0, [], by refine ⟨?_, ?_, ?_, ?_, ?_, ?_, ?_, ?_, ?_, ?_, ?_, ?_, ?_, ?_, ?_⟩ <;> simp, fun _ f => f.elim, M, List.nodup_nil, fun a => by simp, rfl, fun _ f => f.elim, hU, hz, fun q x v => by simp⟩
set_option maxHeartbeats 4000000 in
theorem c_mpSize {E : Ev} {h : HP} {t n : Nat} {U : Nat → Prop} {C : Nat → Nat → Nat → Prop} {mc : Int32} {ks : Option Nat} (d k : Nat) (MP : Mp h t U C n mc ks) : Call E yJ8_size d k [.ref t] h (rI (fun x h' => h' = h ∧ x = nI n)) := by
  obtain ⟨S, κ, ke, va, L, R, P, rt, D, cl, xs, T, X, M, nd, hxs, hlen, hSU, hUt, hUz, hC⟩ := id MP
  have hxs9 : ∀ a, S a → a ∈ xs := fun a => (hxs a).mp
  refine Call.of [.ref t] q941 (by decide) pn_J8 (Nat.le_of_ble_eq_true rfl) rfl ?_
  first | refine z_aload0 0 dJ8_size_0 ?_ | refine z_aload0N 0 dJ8_size_0 ?_ | refine z_aload0o 0 dJ8_size_0 ?_
  refine z_get 1 gJ8_7 dJ8_size_1 M.1 M.2.2.2.1 ?_
  refine z_ireturn 4 rfl dJ8_size_4 ?_
  exact ⟨_, rfl, rfl, rfl⟩

set_option maxHeartbeats 4000000 in
theorem c_mpClear {E : Ev} {h : HP} {t n : Nat} {U : Nat → Prop} {C : Nat → Nat → Nat → Prop} {mc : Int32} {ks : Option Nat} (d k : Nat) (MP : Mp h t U C n mc ks) : Call E yJ8_clear d k [.ref t] h (rV (fun h' => Mp h' t U (fun _ _ _ => False) 0 (mc + nI 1) ks ∧ Sm U h h' ∧ h'.sz = h.sz)) := by
  obtain ⟨S, κ, ke, va, L, R, P, rt, D, cl, xs, T, X, M, nd, hxs, hlen, hSU, hUt, hUz, hC⟩ := id MP
  have hxs9 : ∀ a, S a → a ∈ xs := fun a => (hxs a).mp
  refine Call.of [.ref t] q971 (by decide) pn_J8 (Nat.le_of_ble_eq_true rfl) rfl ?_
  first | refine z_aload0 0 dJ8_clear_0 ?_ | refine z_aload0N 0 dJ8_clear_0 ?_ | refine z_aload0o 0 dJ8_clear_0 ?_
  refine z_dup 1 dJ8_clear_1 (by first | rfl | exact va_rf_cat _) ?_
  refine z_get 2 gJ8_13 dJ8_clear_2 M.1 M.2.2.2.2.1 ?_
  refine z_iconst 5 (nI 1) dJ8_clear_5 kI1 ?_
  refine z_iadd 6 dJ8_clear_6 ?_
  refine z_put 7 pJ8_13 (fun h => by cases h) dJ8_clear_7 M.1 (rfl) (rfl) ?_
  have M1 := M.modc (n' := mc + nI 1)
  first | refine z_aload0 10 dJ8_clear_10 ?_ | refine z_aload0N 10 dJ8_clear_10 ?_ | refine z_aload0o 10 dJ8_clear_10 ?_
  refine z_iconst 11 (nI 0) dJ8_clear_11 kI0 ?_
  refine z_put 12 pJ8_7 (fun h => by cases h) dJ8_clear_12 M1.1 (rfl) (rfl) ?_
  have M2 := M1.size (n' := nI 0)
  first | refine z_aload0 15 dJ8_clear_15 ?_ | refine z_aload0N 15 dJ8_clear_15 ?_ | refine z_aload0o 15 dJ8_clear_15 ?_
  refine z_null 16 dJ8_clear_16 ?_
  refine z_put 17 pJ8_101 (fun h => by cases h) dJ8_clear_17 M2.1 (rfl) (rfl) ?_
  have M3 := M2.root none
  refine z_return 20 rfl dJ8_clear_20 ?_
  exact ⟨rfl, Mp.nil M3 hUt hUz, (((Sm.refl U h).putS hUt).putS hUt).putS hUt, rfl⟩

set_option maxHeartbeats 4000000 in
theorem c_mpGet {E : Ev} {h : HP} {t n x kx ci : Nat} {y : MethodName} {U : Nat → Prop} {C : Nat → Nat → Nat → Prop} {mc : Int32} {ks : Option Nat} (d k : Nat) (MP : Mp h t U C n mc ks) (hd1 : 5 ≤ d) (F : SiteF RJ8 107 cmpX y ci 1) (hx : h.kd x = ci) (CC : ∀ q y0 v, C q y0 v → CmpOK E h y x y0 kx q) : Call E yJ8_get d k [.ref t, .ref x] h (rA (fun r h' => h' = h ∧ (∀ a, r = some a → ∃ x9, C kx x9 a) ∧ (r = none → ∀ x9 v, ¬ C kx x9 v))) := by
  obtain ⟨S, κ, ke, va, L, R, P, rt, D, cl, xs, T, X, M, nd, hxs, hlen, hSU, hUt, hUz, hC⟩ := id MP
  have hxs9 : ∀ a, S a → a ∈ xs := fun a => (hxs a).mp
  have CC9 : ∀ a, S a → CmpOK E h y x (ke a) kx (κ a) := fun a ha => CC _ _ _ ((hC _ _ _).mpr ⟨a, ha, rfl, rfl, rfl⟩)
  refine Call.of [.ref t, .ref x, dum] q1121 (by decide) pn_J8 (Nat.le_of_ble_eq_true rfl) rfl ?_
  first | refine z_aload0 0 dJ8_get_0 ?_ | refine z_aload0N 0 dJ8_get_0 ?_ | refine z_aload0o 0 dJ8_get_0 ?_
  first | refine z_aload1 1 dJ8_get_1 ?_ | refine z_aload1N 1 dJ8_get_1 ?_ | refine z_aload1o 1 dJ8_get_1 ?_
  refine z_V1 (k' := k) 2 vJ8_50 dJ8_get_2 M.1 (c_getEntry (d - 1) 0 hxs9 T X M (by omega) F hx CC9) (by omega) (by omega) (Nat.le_of_ble_eq_true rfl) (aft_A fun r9 h' hq => ?_)
  obtain ⟨rfl, hq1, hq2⟩ := hq
  refine z_astore2o 5 dJ8_get_5 rfl ?_
  refine z_aload2o 6 dJ8_get_6 ?_
  rcases r9 with _ | e
  · skip
    refine z_ifnonnullN 7 dJ8_get_7 ?_
    refine z_null 10 dJ8_get_10 ?_
    refine z_goto 11 18 dJ8_get_11 (by decide) ?_
    refine z_areturn 18 rfl (Or.inl ⟨_, rfl⟩) (by first | exact Or.inl rfl | exact Or.inr ⟨_, rfl⟩) dJ8_get_18 ?_
    first
      | exact ⟨none, rfl, rfl, fun _ e => (nomatch e), fun _ => fun x9 v9 c9 => (by obtain ⟨a, ha, e1, -⟩ := (hC _ _ _).mp c9; exact hq2 rfl a ha e1)⟩
      | exact ⟨some _, rfl, rfl, fun _ e9 => (by cases e9; exact ⟨_, (hC _ _ _).mpr ⟨e, he, hek, rfl, rfl⟩⟩), fun e9 => nomatch e9⟩
  · obtain ⟨he, hek⟩ := hq1 e rfl
    refine z_ifnonnull 7 14 dJ8_get_7 (by decide) ?_
    refine z_aload2 14 dJ8_get_14 ?_
    refine z_get 15 gJ8_58 dJ8_get_15 (X e he).1 (X e he).2.2.1 ?_
    refine z_areturn 18 rfl (Or.inl ⟨_, rfl⟩) (by first | exact Or.inl rfl | exact Or.inr ⟨_, rfl⟩) dJ8_get_18 ?_
    first
      | exact ⟨none, rfl, rfl, fun _ e => (nomatch e), fun _ => fun x9 v9 c9 => (by obtain ⟨a, ha, e1, -⟩ := (hC _ _ _).mp c9; exact hq2 rfl a ha e1)⟩
      | exact ⟨some _, rfl, rfl, fun _ e9 => (by cases e9; exact ⟨_, (hC _ _ _).mpr ⟨e, he, hek, rfl, rfl⟩⟩), fun e9 => nomatch e9⟩

set_option maxHeartbeats 4000000 in
theorem c_mpContains {E : Ev} {h : HP} {t n x kx ci : Nat} {y : MethodName} {U : Nat → Prop} {C : Nat → Nat → Nat → Prop} {mc : Int32} {ks : Option Nat} (d k : Nat) (MP : Mp h t U C n mc ks) (hd1 : 5 ≤ d) (F : SiteF RJ8 107 cmpX y ci 1) (hx : h.kd x = ci) (CC : ∀ q y0 v, C q y0 v → CmpOK E h y x y0 kx q) : Call E yJ8_containsKey d k [.ref t, .ref x] h (rI (fun r h' => h' = h ∧ ((r = nI 1 ∧ ∃ x9 v, C kx x9 v) ∨ (r = nI 0 ∧ ∀ x9 v, ¬ C kx x9 v)))) := by
  obtain ⟨S, κ, ke, va, L, R, P, rt, D, cl, xs, T, X, M, nd, hxs, hlen, hSU, hUt, hUz, hC⟩ := id MP
  have hxs9 : ∀ a, S a → a ∈ xs := fun a => (hxs a).mp
  have CC9 : ∀ a, S a → CmpOK E h y x (ke a) kx (κ a) := fun a ha => CC _ _ _ ((hC _ _ _).mpr ⟨a, ha, rfl, rfl, rfl⟩)
  refine Call.of [.ref t, .ref x] q1953 (by decide) pn_J8 (Nat.le_of_ble_eq_true rfl) rfl ?_
  first | refine z_aload0 0 dJ8_containsKey_0 ?_ | refine z_aload0N 0 dJ8_containsKey_0 ?_ | refine z_aload0o 0 dJ8_containsKey_0 ?_
  first | refine z_aload1 1 dJ8_containsKey_1 ?_ | refine z_aload1N 1 dJ8_containsKey_1 ?_ | refine z_aload1o 1 dJ8_containsKey_1 ?_
  refine z_V1 (k' := k) 2 vJ8_50 dJ8_containsKey_2 M.1 (c_getEntry (d - 1) 0 hxs9 T X M (by omega) F hx CC9) (by omega) (by omega) (Nat.le_of_ble_eq_true rfl) (aft_A fun r9 h' hq => ?_)
  obtain ⟨rfl, hq1, hq2⟩ := hq
  rcases r9 with _ | e
  · skip
    refine z_ifnullN 5 12 dJ8_containsKey_5 (by decide) ?_
    refine z_iconst 12 (nI 0) dJ8_containsKey_12 kI0 ?_
    refine z_zreturn 13 rfl (by first | exact nb1 | exact nb0) dJ8_containsKey_13 ?_
    first
      | exact ⟨_, rfl, rfl, Or.inr ⟨rfl, fun x9 v9 c9 => (by obtain ⟨a, ha, e1, -⟩ := (hC _ _ _).mp c9; exact hq2 rfl a ha e1)⟩⟩
      | exact ⟨_, rfl, rfl, Or.inl ⟨rfl, _, _, (hC _ _ _).mpr ⟨e, he, hek, rfl, rfl⟩⟩⟩
  · obtain ⟨he, hek⟩ := hq1 e rfl
    refine z_ifnull 5 dJ8_containsKey_5 ?_
    refine z_iconst 8 (nI 1) dJ8_containsKey_8 kI1 ?_
    refine z_goto 9 13 dJ8_containsKey_9 (by decide) ?_
    refine z_zreturn 13 rfl (by first | exact nb1 | exact nb0) dJ8_containsKey_13 ?_
    first
      | exact ⟨_, rfl, rfl, Or.inr ⟨rfl, fun x9 v9 c9 => (by obtain ⟨a, ha, e1, -⟩ := (hC _ _ _).mp c9; exact hq2 rfl a ha e1)⟩⟩
      | exact ⟨_, rfl, rfl, Or.inl ⟨rfl, _, _, (hC _ _ _).mpr ⟨e, he, hek, rfl, rfl⟩⟩⟩

theorem c_keyOrN {E : Ev} {h : HP} (d k : Nat) : Call E yJ8_keyOrNull d k [.null] h (rA (fun r h' => h' = h ∧ r = none)) := by
  refine Call.of [.null] q1497 (by decide) pn_J8 (Nat.le_of_ble_eq_true rfl) rfl ?_
  first | refine z_aload0 0 dJ8_keyOrNull_0 ?_ | refine z_aload0N 0 dJ8_keyOrNull_0 ?_ | refine z_aload0o 0 dJ8_keyOrNull_0 ?_
  refine z_ifnonnullN 1 dJ8_keyOrNull_1 ?_
  refine z_null 4 dJ8_keyOrNull_4 ?_
  refine z_goto 5 12 dJ8_keyOrNull_5 (by decide) ?_
  refine z_areturn 12 rfl (Or.inl ⟨_, rfl⟩) (Or.inl rfl) dJ8_keyOrNull_12 ?_
  exact ⟨none, rfl, rfl, rfl⟩
set_option maxHeartbeats 4000000 in
theorem c_keyOrS {E : Ev} {h : HP} {e x : Nat} (d k : Nat) (he : h.kd e = 8) (hv : h.mm e 0 = .ref x) : Call E yJ8_keyOrNull d k [.ref e] h (rA (fun r h' => h' = h ∧ r = some x)) := by
  refine Call.of [.ref e] q1497 (by decide) pn_J8 (Nat.le_of_ble_eq_true rfl) rfl ?_
  first | refine z_aload0 0 dJ8_keyOrNull_0 ?_ | refine z_aload0N 0 dJ8_keyOrNull_0 ?_ | refine z_aload0o 0 dJ8_keyOrNull_0 ?_
  refine z_ifnonnull 1 8 dJ8_keyOrNull_1 (by decide) ?_
  first | refine z_aload0 8 dJ8_keyOrNull_8 ?_ | refine z_aload0N 8 dJ8_keyOrNull_8 ?_ | refine z_aload0o 8 dJ8_keyOrNull_8 ?_
  refine z_get 9 gJ8_105 dJ8_keyOrNull_9 he hv ?_
  refine z_areturn 12 rfl (Or.inl ⟨_, rfl⟩) (Or.inr ⟨_, rfl⟩) dJ8_keyOrNull_12 ?_
  exact ⟨some _, rfl, rfl, rfl⟩

set_option maxHeartbeats 4000000 in
theorem c_key {E : Ev} {h : HP} {e x : Nat} (d k : Nat) (he : h.kd e = 8) (hv : h.mm e 0 = .ref x) : Call E yJ8_key d k [.ref e] h (rR (fun r h' => h' = h ∧ r = x)) := by
  refine Call.of [.ref e] q1669 (by decide) pn_J8 (Nat.le_of_ble_eq_true rfl) rfl ?_
  first | refine z_aload0 0 dJ8_key_0 ?_ | refine z_aload0N 0 dJ8_key_0 ?_ | refine z_aload0o 0 dJ8_key_0 ?_
  refine z_ifnonnull 1 12 dJ8_key_1 (by decide) ?_
  first | refine z_aload0 12 dJ8_key_12 ?_ | refine z_aload0N 12 dJ8_key_12 ?_ | refine z_aload0o 12 dJ8_key_12 ?_
  refine z_get 13 gJ8_105 dJ8_key_13 he hv ?_
  refine z_areturn 16 rfl (Or.inl ⟨_, rfl⟩) (by first | exact Or.inl rfl | exact Or.inr ⟨_, rfl⟩ | exact va_rf_or _) dJ8_key_16 ?_
  exact ⟨_, rfl, rfl, rfl⟩

set_option maxHeartbeats 4000000 in
theorem c_mpFloor {E : Ev} {h : HP} {t n x kx ci : Nat} {y : MethodName} {U : Nat → Prop} {C : Nat → Nat → Nat → Prop} {mc : Int32} {ks : Option Nat} (d k : Nat) (MP : Mp h t U C n mc ks) (hd1 : 6 ≤ d) (F : SiteF RJ8 107 cmpX y ci 1) (hx : h.kd x = ci) (CC : ∀ q y0 v, C q y0 v → CmpOK E h y x y0 kx q) : Call E yJ8_floorKey d k [.ref t, .ref x] h (rA (fun r h' => h' = h ∧ (∀ a, r = some a → ∃ q v, C q a v ∧ q ≤ kx ∧ ∀ q9 x9 v9, C q9 x9 v9 → q9 ≤ kx → q9 ≤ q) ∧ (r = none → ∀ q9 x9 v9, C q9 x9 v9 → kx < q9))) := by
  obtain ⟨S, κ, ke, va, L, R, P, rt, D, cl, xs, T, X, M, nd, hxs, hlen, hSU, hUt, hUz, hC⟩ := id MP
  have hxs9 : ∀ a, S a → a ∈ xs := fun a => (hxs a).mp
  have CC9 : ∀ a, S a → CmpOK E h y x (ke a) kx (κ a) := fun a ha => CC _ _ _ ((hC _ _ _).mpr ⟨a, ha, rfl, rfl, rfl⟩)
  refine Call.of [.ref t, .ref x] q1490 (by decide) pn_J8 (Nat.le_of_ble_eq_true rfl) rfl ?_
  first | refine z_aload0 0 dJ8_floorKey_0 ?_ | refine z_aload0N 0 dJ8_floorKey_0 ?_ | refine z_aload0o 0 dJ8_floorKey_0 ?_
  first | refine z_aload1 1 dJ8_floorKey_1 ?_ | refine z_aload1N 1 dJ8_floorKey_1 ?_ | refine z_aload1o 1 dJ8_floorKey_1 ?_
  refine z_V1 (k' := k) 2 vJ8_210 dJ8_floorKey_2 M.1 (c_floorEntry (d - 1) 0 hxs9 T X M (by omega) F hx CC9) (by omega) (by omega) (Nat.le_of_ble_eq_true rfl) (aft_A fun r9 h' hq => ?_)
  obtain ⟨rfl, hq1, hq2⟩ := hq
  rcases r9 with _ | e
  · refine z_S1 (k' := k) 5 sJ8_207 dJ8_floorKey_5 (c_keyOrN 0 0) (by omega) (by omega) (Nat.le_of_ble_eq_true rfl) (aft_A fun r9 h9 hq => ?_)
    obtain ⟨rfl, rfl⟩ := hq
    refine z_areturn 8 rfl (Or.inl ⟨_, rfl⟩) (Or.inl rfl) dJ8_floorKey_8 ?_
    refine ⟨none, rfl, rfl, fun _ e => (nomatch e), fun _ q9 x9 v9 c9 => ?_⟩
    obtain ⟨a, ha, e1, -⟩ := (hC _ _ _).mp c9
    rw [← e1]; exact hq2 rfl a ha
  obtain ⟨he, hek, hem⟩ := hq1 e rfl
  refine z_S1 (k' := k) 5 sJ8_207 dJ8_floorKey_5 (c_keyOrS 0 0 (X e he).1 (X e he).2.1) (by omega) (by omega) (Nat.le_of_ble_eq_true rfl) (aft_A fun r9 h9 hq => ?_)
  obtain ⟨rfl, rfl⟩ := hq
  refine z_areturn 8 rfl (Or.inl ⟨_, rfl⟩) (Or.inr ⟨_, rfl⟩) dJ8_floorKey_8 ?_
  refine ⟨some _, rfl, rfl, ?_, fun e9 => nomatch e9⟩
  intro _ e9
  cases e9
  refine ⟨κ e, va e, (hC _ _ _).mpr ⟨e, he, rfl, rfl, rfl⟩, hek, fun q9 x9 v9 c9 hle => ?_⟩
  obtain ⟨a, ha, e1, -⟩ := (hC _ _ _).mp c9
  rw [← e1] at hle ⊢
  exact hem a ha hle

set_option maxHeartbeats 4000000 in
theorem c_mpFirst {E : Ev} {h : HP} {t n : Nat} {U : Nat → Prop} {C : Nat → Nat → Nat → Prop} {mc : Int32} {ks : Option Nat} (d k : Nat) (MP : Mp h t U C n mc ks) (hd1 : 2 ≤ d) (hne : ∃ q x v, C q x v) : Call E yJ8_firstKey d k [.ref t] h (rR (fun a h' => h' = h ∧ ∃ q v, C q a v ∧ ∀ q9 x9 v9, C q9 x9 v9 → q ≤ q9)) := by
  obtain ⟨S, κ, ke, va, L, R, P, rt, D, cl, xs, T, X, M, nd, hxs, hlen, hSU, hUt, hUz, hC⟩ := id MP
  have hxs9 : ∀ a, S a → a ∈ xs := fun a => (hxs a).mp
  refine Call.of [.ref t] q1666 (by decide) pn_J8 (Nat.le_of_ble_eq_true rfl) rfl ?_
  first | refine z_aload0 0 dJ8_firstKey_0 ?_ | refine z_aload0N 0 dJ8_firstKey_0 ?_ | refine z_aload0o 0 dJ8_firstKey_0 ?_
  refine z_V0 (k' := k) 1 vJ8_54 dJ8_firstKey_1 M.1 (c_firstEntry (d - 1) 0 hxs9 T X M) (by omega) (by omega) (Nat.le_of_ble_eq_true rfl) (aft_A fun r9 h' hq => ?_)
  obtain ⟨rfl, hq1, hq2⟩ := hq
  rcases r9 with _ | e
  · obtain ⟨q, x, v, c9⟩ := hne
    obtain ⟨a, ha, -⟩ := (hC _ _ _).mp c9
    exact absurd ha (hq2 rfl a)
  obtain ⟨he, hem⟩ := hq1 e rfl
  refine z_S1 (k' := k) 4 sJ8_72 dJ8_firstKey_4 (c_key 0 0 (X e he).1 (X e he).2.1) (by omega) (by omega) (Nat.le_of_ble_eq_true rfl) (aft_R fun r9 h9 hq => ?_)
  obtain ⟨rfl, rfl⟩ := hq
  refine z_areturn 7 rfl (Or.inl ⟨_, rfl⟩) (by first | exact Or.inl rfl | exact Or.inr ⟨_, rfl⟩ | exact va_rf_or _) dJ8_firstKey_7 ?_
  refine ⟨_, rfl, rfl, κ e, va e, (hC _ _ _).mpr ⟨e, he, rfl, rfl, rfl⟩, fun q9 x9 v9 c9 => ?_⟩
  obtain ⟨a, ha, e1, -⟩ := (hC _ _ _).mp c9
  rw [← e1]
  exact Nat.le_of_not_lt (hem a ha)

/-- put of a new key -/
theorem c_mpPut {E : Ev} {h : HP} {t n x v kx ci : Nat} {y : MethodName} {U : Nat → Prop} {C : Nat → Nat → Nat → Prop} {mc : Int32} {ks : Option Nat} (d k : Nat) (MP : Mp h t U C n mc ks) (hd1 : 6 ≤ d) (hk2 : 2 ≤ k) (F : SiteF RJ8 107 cmpX y ci 1) (hx : h.kd x = ci) (CC : ∀ q y0 v, C q y0 v → CmpOK E h y x y0 kx q) (CX : CmpOK E h y x x kx kx) (fr : ∀ x9 v9, ¬ C kx x9 v9) :
    Call E yJ8_put d k [.ref t, .ref x, .ref v] h (rA (fun r h' => r = none ∧ ∃ mc' : Int32, Mp h' t (fun a => U a ∨ a = h.sz) (fun q x9 v9 => C q x9 v9 ∨ (q = kx ∧ x9 = x ∧ v9 = v)) (n + 1) mc' ks ∧ Sm U h h' ∧ h'.sz = h.sz + 1)) := by
  obtain ⟨S, κ, ke, va, L, R, P, rt, D, cl, xs, T, X, M, nd, hxs, hlen, hSU, hUt, hUz, hC⟩ := id MP
  have hxs9 : ∀ a, S a → a ∈ xs := fun a => (hxs a).mp
  have CC9 : ∀ a, S a → CmpOK E h y x (ke a) kx (κ a) := fun a ha => CC _ _ _ ((hC _ _ _).mpr ⟨a, ha, rfl, rfl, rfl⟩)
  refine (c_put d k hd1 hk2 hxs9 T X M (hUz t hUt) (fun a ha => hUz a (hSU a ha)) (fun a ha e => fr _ _ ((hC _ _ _).mpr ⟨a, ha, e, rfl, rfl⟩)) F hx CC9 CX (fun e => ?_)).mono (fun r h' ⟨r9, hr, e, q⟩ => ⟨r9, hr, e, ?_⟩)
  · have : xs = [] := List.eq_nil_iff_forall_not_mem.mpr (fun a ha => T.2.2.2.2.2.2.1 e a ((hxs a).mpr ha))
    rw [← hlen, this]; rfl
  · obtain ⟨⟨L', R', P', rt', D', cl', T', X', M'⟩, A', z'⟩ := q
    have hn : ∀ a, S a → ¬ a = h.sz := fun a ha e => Nat.lt_irrefl _ (e ▸ hUz a (hSU a ha))
    refine ⟨_, ⟨_, _, _, _, L', R', P', rt', D', cl', h.sz :: xs, T', X', by rw [nI_add] at M'; exact M', ?_, fun a => ?_, by simp [hlen], fun a ha => ?_, Or.inl hUt, fun a ha => ?_, fun q9 x9 v9 => ?_⟩, A'.mono (fun a _ ha => ha.elim (hSU a) (fun e => e ▸ hUt)), z'⟩
    · exact List.nodup_cons.mpr ⟨fun q => hn _ ((hxs _).mpr q) rfl, nd⟩
    · rw [List.mem_cons, ← hxs]
      exact ⟨fun q => q.elim Or.inr Or.inl, fun q => q.elim Or.inr Or.inl⟩
    · exact ha.elim (fun q => Or.inl (hSU a q)) Or.inr
    · rw [z']
      rcases ha with q | q
      · exact Nat.lt_succ_of_lt (hUz a q)
      · omega
    · constructor
      · rintro (q | ⟨e1, e2, e3⟩)
        · obtain ⟨a, ha, e1, e2, e3⟩ := (hC _ _ _).mp q
          exact ⟨a, Or.inl ha, by rw [u9_o (hn a ha)]; exact e1, by rw [u9_o (hn a ha)]; exact e2, by rw [u9_o (hn a ha)]; exact e3⟩
        · exact ⟨h.sz, Or.inr rfl, by rw [u9_e]; exact e1.symm, by rw [u9_e]; exact e2.symm, by rw [u9_e]; exact e3.symm⟩
      · rintro ⟨a, ha | rfl, e1, e2, e3⟩
        · rw [u9_o (hn a ha)] at e1 e2 e3
          exact Or.inl ((hC _ _ _).mpr ⟨a, ha, e1, e2, e3⟩)
        · rw [u9_e] at e1 e2 e3
          exact Or.inr ⟨e1.symm, e2.symm, e3.symm⟩
set_option maxHeartbeats 4000000 in
theorem c_mpRemove {E : Ev} {h : HP} {t n x kx ci : Nat} {y : MethodName} {U : Nat → Prop} {C : Nat → Nat → Nat → Prop} {mc : Int32} {ks : Option Nat} (d k : Nat) (MP : Mp h t U C n mc ks) (hd1 : 5 ≤ d) (F : SiteF RJ8 107 cmpX y ci 1) (hx : h.kd x = ci) (CC : ∀ q y0 v, C q y0 v → CmpOK E h y x y0 kx q) (hpr : ∃ x9 v9, C kx x9 v9) : Call E yJ8_remove d k [.ref t, .ref x] h (rA (fun r h' => (∃ v9, r = some v9 ∧ ∃ x9, C kx x9 v9) ∧ ∃ mc' : Int32, Mp h' t U (fun q x9 v9 => C q x9 v9 ∧ ¬ q = kx) (n - 1) mc' ks ∧ Sm U h h' ∧ h'.sz = h.sz)) := by
  obtain ⟨S, κ, ke, va, L, R, P, rt, D, cl, xs, T, X, M, nd, hxs, hlen, hSU, hUt, hUz, hC⟩ := id MP
  have hxs9 : ∀ a, S a → a ∈ xs := fun a => (hxs a).mp
  have CC9 : ∀ a, S a → CmpOK E h y x (ke a) kx (κ a) := fun a ha => CC _ _ _ ((hC _ _ _).mpr ⟨a, ha, rfl, rfl, rfl⟩)
  refine Call.of [.ref t, .ref x, dum, dum] q1681 (by decide) pn_J8 (Nat.le_of_ble_eq_true rfl) rfl ?_
  first | refine z_aload0 0 dJ8_remove_0 ?_ | refine z_aload0N 0 dJ8_remove_0 ?_ | refine z_aload0o 0 dJ8_remove_0 ?_
  first | refine z_aload1 1 dJ8_remove_1 ?_ | refine z_aload1N 1 dJ8_remove_1 ?_ | refine z_aload1o 1 dJ8_remove_1 ?_
  refine z_V1 (k' := k) 2 vJ8_50 dJ8_remove_2 M.1 (c_getEntry (d - 1) 0 hxs9 T X M (by omega) F hx CC9) (by omega) (by omega) (Nat.le_of_ble_eq_true rfl) (aft_A fun r9 h' hq => ?_)
  obtain ⟨rfl, hq1, hq2⟩ := hq
  rcases r9 with _ | e
  · obtain ⟨x9, v9, c9⟩ := hpr
    obtain ⟨a, ha, e1, -⟩ := (hC _ _ _).mp c9
    exact absurd e1 (hq2 rfl a ha)
  obtain ⟨he, hek⟩ := hq1 e rfl
  refine z_astore2 5 dJ8_remove_5 rfl ?_
  refine z_aload2 6 dJ8_remove_6 ?_
  refine z_ifnonnull 7 12 dJ8_remove_7 (by decide) ?_
  first | refine z_aload2 12 dJ8_remove_12 ?_ | refine z_aload2N 12 dJ8_remove_12 ?_ | refine z_aload2o 12 dJ8_remove_12 ?_
  refine z_get 13 gJ8_58 dJ8_remove_13 (X e he).1 (X e he).2.2.1 ?_
  refine z_astore3 16 dJ8_remove_16 rfl ?_
  first | refine z_aload0 17 dJ8_remove_17 ?_ | refine z_aload0N 17 dJ8_remove_17 ?_ | refine z_aload0o 17 dJ8_remove_17 ?_
  first | refine z_aload2 18 dJ8_remove_18 ?_ | refine z_aload2N 18 dJ8_remove_18 ?_ | refine z_aload2o 18 dJ8_remove_18 ?_
  refine z_V1 (k' := k) 19 vJ8_174 dJ8_remove_19 M.1 (c_deleteEntry (d - 1) 0 (by omega) hxs9 T X M he) (by omega) (by omega) (Nat.le_of_ble_eq_true rfl) (aft_V fun h2 hq => ?_)
  refine z_aload3 22 dJ8_remove_22 ?_
  refine z_areturn 23 rfl (Or.inl ⟨_, rfl⟩) (Or.inr ⟨_, rfl⟩) dJ8_remove_23 ?_
  obtain ⟨g, κ', ke', va', hg, ⟨⟨L', R', P', rt', D', cl', T', X', M'⟩, A', z'⟩, f1, f2⟩ := hq
  have hn1 : 1 ≤ n := by rw [← hlen]; exact List.length_pos_of_mem (hxs9 g hg)
  refine ⟨some (va e), rfl, ⟨va e, rfl, ke e, (hC _ _ _).mpr ⟨e, he, hek, rfl, rfl⟩⟩, _, ⟨_, κ', ke', va', L', R', P', rt', D', cl', xs.erase g, T', X', by rw [pk_sub hn1] at M'; exact M', nd.erase g, fun a => ?_, by rw [List.length_erase_of_mem (hxs9 g hg), hlen], fun a ha => hSU a ha.1, hUt, fun a ha => by rw [z']; exact hUz a ha, fun q9 x9 v9 => ?_⟩, A'.mono (fun a _ ha => ha.elim (hSU a) (fun e => e ▸ hUt)), z'⟩
  · rw [List.Nodup.mem_erase_iff nd, ← hxs]
    exact ⟨fun q => ⟨q.2, q.1⟩, fun q => ⟨q.2, q.1⟩⟩
  · constructor
    · rintro ⟨c9, hne⟩
      obtain ⟨b, hb, e1, e2, e3⟩ := (hC _ _ _).mp c9
      obtain ⟨a, ha, hag, e4, e5, e6⟩ := f2 b hb (fun e9 => hne (by rw [← e1, e9, hek]))
      exact ⟨a, ⟨ha, hag⟩, e4.trans e1, e5.trans e2, e6.trans e3⟩
    · rintro ⟨a, ⟨ha, hag⟩, e1, e2, e3⟩
      obtain ⟨b, hb, hbp, e4, e5, e6⟩ := f1 a ha hag
      refine ⟨(hC _ _ _).mpr ⟨b, hb, e4.symm.trans e1, e5.symm.trans e2, e6.symm.trans e3⟩, fun e9 => ?_⟩
      have t1 := T.2.2.2.2.2.2.2.2.2.2.2.2.1 b e hb he hbp
      simp only [KO] at t1
      omega

