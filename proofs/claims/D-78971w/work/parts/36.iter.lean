/-! MAPS: constructor, key set, iterator -/
theorem z_instS {E : Ev} {mt : Mth} {d k : Nat} {Q : Res → HP → Prop} {h : HP} {ls st : List Value} {idx ci a : Nat} {C : String} {T : u_T} {N : Nat} (pc : Nat) (hcl : cls_[ci]? = some (C, T, N)) (hlk : Cond.classLink mt.1.cls idx C ∈ lw_all) (hd : decode mt.2.1 pc = .ok (.instanceof idx, 3)) (hk : h.kd a = ci) (kk : Z E mt d Q k h (pc + 3) ls (.int (nI 1) :: st)) : Z E mt d Q k h pc ls (.ref a :: st) := by
  intro p e s m args below meth c K H locs cells slots la hc h1 h2 hP hS hl
  have kk := kk p e s m args below meth c K H locs cells slots la hc h1 h2 hP hS hl
  have hK := hc.1.K hc.W
  exact va_instS hc.x hc.c hc.own (hc.ts args _ hlk) (hK.1 ci _ hcl).2 (hP.recv hk hcl hK) hd kk
set_option maxHeartbeats 4000000 in
theorem c_absColl {E : Ev} {h : HP} {a : Nat} (d k : Nat) (hd1 : 1 ≤ d) : Call E yJ0_init d k [.ref a] h (rV (fun h' => h' = h)) := by
  refine Call.of [.ref a] q172 (by decide) pn_J0 (Nat.le_of_ble_eq_true rfl) rfl ?_
  first | refine z_aload0 0 dJ0_init_0 ?_ | refine z_aload0N 0 dJ0_init_0 ?_ | refine z_aload0o 0 dJ0_init_0 ?_
  refine z_objInit 1 q173 q147 q148 dJ0_init_1 (by omega) (Nat.le_of_ble_eq_true rfl) ?_
  refine z_return 4 rfl dJ0_init_4 ?_
  exact ⟨rfl, rfl⟩

set_option maxHeartbeats 4000000 in
theorem c_absMap {E : Ev} {h : HP} {a : Nat} (d k : Nat) (hd1 : 1 ≤ d) : Call E yJ7_init d k [.ref a] h (rV (fun h' => h' = h)) := by
  refine Call.of [.ref a] q262 (by decide) pn_J7 (Nat.le_of_ble_eq_true rfl) rfl ?_
  first | refine z_aload0 0 dJ7_init_0 ?_ | refine z_aload0N 0 dJ7_init_0 ?_ | refine z_aload0o 0 dJ7_init_0 ?_
  refine z_objInit 1 q263 q147 q148 dJ7_init_1 (by omega) (Nat.le_of_ble_eq_true rfl) ?_
  refine z_return 4 rfl dJ7_init_4 ?_
  exact ⟨rfl, rfl⟩

set_option maxHeartbeats 4000000 in
theorem c_absSet {E : Ev} {h : HP} {a : Nat} (d k : Nat) (hd1 : 2 ≤ d) : Call E yJ9_init d k [.ref a] h (rV (fun h' => h' = h)) := by
  refine Call.of [.ref a] q302 (by decide) pn_J9 (Nat.le_of_ble_eq_true rfl) rfl ?_
  first | refine z_aload0 0 dJ9_init_0 ?_ | refine z_aload0N 0 dJ9_init_0 ?_ | refine z_aload0o 0 dJ9_init_0 ?_
  refine z_I0 (k' := k) 1 iJ9_1 dJ9_init_1 (c_absColl (d - 1) 0 (by omega)) (by omega) (by omega) (Nat.le_of_ble_eq_true rfl) (aft_V fun h' hq => ?_)
  subst hq
  refine z_return 4 rfl dJ9_init_4 ?_
  exact ⟨rfl, rfl⟩

set_option maxHeartbeats 4000000 in
theorem c_tmNew {E : Ev} {h : HP} {t : Nat} (d k : Nat) (hd1 : 2 ≤ d) (ht : h.kd t = 7) (h3 : h.mm t 3 = .null) (h7 : h.mm t 7 = .null) : Call E yJ8_init d k [.ref t] h (rV (fun h' => MapO h' t none (nI 0) (nI 0) none ∧ Sm (fun a => a = t) h h' ∧ h'.sz = h.sz)) := by
  refine Call.of [.ref t] q259 (by decide) pn_J8 (Nat.le_of_ble_eq_true rfl) rfl ?_
  first | refine z_aload0 0 dJ8_init_0 ?_ | refine z_aload0N 0 dJ8_init_0 ?_ | refine z_aload0o 0 dJ8_init_0 ?_
  refine z_I0 (k' := k) 1 iJ8_1 dJ8_init_1 (c_absMap (d - 1) 0 (by omega)) (by omega) (by omega) (Nat.le_of_ble_eq_true rfl) (aft_V fun h' hq => ?_)
  subst hq
  first | refine z_aload0 4 dJ8_init_4 ?_ | refine z_aload0N 4 dJ8_init_4 ?_ | refine z_aload0o 4 dJ8_init_4 ?_
  refine z_iconst 5 (nI 0) dJ8_init_5 kI0 ?_
  refine z_put 6 pJ8_7 (fun h => by cases h) dJ8_init_6 ht (rfl) (rfl) ?_
  first | refine z_aload0 9 dJ8_init_9 ?_ | refine z_aload0N 9 dJ8_init_9 ?_ | refine z_aload0o 9 dJ8_init_9 ?_
  refine z_iconst 10 (nI 0) dJ8_init_10 kI0 ?_
  refine z_put 11 pJ8_13 (fun h => by cases h) dJ8_init_11 ht (rfl) (rfl) ?_
  first | refine z_aload0 14 dJ8_init_14 ?_ | refine z_aload0N 14 dJ8_init_14 ?_ | refine z_aload0o 14 dJ8_init_14 ?_
  refine z_null 15 dJ8_init_15 ?_
  refine z_put 16 pJ8_16 (fun _ => rfl) dJ8_init_16 ht (rfl) (rfl) ?_
  refine z_return 19 rfl dJ8_init_19 ?_
  exact ⟨rfl, ⟨ht, by simp [mm_put], by simp [mm_put, h3, va_rf], by simp [mm_put], by simp [mm_put], by simp [mm_put, h7, va_rf]⟩, (((Sm.refl (fun a => a = t) _).putS rfl).putS rfl).putS rfl, rfl⟩

set_option maxHeartbeats 4000000 in
theorem c_ksNew {E : Ev} {h : HP} {s t : Nat} (d k : Nat) (hd1 : 3 ≤ d) (hs : h.kd s = 9) : Call E yJ22_init d k [.ref s, .ref t] h (rV (fun h' => h' = h.put s 0 (.ref t))) := by
  refine Call.of [.ref s, .ref t] q984 (by decide) pn_J22 (Nat.le_of_ble_eq_true rfl) rfl ?_
  first | refine z_aload0 0 dJ22_init_0 ?_ | refine z_aload0N 0 dJ22_init_0 ?_ | refine z_aload0o 0 dJ22_init_0 ?_
  refine z_I0 (k' := k) 1 iJ22_1 dJ22_init_1 (c_absSet (d - 1) 0 (by omega)) (by omega) (by omega) (Nat.le_of_ble_eq_true rfl) (aft_V fun h' hq => ?_)
  subst hq
  first | refine z_aload0 4 dJ22_init_4 ?_ | refine z_aload0N 4 dJ22_init_4 ?_ | refine z_aload0o 4 dJ22_init_4 ?_
  first | refine z_aload1 5 dJ22_init_5 ?_ | refine z_aload1N 5 dJ22_init_5 ?_ | refine z_aload1o 5 dJ22_init_5 ?_
  refine z_put 6 pJ22_7 (fun _ => rfl) dJ22_init_6 hs (rfl) (rfl) ?_
  refine z_return 9 rfl dJ22_init_9 ?_
  exact ⟨rfl, rfl⟩

/-- a key set of the map t -/
def KsA (h : HP) (s t : Nat) : Prop := s < h.sz ∧ h.kd s = 9 ∧ h.mm s 0 = .ref t
theorem KsA.keep {h h' : HP} {s t : Nat} {V : Nat → Prop} (K : KsA h s t) (A : Sm V h h') (hn : ¬ V s) : KsA h' s t := by
  obtain ⟨k1, k2, k3⟩ := K
  obtain ⟨b1, b2, b3⟩ := A.2 s k1
  exact ⟨Nat.lt_of_lt_of_le k1 A.1, b1.trans k2, by rw [b3 hn]; exact k3⟩
theorem MapO.kset {h : HP} {t : Nat} {rt ks : Option Nat} {n mc : Int32} (M : MapO h t rt n mc ks) (s : Nat) : MapO (h.put t 7 (.ref s)) t rt n mc (some s) := by
  obtain ⟨m1, m2, m3, m4, m5, m7⟩ := M
  exact ⟨m1, by simp [mm_put, m2], by simp [mm_put, m3], by simp [mm_put, m4], by simp [mm_put, m5], by simp [mm_put, va_rf]⟩
set_option maxHeartbeats 4000000 in
theorem c_navKeySet {E : Ev} {h : HP} {t n : Nat} {U : Nat → Prop} {C : Nat → Nat → Nat → Prop} {mc : Int32} {ks : Option Nat} (d k : Nat) (MP : Mp h t U C n mc ks) (hd1 : 4 ≤ d) (hk1 : 1 ≤ k) (hks : ∀ s, ks = some s → KsA h s t) : Call E yJ8_navigableKeySet d k [.ref t] h (rR (fun s h' => Mp h' t U C n mc (some s) ∧ KsA h' s t ∧ Sm U h h' ∧ h'.sz ≤ h.sz + 1 ∧ (ks = some s ∨ s = h.sz))) := by
  obtain ⟨S, κ, ke, va, L, R, P, rt, D, cl, xs, T, X, M, nd, hxs, hlen, hSU, hUt, hUz, hC⟩ := id MP
  have hxs9 : ∀ a, S a → a ∈ xs := fun a => (hxs a).mp
  refine Call.of [.ref t, dum] q979 (by decide) pn_J8 (Nat.le_of_ble_eq_true rfl) rfl ?_
  first | refine z_aload0 0 dJ8_navigableKeySet_0 ?_ | refine z_aload0N 0 dJ8_navigableKeySet_0 ?_ | refine z_aload0o 0 dJ8_navigableKeySet_0 ?_
  refine z_get 1 gJ8_191 dJ8_navigableKeySet_1 M.1 M.2.2.2.2.2 ?_
  refine z_astore1o 4 dJ8_navigableKeySet_4 rfl ?_
  refine z_aload1o 5 dJ8_navigableKeySet_5 ?_
  rcases ks with _ | s
  · skip
    refine z_ifnullN 6 13 dJ8_navigableKeySet_6 (by decide) ?_
    first | refine z_aload0 13 dJ8_navigableKeySet_13 ?_ | refine z_aload0N 13 dJ8_navigableKeySet_13 ?_ | refine z_aload0o 13 dJ8_navigableKeySet_13 ?_
    refine z_new (k' := k - 1) 14 nJ8_222 dJ8_navigableKeySet_14 (by omega) (fun h1 e1 => ?_)
    refine z_dup 17 dJ8_navigableKeySet_17 (by first | rfl | exact va_rf_cat _) ?_
    first | refine z_aload0 18 dJ8_navigableKeySet_18 ?_ | refine z_aload0N 18 dJ8_navigableKeySet_18 ?_ | refine z_aload0o 18 dJ8_navigableKeySet_18 ?_
    refine z_I1 (k' := k - 1) 19 iJ8_224 dJ8_navigableKeySet_19 (c_ksNew (d - 1) 0 (by omega) (by rw [e1]; simp [kd_mk])) (by omega) (by omega) (Nat.le_of_ble_eq_true rfl) (aft_V fun h2 hq => ?_)
    subst hq
    have ht9 : ¬ t = h.sz := fun e => Nat.lt_irrefl _ (e ▸ hUz t hUt)
    have A1 : Sm (fun _ => False) h (h1.put h.sz 0 (.ref t)) := by rw [e1]; exact (Sm.mkS (Sm.refl _ h)).putN (Nat.le_refl _)
    have MP2 := Mp.keep (V := fun _ => False) ⟨S, κ, ke, va, L, R, P, rt, D, cl, xs, T, X, M, nd, hxs, hlen, hSU, hUt, hUz, hC⟩ A1 (fun _ _ f => f)
    obtain ⟨S2, κ2, ke2, va2, L2, R2, P2, rt2, D2, cl2, xs2, T2, X2, M2, nd2, hxs2, hlen2, hSU2, hUt2, hUz2, hC2⟩ := MP2
    have hnS : ¬ S2 t := fun e => by have h9 := (X2 t e).1; rw [M2.1] at h9; cases h9
    refine z_dup_x1 22 dJ8_navigableKeySet_22 (by first | rfl | exact va_rf_cat _) (by first | rfl | exact va_rf_cat _) ?_
    refine z_put 23 pJ8_191 (fun h => by cases h) dJ8_navigableKeySet_23 M2.1 (rfl) (rfl) ?_
    refine z_areturn 26 rfl (Or.inl ⟨_, rfl⟩) (by first | exact Or.inl rfl | exact Or.inr ⟨_, rfl⟩ | exact va_rf_or _) dJ8_navigableKeySet_26 ?_
    first
      | exact ⟨_, rfl, MP, hks _ rfl, Sm.refl _ _, Nat.le_succ _, Or.inl rfl⟩
      | refine ⟨_, rfl, ⟨S2, κ2, ke2, va2, L2, R2, P2, rt2, D2, cl2, xs2, T2, X2.off hnS, M2.kset _, nd2, hxs2, hlen2, hSU2, hUt2, hUz2, hC2⟩, ⟨?_, ?_, ?_⟩, (A1.mono (fun _ _ f => f.elim)).putS hUt, ?_, Or.inr rfl⟩
        · rw [e1]; simp only [sz_put, sz_mk]; omega
        · rw [e1]; simp [kd_put, kd_mk]
        · simp [mm_put, Ne.symm ht9]
        · rw [e1]; simp only [sz_put, sz_mk]; omega
  · skip
    refine z_ifnull 6 dJ8_navigableKeySet_6 ?_
    refine z_aload1 9 dJ8_navigableKeySet_9 ?_
    refine z_goto 10 26 dJ8_navigableKeySet_10 (by decide) ?_
    refine z_areturn 26 rfl (Or.inl ⟨_, rfl⟩) (by first | exact Or.inl rfl | exact Or.inr ⟨_, rfl⟩ | exact va_rf_or _) dJ8_navigableKeySet_26 ?_
    first
      | exact ⟨_, rfl, MP, hks _ rfl, Sm.refl _ _, Nat.le_succ _, Or.inl rfl⟩
      | refine ⟨_, rfl, ⟨S2, κ2, ke2, va2, L2, R2, P2, rt2, D2, cl2, xs2, T2, X2.off hnS, M2.kset _, nd2, hxs2, hlen2, hSU2, hUt2, hUz2, hC2⟩, ⟨?_, ?_, ?_⟩, (A1.mono (fun _ _ f => f.elim)).putS hUt, ?_, Or.inr rfl⟩
        · rw [e1]; simp only [sz_put, sz_mk]; omega
        · rw [e1]; simp [kd_put, kd_mk]
        · simp [mm_put, Ne.symm ht9]
        · rw [e1]; simp only [sz_put, sz_mk]; omega

set_option maxHeartbeats 4000000 in
theorem c_keySet {E : Ev} {h : HP} {t n : Nat} {U : Nat → Prop} {C : Nat → Nat → Nat → Prop} {mc : Int32} {ks : Option Nat} (d k : Nat) (MP : Mp h t U C n mc ks) (hd1 : 5 ≤ d) (hk1 : 1 ≤ k) (hks : ∀ s, ks = some s → KsA h s t) : Call E yJ8_keySet d k [.ref t] h (rR (fun s h' => Mp h' t U C n mc (some s) ∧ KsA h' s t ∧ Sm U h h' ∧ h'.sz ≤ h.sz + 1 ∧ (ks = some s ∨ s = h.sz))) := by
  refine Call.of [.ref t] q975 (by decide) pn_J8 (Nat.le_of_ble_eq_true rfl) rfl ?_
  first | refine z_aload0 0 dJ8_keySet_0 ?_ | refine z_aload0N 0 dJ8_keySet_0 ?_ | refine z_aload0o 0 dJ8_keySet_0 ?_
  refine z_V0 (k' := k - 1) 1 vJ8_219 dJ8_keySet_1 MP.lt.1 (c_navKeySet (d - 1) 1 MP (by omega) (by omega) hks) (by omega) (by omega) (Nat.le_of_ble_eq_true rfl) (aft_R fun s h2 hq => ?_)
  refine z_areturn 4 rfl (Or.inl ⟨_, rfl⟩) (by first | exact Or.inl rfl | exact Or.inr ⟨_, rfl⟩ | exact va_rf_or _) dJ8_keySet_4 ?_
  exact ⟨_, rfl, hq⟩

/-- a map, and an iterator over its keys that comes next to the least key from b on -/
def MpIt (h : HP) (t : Nat) (U : Nat → Prop) (C : Nat → Nat → Nat → Prop) (n : Nat) (mc : Int32) (ks : Option Nat) (it b : Nat) : Prop :=
  ∃ (S : Nat → Prop) (κ ke va : Nat → Nat) (L R P : Nat → Option Nat) (rt : Option Nat) (D : Nat → Nat → Prop) (cl : Nat → Int32) (xs : List Nat) (e : Option Nat), (TW S (KO κ) L R P rt D ∧ EnS h S L R P ke va cl ∧ MapO h t rt (nI n) mc ks ∧ xs.Nodup ∧ (∀ a, S a ↔ a ∈ xs) ∧ xs.length = n ∧ (∀ a, S a → U a) ∧ U t ∧ (∀ a, U a → a < h.sz) ∧ ∀ q x v, C q x v ↔ ∃ a, S a ∧ κ a = q ∧ ke a = x ∧ va a = v) ∧
    h.kd it = 10 ∧ h.mm it 2 = .int mc ∧ h.mm it 3 = .ref t ∧ it < h.sz ∧ ¬ U it ∧ h.mm it 0 = va_rf e ∧ (∀ a, e = some a → S a ∧ b ≤ κ a ∧ ∀ c, S c → b ≤ κ c → κ a ≤ κ c) ∧ (e = none → ∀ c, S c → κ c < b)
theorem MpIt.mp {h : HP} {t n it b : Nat} {U : Nat → Prop} {C : Nat → Nat → Nat → Prop} {mc : Int32} {ks : Option Nat} (I : MpIt h t U C n mc ks it b) : Mp h t U C n mc ks := by
  obtain ⟨S, κ, ke, va, L, R, P, rt, D, cl, xs, e, B, -⟩ := I
  exact ⟨S, κ, ke, va, L, R, P, rt, D, cl, xs, B⟩
theorem MpIt.keep {h h' : HP} {t n it b : Nat} {U V : Nat → Prop} {C : Nat → Nat → Nat → Prop} {mc : Int32} {ks : Option Nat} (I : MpIt h t U C n mc ks it b) (A : Sm V h h') (hv : ∀ a, U a → ¬ V a) (hi : ¬ V it) : MpIt h' t U C n mc ks it b := by
  obtain ⟨S, κ, ke, va, L, R, P, rt, D, cl, xs, e, ⟨T, X, M, nd, hxs, hlen, hSU, hUt, hUz, hC⟩, i1, i2, i3, i4, i5, i6, i7, i8⟩ := I
  obtain ⟨b1, b2, b3⟩ := A.2 it i4
  have b4 := b3 hi
  exact ⟨S, κ, ke, va, L, R, P, rt, D, cl, xs, e, ⟨T, X.keep A (fun a ha => ⟨hUz a (hSU a ha), hv a (hSU a ha)⟩), M.keep A ⟨hUz t hUt, hv t hUt⟩, nd, hxs, hlen, hSU, hUt, fun a ha => Nat.lt_of_lt_of_le (hUz a ha) A.1, hC⟩, b1.trans i1, by rw [b4]; exact i2, by rw [b4]; exact i3, Nat.lt_of_lt_of_le i4 A.1, i5, by rw [b4]; exact i6, i7, i8⟩
set_option maxHeartbeats 4000000 in
theorem c_peiNew {E : Ev} {h : HP} {it t : Nat} {e : Option Nat} {mc : Int32} (d k : Nat) (hd1 : 1 ≤ d) (hi : h.kd it = 10) (ht : h.kd t = 7) (hm : h.mm t 5 = .int mc) (hn : ¬ t = it) : Call E yJ23_init d k [.ref it, .ref t, va_rf e] h (rV (fun h' => h' = (((h.put it 3 (.ref t)).put it 2 (.int mc)).put it 1 .null).put it 0 (va_rf e))) := by
  rcases e with _ | e9
  · refine Call.of [.ref it, .ref t, .null] q1011 (by decide) pn_J23 (Nat.le_of_ble_eq_true rfl) rfl ?_
    first | refine z_aload0 0 dJ23_init_0 ?_ | refine z_aload0N 0 dJ23_init_0 ?_ | refine z_aload0o 0 dJ23_init_0 ?_
    first | refine z_aload1 1 dJ23_init_1 ?_ | refine z_aload1N 1 dJ23_init_1 ?_ | refine z_aload1o 1 dJ23_init_1 ?_
    refine z_put 2 pJ23_1 (fun _ => rfl) dJ23_init_2 hi (rfl) (rfl) ?_
    first | refine z_aload0 5 dJ23_init_5 ?_ | refine z_aload0N 5 dJ23_init_5 ?_ | refine z_aload0o 5 dJ23_init_5 ?_
    refine z_objInit 6 q1012 q147 q148 dJ23_init_6 (by omega) (Nat.le_of_ble_eq_true rfl) ?_
    first | refine z_aload0 9 dJ23_init_9 ?_ | refine z_aload0N 9 dJ23_init_9 ?_ | refine z_aload0o 9 dJ23_init_9 ?_
    first | refine z_aload1 10 dJ23_init_10 ?_ | refine z_aload1N 10 dJ23_init_10 ?_ | refine z_aload1o 10 dJ23_init_10 ?_
    refine z_get 11 gJ23_13 dJ23_init_11 ht ((mm_nea _ _ _ _ _ hn).trans hm) ?_
    refine z_put 14 pJ23_19 (fun h => by cases h) dJ23_init_14 hi (rfl) (rfl) ?_
    first | refine z_aload0 17 dJ23_init_17 ?_ | refine z_aload0N 17 dJ23_init_17 ?_ | refine z_aload0o 17 dJ23_init_17 ?_
    refine z_null 18 dJ23_init_18 ?_
    refine z_put 19 pJ23_22 (fun h => by cases h) dJ23_init_19 hi (rfl) (rfl) ?_
    first | refine z_aload0 22 dJ23_init_22 ?_ | refine z_aload0N 22 dJ23_init_22 ?_ | refine z_aload0o 22 dJ23_init_22 ?_
    first | refine z_aload2 23 dJ23_init_23 ?_ | refine z_aload2N 23 dJ23_init_23 ?_ | refine z_aload2o 23 dJ23_init_23 ?_
    refine z_put 24 pJ23_26 (fun h => by cases h) dJ23_init_24 hi (rfl) (rfl) ?_
    refine z_return 27 rfl dJ23_init_27 ?_
    exact ⟨rfl, rfl⟩
  · refine Call.of [.ref it, .ref t, .ref e9] q1011 (by decide) pn_J23 (Nat.le_of_ble_eq_true rfl) rfl ?_
    first | refine z_aload0 0 dJ23_init_0 ?_ | refine z_aload0N 0 dJ23_init_0 ?_ | refine z_aload0o 0 dJ23_init_0 ?_
    first | refine z_aload1 1 dJ23_init_1 ?_ | refine z_aload1N 1 dJ23_init_1 ?_ | refine z_aload1o 1 dJ23_init_1 ?_
    refine z_put 2 pJ23_1 (fun _ => rfl) dJ23_init_2 hi (rfl) (rfl) ?_
    first | refine z_aload0 5 dJ23_init_5 ?_ | refine z_aload0N 5 dJ23_init_5 ?_ | refine z_aload0o 5 dJ23_init_5 ?_
    refine z_objInit 6 q1012 q147 q148 dJ23_init_6 (by omega) (Nat.le_of_ble_eq_true rfl) ?_
    first | refine z_aload0 9 dJ23_init_9 ?_ | refine z_aload0N 9 dJ23_init_9 ?_ | refine z_aload0o 9 dJ23_init_9 ?_
    first | refine z_aload1 10 dJ23_init_10 ?_ | refine z_aload1N 10 dJ23_init_10 ?_ | refine z_aload1o 10 dJ23_init_10 ?_
    refine z_get 11 gJ23_13 dJ23_init_11 ht ((mm_nea _ _ _ _ _ hn).trans hm) ?_
    refine z_put 14 pJ23_19 (fun h => by cases h) dJ23_init_14 hi (rfl) (rfl) ?_
    first | refine z_aload0 17 dJ23_init_17 ?_ | refine z_aload0N 17 dJ23_init_17 ?_ | refine z_aload0o 17 dJ23_init_17 ?_
    refine z_null 18 dJ23_init_18 ?_
    refine z_put 19 pJ23_22 (fun h => by cases h) dJ23_init_19 hi (rfl) (rfl) ?_
    first | refine z_aload0 22 dJ23_init_22 ?_ | refine z_aload0N 22 dJ23_init_22 ?_ | refine z_aload0o 22 dJ23_init_22 ?_
    first | refine z_aload2 23 dJ23_init_23 ?_ | refine z_aload2N 23 dJ23_init_23 ?_ | refine z_aload2o 23 dJ23_init_23 ?_
    refine z_put 24 pJ23_26 (fun h => by cases h) dJ23_init_24 hi (rfl) (rfl) ?_
    refine z_return 27 rfl dJ23_init_27 ?_
    exact ⟨rfl, rfl⟩

set_option maxHeartbeats 4000000 in
theorem c_kitNew {E : Ev} {h : HP} {it t : Nat} {e : Option Nat} {mc : Int32} (d k : Nat) (hd1 : 2 ≤ d) (hi : h.kd it = 10) (ht : h.kd t = 7) (hm : h.mm t 5 = .int mc) (hn : ¬ t = it) : Call E yJ25_init d k [.ref it, .ref t, va_rf e] h (rV (fun h' => h' = (((h.put it 3 (.ref t)).put it 2 (.int mc)).put it 1 .null).put it 0 (va_rf e))) := by
  rcases e with _ | e9
  · refine Call.of [.ref it, .ref t, .null] q1042 (by decide) pn_J25 (Nat.le_of_ble_eq_true rfl) rfl ?_
    first | refine z_aload0 0 dJ25_init_0 ?_ | refine z_aload0N 0 dJ25_init_0 ?_ | refine z_aload0o 0 dJ25_init_0 ?_
    first | refine z_aload1 1 dJ25_init_1 ?_ | refine z_aload1N 1 dJ25_init_1 ?_ | refine z_aload1o 1 dJ25_init_1 ?_
    first | refine z_aload2 2 dJ25_init_2 ?_ | refine z_aload2N 2 dJ25_init_2 ?_ | refine z_aload2o 2 dJ25_init_2 ?_
    refine z_I2 (k' := k) 3 iJ25_1 dJ25_init_3 (c_peiNew (e := none) (d - 1) 0 (by omega) hi ht hm hn) (by omega) (by omega) (Nat.le_of_ble_eq_true rfl) (aft_V fun h2 hq => ?_)
    subst hq
    refine z_return 6 rfl dJ25_init_6 ?_
    exact ⟨rfl, rfl⟩
  · refine Call.of [.ref it, .ref t, .ref e9] q1042 (by decide) pn_J25 (Nat.le_of_ble_eq_true rfl) rfl ?_
    first | refine z_aload0 0 dJ25_init_0 ?_ | refine z_aload0N 0 dJ25_init_0 ?_ | refine z_aload0o 0 dJ25_init_0 ?_
    first | refine z_aload1 1 dJ25_init_1 ?_ | refine z_aload1N 1 dJ25_init_1 ?_ | refine z_aload1o 1 dJ25_init_1 ?_
    first | refine z_aload2 2 dJ25_init_2 ?_ | refine z_aload2N 2 dJ25_init_2 ?_ | refine z_aload2o 2 dJ25_init_2 ?_
    refine z_I2 (k' := k) 3 iJ25_1 dJ25_init_3 (c_peiNew (e := some e9) (d - 1) 0 (by omega) hi ht hm hn) (by omega) (by omega) (Nat.le_of_ble_eq_true rfl) (aft_V fun h2 hq => ?_)
    subst hq
    refine z_return 6 rfl dJ25_init_6 ?_
    exact ⟨rfl, rfl⟩

set_option maxHeartbeats 4000000 in
theorem c_keyIter {E : Ev} {h : HP} {t n : Nat} {U : Nat → Prop} {C : Nat → Nat → Nat → Prop} {mc : Int32} {ks : Option Nat} (d k : Nat) (MP : Mp h t U C n mc ks) (hd1 : 3 ≤ d) (hk1 : 2 ≤ k) : Call E yJ8_keyIterator d k [.ref t] h (rR (fun it h' => it = h.sz ∧ MpIt h' t U C n mc ks it 0 ∧ Sm (fun _ => False) h h' ∧ h'.sz = h.sz + 1)) := by
  obtain ⟨S, κ, ke, va, L, R, P, rt, D, cl, xs, T, X, M, nd, hxs, hlen, hSU, hUt, hUz, hC⟩ := id MP
  have hxs9 : ∀ a, S a → a ∈ xs := fun a => (hxs a).mp
  refine Call.of [.ref t] q1036 (by decide) pn_J8 (Nat.le_of_ble_eq_true rfl) rfl ?_
  refine z_new (k' := k - 2) 0 nJ8_269 dJ8_keyIterator_0 (by omega) (fun h1 e1 => ?_)
  have ht9 : ¬ t = h.sz := fun e => Nat.lt_irrefl _ (e ▸ hUz t hUt)
  have A0 : Sm (fun _ => False) h h1 := by rw [e1]; exact Sm.mk'
  have X1 := X.keep A0 (fun a ha => ⟨hUz a (hSU a ha), id⟩)
  have M1 := M.keep A0 ⟨hUz t hUt, id⟩
  refine z_dup 3 dJ8_keyIterator_3 (by first | rfl | exact va_rf_cat _) ?_
  first | refine z_aload0 4 dJ8_keyIterator_4 ?_ | refine z_aload0N 4 dJ8_keyIterator_4 ?_ | refine z_aload0o 4 dJ8_keyIterator_4 ?_
  first | refine z_aload0 5 dJ8_keyIterator_5 ?_ | refine z_aload0N 5 dJ8_keyIterator_5 ?_ | refine z_aload0o 5 dJ8_keyIterator_5 ?_
  refine z_V0 (k' := k - 2) 6 vJ8_54 dJ8_keyIterator_6 M1.1 (c_firstEntry (d - 1) 0 hxs9 T X1 M1) (by omega) (by omega) (Nat.le_of_ble_eq_true rfl) (aft_A fun r9 h2 hq => ?_)
  obtain ⟨e2, hq1, hq2⟩ := hq
  subst e2
  refine z_I2 (k' := k - 2) 9 iJ8_271 dJ8_keyIterator_9 (c_kitNew (e := r9) (mc := mc) (d - 1) 0 (by omega) (by rw [e1]; simp [kd_mk]) M1.1 M1.2.2.2.2.1 ht9) (by omega) (by omega) (Nat.le_of_ble_eq_true rfl) (aft_V fun h3 hq => ?_)
  subst hq
  have A1 : Sm (fun _ => False) h ((((h2.put h.sz 3 (.ref t)).put h.sz 2 (.int mc)).put h.sz 1 .null).put h.sz 0 (va_rf r9)) := by rw [e1]; exact ((((Sm.mkS (Sm.refl _ _)).putN (Nat.le_refl _)).putN (Nat.le_refl _)).putN (Nat.le_refl _)).putN (Nat.le_refl _)
  refine z_areturn 12 rfl (Or.inl ⟨_, rfl⟩) (by first | exact Or.inl rfl | exact Or.inr ⟨_, rfl⟩ | exact va_rf_or _) dJ8_keyIterator_12 ?_
  refine ⟨_, rfl, rfl, ⟨S, κ, ke, va, L, R, P, rt, D, cl, xs, r9, ⟨T, X.keep A1 (fun a ha => ⟨hUz a (hSU a ha), id⟩), M.keep A1 ⟨hUz t hUt, id⟩, nd, hxs, hlen, hSU, hUt, fun a ha => Nat.lt_of_lt_of_le (hUz a ha) A1.1, hC⟩, ?_, ?_, ?_, ?_, ?_, ?_, ?_, ?_⟩, A1, ?_⟩
  · rw [e1]; simp [kd_put, kd_mk]
  · simp [mm_put]
  · simp [mm_put]
  · rw [e1]; simp only [sz_put, sz_mk]; omega
  · exact fun e => Nat.lt_irrefl _ (hUz _ e)
  · simp [mm_put]
  · exact fun a ha => ⟨(hq1 a ha).1, Nat.zero_le _, fun c hc _ => Nat.le_of_not_lt ((hq1 a ha).2 c hc)⟩
  · exact fun e c hc => absurd hc (hq2 e c)
  · rw [e1]; simp only [sz_put, sz_mk]

set_option maxHeartbeats 4000000 in
theorem c_ksIter {E : Ev} {h : HP} {s t n : Nat} {U : Nat → Prop} {C : Nat → Nat → Nat → Prop} {mc : Int32} {ks : Option Nat} (d k : Nat) (MP : Mp h t U C n mc ks) (hd1 : 4 ≤ d) (hk1 : 2 ≤ k) (K : KsA h s t) : Call E yJ22_iterator d k [.ref s] h (rR (fun it h' => it = h.sz ∧ MpIt h' t U C n mc ks it 0 ∧ Sm (fun _ => False) h h' ∧ h'.sz = h.sz + 1)) := by
  refine Call.of [.ref s] q1031 (by decide) pn_J22 (Nat.le_of_ble_eq_true rfl) rfl ?_
  first | refine z_aload0 0 dJ22_iterator_0 ?_ | refine z_aload0N 0 dJ22_iterator_0 ?_ | refine z_aload0o 0 dJ22_iterator_0 ?_
  refine z_get 1 gJ22_7 dJ22_iterator_1 K.2.1 K.2.2 ?_
  refine z_instS 4 ok_7.1 q1032 dJ22_iterator_4 MP.lt.1 ?_
  refine z_ifeq 7 21 dJ22_iterator_7 (by decide) (fun c7 => by first | exact absurd c7 (nI01) | exact absurd (nI01) c7) (fun c7 => ?_)
  first | refine z_aload0 10 dJ22_iterator_10 ?_ | refine z_aload0N 10 dJ22_iterator_10 ?_ | refine z_aload0o 10 dJ22_iterator_10 ?_
  refine z_get 11 gJ22_7 dJ22_iterator_11 K.2.1 K.2.2 ?_
  refine z_castY 14 (ci := 7) ok_7.1 q1032 (Or.inl rfl) dJ22_iterator_14 MP.lt.1 ?_
  refine z_V0 (k' := k - 2) 17 vJ22_15 dJ22_iterator_17 MP.lt.1 (c_keyIter (d - 1) 2 MP (by omega) (by omega)) (by omega) (by omega) (Nat.le_of_ble_eq_true rfl) (aft_R fun it h2 hq => ?_)
  refine z_areturn 20 rfl (Or.inl ⟨_, rfl⟩) (by first | exact Or.inl rfl | exact Or.inr ⟨_, rfl⟩ | exact va_rf_or _) dJ22_iterator_20 ?_
  exact ⟨_, rfl, hq⟩

set_option maxHeartbeats 4000000 in
theorem c_hasNext {E : Ev} {h : HP} {t n it b : Nat} {U : Nat → Prop} {C : Nat → Nat → Nat → Prop} {mc : Int32} {ks : Option Nat} (d k : Nat) (I : MpIt h t U C n mc ks it b) : Call E yJ23_hasNext d k [.ref it] h (rI (fun x h' => h' = h ∧ ((x = nI 1 ∧ ∃ q y v, C q y v ∧ b ≤ q) ∨ (x = nI 0 ∧ ∀ q y v, C q y v → q < b)))) := by
  obtain ⟨S, κ, ke, va, L, R, P, rt, D, cl, xs, e, ⟨T, X, M, nd, hxs, hlen, hSU, hUt, hUz, hC⟩, i1, i2, i3, i4, i5, i6, i7, i8⟩ := id I
  have hxs9 : ∀ a, S a → a ∈ xs := fun a => (hxs a).mp
  refine Call.of [.ref it] q1083 (by decide) pn_J23 (Nat.le_of_ble_eq_true rfl) rfl ?_
  first | refine z_aload0 0 dJ23_hasNext_0 ?_ | refine z_aload0N 0 dJ23_hasNext_0 ?_ | refine z_aload0o 0 dJ23_hasNext_0 ?_
  refine z_get 1 gJ23_26 dJ23_hasNext_1 i1 i6 ?_
  rcases e with _ | e
  · skip
    refine z_ifnullN 4 11 dJ23_hasNext_4 (by decide) ?_
    refine z_iconst 11 (nI 0) dJ23_hasNext_11 kI0 ?_
    refine z_zreturn 12 rfl (by first | exact nb1 | exact nb0) dJ23_hasNext_12 ?_
    first
      | exact ⟨_, rfl, rfl, Or.inr ⟨rfl, fun q y v c9 => (by obtain ⟨a, ha, e1, -⟩ := (hC _ _ _).mp c9; rw [← e1]; exact i8 rfl a ha)⟩⟩
      | exact ⟨_, rfl, rfl, Or.inl ⟨rfl, κ e, ke e, va e, (hC _ _ _).mpr ⟨e, he, rfl, rfl, rfl⟩, heb⟩⟩
  · obtain ⟨he, heb, hem⟩ := i7 e rfl
    refine z_ifnull 4 dJ23_hasNext_4 ?_
    refine z_iconst 7 (nI 1) dJ23_hasNext_7 kI1 ?_
    refine z_goto 8 12 dJ23_hasNext_8 (by decide) ?_
    refine z_zreturn 12 rfl (by first | exact nb1 | exact nb0) dJ23_hasNext_12 ?_
    first
      | exact ⟨_, rfl, rfl, Or.inr ⟨rfl, fun q y v c9 => (by obtain ⟨a, ha, e1, -⟩ := (hC _ _ _).mp c9; rw [← e1]; exact i8 rfl a ha)⟩⟩
      | exact ⟨_, rfl, rfl, Or.inl ⟨rfl, κ e, ke e, va e, (hC _ _ _).mpr ⟨e, he, rfl, rfl, rfl⟩, heb⟩⟩

set_option maxHeartbeats 4000000 in
theorem c_nextEntry {E : Ev} {h : HP} {t n it b : Nat} {U : Nat → Prop} {C : Nat → Nat → Nat → Prop} {mc : Int32} {ks : Option Nat} (d k : Nat) (I : MpIt h t U C n mc ks it b) (hd1 : 1 ≤ d) (hne : ∃ q y v, C q y v ∧ b ≤ q) : Call E yJ23_nextEntry d k [.ref it] h (rR (fun a h' => ∃ x, h'.kd a = 8 ∧ h'.mm a 0 = .ref x ∧ ∃ q v, C q x v ∧ b ≤ q ∧ (∀ q9 x9 v9, C q9 x9 v9 → b ≤ q9 → q ≤ q9) ∧ MpIt h' t U C n mc ks it (q + 1) ∧ Sm (fun a => a = it) h h' ∧ h'.sz = h.sz)) := by
  obtain ⟨S, κ, ke, va, L, R, P, rt, D, cl, xs, e, ⟨T, X, M, nd, hxs, hlen, hSU, hUt, hUz, hC⟩, i1, i2, i3, i4, i5, i6, i7, i8⟩ := id I
  have hxs9 : ∀ a, S a → a ∈ xs := fun a => (hxs a).mp
  rcases e with _ | e
  · obtain ⟨q, y, v, c9, hb⟩ := hne
    obtain ⟨a, ha, e1, -⟩ := (hC _ _ _).mp c9
    have := i8 rfl a ha
    omega
  obtain ⟨he, heb, hem⟩ := i7 e rfl
  refine Call.of [.ref it, dum] q1105 (by decide) pn_J23 (Nat.le_of_ble_eq_true rfl) rfl ?_
  first | refine z_aload0 0 dJ23_nextEntry_0 ?_ | refine z_aload0N 0 dJ23_nextEntry_0 ?_ | refine z_aload0o 0 dJ23_nextEntry_0 ?_
  refine z_get 1 gJ23_26 dJ23_nextEntry_1 i1 i6 ?_
  refine z_astore1 4 dJ23_nextEntry_4 rfl ?_
  refine z_aload1 5 dJ23_nextEntry_5 ?_
  refine z_ifnonnull 6 17 dJ23_nextEntry_6 (by decide) ?_
  first | refine z_aload0 17 dJ23_nextEntry_17 ?_ | refine z_aload0N 17 dJ23_nextEntry_17 ?_ | refine z_aload0o 17 dJ23_nextEntry_17 ?_
  refine z_get 18 gJ23_1 dJ23_nextEntry_18 i1 i3 ?_
  refine z_get 21 gJ23_13 dJ23_nextEntry_21 M.1 M.2.2.2.2.1 ?_
  first | refine z_aload0 24 dJ23_nextEntry_24 ?_ | refine z_aload0N 24 dJ23_nextEntry_24 ?_ | refine z_aload0o 24 dJ23_nextEntry_24 ?_
  refine z_get 25 gJ23_19 dJ23_nextEntry_25 i1 i2 ?_
  refine z_iceq 28 39 dJ23_nextEntry_28 (by decide) (fun c28 => ?_) (fun c28 => by first | exact absurd c28 (rfl) | exact absurd (rfl) c28)
  first | refine z_aload0 39 dJ23_nextEntry_39 ?_ | refine z_aload0N 39 dJ23_nextEntry_39 ?_ | refine z_aload0o 39 dJ23_nextEntry_39 ?_
  first | refine z_aload1 40 dJ23_nextEntry_40 ?_ | refine z_aload1N 40 dJ23_nextEntry_40 ?_ | refine z_aload1o 40 dJ23_nextEntry_40 ?_
  refine z_S1 (k' := k) 41 sJ23_35 dJ23_nextEntry_41 (c_successor (d - 1) 0 hxs9 T X he) (by omega) (by omega) (Nat.le_of_ble_eq_true rfl) (aft_A fun r9 h2 hq => ?_)
  obtain ⟨rfl, hq1, hq2⟩ := hq
  refine z_put 44 pJ23_26 (fun h => by cases h) dJ23_nextEntry_44 i1 (nrO _ _) (ftO _ _) ?_
  first | refine z_aload0 47 dJ23_nextEntry_47 ?_ | refine z_aload0N 47 dJ23_nextEntry_47 ?_ | refine z_aload0o 47 dJ23_nextEntry_47 ?_
  first | refine z_aload1 48 dJ23_nextEntry_48 ?_ | refine z_aload1N 48 dJ23_nextEntry_48 ?_ | refine z_aload1o 48 dJ23_nextEntry_48 ?_
  refine z_put 49 pJ23_22 (fun h => by cases h) dJ23_nextEntry_49 i1 (rfl) (rfl) ?_
  refine z_aload1 52 dJ23_nextEntry_52 ?_
  refine z_areturn 53 rfl (Or.inl ⟨_, rfl⟩) (by first | exact Or.inl rfl | exact Or.inr ⟨_, rfl⟩ | exact va_rf_or _) dJ23_nextEntry_53 ?_
  have hei : ¬ e = it := fun q => i5 (q ▸ hSU e he)
  have A1 := ((Sm.refl (fun a => a = it) h2).putS (k := 0) (v := va_rf r9) rfl).putS (k := 1) (v := .ref e) rfl
  have hUn : ∀ a, U a → ¬ a = it := fun a ha q => i5 (q ▸ ha)
  refine ⟨_, rfl, ke e, (X e he).1, ?_, κ e, va e, (hC _ _ _).mpr ⟨e, he, rfl, rfl, rfl⟩, heb, fun q9 x9 v9 c9 hb => ?_, ⟨S, κ, ke, va, L, R, P, rt, D, cl, xs, r9, ⟨T, X.keep A1 (fun a ha => ⟨hUz a (hSU a ha), hUn a (hSU a ha)⟩), M.keep A1 ⟨hUz t hUt, hUn t hUt⟩, nd, hxs, hlen, hSU, hUt, hUz, hC⟩, i1, ?_, ?_, i4, i5, ?_, fun a ha => ?_, fun ha c hc => ?_⟩, A1, rfl⟩
  · simp only [mm_put, hei, false_and, if_false]; exact (X e he).2.1
  · obtain ⟨a, ha, e1, -⟩ := (hC _ _ _).mp c9
    rw [← e1] at hb ⊢
    exact hem a ha hb
  · simp [mm_put, i2]
  · simp [mm_put, i3]
  · simp [mm_put]
  · obtain ⟨g1, g2, g3⟩ := hq1 a ha
    exact ⟨g1, g2, fun c hc hlt => Nat.le_of_not_lt (g3 c hc hlt)⟩
  · have := hq2 ha c hc
    simp only [KO] at this
    omega

set_option maxHeartbeats 4000000 in
theorem c_next {E : Ev} {h : HP} {t n it b : Nat} {U : Nat → Prop} {C : Nat → Nat → Nat → Prop} {mc : Int32} {ks : Option Nat} (d k : Nat) (I : MpIt h t U C n mc ks it b) (hd1 : 2 ≤ d) (hne : ∃ q y v, C q y v ∧ b ≤ q) : Call E yJ25_next d k [.ref it] h (rR (fun x h' => ∃ q v, C q x v ∧ b ≤ q ∧ (∀ q9 x9 v9, C q9 x9 v9 → b ≤ q9 → q ≤ q9) ∧ MpIt h' t U C n mc ks it (q + 1) ∧ Sm (fun a => a = it) h h' ∧ h'.sz = h.sz)) := by
  have i1 : h.kd it = 10 := by obtain ⟨_, _, _, _, _, _, _, _, _, _, _, _, _, i1, _⟩ := I; exact i1
  refine Call.of [.ref it] q1113 (by decide) pn_J25 (Nat.le_of_ble_eq_true rfl) rfl ?_
  first | refine z_aload0 0 dJ25_next_0 ?_ | refine z_aload0N 0 dJ25_next_0 ?_ | refine z_aload0o 0 dJ25_next_0 ?_
  refine z_U0 (k' := k) 1 wJ25_7_10 dJ25_next_1 i1 (c_nextEntry (d - 1) 0 I (by omega) hne) (by omega) (by omega) (Nat.le_of_ble_eq_true rfl) (aft_R fun a h2 hq => ?_)
  obtain ⟨x, hk9, hx9, hq⟩ := hq
  refine z_get 4 gJ25_13 dJ25_next_4 hk9 hx9 ?_
  refine z_areturn 7 rfl (Or.inl ⟨_, rfl⟩) (by first | exact Or.inl rfl | exact Or.inr ⟨_, rfl⟩ | exact va_rf_or _) dJ25_next_7 ?_
  exact ⟨_, rfl, hq⟩

