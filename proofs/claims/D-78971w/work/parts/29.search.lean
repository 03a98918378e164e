/-! TREEMAP: searching (nothing is written) -/
theorem TW.cvx {S lt L R P rt D} (h : TW S lt L R P rt D) {xs : List Nat} (hx : ∀ a, S a → a ∈ xs) : ∀ (m : Nat) (a : Nat), xs.length - cnD D xs a < m → S a → ∀ c, S c → D a c ∨ (∀ b, D a b → lt b c) ∨ ∀ b, D a b → lt c b := by
  intro m
  induction m with
  | zero => exact fun _ q => absurd q (Nat.not_lt_zero _)
  | succ m ih =>
    intro b hm hb c hc
    cases hP : P b with
    | none => exact Or.inl ((h.2.2.2.2.2.2.2.1 b (h.2.2.2.2.2.2.2.2.1 b hb hP)).2.2 c hc)
    | some a =>
      obtain ⟨ha, hab⟩ := h.2.2.2.2.2.2.2.2.2.1 b hb a hP
      have h4 := h.2.2.2.1 a ha
      have h6 := h.2.2.2.2.2.1 a ha
      have hDb : D a b ∧ a ≠ b := by
        have := h.2.2.2.2.2.2.2.2.2.2.1 a ha
        have := h.2.1 b hb
        grind
      have i := ih a (by
        have := h.cnt hx hDb.1 hDb.2
        have := cnD_le D xs a
        omega) ha c hc
      have h11 := h.2.2.2.2.2.2.2.2.2.2.1
      have h12 := h.2.2.2.2.2.2.2.2.2.2.2.1
      have h13 := h.2.2.2.2.2.2.2.2.2.2.2.2.1
      have h14 := h.2.2.2.2.2.2.2.2.2.2.2.2.2.1
      have h1 := h.1
      grind
theorem TW.out1 {S lt L R P rt D} (h : TW S lt L R P rt D) {xs : List Nat} (hx : ∀ a, S a → a ∈ xs) {a c : Nat} (ha : S a) (hc : S c) : D a c ∨ (∀ b, D a b → lt b c) ∨ ∀ b, D a b → lt c b := h.cvx hx _ a (Nat.lt_succ_self _) ha c hc

abbrev cmpX : MethodName := ⟨"java/lang/Comparable", "compareTo", "(Ljava/lang/Object;)I"⟩
section CmpZ
variable {E : Ev} {mt : Mth} {d k : Nat} {Q : Res → HP → Prop} {h : HP} {ls st : List Value}
theorem z_castF {own : String} {i1 idx ci a n : Nat} {x y : MethodName} (pc : Nat) (F : SiteF own i1 x y ci n) (hlk : Cond.classLink mt.1.cls idx x.cls ∈ lw_all) (hd : decode mt.2.1 pc = .ok (.checkcast idx, 3)) (hk : h.kd a = ci) (kk : Z E mt d Q k h (pc + 3) ls (.ref a :: st)) : Z E mt d Q k h pc ls (.ref a :: st) := by
  obtain ⟨C, T, N, hcl, q1, q3, q2, q4, f1, f2, f3, f4, f5, hmh⟩ := F
  exact z_castY pc hcl hlk (Or.inr f5) hd hk kk
/-- comparing keys: x with q -/
def CmpOK (E : Ev) (h : HP) (y : MethodName) (x q kx kq : Nat) : Prop := ∀ d k : Nat, 2 ≤ d → Call E y d k [.ref x, .ref q] h (rI (fun v h' => h' = h ∧ Cm v kx kq))
theorem z_cmp {idx cnt ci x q kx kq : Nat} {y z : MethodName} (pc : Nat) (F : SiteF mt.1.cls idx z y ci 1) (hd : decode mt.2.1 pc = .ok (.invokeinterface idx cnt, 5)) (hk : h.kd x = ci) (CC : CmpOK E h y x q kx kq) (hd3 : 3 ≤ d) (hst : (st.map fun v => v.category).sum ≤ 8) (kk : ∀ v : Int32, Cm v kx kq → Z E mt d Q k h (pc + 5) ls (.int v :: st)) : Z E mt d Q k h pc ls (.ref q :: .ref x :: st) :=
  z_F1 (k' := k) pc F hd hk (CC (d - 1) 0 (by omega)) (by omega) (by omega) hst (aft_I fun v h' hq => by obtain ⟨rfl, hq⟩ := hq; exact kk v hq)
end CmpZ
set_option maxHeartbeats 4000000 in
theorem c_req {E : Ev} {h : HP} {x : Nat} (d k : Nat) : Call E yJ20_requireNonNull d k [.ref x] h (rR (fun a h' => h' = h ∧ a = x)) := by
  refine Call.of [.ref x] q1136 (by decide) pn_J20 (Nat.le_of_ble_eq_true rfl) rfl ?_
  first | refine z_aload0 0 dJ20_requireNonNull_0 ?_ | refine z_aload0N 0 dJ20_requireNonNull_0 ?_ | refine z_aload0o 0 dJ20_requireNonNull_0 ?_
  refine z_ifnonnull 1 12 dJ20_requireNonNull_1 (by decide) ?_
  first | refine z_aload0 12 dJ20_requireNonNull_12 ?_ | refine z_aload0N 12 dJ20_requireNonNull_12 ?_ | refine z_aload0o 12 dJ20_requireNonNull_12 ?_
  refine z_areturn 13 rfl (Or.inl ⟨_, rfl⟩) (by first | exact Or.inl rfl | exact Or.inr ⟨_, rfl⟩ | exact va_rf_or _) dJ20_requireNonNull_13 ?_
  exact ⟨_, rfl, rfl, rfl⟩

set_option maxHeartbeats 4000000 in
theorem c_compare {E : Ev} {h : HP} {t ci x q kx kq : Nat} {y : MethodName} (d k : Nat) (hd1 : 3 ≤ d) (F : SiteF RJ8 107 cmpX y ci 1) (ht : h.kd t = 7) (h2 : h.mm t 2 = .null) (hx : h.kd x = ci) (CC : CmpOK E h y x q kx kq) : Call E yJ8_compare d k [.ref t, .ref x, .ref q] h (rI (fun v h' => h' = h ∧ Cm v kx kq)) := by
  refine Call.of [.ref t, .ref x, .ref q] q1372 (by decide) pn_J8 (Nat.le_of_ble_eq_true rfl) rfl ?_
  first | refine z_aload0 0 dJ8_compare_0 ?_ | refine z_aload0N 0 dJ8_compare_0 ?_ | refine z_aload0o 0 dJ8_compare_0 ?_
  refine z_get 1 gJ8_16 dJ8_compare_1 ht h2 ?_
  refine z_ifnonnullN 4 dJ8_compare_4 ?_
  first | refine z_aload1 7 dJ8_compare_7 ?_ | refine z_aload1N 7 dJ8_compare_7 ?_ | refine z_aload1o 7 dJ8_compare_7 ?_
  refine z_castF 8 F q1137 dJ8_compare_8 hx ?_
  first | refine z_aload2 11 dJ8_compare_11 ?_ | refine z_aload2N 11 dJ8_compare_11 ?_ | refine z_aload2o 11 dJ8_compare_11 ?_
  refine z_cmp 12 F dJ8_compare_12 hx CC hd1 (Nat.le_of_ble_eq_true rfl) (fun v hq => ?_)
  refine z_goto 17 31 dJ8_compare_17 (by decide) ?_
  refine z_ireturn 31 rfl dJ8_compare_31 ?_
  exact ⟨_, rfl, rfl, hq⟩

set_option maxHeartbeats 4000000 in
theorem c_getEntry {E : Ev} {h : HP} {S : Nat → Prop} {κ : Nat → Nat} {L R P : Nat → Option Nat} {rt : Option Nat} {D : Nat → Nat → Prop} {ke va : Nat → Nat} {cl : Nat → Int32} {n mc : Int32} {ks : Option Nat} {t ci x kx : Nat} {y : MethodName} {xs : List Nat} (d k : Nat) (hxs9 : ∀ a, S a → a ∈ xs) (T : TW S (fun a b => κ a < κ b) L R P rt D) (X : EnS h S L R P ke va cl) (M : MapO h t rt n mc ks) (hd1 : 4 ≤ d) (F : SiteF RJ8 107 cmpX y ci 1) (hx : h.kd x = ci) (CC : ∀ a, S a → CmpOK E h y x (ke a) kx (κ a)) : Call E yJ8_getEntry d k [.ref t, .ref x] h (rA (fun r h' => h' = h ∧ (∀ a, r = some a → S a ∧ κ a = kx) ∧ (r = none → ∀ c, S c → ¬ κ c = kx))) := by
  have NN : ∀ (v4 : Value), (∀ c, S c → ¬ κ c = kx) → Z E mJ8_getEntry d (rA (fun r h' => h' = h ∧ (∀ a, r = some a → S a ∧ κ a = kx) ∧ (r = none → ∀ c, S c → ¬ κ c = kx))) k h 28 [.ref t, .ref x, .ref x, .null, v4] [] := by
    intro v4 hn
    first | refine z_aload3 28 dJ8_getEntry_28 ?_ | refine z_aload3N 28 dJ8_getEntry_28 ?_ | refine z_aload3o 28 dJ8_getEntry_28 ?_
    refine z_ifnullN 29 75 dJ8_getEntry_29 (by decide) ?_
    refine z_null 75 dJ8_getEntry_75 ?_
    refine z_areturn 76 rfl (Or.inl ⟨_, rfl⟩) (by first | exact Or.inl rfl | exact Or.inr ⟨_, rfl⟩ | exact va_rf_or _) dJ8_getEntry_76 ?_
    exact ⟨none, rfl, rfl, fun _ e => (nomatch e), fun _ => hn⟩
  have LOOP : ∀ (m a : Nat) (v4 : Value), S a → cnD D xs a < m → (∀ c, S c → κ c = kx → D a c) → Z E mJ8_getEntry d (rA (fun r h' => h' = h ∧ (∀ a, r = some a → S a ∧ κ a = kx) ∧ (r = none → ∀ c, S c → ¬ κ c = kx))) k h 28 [.ref t, .ref x, .ref x, .ref a, v4] [] := by
    intro m
    induction m with
    | zero => exact fun _ _ _ q => absurd q (Nat.not_lt_zero _)
    | succ m ih =>
      intro a v4 ha hm hi
      first | refine z_aload3 28 dJ8_getEntry_28 ?_ | refine z_aload3N 28 dJ8_getEntry_28 ?_ | refine z_aload3o 28 dJ8_getEntry_28 ?_
      refine z_ifnull 29 dJ8_getEntry_29 ?_
      first | refine z_aload2 32 dJ8_getEntry_32 ?_ | refine z_aload2N 32 dJ8_getEntry_32 ?_ | refine z_aload2o 32 dJ8_getEntry_32 ?_
      first | refine z_aload3 33 dJ8_getEntry_33 ?_ | refine z_aload3N 33 dJ8_getEntry_33 ?_ | refine z_aload3o 33 dJ8_getEntry_33 ?_
      refine z_get 34 gJ8_105 dJ8_getEntry_34 (X a ha).1 (X a ha).2.1 ?_
      refine z_cmp 37 F dJ8_getEntry_37 hx (CC a ha) (by omega) (Nat.le_of_ble_eq_true rfl) (fun v hq => ?_)
      refine z_istore4 42 dJ8_getEntry_42 rfl ?_
      refine z_iload4 44 dJ8_getEntry_44 ?_
      refine z_ifge 46 57 dJ8_getEntry_46 (by decide) (fun c46 => ?_) (fun d46 => ?_)
      · have hge : κ a ≤ kx := hq.ge.mp c46
        refine z_iload4 57 dJ8_getEntry_57 ?_
        refine z_ifle 59 70 dJ8_getEntry_59 (by decide) (fun c59 => ?_) (fun d59 => ?_)
        · have heq : κ a = kx := by have := hq.le.mp c59; omega
          first | refine z_aload3 70 dJ8_getEntry_70 ?_ | refine z_aload3N 70 dJ8_getEntry_70 ?_ | refine z_aload3o 70 dJ8_getEntry_70 ?_
          refine z_areturn 71 rfl (Or.inl ⟨_, rfl⟩) (by first | exact Or.inl rfl | exact Or.inr ⟨_, rfl⟩ | exact va_rf_or _) dJ8_getEntry_71 ?_
          exact ⟨some a, rfl, rfl, fun _ e => by cases e; exact ⟨ha, heq⟩, fun e => nomatch e⟩
        · have hgt : κ a < kx := by have := hq.le; exact Nat.lt_of_not_le (fun q => d59 (this.mpr q))
          first | refine z_aload3 62 dJ8_getEntry_62 ?_ | refine z_aload3N 62 dJ8_getEntry_62 ?_ | refine z_aload3o 62 dJ8_getEntry_62 ?_
          refine z_get 63 gJ8_114 dJ8_getEntry_63 (X a ha).1 (X a ha).2.2.2.2.1 ?_
          refine z_astore3o 66 dJ8_getEntry_66 rfl ?_
          refine z_goto 67 72 dJ8_getEntry_67 (by decide) ?_
          refine z_goto 72 28 dJ8_getEntry_72 (by decide) ?_
          rcases hL : R a with _ | b
          · refine NN _ (fun c hc e => ?_)
            have := T.2.2.2.2.1 a ha hL c (hi c hc e)
            omega
          · have kd9 := T.kidR ha hL
            refine ih b _ kd9.1 (by have := T.cnt hxs9 kd9.2.2.1 (fun e => by rw [e] at kd9; exact absurd kd9.2.2.2 (Nat.lt_irrefl _)); omega) (fun c hc e => ?_)
            exact ((T.2.2.2.2.2.1 a ha b hL).2.2 c).mpr ⟨hi c hc e, by omega⟩
      · have hlt : kx < κ a := Nat.lt_of_not_le (fun q => d46 (hq.ge.mpr q))
        first | refine z_aload3 49 dJ8_getEntry_49 ?_ | refine z_aload3N 49 dJ8_getEntry_49 ?_ | refine z_aload3o 49 dJ8_getEntry_49 ?_
        refine z_get 50 gJ8_111 dJ8_getEntry_50 (X a ha).1 (X a ha).2.2.2.1 ?_
        refine z_astore3o 53 dJ8_getEntry_53 rfl ?_
        refine z_goto 54 72 dJ8_getEntry_54 (by decide) ?_
        refine z_goto 72 28 dJ8_getEntry_72 (by decide) ?_
        rcases hL : L a with _ | b
        · refine NN _ (fun c hc e => ?_)
          have := T.2.2.1 a ha hL c (hi c hc e)
          omega
        · have kd9 := T.kidL ha hL
          refine ih b _ kd9.1 (by have := T.cnt hxs9 kd9.2.2.1 (fun e => by rw [e] at kd9; exact absurd kd9.2.2.2 (Nat.lt_irrefl _)); omega) (fun c hc e => ?_)
          exact ((T.2.2.2.1 a ha b hL).2.2 c).mpr ⟨hi c hc e, by omega⟩
  refine Call.of [.ref t, .ref x, dum, dum, dum] q1125 (by decide) pn_J8 (Nat.le_of_ble_eq_true rfl) rfl ?_
  first | refine z_aload0 0 dJ8_getEntry_0 ?_ | refine z_aload0N 0 dJ8_getEntry_0 ?_ | refine z_aload0o 0 dJ8_getEntry_0 ?_
  refine z_get 1 gJ8_16 dJ8_getEntry_1 M.1 M.2.1 ?_
  refine z_ifnullN 4 13 dJ8_getEntry_4 (by decide) ?_
  first | refine z_aload1 13 dJ8_getEntry_13 ?_ | refine z_aload1N 13 dJ8_getEntry_13 ?_ | refine z_aload1o 13 dJ8_getEntry_13 ?_
  refine z_S1 (k' := k) 14 sJ8_95 dJ8_getEntry_14 (c_req 0 0) (by omega) (by omega) (Nat.le_of_ble_eq_true rfl) (aft_R fun a9 h' hq => ?_)
  obtain ⟨rfl, rfl⟩ := hq
  refine z_pop 17 dJ8_getEntry_17 (by first | rfl | exact va_rf_cat _) ?_
  first | refine z_aload1 18 dJ8_getEntry_18 ?_ | refine z_aload1N 18 dJ8_getEntry_18 ?_ | refine z_aload1o 18 dJ8_getEntry_18 ?_
  refine z_castF 19 F q1137 dJ8_getEntry_19 hx ?_
  first | refine z_astore2 22 dJ8_getEntry_22 rfl ?_ | refine z_astore2N 22 dJ8_getEntry_22 rfl ?_ | refine z_astore2o 22 dJ8_getEntry_22 rfl ?_
  first | refine z_aload0 23 dJ8_getEntry_23 ?_ | refine z_aload0N 23 dJ8_getEntry_23 ?_ | refine z_aload0o 23 dJ8_getEntry_23 ?_
  refine z_get 24 gJ8_101 dJ8_getEntry_24 M.1 M.2.2.1 ?_
  refine z_astore3o 27 dJ8_getEntry_27 rfl ?_
  rcases hr : rt with _ | r
  · exact NN _ (fun c hc => absurd hc (T.2.2.2.2.2.2.1 hr c))
  · have := T.2.2.2.2.2.2.2.1 r hr
    exact LOOP _ r _ this.1 (Nat.lt_succ_self _) (fun c hc _ => this.2.2 c hc)
set_option maxHeartbeats 4000000 in
theorem c_firstEntry {E : Ev} {h : HP} {S : Nat → Prop} {lt : Nat → Nat → Prop} {L R P : Nat → Option Nat} {rt : Option Nat} {D : Nat → Nat → Prop} {ke va : Nat → Nat} {cl : Nat → Int32} {n mc : Int32} {ks : Option Nat} {t : Nat} {xs : List Nat} (d k : Nat) (hxs9 : ∀ a, S a → a ∈ xs) (T : TW S lt L R P rt D) (X : EnS h S L R P ke va cl) (M : MapO h t rt n mc ks) : Call E yJ8_getFirstEntry d k [.ref t] h (rA (fun r h' => h' = h ∧ (∀ a, r = some a → S a ∧ ∀ c, S c → ¬ lt c a) ∧ (r = none → ∀ c, ¬ S c))) := by
  have LOOP : ∀ (m a : Nat), S a → cnD D xs a < m → (∀ c, S c → D a c ∨ lt a c) → Z E mJ8_getFirstEntry d (rA (fun r h' => h' = h ∧ (∀ a, r = some a → S a ∧ ∀ c, S c → ¬ lt c a) ∧ (r = none → ∀ c, ¬ S c))) k h 9 [.ref t, .ref a] [] := by
    intro m
    induction m with
    | zero => exact fun _ _ q => absurd q (Nat.not_lt_zero _)
    | succ m ih =>
      intro a ha hm hi
      first | refine z_aload1 9 dJ8_getFirstEntry_9 ?_ | refine z_aload1N 9 dJ8_getFirstEntry_9 ?_ | refine z_aload1o 9 dJ8_getFirstEntry_9 ?_
      refine z_get 10 gJ8_111 dJ8_getFirstEntry_10 (X a ha).1 (X a ha).2.2.2.1 ?_
      rcases hL : L a with _ | b
      · skip
        refine z_ifnullN 13 24 dJ8_getFirstEntry_13 (by decide) ?_
        first | refine z_aload1 24 dJ8_getFirstEntry_24 ?_ | refine z_aload1N 24 dJ8_getFirstEntry_24 ?_ | refine z_aload1o 24 dJ8_getFirstEntry_24 ?_
        refine z_areturn 25 rfl (Or.inl ⟨_, rfl⟩) (by first | exact Or.inl rfl | exact Or.inr ⟨_, rfl⟩ | exact va_rf_or _) dJ8_getFirstEntry_25 ?_
        refine ⟨some a, rfl, rfl, ?_, fun e => nomatch e⟩
        intro _ e
        cases e
        refine ⟨ha, fun c hc => ?_⟩
        have := hi c hc
        have g1 := T.1; have g2 := T.2.1; have g3 := T.2.2.1 a ha; have g11 := T.2.2.2.2.2.2.2.2.2.2.1; have g12 := T.2.2.2.2.2.2.2.2.2.2.2.1; have g13 := T.2.2.2.2.2.2.2.2.2.2.2.2.1
        grind
      · skip
        refine z_ifnull 13 dJ8_getFirstEntry_13 ?_
        first | refine z_aload1 16 dJ8_getFirstEntry_16 ?_ | refine z_aload1N 16 dJ8_getFirstEntry_16 ?_ | refine z_aload1o 16 dJ8_getFirstEntry_16 ?_
        refine z_get 17 gJ8_111 dJ8_getFirstEntry_17 (X a ha).1 ((X a ha).2.2.2.1.trans (congrArg va_rf (hL)) : HP.mm _ a 2 = .ref b) ?_
        first | refine z_astore1 20 dJ8_getFirstEntry_20 rfl ?_ | refine z_astore1N 20 dJ8_getFirstEntry_20 rfl ?_ | refine z_astore1o 20 dJ8_getFirstEntry_20 rfl ?_
        refine z_goto 21 9 dJ8_getFirstEntry_21 (by decide) ?_
        have kd9 := T.kidL ha hL
        have kq := T.2.2.2.1 a ha b hL
        refine ih b kd9.1 (by have := T.cnt hxs9 kd9.2.2.1 (fun e => by rw [e] at kd9; exact absurd kd9.2.2.2 (T.irr kd9.1)); omega) (fun c hc => ?_)
        have := hi c hc
        have g1 := T.1; have g2 := T.2.1; have g3 := T.2.2.1 a ha; have g11 := T.2.2.2.2.2.2.2.2.2.2.1; have g12 := T.2.2.2.2.2.2.2.2.2.2.2.1; have g13 := T.2.2.2.2.2.2.2.2.2.2.2.2.1
        grind
  refine Call.of [.ref t, dum] q1005 (by decide) pn_J8 (Nat.le_of_ble_eq_true rfl) rfl ?_
  first | refine z_aload0 0 dJ8_getFirstEntry_0 ?_ | refine z_aload0N 0 dJ8_getFirstEntry_0 ?_ | refine z_aload0o 0 dJ8_getFirstEntry_0 ?_
  refine z_get 1 gJ8_101 dJ8_getFirstEntry_1 M.1 M.2.2.1 ?_
  refine z_astore1o 4 dJ8_getFirstEntry_4 rfl ?_
  refine z_aload1o 5 dJ8_getFirstEntry_5 ?_
  rcases hr : rt with _ | r
  · skip
    refine z_ifnullN 6 24 dJ8_getFirstEntry_6 (by decide) ?_
    first | refine z_aload1 24 dJ8_getFirstEntry_24 ?_ | refine z_aload1N 24 dJ8_getFirstEntry_24 ?_ | refine z_aload1o 24 dJ8_getFirstEntry_24 ?_
    refine z_areturn 25 rfl (Or.inl ⟨_, rfl⟩) (by first | exact Or.inl rfl | exact Or.inr ⟨_, rfl⟩ | exact va_rf_or _) dJ8_getFirstEntry_25 ?_
    exact ⟨none, rfl, rfl, fun _ e => (nomatch e), fun _ => T.2.2.2.2.2.2.1 hr⟩
  · have hr9 := T.2.2.2.2.2.2.2.1 r hr
    refine z_ifnull 6 dJ8_getFirstEntry_6 ?_
    exact LOOP _ r hr9.1 (Nat.lt_succ_self _) (fun c hc => Or.inl (hr9.2.2 c hc))
set_option maxHeartbeats 4000000 in
theorem c_successor {E : Ev} {h : HP} {S : Nat → Prop} {lt : Nat → Nat → Prop} {L R P : Nat → Option Nat} {rt : Option Nat} {D : Nat → Nat → Prop} {ke va : Nat → Nat} {cl : Nat → Int32} {a : Nat} {xs : List Nat} (d k : Nat) (hxs9 : ∀ a, S a → a ∈ xs) (T : TW S lt L R P rt D) (X : EnS h S L R P ke va cl) (ha : S a) : Call E yJ8_successor d k [.ref a] h (rA (fun r h' => h' = h ∧ (∀ b, r = some b → S b ∧ lt a b ∧ ∀ c, S c → lt a c → ¬ lt c b) ∧ (r = none → ∀ c, S c → ¬ lt a c))) := by
  have LOOP : ∀ (m p : Nat), S p → cnD D xs p < m → lt a p → (∀ c, S c → lt a c → D p c ∨ lt p c) → (∀ c, D p c → lt a c) → Z E mJ8_successor d (rA (fun r h' => h' = h ∧ (∀ b, r = some b → S b ∧ lt a b ∧ ∀ c, S c → lt a c → ¬ lt c b) ∧ (r = none → ∀ c, S c → ¬ lt a c))) k h 18 [.ref a, .ref p, dum] [] := by
    intro m
    induction m with
    | zero => exact fun _ _ q => absurd q (Nat.not_lt_zero _)
    | succ m ih =>
      intro p hp hm hap hi hj
      first | refine z_aload1 18 dJ8_successor_18 ?_ | refine z_aload1N 18 dJ8_successor_18 ?_ | refine z_aload1o 18 dJ8_successor_18 ?_
      refine z_get 19 gJ8_111 dJ8_successor_19 (X p hp).1 (X p hp).2.2.2.1 ?_
      rcases hL : L p with _ | b
      · skip
        refine z_ifnullN 22 33 dJ8_successor_22 (by decide) ?_
        first | refine z_aload1 33 dJ8_successor_33 ?_ | refine z_aload1N 33 dJ8_successor_33 ?_ | refine z_aload1o 33 dJ8_successor_33 ?_
        refine z_areturn 34 rfl (Or.inl ⟨_, rfl⟩) (by first | exact Or.inl rfl | exact Or.inr ⟨_, rfl⟩ | exact va_rf_or _) dJ8_successor_34 ?_
        refine ⟨some p, rfl, rfl, ?_, fun e => nomatch e⟩
        intro _ e
        cases e
        refine ⟨hp, hap, fun c hc hac => ?_⟩
        have := hi c hc hac
        have g3 := T.2.2.1 p hp hL
        have g1 := T.1; have g2 := T.2.1; have g11 := T.2.2.2.2.2.2.2.2.2.2.1; have g12 := T.2.2.2.2.2.2.2.2.2.2.2.1; have g13 := T.2.2.2.2.2.2.2.2.2.2.2.2.1; have g14 := T.2.2.2.2.2.2.2.2.2.2.2.2.2.1
        grind
      · skip
        refine z_ifnull 22 dJ8_successor_22 ?_
        first | refine z_aload1 25 dJ8_successor_25 ?_ | refine z_aload1N 25 dJ8_successor_25 ?_ | refine z_aload1o 25 dJ8_successor_25 ?_
        refine z_get 26 gJ8_111 dJ8_successor_26 (X p hp).1 ((X p hp).2.2.2.1.trans (congrArg va_rf (hL)) : HP.mm _ p 2 = .ref b) ?_
        first | refine z_astore1 29 dJ8_successor_29 rfl ?_ | refine z_astore1N 29 dJ8_successor_29 rfl ?_ | refine z_astore1o 29 dJ8_successor_29 rfl ?_
        refine z_goto 30 18 dJ8_successor_30 (by decide) ?_
        have kd9 := T.kidL hp hL
        have kq := T.2.2.2.1 p hp b hL
        refine ih b kd9.1 (by have := T.cnt hxs9 kd9.2.2.1 (fun e => by rw [e] at kd9; exact absurd kd9.2.2.2 (T.irr kd9.1)); omega) (hj b kd9.2.2.1) (fun c hc hac => ?_) (fun c hc => hj c ((kq.2.2 c).mp hc).1)
        have := hi c hc hac
        have g1 := T.1; have g2 := T.2.1; have g11 := T.2.2.2.2.2.2.2.2.2.2.1; have g12 := T.2.2.2.2.2.2.2.2.2.2.2.1; have g13 := T.2.2.2.2.2.2.2.2.2.2.2.2.1; have g14 := T.2.2.2.2.2.2.2.2.2.2.2.2.2.1
        grind
  have UP : ∀ (m q : Nat), S q → xs.length - cnD D xs q < m → D q a → (∀ c, D q c → ¬ lt a c) → Z E mJ8_successor d (rA (fun r h' => h' = h ∧ (∀ b, r = some b → S b ∧ lt a b ∧ ∀ c, S c → lt a c → ¬ lt c b) ∧ (r = none → ∀ c, S c → ¬ lt a c))) k h 42 [.ref a, va_rf (P q), .ref q] [] := by
    intro m
    induction m with
    | zero => exact fun _ _ q => absurd q (Nat.not_lt_zero _)
    | succ m ih =>
      intro q hq hm hqa hi
      refine z_aload1o 42 dJ8_successor_42 ?_
      rcases hP : P q with _ | p
      · skip
        refine z_ifnullN 43 64 dJ8_successor_43 (by decide) ?_
        first | refine z_aload1 64 dJ8_successor_64 ?_ | refine z_aload1N 64 dJ8_successor_64 ?_ | refine z_aload1o 64 dJ8_successor_64 ?_
        refine z_areturn 65 rfl (Or.inl ⟨_, rfl⟩) (by first | exact Or.inl rfl | exact Or.inr ⟨_, rfl⟩) dJ8_successor_65 ?_
        refine ⟨none, rfl, rfl, fun _ e => (nomatch e), fun _ c hc => ?_⟩
        exact hi c ((T.2.2.2.2.2.2.2.1 q (T.2.2.2.2.2.2.2.2.1 q hq hP)).2.2 c hc)
      · have up9 := T.up hq hP
        have hp := up9.1
        have hpa : D p a := T.2.2.2.2.2.2.2.2.2.2.2.2.2.1 p q a up9.2.1 hqa
        refine z_ifnull 43 dJ8_successor_43 ?_
        first | refine z_aload2 46 dJ8_successor_46 ?_ | refine z_aload2N 46 dJ8_successor_46 ?_ | refine z_aload2o 46 dJ8_successor_46 ?_
        first | refine z_aload1 47 dJ8_successor_47 ?_ | refine z_aload1N 47 dJ8_successor_47 ?_ | refine z_aload1o 47 dJ8_successor_47 ?_
        refine z_get 48 gJ8_114 dJ8_successor_48 (X p hp).1 (X p hp).2.2.2.2.1 ?_
        refine z_acne (some q) (R p) 51 64 dJ8_successor_51 (by decide) (fun c51 => ?_) (fun c51 => ?_)
        · first | refine z_aload1 64 dJ8_successor_64 ?_ | refine z_aload1N 64 dJ8_successor_64 ?_ | refine z_aload1o 64 dJ8_successor_64 ?_
          refine z_areturn 65 rfl (Or.inl ⟨_, rfl⟩) (by first | exact Or.inl rfl | exact Or.inr ⟨_, rfl⟩) dJ8_successor_65 ?_
          have hLq : L p = some q := up9.2.2.2.elim (fun e => e) (fun e => absurd e.symm c51)
          have kq := T.2.2.2.1 p hp q hLq
          have hlt9 := ((kq.2.2 a).mp hqa).2
          refine ⟨some p, rfl, rfl, ?_, fun e => nomatch e⟩
          intro _ e
          cases e
          refine ⟨hp, hlt9, fun c hc hac => ?_⟩
          have := T.out1 hxs9 hp hc
          have g1 := T.1; have g2 := T.2.1; have g11 := T.2.2.2.2.2.2.2.2.2.2.1; have g12 := T.2.2.2.2.2.2.2.2.2.2.2.1; have g13 := T.2.2.2.2.2.2.2.2.2.2.2.2.1; have g14 := T.2.2.2.2.2.2.2.2.2.2.2.2.2.1
          grind
        · first | refine z_aload1 54 dJ8_successor_54 ?_ | refine z_aload1N 54 dJ8_successor_54 ?_ | refine z_aload1o 54 dJ8_successor_54 ?_
          first | refine z_astore2 55 dJ8_successor_55 rfl ?_ | refine z_astore2N 55 dJ8_successor_55 rfl ?_ | refine z_astore2o 55 dJ8_successor_55 rfl ?_
          first | refine z_aload1 56 dJ8_successor_56 ?_ | refine z_aload1N 56 dJ8_successor_56 ?_ | refine z_aload1o 56 dJ8_successor_56 ?_
          refine z_get 57 gJ8_124 dJ8_successor_57 (X p hp).1 (X p hp).2.2.2.2.2.1 ?_
          refine z_astore1o 60 dJ8_successor_60 rfl ?_
          refine z_goto 61 42 dJ8_successor_61 (by decide) ?_
          have kq := T.2.2.2.2.2.1 p hp q c51.symm
          have hlt9 := ((kq.2.2 a).mp hqa).2
          refine ih p hp (by have := T.cnt hxs9 up9.2.1 up9.2.2.1; have := cnD_le D xs p; omega) hpa (fun c hc => ?_)
          have g1 := T.1; have g2 := T.2.1; have g11 := T.2.2.2.2.2.2.2.2.2.2.1; have g12 := T.2.2.2.2.2.2.2.2.2.2.2.1; have g13 := T.2.2.2.2.2.2.2.2.2.2.2.2.1; have g14 := T.2.2.2.2.2.2.2.2.2.2.2.2.2.1
          grind
  refine Call.of [.ref a, dum, dum] q1108 (by decide) pn_J8 (Nat.le_of_ble_eq_true rfl) rfl ?_
  first | refine z_aload0 0 dJ8_successor_0 ?_ | refine z_aload0N 0 dJ8_successor_0 ?_ | refine z_aload0o 0 dJ8_successor_0 ?_
  refine z_ifnonnull 1 6 dJ8_successor_1 (by decide) ?_
  first | refine z_aload0 6 dJ8_successor_6 ?_ | refine z_aload0N 6 dJ8_successor_6 ?_ | refine z_aload0o 6 dJ8_successor_6 ?_
  refine z_get 7 gJ8_114 dJ8_successor_7 (X a ha).1 (X a ha).2.2.2.2.1 ?_
  rcases hR : R a with _ | r
  · skip
    refine z_ifnullN 10 35 dJ8_successor_10 (by decide) ?_
    first | refine z_aload0 35 dJ8_successor_35 ?_ | refine z_aload0N 35 dJ8_successor_35 ?_ | refine z_aload0o 35 dJ8_successor_35 ?_
    refine z_get 36 gJ8_124 dJ8_successor_36 (X a ha).1 (X a ha).2.2.2.2.2.1 ?_
    refine z_astore1o 39 dJ8_successor_39 rfl ?_
    first | refine z_aload0 40 dJ8_successor_40 ?_ | refine z_aload0N 40 dJ8_successor_40 ?_ | refine z_aload0o 40 dJ8_successor_40 ?_
    refine z_astore2 41 dJ8_successor_41 (by first | rfl | exact va_rf_cat _) ?_
    refine UP _ a ha (Nat.lt_succ_self _) (T.2.1 a ha) (fun c hc => T.2.2.2.2.1 a ha hR c hc)
  · have kd9 := T.kidR ha hR
    have kq := T.2.2.2.2.2.1 a ha r hR
    refine z_ifnull 10 dJ8_successor_10 ?_
    first | refine z_aload0 13 dJ8_successor_13 ?_ | refine z_aload0N 13 dJ8_successor_13 ?_ | refine z_aload0o 13 dJ8_successor_13 ?_
    refine z_get 14 gJ8_114 dJ8_successor_14 (X a ha).1 ((X a ha).2.2.2.2.1.trans (congrArg va_rf (hR)) : HP.mm _ a 3 = .ref r) ?_
    first | refine z_astore1 17 dJ8_successor_17 rfl ?_ | refine z_astore1N 17 dJ8_successor_17 rfl ?_ | refine z_astore1o 17 dJ8_successor_17 rfl ?_
    refine LOOP _ r kd9.1 (Nat.lt_succ_self _) kd9.2.2.2 (fun c hc hac => ?_) (fun c hc => ((kq.2.2 c).mp hc).2)
    have := T.out1 hxs9 ha hc
    have g1 := T.1; have g2 := T.2.1; have g11 := T.2.2.2.2.2.2.2.2.2.2.1; have g12 := T.2.2.2.2.2.2.2.2.2.2.2.1; have g13 := T.2.2.2.2.2.2.2.2.2.2.2.2.1; have g14 := T.2.2.2.2.2.2.2.2.2.2.2.2.2.1
    grind
