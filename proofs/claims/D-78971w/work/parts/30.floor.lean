/-! TREEMAP: floor, first, get, containsKey, size -/
set_option maxHeartbeats 4000000 in
theorem c_floorEntry {E : Ev} {h : HP} {S : Nat → Prop} {κ : Nat → Nat} {L R P : Nat → Option Nat} {rt : Option Nat} {D : Nat → Nat → Prop} {ke va : Nat → Nat} {cl : Nat → Int32} {n mc : Int32} {ks : Option Nat} {t ci x kx : Nat} {y : MethodName} {xs : List Nat} (d k : Nat) (hxs9 : ∀ a, S a → a ∈ xs) (T : TW S (fun a b => κ a < κ b) L R P rt D) (X : EnS h S L R P ke va cl) (M : MapO h t rt n mc ks) (hd1 : 4 ≤ d) (F : SiteF RJ8 107 cmpX y ci 1) (hx : h.kd x = ci) (CC : ∀ a, S a → CmpOK E h y x (ke a) kx (κ a)) : Call E yJ8_getFloorEntry d k [.ref t, .ref x] h (rA (fun r h' => h' = h ∧ (∀ b, r = some b → S b ∧ κ b ≤ kx ∧ ∀ c, S c → κ c ≤ kx → κ c ≤ κ b) ∧ (r = none → ∀ c, S c → kx < κ c))) := by
  have NN : ∀ v3 v4 v5, (∀ c, S c → kx < κ c) → Z E mJ8_getFloorEntry d (rA (fun r h' => h' = h ∧ (∀ b, r = some b → S b ∧ κ b ≤ kx ∧ ∀ c, S c → κ c ≤ kx → κ c ≤ κ b) ∧ (r = none → ∀ c, S c → kx < κ c))) k h 5 [.ref t, .ref x, .null, v3, v4, v5] [] := by
    intro v3 v4 v5 hn
    first | refine z_aload2 5 dJ8_getFloorEntry_5 ?_ | refine z_aload2N 5 dJ8_getFloorEntry_5 ?_ | refine z_aload2o 5 dJ8_getFloorEntry_5 ?_
    refine z_ifnullN 6 105 dJ8_getFloorEntry_6 (by decide) ?_
    refine z_null 105 dJ8_getFloorEntry_105 ?_
    refine z_areturn 106 rfl (Or.inl ⟨_, rfl⟩) (by first | exact Or.inl rfl | exact Or.inr ⟨_, rfl⟩ | exact va_rf_or _) dJ8_getFloorEntry_106 ?_
    exact ⟨none, rfl, rfl, fun _ e => (nomatch e), fun _ => hn⟩
  have UP : ∀ (a : Nat), S a → (∀ c, S c → ¬ D a c → (κ c ≤ kx → ∀ b, D a b → κ c < κ b) ∧ (kx < κ c → ∀ b, D a b → κ b < κ c)) → ∀ (v2 : Value) (v3 : Int32) (m q : Nat), S q → xs.length - cnD D xs q < m → D q a → (∀ c, D q c → kx < κ c) → Z E mJ8_getFloorEntry d (rA (fun r h' => h' = h ∧ (∀ b, r = some b → S b ∧ κ b ≤ kx ∧ ∀ c, S c → κ c ≤ kx → κ c ≤ κ b) ∧ (r = none → ∀ c, S c → kx < κ c))) k h 68 [.ref t, .ref x, v2, .int v3, va_rf (P q), .ref q] [] := by
    intro a ha hin v2 v3 m
    induction m with
    | zero => exact fun _ _ q => absurd q (Nat.not_lt_zero _)
    | succ m ih =>
      intro q hq hm hqa hi
      refine z_aload4o 68 dJ8_getFloorEntry_68 ?_
      rcases hP : P q with _ | p
      · skip
        refine z_ifnullN 70 97 dJ8_getFloorEntry_70 (by decide) ?_
        first | refine z_aload4 97 dJ8_getFloorEntry_97 ?_ | refine z_aload4N 97 dJ8_getFloorEntry_97 ?_ | refine z_aload4o 97 dJ8_getFloorEntry_97 ?_
        refine z_areturn 99 rfl (Or.inl ⟨_, rfl⟩) (by first | exact Or.inl rfl | exact Or.inr ⟨_, rfl⟩) dJ8_getFloorEntry_99 ?_
        refine ⟨none, rfl, rfl, fun _ e => (nomatch e), fun _ c hc => ?_⟩
        exact hi c ((T.2.2.2.2.2.2.2.1 q (T.2.2.2.2.2.2.2.2.1 q hq hP)).2.2 c hc)
      · have up9 := T.up hq hP
        have hp := up9.1
        have hpa : D p a := T.2.2.2.2.2.2.2.2.2.2.2.2.2.1 p q a up9.2.1 hqa
        have hnap : ¬ D a p := fun e => up9.2.2.1 (T.anti up9.2.1 (T.2.2.2.2.2.2.2.2.2.2.2.2.2.1 q a p hqa e))
        have hio := hin p hp hnap
        refine z_ifnull 70 dJ8_getFloorEntry_70 ?_
        first | refine z_aload5 73 dJ8_getFloorEntry_73 ?_ | refine z_aload5N 73 dJ8_getFloorEntry_73 ?_ | refine z_aload5o 73 dJ8_getFloorEntry_73 ?_
        first | refine z_aload4 75 dJ8_getFloorEntry_75 ?_ | refine z_aload4N 75 dJ8_getFloorEntry_75 ?_ | refine z_aload4o 75 dJ8_getFloorEntry_75 ?_
        refine z_get 77 gJ8_111 dJ8_getFloorEntry_77 (X p hp).1 (X p hp).2.2.2.1 ?_
        refine z_acne (some q) (L p) 80 97 dJ8_getFloorEntry_80 (by decide) (fun c51 => ?_) (fun c51 => ?_)
        · first | refine z_aload4 97 dJ8_getFloorEntry_97 ?_ | refine z_aload4N 97 dJ8_getFloorEntry_97 ?_ | refine z_aload4o 97 dJ8_getFloorEntry_97 ?_
          refine z_areturn 99 rfl (Or.inl ⟨_, rfl⟩) (by first | exact Or.inl rfl | exact Or.inr ⟨_, rfl⟩) dJ8_getFloorEntry_99 ?_
          have hRq : R p = some q := up9.2.2.2.elim (fun e => absurd e.symm c51) (fun e => e)
          have kq := T.2.2.2.2.2.1 p hp q hRq
          have hlt9 := ((kq.2.2 a).mp hqa).2
          have hka := hi a hqa
          have hda := T.2.1 a ha
          refine ⟨some p, rfl, rfl, ?_, fun e => nomatch e⟩
          intro _ e
          cases e
          have hpk : κ p ≤ kx := Nat.le_of_not_lt (fun e => by have := hio.2 e a hda; omega)
          refine ⟨hp, hpk, fun c hc hck => ?_⟩
          rcases T.out1 hxs9 hp hc with e | e | e
          · rcases Nat.lt_or_ge (κ p) (κ c) with e2 | e2
            · have := hi c ((kq.2.2 c).mpr ⟨e, e2⟩)
              omega
            · exact e2
          · have := e a hpa
            omega
          · exact Nat.le_of_lt (e p (T.2.1 p hp))
        · first | refine z_aload4 83 dJ8_getFloorEntry_83 ?_ | refine z_aload4N 83 dJ8_getFloorEntry_83 ?_ | refine z_aload4o 83 dJ8_getFloorEntry_83 ?_
          first | refine z_astore5 85 dJ8_getFloorEntry_85 rfl ?_ | refine z_astore5N 85 dJ8_getFloorEntry_85 rfl ?_ | refine z_astore5o 85 dJ8_getFloorEntry_85 rfl ?_
          first | refine z_aload4 87 dJ8_getFloorEntry_87 ?_ | refine z_aload4N 87 dJ8_getFloorEntry_87 ?_ | refine z_aload4o 87 dJ8_getFloorEntry_87 ?_
          refine z_get 89 gJ8_124 dJ8_getFloorEntry_89 (X p hp).1 (X p hp).2.2.2.2.2.1 ?_
          refine z_astore4o 92 dJ8_getFloorEntry_92 rfl ?_
          refine z_goto 94 68 dJ8_getFloorEntry_94 (by decide) ?_
          have kq := T.2.2.2.1 p hp q c51.symm
          have hlt9 := ((kq.2.2 a).mp hqa).2
          refine ih p hp (by have := T.cnt hxs9 up9.2.1 up9.2.2.1; have := cnD_le D xs p; omega) hpa (fun c hc => ?_)
          have := kq.2.2 c
          have := hi a hqa
          have := hi c
          rcases Nat.lt_trichotomy (κ c) (κ p) with e | e | e
          · exact hi c ((kq.2.2 c).mpr ⟨hc, e⟩)
          · omega
          · omega
  have LOOP : ∀ (m a : Nat) v3 v4 v5, S a → cnD D xs a < m → (∀ c, S c → ¬ D a c → (κ c ≤ kx → ∀ b, D a b → κ c < κ b) ∧ (kx < κ c → ∀ b, D a b → κ b < κ c)) → Z E mJ8_getFloorEntry d (rA (fun r h' => h' = h ∧ (∀ b, r = some b → S b ∧ κ b ≤ kx ∧ ∀ c, S c → κ c ≤ kx → κ c ≤ κ b) ∧ (r = none → ∀ c, S c → kx < κ c))) k h 5 [.ref t, .ref x, .ref a, v3, v4, v5] [] := by
    intro m
    induction m with
    | zero => exact fun _ _ _ _ _ q => absurd q (Nat.not_lt_zero _)
    | succ m ih =>
      intro a v3 v4 v5 ha hm hi
      first | refine z_aload2 5 dJ8_getFloorEntry_5 ?_ | refine z_aload2N 5 dJ8_getFloorEntry_5 ?_ | refine z_aload2o 5 dJ8_getFloorEntry_5 ?_
      refine z_ifnull 6 dJ8_getFloorEntry_6 ?_
      first | refine z_aload0 9 dJ8_getFloorEntry_9 ?_ | refine z_aload0N 9 dJ8_getFloorEntry_9 ?_ | refine z_aload0o 9 dJ8_getFloorEntry_9 ?_
      first | refine z_aload1 10 dJ8_getFloorEntry_10 ?_ | refine z_aload1N 10 dJ8_getFloorEntry_10 ?_ | refine z_aload1o 10 dJ8_getFloorEntry_10 ?_
      first | refine z_aload2 11 dJ8_getFloorEntry_11 ?_ | refine z_aload2N 11 dJ8_getFloorEntry_11 ?_ | refine z_aload2o 11 dJ8_getFloorEntry_11 ?_
      refine z_get 12 gJ8_105 dJ8_getFloorEntry_12 (X a ha).1 (X a ha).2.1 ?_
      refine z_V2 (k' := k) 15 vJ8_123 dJ8_getFloorEntry_15 M.1 (c_compare (d - 1) 0 (by omega) F M.1 M.2.1 hx (CC a ha)) (by omega) (by omega) (Nat.le_of_ble_eq_true rfl) (aft_I fun v h' hq => ?_)
      obtain ⟨rfl, hq⟩ := hq
      refine z_istore3 18 dJ8_getFloorEntry_18 rfl ?_
      refine z_iload3 19 dJ8_getFloorEntry_19 ?_
      refine z_ifle 20 40 dJ8_getFloorEntry_20 (by decide) (fun c20 => ?_) (fun d20 => ?_)
      · have hle : kx ≤ κ a := hq.le.mp c20
        refine z_iload3 40 dJ8_getFloorEntry_40 ?_
        refine z_ifge 41 100 dJ8_getFloorEntry_41 (by decide) (fun c41 => ?_) (fun d41 => ?_)
        · have heq : κ a = kx := by have := hq.ge.mp c41; omega
          first | refine z_aload2 100 dJ8_getFloorEntry_100 ?_ | refine z_aload2N 100 dJ8_getFloorEntry_100 ?_ | refine z_aload2o 100 dJ8_getFloorEntry_100 ?_
          refine z_areturn 101 rfl (Or.inl ⟨_, rfl⟩) (by first | exact Or.inl rfl | exact Or.inr ⟨_, rfl⟩ | exact va_rf_or _) dJ8_getFloorEntry_101 ?_
          refine ⟨some a, rfl, rfl, ?_, fun e => nomatch e⟩
          intro _ e
          cases e
          exact ⟨ha, by omega, fun c hc hck => by omega⟩
        · have hlt : kx < κ a := Nat.lt_of_not_le (fun q => d41 (hq.ge.mpr q))
          first | refine z_aload2 44 dJ8_getFloorEntry_44 ?_ | refine z_aload2N 44 dJ8_getFloorEntry_44 ?_ | refine z_aload2o 44 dJ8_getFloorEntry_44 ?_
          refine z_get 45 gJ8_111 dJ8_getFloorEntry_45 (X a ha).1 (X a ha).2.2.2.1 ?_
          rcases hK : L a with _ | b
          · skip
            refine z_ifnullN 48 59 dJ8_getFloorEntry_48 (by decide) ?_
            first | refine z_aload2 59 dJ8_getFloorEntry_59 ?_ | refine z_aload2N 59 dJ8_getFloorEntry_59 ?_ | refine z_aload2o 59 dJ8_getFloorEntry_59 ?_
            refine z_get 60 gJ8_124 dJ8_getFloorEntry_60 (X a ha).1 (X a ha).2.2.2.2.2.1 ?_
            refine z_astore4o 63 dJ8_getFloorEntry_63 rfl ?_
            first | refine z_aload2 65 dJ8_getFloorEntry_65 ?_ | refine z_aload2N 65 dJ8_getFloorEntry_65 ?_ | refine z_aload2o 65 dJ8_getFloorEntry_65 ?_
            refine z_astore5 66 dJ8_getFloorEntry_66 (by first | rfl | exact va_rf_cat _) ?_
            refine UP a ha hi _ _ _ a ha (Nat.lt_succ_self _) (T.2.1 a ha) (fun c hc => ?_)
            have := T.2.2.1 a ha hK c hc
            omega
          · skip
            refine z_ifnull 48 dJ8_getFloorEntry_48 ?_
            first | refine z_aload2 51 dJ8_getFloorEntry_51 ?_ | refine z_aload2N 51 dJ8_getFloorEntry_51 ?_ | refine z_aload2o 51 dJ8_getFloorEntry_51 ?_
            refine z_get 52 gJ8_111 dJ8_getFloorEntry_52 (X a ha).1 ((X a ha).2.2.2.1.trans (congrArg va_rf (hK)) : HP.mm _ a 2 = .ref b) ?_
            first | refine z_astore2 55 dJ8_getFloorEntry_55 rfl ?_ | refine z_astore2N 55 dJ8_getFloorEntry_55 rfl ?_ | refine z_astore2o 55 dJ8_getFloorEntry_55 rfl ?_
            refine z_goto 56 102 dJ8_getFloorEntry_56 (by decide) ?_
            refine z_goto 102 5 dJ8_getFloorEntry_102 (by decide) ?_
            have kd9 := T.kidL ha hK
            have kq := T.2.2.2.1 a ha b hK
            refine ih b _ _ _ kd9.1 (by have := T.cnt hxs9 kd9.2.2.1 (fun e => by rw [e] at kd9; exact absurd kd9.2.2.2 (Nat.lt_irrefl _)); omega) (fun c hc hn => ?_)
            have hbd : ∀ b2, D b b2 → D a b2 ∧ κ b2 < κ a := fun b2 e => (kq.2.2 b2).mp e
            by_cases hac : D a c
            · have hcn : ¬ κ c < κ a := fun e => hn ((kq.2.2 c).mpr ⟨hac, e⟩)
              refine ⟨fun e b2 hb2 => ?_, fun e b2 hb2 => ?_⟩
              · have := (hbd b2 hb2).2; omega
              · have := (hbd b2 hb2).2; omega
            · exact ⟨fun e b2 hb2 => (hi c hc hac).1 e b2 (hbd b2 hb2).1, fun e b2 hb2 => (hi c hc hac).2 e b2 (hbd b2 hb2).1⟩
      · have hgt : κ a < kx := Nat.lt_of_not_le (fun q => d20 (hq.le.mpr q))
        first | refine z_aload2 23 dJ8_getFloorEntry_23 ?_ | refine z_aload2N 23 dJ8_getFloorEntry_23 ?_ | refine z_aload2o 23 dJ8_getFloorEntry_23 ?_
        refine z_get 24 gJ8_114 dJ8_getFloorEntry_24 (X a ha).1 (X a ha).2.2.2.2.1 ?_
        rcases hK : R a with _ | b
        · skip
          refine z_ifnullN 27 38 dJ8_getFloorEntry_27 (by decide) ?_
          first | refine z_aload2 38 dJ8_getFloorEntry_38 ?_ | refine z_aload2N 38 dJ8_getFloorEntry_38 ?_ | refine z_aload2o 38 dJ8_getFloorEntry_38 ?_
          refine z_areturn 39 rfl (Or.inl ⟨_, rfl⟩) (by first | exact Or.inl rfl | exact Or.inr ⟨_, rfl⟩ | exact va_rf_or _) dJ8_getFloorEntry_39 ?_
          refine ⟨some a, rfl, rfl, ?_, fun e => nomatch e⟩
          intro _ e
          cases e
          refine ⟨ha, by omega, fun c hc hck => ?_⟩
          by_cases hac : D a c
          · have := T.2.2.2.2.1 a ha hK c hac
            omega
          · exact Nat.le_of_lt ((hi c hc hac).1 hck a (T.2.1 a ha))
        · skip
          refine z_ifnull 27 dJ8_getFloorEntry_27 ?_
          first | refine z_aload2 30 dJ8_getFloorEntry_30 ?_ | refine z_aload2N 30 dJ8_getFloorEntry_30 ?_ | refine z_aload2o 30 dJ8_getFloorEntry_30 ?_
          refine z_get 31 gJ8_114 dJ8_getFloorEntry_31 (X a ha).1 ((X a ha).2.2.2.2.1.trans (congrArg va_rf (hK)) : HP.mm _ a 3 = .ref b) ?_
          first | refine z_astore2 34 dJ8_getFloorEntry_34 rfl ?_ | refine z_astore2N 34 dJ8_getFloorEntry_34 rfl ?_ | refine z_astore2o 34 dJ8_getFloorEntry_34 rfl ?_
          refine z_goto 35 102 dJ8_getFloorEntry_35 (by decide) ?_
          refine z_goto 102 5 dJ8_getFloorEntry_102 (by decide) ?_
          have kd9 := T.kidR ha hK
          have kq := T.2.2.2.2.2.1 a ha b hK
          refine ih b _ _ _ kd9.1 (by have := T.cnt hxs9 kd9.2.2.1 (fun e => by rw [e] at kd9; exact absurd kd9.2.2.2 (Nat.lt_irrefl _)); omega) (fun c hc hn => ?_)
          have hbd : ∀ b2, D b b2 → D a b2 ∧ κ a < κ b2 := fun b2 e => (kq.2.2 b2).mp e
          by_cases hac : D a c
          · have hcn : ¬ κ a < κ c := fun e => hn ((kq.2.2 c).mpr ⟨hac, e⟩)
            refine ⟨fun e b2 hb2 => ?_, fun e b2 hb2 => ?_⟩
            · have := (hbd b2 hb2).2; omega
            · have := (hbd b2 hb2).2; omega
          · exact ⟨fun e b2 hb2 => (hi c hc hac).1 e b2 (hbd b2 hb2).1, fun e b2 hb2 => (hi c hc hac).2 e b2 (hbd b2 hb2).1⟩
  refine Call.of [.ref t, .ref x, dum, dum, dum, dum] q1494 (by decide) pn_J8 (Nat.le_of_ble_eq_true rfl) rfl ?_
  first | refine z_aload0 0 dJ8_getFloorEntry_0 ?_ | refine z_aload0N 0 dJ8_getFloorEntry_0 ?_ | refine z_aload0o 0 dJ8_getFloorEntry_0 ?_
  refine z_get 1 gJ8_101 dJ8_getFloorEntry_1 M.1 M.2.2.1 ?_
  refine z_astore2o 4 dJ8_getFloorEntry_4 rfl ?_
  rcases hr : rt with _ | r
  · exact NN _ _ _ (fun c hc => absurd hc (T.2.2.2.2.2.2.1 hr c))
  · have := T.2.2.2.2.2.2.2.1 r hr
    exact LOOP _ r _ _ _ this.1 (Nat.lt_succ_self _) (fun c hc hn => absurd (this.2.2 c hc) hn)
