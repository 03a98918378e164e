/-! TREEMAP from outside: a map's content C (key's number, key, value); its methods -/
theorem MapO.del {h : HP} {t : Nat} {rt ks : Option Nat} {n mc a b : Int32} (M : MapO h t rt n mc ks) : MapO ((h.put t 5 (.int a)).put t 4 (.int b)) t rt b a ks := M.modc.size
theorem EnS.keyval {h : HP} {S : Nat → Prop} {L R P : Nat → Option Nat} {ke va : Nat → Nat} {cl : Nat → Int32} (X : EnS h S L R P ke va cl) {p x v : Nat} : EnS ((h.put p 0 (.ref x)).put p 1 (.ref v)) S L R P (u9 ke p x) (u9 va p v) cl := by
  intro a ha
  obtain ⟨x1, x2, x3, x4, x5, x6, x7, x8⟩ := X a ha
  by_cases e : a = p
  · subst e
    exact ⟨x1, by simp [mm_put, u9], by simp [mm_put, u9], by simp [mm_put, x4], by simp [mm_put, x5], by simp [mm_put, x6], by simp [mm_put, x7], x8⟩
  · exact ⟨x1, by simp [mm_put, u9, e, x2], by simp [mm_put, u9, e, x3], by simp [mm_put, e, x4], by simp [mm_put, e, x5], by simp [mm_put, e, x6], by simp [mm_put, e, x7], x8⟩
theorem MapO.off {h : HP} {t p j : Nat} {v : Value} {rt ks : Option Nat} {n mc : Int32} (M : MapO h t rt n mc ks) (hn : ¬ t = p) : MapO (h.put p j v) t rt n mc ks := by
  obtain ⟨m1, m2, m3, m4, m5, m7⟩ := M
  exact ⟨m1, by rw [mm_nea _ _ _ _ _ hn]; exact m2, by rw [mm_nea _ _ _ _ _ hn]; exact m3, by rw [mm_nea _ _ _ _ _ hn]; exact m4, by rw [mm_nea _ _ _ _ _ hn]; exact m5, by rw [mm_nea _ _ _ _ _ hn]; exact m7⟩
/-- the end of deleteEntry p: some node g is gone; p's key is gone -/
def DelQ (h0 : HP) (t p : Nat) (S : Nat → Prop) (κ ke va : Nat → Nat) (n mc : Int32) (ks : Option Nat) (h' : HP) : Prop :=
  ∃ (g : Nat) (κ' ke' va' : Nat → Nat), S g ∧ DelC h0 t g S κ' ke' va' n mc ks h' ∧ (∀ a, S a → ¬ a = g → ∃ b, S b ∧ ¬ b = p ∧ κ' a = κ b ∧ ke' a = ke b ∧ va' a = va b) ∧ ∀ b, S b → ¬ b = p → ∃ a, S a ∧ ¬ a = g ∧ κ' a = κ b ∧ ke' a = ke b ∧ va' a = va b
theorem Z.mono9 {E : Ev} {mt : Mth} {d k : Nat} {Q Q' : Res → HP → Prop} {h : HP} {pc : Nat} {ls st : List Value} (z : Z E mt d Q k h pc ls st) (hq : ∀ r h', Q r h' → Q' r h') : Z E mt d Q' k h pc ls st := by
  intro p e s m args below meth c K H locs cells slots la hc h1 h2 hP hS hl
  intro T hT X
  obtain ⟨t, a, b⟩ := z p e s m args below meth c K H locs cells slots la hc h1 h2 hP hS hl T hT X
  obtain ⟨o, e1, e2, q4⟩ := b
  refine ⟨t, a, o, e1, e2, ?_⟩
  rcases q4 with ⟨⟨v, h', g1, g2, g3, g4⟩, r⟩ | ⟨q, g0, X, ce, L, ⟨h', g2, g3, g4⟩, r⟩
  · exact Or.inl ⟨⟨v, h', g1, hq _ _ g2, g3, g4⟩, r⟩
  · exact Or.inr ⟨q, g0, X, ce, L, ⟨h', hq _ _ g2, g3, g4⟩, r⟩
set_option maxHeartbeats 4000000 in
theorem c_deleteEntry {E : Ev} {h : HP} {S : Nat → Prop} {κ : Nat → Nat} {L R P : Nat → Option Nat} {rt : Option Nat} {D : Nat → Nat → Prop} {ke va : Nat → Nat} {cl : Nat → Int32} {n mc : Int32} {ks : Option Nat} {t p : Nat} {xs : List Nat} (d k : Nat) (hd1 : 2 ≤ d) (hxs9 : ∀ a, S a → a ∈ xs) (T : TW S (KO κ) L R P rt D) (X : EnS h S L R P ke va cl) (M : MapO h t rt n mc ks) (hp : S p) : Call E yJ8_deleteEntry d k [.ref t, .ref p] h (rV (DelQ h t p S κ ke va (n - nI 1) (mc + nI 1) ks)) := by
  refine Call.of [.ref t, .ref p, dum] q1685 (by decide) pn_J8 (Nat.le_of_ble_eq_true rfl) rfl ?_
  first | refine z_aload0 0 dJ8_deleteEntry_0 ?_ | refine z_aload0N 0 dJ8_deleteEntry_0 ?_ | refine z_aload0o 0 dJ8_deleteEntry_0 ?_
  refine z_dup 1 dJ8_deleteEntry_1 (by first | rfl | exact va_rf_cat _) ?_
  refine z_get 2 gJ8_13 dJ8_deleteEntry_2 M.1 M.2.2.2.2.1 ?_
  refine z_iconst 5 (nI 1) dJ8_deleteEntry_5 kI1 ?_
  refine z_iadd 6 dJ8_deleteEntry_6 ?_
  refine z_put 7 pJ8_13 (fun h => by cases h) dJ8_deleteEntry_7 M.1 (rfl) (rfl) ?_
  have M1 := M.modc (n' := mc + nI 1)
  first | refine z_aload0 10 dJ8_deleteEntry_10 ?_ | refine z_aload0N 10 dJ8_deleteEntry_10 ?_ | refine z_aload0o 10 dJ8_deleteEntry_10 ?_
  refine z_dup 11 dJ8_deleteEntry_11 (by first | rfl | exact va_rf_cat _) ?_
  refine z_get 12 gJ8_7 dJ8_deleteEntry_12 M1.1 M1.2.2.2.1 ?_
  refine z_iconst 15 (nI 1) dJ8_deleteEntry_15 kI1 ?_
  refine z_isub 16 dJ8_deleteEntry_16 ?_
  refine z_put 17 pJ8_7 (fun h => by cases h) dJ8_deleteEntry_17 M1.1 (rfl) (rfl) ?_
  have htp : ¬ t = p := fun e => by have h9 := (X p hp).1; rw [← e, M.1] at h9; cases h9
  have hnt : ¬ S t := fun e => by have h9 := (X t e).1; rw [M.1] at h9; cases h9
  have M2 := M.del (a := mc + nI 1) (b := n - nI 1)
  have X2 := (X.off (j := 5) (v := .int (mc + nI 1)) hnt).off (j := 4) (v := .int (n - nI 1)) hnt
  have A2 := ((Sm.refl (fun a => S a ∨ a = t) h).putS (k := 5) (v := .int (mc + nI 1)) (Or.inr rfl)).putS (k := 4) (v := .int (n - nI 1)) (Or.inr rfl)
  first | refine z_aload1 20 dJ8_deleteEntry_20 ?_ | refine z_aload1N 20 dJ8_deleteEntry_20 ?_ | refine z_aload1o 20 dJ8_deleteEntry_20 ?_
  refine z_get 21 gJ8_111 dJ8_deleteEntry_21 (X2 p hp).1 (X2 p hp).2.2.2.1 ?_
  rcases hL : L p with _ | l
  · skip
    refine z_ifnullN 24 57 dJ8_deleteEntry_24 (by decide) ?_
    refine (c_delCore d k hd1 hxs9 hp _ _ _ _ _ _ _ _ ⟨T, X2, M2, A2, rfl⟩ (Or.inl hL)).mono9 (fun r h9 hr => ⟨hr.1, ?_⟩)
    replace hr := hr.2
    exact ⟨p, κ, ke, va, hp, hr, fun a ha hn => ⟨a, ha, hn, rfl, rfl, rfl⟩, fun b hb hn => ⟨b, hb, hn, rfl, rfl, rfl⟩⟩
  · skip
    refine z_ifnull 24 dJ8_deleteEntry_24 ?_
    first | refine z_aload1 27 dJ8_deleteEntry_27 ?_ | refine z_aload1N 27 dJ8_deleteEntry_27 ?_ | refine z_aload1o 27 dJ8_deleteEntry_27 ?_
    refine z_get 28 gJ8_114 dJ8_deleteEntry_28 (X2 p hp).1 (X2 p hp).2.2.2.2.1 ?_
    rcases hR : R p with _ | r
    · skip
      refine z_ifnullN 31 57 dJ8_deleteEntry_31 (by decide) ?_
      refine (c_delCore d k hd1 hxs9 hp _ _ _ _ _ _ _ _ ⟨T, X2, M2, A2, rfl⟩ (Or.inr hR)).mono9 (fun r h9 hr => ⟨hr.1, ?_⟩)
      replace hr := hr.2
      exact ⟨p, κ, ke, va, hp, hr, fun a ha hn => ⟨a, ha, hn, rfl, rfl, rfl⟩, fun b hb hn => ⟨b, hb, hn, rfl, rfl, rfl⟩⟩
    · skip
      refine z_ifnull 31 dJ8_deleteEntry_31 ?_
      first | refine z_aload1 34 dJ8_deleteEntry_34 ?_ | refine z_aload1N 34 dJ8_deleteEntry_34 ?_ | refine z_aload1o 34 dJ8_deleteEntry_34 ?_
      refine z_S1 (k' := k) 35 sJ8_68 dJ8_deleteEntry_35 (c_successor (d - 1) 0 hxs9 T X2 hp) (by omega) (by omega) (Nat.le_of_ble_eq_true rfl) (aft_A fun s9 h' hq => ?_)
      obtain ⟨rfl, hs1, hs2⟩ := hq
      rcases s9 with _ | s
      · exact absurd (T.kidR hp hR).2.2.2 (hs2 rfl r (T.kidR hp hR).1)
      obtain ⟨hs, hps, hmin⟩ := hs1 s rfl
      have hLs := T.succL hxs9 hp hR hs hps hmin
      have hsp : ¬ s = p := fun e => T.irr hp (e ▸ hps)
      refine z_astore2 38 dJ8_deleteEntry_38 rfl ?_
      first | refine z_aload1 39 dJ8_deleteEntry_39 ?_ | refine z_aload1N 39 dJ8_deleteEntry_39 ?_ | refine z_aload1o 39 dJ8_deleteEntry_39 ?_
      refine z_aload2 40 dJ8_deleteEntry_40 ?_
      refine z_get 41 gJ8_105 dJ8_deleteEntry_41 (X2 s hs).1 (X2 s hs).2.1 ?_
      refine z_put 44 pJ8_105 (fun h => by cases h) dJ8_deleteEntry_44 (X2 p hp).1 (rfl) (rfl) ?_
      first | refine z_aload1 47 dJ8_deleteEntry_47 ?_ | refine z_aload1N 47 dJ8_deleteEntry_47 ?_ | refine z_aload1o 47 dJ8_deleteEntry_47 ?_
      refine z_aload2 48 dJ8_deleteEntry_48 ?_
      refine z_get 49 gJ8_58 dJ8_deleteEntry_49 (X2 s hs).1 ((mm_nea _ _ _ _ _ hsp).trans (X2 s hs).2.2.1) ?_
      refine z_put 52 pJ8_58 (fun h => by cases h) dJ8_deleteEntry_52 (X2 p hp).1 (rfl) (rfl) ?_
      refine z_aload2 55 dJ8_deleteEntry_55 ?_
      refine z_astore1 56 dJ8_deleteEntry_56 rfl ?_
      have X3 := X2.keyval (p := p) (x := ke s) (v := va s)
      have M3 := (M2.off (j := 0) (v := .ref (ke s)) htp).off (j := 1) (v := .ref (va s)) htp
      have A3 := (A2.putS (k := 0) (v := .ref (ke s)) (Or.inl hp)).putS (k := 1) (v := .ref (va s)) (Or.inl hp)
      refine (c_delCore d k hd1 hxs9 hs _ _ _ _ _ _ _ _ ⟨T, X3, M3, A3, rfl⟩ (Or.inl hLs)).mono9 (fun r9 h9 hr => ⟨hr.1, ?_⟩)
      obtain ⟨-, ⟨L', R', P', rt', D', cl', T', X', M'⟩, A', z'⟩ := hr
      have hbtw : ∀ c, S c → ¬ c = p → ¬ c = s → (KO κ c p ↔ KO κ c s) ∧ (KO κ p c ↔ KO κ s c) := fun c hc h1 h2 => by
        have m1 := hmin c hc
        have t1 := T.2.2.2.2.2.2.2.2.2.2.2.2.1 c p hc hp h1
        have t2 := T.2.2.2.2.2.2.2.2.2.2.2.2.1 c s hc hs h2
        simp only [KO] at *
        omega
      refine ⟨s, u9 κ p (κ s), u9 ke p (ke s), u9 va p (va s), hs, ⟨⟨L', R', P', rt', D', cl', T'.congr (fun a b ha hb => ?_), X', M'⟩, A', z'⟩, fun a ha hn => ?_, fun b hb hn => ?_⟩
      · obtain ⟨ha1, ha2⟩ := ha
        obtain ⟨hb1, hb2⟩ := hb
        by_cases e1 : a = p
        · by_cases e2 : b = p
          · subst e1; subst e2; simp [KO, u9]
          · subst e1
            have := (hbtw b hb1 e2 hb2).2
            simp only [KO, u9, e2, if_true, if_false] at this ⊢
            exact this
        · by_cases e2 : b = p
          · subst e2
            have := (hbtw a ha1 e1 ha2).1
            simp only [KO, u9, e1, if_true, if_false] at this ⊢
            exact this
          · simp only [KO, u9, e1, e2, if_false]
      · by_cases e : a = p
        · subst e; exact ⟨s, hs, hsp, u9_e, u9_e, u9_e⟩
        · exact ⟨a, ha, e, u9_o e, u9_o e, u9_o e⟩
      · by_cases e : b = s
        · subst e; exact ⟨p, hp, fun e => hsp e.symm, u9_e, u9_e, u9_e⟩
        · exact ⟨b, hb, e, u9_o hn, u9_o hn, u9_o hn⟩

