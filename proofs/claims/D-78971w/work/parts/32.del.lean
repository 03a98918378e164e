/-! TREEMAP: deleteEntry -/
section TWd
variable {S : Nat → Prop} {lt : Nat → Nat → Prop} {L R P : Nat → Option Nat} {rt : Option Nat} {D : Nat → Nat → Prop}
theorem TW.succL (h : TW S lt L R P rt D) {xs : List Nat} (hx : ∀ a, S a → a ∈ xs) {p r s : Nat} (hp : S p) (hr : R p = some r) (hs : S s) (hps : lt p s) (hm : ∀ c, S c → lt p c → ¬ lt c s) : L s = none := by
  cases hL : L s with
  | none => rfl
  | some b =>
    exfalso
    have k1 := h.kidR hp hr
    have k2 := h.kidL hs hL
    have o1 := h.out1 hx k1.1 hs
    have o2 := h.out1 hx hp hs
    have g1 := h.1; have g2 := h.2.1
    have g11 := h.2.2.2.2.2.2.2.2.2.2.1; have g12 := h.2.2.2.2.2.2.2.2.2.2.2.1; have g13 := h.2.2.2.2.2.2.2.2.2.2.2.2.1; have g14 := h.2.2.2.2.2.2.2.2.2.2.2.2.2.1
    have g6 := h.2.2.2.2.2.1 p hp r hr
    have hDrs : D r s := by
      have m1 := hm r k1.1 k1.2.2.2
      have t1 := g13 r s k1.1 hs
      have d1 := g2 r k1.1
      have d2 := g2 p hp
      have d3 := g2 s hs
      rcases o1 with o1 | o1 | o1
      · exact o1
      · exact absurd (o1 r d1) m1
      · rcases o2 with o2 | o2 | o2
        · exact (g6.2.2 s).mpr ⟨o2, hps⟩
        · exact absurd (o2 r k1.2.2.1) m1
        · exact absurd (g12 s p s hs hp hs (o2 p d2) hps) (g11 s hs)
    have := ((g6.2.2 b).mp (g14 r s b hDrs k2.2.2.1)).2
    exact hm b k2.1 this k2.2.2.2
theorem TW.leaf1 (h : TW S lt L R P rt D) {g c : Nat} (hg : S g) (h1 : L g = none) (h2 : R g = none) (hc : D g c) : c = g := by
  have g1 := h.2.2.1 g hg h1 c hc
  have g2 := h.2.2.2.2.1 g hg h2 c hc
  exact Classical.byContradiction fun e => (h.2.2.2.2.2.2.2.2.2.2.2.2.1 c g (h.1 _ _ hc).2 hg e).elim g1 g2
theorem TW.nil (h : TW S lt L R P rt D) {g : Nat} (hg : S g) (h1 : L g = none) (h2 : R g = none) (hP : P g = none) : ∀ c, S c → c = g := fun c hc =>
  h.leaf1 hg h1 h2 ((h.2.2.2.2.2.2.2.1 g (h.2.2.2.2.2.2.2.2.1 g hg hP)).2.2 c hc)
end TWd
def DelC (h0 : HP) (t g : Nat) (S : Nat → Prop) (κ ke va : Nat → Nat) (n mc : Int32) (ks : Option Nat) (h' : HP) : Prop :=
  (∃ (L R P : Nat → Option Nat) (rt : Option Nat) (D : Nat → Nat → Prop) (cl : Nat → Int32), TW (fun a => S a ∧ a ≠ g) (KO κ) L R P rt D ∧ EnS h' (fun a => S a ∧ a ≠ g) L R P ke va cl ∧ MapO h' t rt n mc ks) ∧ Sm (fun a => S a ∨ a = t) h0 h' ∧ h'.sz = h0.sz
set_option maxHeartbeats 8000000 in
/-- a node g with one child at most is taken out: from 57 on -/
theorem c_delCore {E : Ev} {h0 : HP} {t g : Nat} {S : Nat → Prop} {κ ke va : Nat → Nat} {n mc : Int32} {ks : Option Nat} {xs : List Nat} (d k : Nat) (hd1 : 2 ≤ d) (hxs9 : ∀ a, S a → a ∈ xs) (hg : S g) : ∀ (L R P : Nat → Option Nat) (rt : Option Nat) (D : Nat → Nat → Prop) (cl : Nat → Int32) (v2 : Value) (h : HP), IV h0 t S (KO κ) ke va n mc ks h L R P rt D cl → (L g = none ∨ R g = none) → Z E mJ8_deleteEntry d (rV (DelC h0 t g S κ ke va n mc ks)) k h 57 [.ref t, .ref g, v2] [] := by
  have TAIL : ∀ (L R P : Nat → Option Nat) (rt : Option Nat) (D : Nat → Nat → Prop) (cl : Nat → Int32) (v2 : Value) (h : HP), IV h0 t S (KO κ) ke va n mc ks h L R P rt D cl → L g = none → R g = none → (∃ q, S q ∧ ¬ q = g) → Z E mJ8_deleteEntry d (rV (DelC h0 t g S κ ke va n mc ks)) k h 192 [.ref t, .ref g, v2] [] := by
    intro L R P rt D cl v2 h ⟨T, X, M, A, zz⟩ hL hR ⟨q9, hq91, hq92⟩
    obtain ⟨mk, m2, m3, m4, m5, m7⟩ := id M
    obtain ⟨xgk, xga, xgb, xg2, xg3, xg4, xg5, xgc⟩ := X g hg
    have htg : ¬ t = g := fun e => by rw [← e, mk] at xgk; cases xgk
    have hq9 : ∀ q, P g = some q → S q ∧ h.kd q = 8 ∧ ¬ q = g ∧ ¬ q = t ∧ h.mm q 2 = va_rf (L q) ∧ h.mm q 3 = va_rf (R q) ∧ (L q = some g ∨ R q = some g) := fun q e => by
      have u := T.up hg e
      have x := X q u.1
      exact ⟨u.1, x.1, u.2.2.1, fun e2 => (by rw [e2, mk] at x; exact absurd x.1 (by decide)), x.2.2.2.1, x.2.2.2.2.1, u.2.2.2⟩
    
    obtain ⟨q, hP⟩ : ∃ q, P g = some q := by
      cases e : P g with
      | none => exact absurd (T.nil hg hL hR e q9 hq91) hq92
      | some q => exact ⟨q, rfl⟩
    obtain ⟨hqS, hqk, hqg, hqt, hq2, hq3, hqo⟩ := hq9 q hP
    first | refine z_aload1 192 dJ8_deleteEntry_192 ?_ | refine z_aload1N 192 dJ8_deleteEntry_192 ?_ | refine z_aload1o 192 dJ8_deleteEntry_192 ?_
    refine z_get 193 gJ8_124 dJ8_deleteEntry_193 xgk (show HP.mm _ g 4 = .ref q from by rw [xg4, hP]; rfl) ?_
    refine z_ifnull 196 dJ8_deleteEntry_196 ?_
    first | refine z_aload1 199 dJ8_deleteEntry_199 ?_ | refine z_aload1N 199 dJ8_deleteEntry_199 ?_ | refine z_aload1o 199 dJ8_deleteEntry_199 ?_
    first | refine z_aload1 200 dJ8_deleteEntry_200 ?_ | refine z_aload1N 200 dJ8_deleteEntry_200 ?_ | refine z_aload1o 200 dJ8_deleteEntry_200 ?_
    refine z_get 201 gJ8_124 dJ8_deleteEntry_201 xgk (show HP.mm _ g 4 = .ref q from by rw [xg4, hP]; rfl) ?_
    refine z_get 204 gJ8_111 dJ8_deleteEntry_204 hqk hq2 ?_
    refine z_acne (some g) (L q) 207 221 dJ8_deleteEntry_207 (by decide) (fun cg => ?_) (fun cg => ?_)
    · first | refine z_aload1 221 dJ8_deleteEntry_221 ?_ | refine z_aload1N 221 dJ8_deleteEntry_221 ?_ | refine z_aload1o 221 dJ8_deleteEntry_221 ?_
      first | refine z_aload1 222 dJ8_deleteEntry_222 ?_ | refine z_aload1N 222 dJ8_deleteEntry_222 ?_ | refine z_aload1o 222 dJ8_deleteEntry_222 ?_
      refine z_get 223 gJ8_124 dJ8_deleteEntry_223 xgk (show HP.mm _ g 4 = .ref q from by rw [xg4, hP]; rfl) ?_
      refine z_get 226 gJ8_114 dJ8_deleteEntry_226 hqk hq3 ?_
      refine z_acne (some g) (R q) 229 240 dJ8_deleteEntry_229 (by decide) (fun cr => by first | exact absurd cr (fun e => e (hqo.elim (fun e2 => absurd e2.symm cg) (fun e2 => e2.symm))) | exact absurd (fun e => e (hqo.elim (fun e2 => absurd e2.symm cg) (fun e2 => e2.symm))) cr) (fun cr => ?_)
      first | refine z_aload1 232 dJ8_deleteEntry_232 ?_ | refine z_aload1N 232 dJ8_deleteEntry_232 ?_ | refine z_aload1o 232 dJ8_deleteEntry_232 ?_
      refine z_get 233 gJ8_124 dJ8_deleteEntry_233 xgk (show HP.mm _ g 4 = .ref q from by rw [xg4, hP]; rfl) ?_
      refine z_null 236 dJ8_deleteEntry_236 ?_
      refine z_put 237 pJ8_114 (fun h => by cases h) dJ8_deleteEntry_237 hqk (rfl) (rfl) ?_
      first | refine z_aload1 240 dJ8_deleteEntry_240 ?_ | refine z_aload1N 240 dJ8_deleteEntry_240 ?_ | refine z_aload1o 240 dJ8_deleteEntry_240 ?_
      refine z_null 241 dJ8_deleteEntry_241 ?_
      refine z_put 242 pJ8_124 (fun h => by cases h) dJ8_deleteEntry_242 xgk (rfl) (rfl) ?_
      refine z_return 245 rfl dJ8_deleteEntry_245 ?_
      refine ⟨rfl, ⟨_, _, _, _, _, cl, T.out (c := none) hg (Or.inl ⟨hL, hR.symm⟩), fun a ha => ?_, ⟨?_, ?_, ?_, ?_, ?_, ?_⟩⟩, ?_, ?_⟩
      · obtain ⟨ha, hag⟩ := ha
        obtain ⟨x1, x2, x3, x4, x5, x6, x7, x8⟩ := X a ha
        have e1 : ¬ a = t := fun e => by rw [e, mk] at x1; cases x1
        clear X T hxs9
        refine ⟨x1, ?_, ?_, ?_, ?_, ?_, ?_, x8⟩ <;> simp only [mm_put] <;> (try unfold oL) <;> (try unfold oR) <;> (try unfold oP) <;> grind [va_rf]
      · exact mk
      · simp only [mm_put]; grind
      · simp only [mm_put]; unfold oRt; grind [va_rf]
      · simp only [mm_put]; grind
      · simp only [mm_put]; grind
      · simp only [mm_put]; grind
      · repeat' (first | exact A | refine Sm.putS ?_ (by first | exact Or.inr rfl | exact Or.inl (by assumption)))
      · exact zz
    · first | refine z_aload1 210 dJ8_deleteEntry_210 ?_ | refine z_aload1N 210 dJ8_deleteEntry_210 ?_ | refine z_aload1o 210 dJ8_deleteEntry_210 ?_
      refine z_get 211 gJ8_124 dJ8_deleteEntry_211 xgk (show HP.mm _ g 4 = .ref q from by rw [xg4, hP]; rfl) ?_
      refine z_null 214 dJ8_deleteEntry_214 ?_
      refine z_put 215 pJ8_111 (fun h => by cases h) dJ8_deleteEntry_215 hqk (rfl) (rfl) ?_
      refine z_goto 218 240 dJ8_deleteEntry_218 (by decide) ?_
      first | refine z_aload1 240 dJ8_deleteEntry_240 ?_ | refine z_aload1N 240 dJ8_deleteEntry_240 ?_ | refine z_aload1o 240 dJ8_deleteEntry_240 ?_
      refine z_null 241 dJ8_deleteEntry_241 ?_
      refine z_put 242 pJ8_124 (fun h => by cases h) dJ8_deleteEntry_242 xgk (rfl) (rfl) ?_
      refine z_return 245 rfl dJ8_deleteEntry_245 ?_
      refine ⟨rfl, ⟨_, _, _, _, _, cl, T.out (c := none) hg (Or.inl ⟨hL, hR.symm⟩), fun a ha => ?_, ⟨?_, ?_, ?_, ?_, ?_, ?_⟩⟩, ?_, ?_⟩
      · obtain ⟨ha, hag⟩ := ha
        obtain ⟨x1, x2, x3, x4, x5, x6, x7, x8⟩ := X a ha
        have e1 : ¬ a = t := fun e => by rw [e, mk] at x1; cases x1
        clear X T hxs9
        refine ⟨x1, ?_, ?_, ?_, ?_, ?_, ?_, x8⟩ <;> simp only [mm_put] <;> (try unfold oL) <;> (try unfold oR) <;> (try unfold oP) <;> grind [va_rf]
      · exact mk
      · simp only [mm_put]; grind
      · simp only [mm_put]; unfold oRt; grind [va_rf]
      · simp only [mm_put]; grind
      · simp only [mm_put]; grind
      · simp only [mm_put]; grind
      · repeat' (first | exact A | refine Sm.putS ?_ (by first | exact Or.inr rfl | exact Or.inl (by assumption)))
      · exact zz
  intro L R P rt D cl v2 h ⟨T, X, M, A, zz⟩ hone
  obtain ⟨mk, m2, m3, m4, m5, m7⟩ := id M
  obtain ⟨xgk, xga, xgb, xg2, xg3, xg4, xg5, xgc⟩ := X g hg
  have htg : ¬ t = g := fun e => by rw [← e, mk] at xgk; cases xgk
  have hq9 : ∀ q, P g = some q → S q ∧ h.kd q = 8 ∧ ¬ q = g ∧ ¬ q = t ∧ h.mm q 2 = va_rf (L q) ∧ h.mm q 3 = va_rf (R q) ∧ (L q = some g ∨ R q = some g) := fun q e => by
    have u := T.up hg e
    have x := X q u.1
    exact ⟨u.1, x.1, u.2.2.1, fun e2 => (by rw [e2, mk] at x; exact absurd x.1 (by decide)), x.2.2.2.1, x.2.2.2.2.1, u.2.2.2⟩
  
  rcases hL : L g with _ | c
  · rcases hR : R g with _ | c
    · skip
      first | refine z_aload1 57 dJ8_deleteEntry_57 ?_ | refine z_aload1N 57 dJ8_deleteEntry_57 ?_ | refine z_aload1o 57 dJ8_deleteEntry_57 ?_
      refine z_get 58 gJ8_111 dJ8_deleteEntry_58 xgk (show HP.mm _ g 2 = .null from by rw [xg2, hL]; rfl) ?_
      refine z_ifnullN 61 71 dJ8_deleteEntry_61 (by decide) ?_
      first | refine z_aload1 71 dJ8_deleteEntry_71 ?_ | refine z_aload1N 71 dJ8_deleteEntry_71 ?_ | refine z_aload1o 71 dJ8_deleteEntry_71 ?_
      refine z_get 72 gJ8_114 dJ8_deleteEntry_72 xgk (show HP.mm _ g 3 = .null from by rw [xg3, hR]; rfl) ?_
      refine z_astore2N 75 dJ8_deleteEntry_75 rfl ?_
      refine z_aload2N 76 dJ8_deleteEntry_76 ?_
      refine z_ifnullN 77 164 dJ8_deleteEntry_77 (by decide) ?_
      first | refine z_aload1 164 dJ8_deleteEntry_164 ?_ | refine z_aload1N 164 dJ8_deleteEntry_164 ?_ | refine z_aload1o 164 dJ8_deleteEntry_164 ?_
      refine z_get 165 gJ8_124 dJ8_deleteEntry_165 xgk xg4 ?_
      rcases hP : P g with _ | q
      · skip
        refine z_ifnonnullN 168 dJ8_deleteEntry_168 ?_
        first | refine z_aload0 171 dJ8_deleteEntry_171 ?_ | refine z_aload0N 171 dJ8_deleteEntry_171 ?_ | refine z_aload0o 171 dJ8_deleteEntry_171 ?_
        refine z_null 172 dJ8_deleteEntry_172 ?_
        refine z_put 173 pJ8_101 (fun h => by cases h) dJ8_deleteEntry_173 mk (rfl) (rfl) ?_
        refine z_goto 176 245 dJ8_deleteEntry_176 (by decide) ?_
        refine z_return 245 rfl dJ8_deleteEntry_245 ?_
        refine ⟨rfl, ⟨_, _, _, _, _, cl, T.out (c := none) hg (Or.inl ⟨hL, hR.symm⟩), fun a ha => ?_, ⟨?_, ?_, ?_, ?_, ?_, ?_⟩⟩, ?_, ?_⟩
        · obtain ⟨ha, hag⟩ := ha
          obtain ⟨x1, x2, x3, x4, x5, x6, x7, x8⟩ := X a ha
          have e1 : ¬ a = t := fun e => by rw [e, mk] at x1; cases x1
          clear X T hxs9
          refine ⟨x1, ?_, ?_, ?_, ?_, ?_, ?_, x8⟩ <;> simp only [mm_put] <;> (try unfold oL) <;> (try unfold oR) <;> (try unfold oP) <;> grind [va_rf]
        · exact mk
        · simp only [mm_put]; grind
        · simp only [mm_put]; unfold oRt; grind [va_rf]
        · simp only [mm_put]; grind
        · simp only [mm_put]; grind
        · simp only [mm_put]; grind
        · repeat' (first | exact A | refine Sm.putS ?_ (by first | exact Or.inr rfl | exact Or.inl (by assumption)))
        · exact zz
      · have u9 := T.up hg hP
        refine z_ifnonnull 168 179 dJ8_deleteEntry_168 (by decide) ?_
        first | refine z_aload1 179 dJ8_deleteEntry_179 ?_ | refine z_aload1N 179 dJ8_deleteEntry_179 ?_ | refine z_aload1o 179 dJ8_deleteEntry_179 ?_
        refine z_get 180 gJ8_290 dJ8_deleteEntry_180 xgk xg5 ?_
        refine z_iconst 183 (nI 1) dJ8_deleteEntry_183 kI1 ?_
        refine z_icne 184 192 dJ8_deleteEntry_184 (by decide) (fun c184 => ?_) (fun c184 => ?_)
        · exact TAIL _ _ _ _ _ _ _ _ ⟨T, X, M, A, zz⟩ hL hR ⟨q, u9.1, u9.2.2.1⟩
        · first | refine z_aload0 187 dJ8_deleteEntry_187 ?_ | refine z_aload0N 187 dJ8_deleteEntry_187 ?_ | refine z_aload0o 187 dJ8_deleteEntry_187 ?_
          first | refine z_aload1 188 dJ8_deleteEntry_188 ?_ | refine z_aload1N 188 dJ8_deleteEntry_188 ?_ | refine z_aload1o 188 dJ8_deleteEntry_188 ?_
          refine z_V1 (k' := k) 189 vJ8_317 dJ8_deleteEntry_189 mk (c_fixDel (lt := KO κ) (xs := xs) True (d - 1) 0 (by omega) hxs9 ⟨T, X, M, Sm.refl _ _, rfl⟩ hg (fun _ => ⟨hL, hR⟩)) (by omega) (by omega) (Nat.le_of_ble_eq_true rfl) (aft_V fun h4 hq => ?_)
          obtain ⟨L4, R4, P4, rt4, D4, cl4, ⟨T4, X4, M4, A4, z4⟩, lf4⟩ := hq
          exact TAIL _ _ _ _ _ _ _ _ ⟨T4, X4, M4, A.trans A4, z4.trans zz⟩ (lf4 trivial).1 (lf4 trivial).2 ⟨q, u9.1, u9.2.2.1⟩
    · have hc := hR
      have kc := T.kidR hg hc
      have hcS := kc.1
      have xc := X c kc.1
      have hcg : ¬ c = g := (T.up kc.1 kc.2.1).2.2.1 ∘ Eq.symm
      have hct : ¬ c = t := fun e => (by rw [e, mk] at xc; exact absurd xc.1 (by decide))
      have xck := xc.1
      have hcq : ∀ q, P g = some q → ¬ c = q := fun q e e2 => (T.up2 kc.1 kc.2.1 e).2.2 e2.symm
      clear xc
      first | refine z_aload1 57 dJ8_deleteEntry_57 ?_ | refine z_aload1N 57 dJ8_deleteEntry_57 ?_ | refine z_aload1o 57 dJ8_deleteEntry_57 ?_
      refine z_get 58 gJ8_111 dJ8_deleteEntry_58 xgk (show HP.mm _ g 2 = .null from by rw [xg2, hL]; rfl) ?_
      refine z_ifnullN 61 71 dJ8_deleteEntry_61 (by decide) ?_
      first | refine z_aload1 71 dJ8_deleteEntry_71 ?_ | refine z_aload1N 71 dJ8_deleteEntry_71 ?_ | refine z_aload1o 71 dJ8_deleteEntry_71 ?_
      refine z_get 72 gJ8_114 dJ8_deleteEntry_72 xgk (show HP.mm _ g 3 = .ref c from by rw [xg3, hc]; rfl) ?_
      first | refine z_astore2 75 dJ8_deleteEntry_75 rfl ?_ | refine z_astore2N 75 dJ8_deleteEntry_75 rfl ?_ | refine z_astore2o 75 dJ8_deleteEntry_75 rfl ?_
      first | refine z_aload2 76 dJ8_deleteEntry_76 ?_ | refine z_aload2N 76 dJ8_deleteEntry_76 ?_ | refine z_aload2o 76 dJ8_deleteEntry_76 ?_
      refine z_ifnull 77 dJ8_deleteEntry_77 ?_
      first | refine z_aload2 80 dJ8_deleteEntry_80 ?_ | refine z_aload2N 80 dJ8_deleteEntry_80 ?_ | refine z_aload2o 80 dJ8_deleteEntry_80 ?_
      first | refine z_aload1 81 dJ8_deleteEntry_81 ?_ | refine z_aload1N 81 dJ8_deleteEntry_81 ?_ | refine z_aload1o 81 dJ8_deleteEntry_81 ?_
      refine z_get 82 gJ8_124 dJ8_deleteEntry_82 xgk xg4 ?_
      refine z_put 85 pJ8_124 (fun h => by cases h) dJ8_deleteEntry_85 xck (nrO _ _) (ftO _ _) ?_
      first | refine z_aload1 88 dJ8_deleteEntry_88 ?_ | refine z_aload1N 88 dJ8_deleteEntry_88 ?_ | refine z_aload1o 88 dJ8_deleteEntry_88 ?_
      refine z_get 89 gJ8_124 dJ8_deleteEntry_89 xgk (show HP.mm _ g 4 = va_rf (P g) from by simp only [mm_put]; grind [va_rf]) ?_
      rcases hP : P g with _ | q
      · skip
        refine z_ifnonnullN 92 dJ8_deleteEntry_92 ?_
        first | refine z_aload0 95 dJ8_deleteEntry_95 ?_ | refine z_aload0N 95 dJ8_deleteEntry_95 ?_ | refine z_aload0o 95 dJ8_deleteEntry_95 ?_
        first | refine z_aload2 96 dJ8_deleteEntry_96 ?_ | refine z_aload2N 96 dJ8_deleteEntry_96 ?_ | refine z_aload2o 96 dJ8_deleteEntry_96 ?_
        refine z_put 97 pJ8_101 (fun h => by cases h) dJ8_deleteEntry_97 mk (rfl) (rfl) ?_
        refine z_goto 100 133 dJ8_deleteEntry_100 (by decide) ?_
        first | refine z_aload1 133 dJ8_deleteEntry_133 ?_ | refine z_aload1N 133 dJ8_deleteEntry_133 ?_ | refine z_aload1o 133 dJ8_deleteEntry_133 ?_
        first | refine z_aload1 134 dJ8_deleteEntry_134 ?_ | refine z_aload1N 134 dJ8_deleteEntry_134 ?_ | refine z_aload1o 134 dJ8_deleteEntry_134 ?_
        first | refine z_aload1 135 dJ8_deleteEntry_135 ?_ | refine z_aload1N 135 dJ8_deleteEntry_135 ?_ | refine z_aload1o 135 dJ8_deleteEntry_135 ?_
        refine z_null 136 dJ8_deleteEntry_136 ?_
        refine z_dup_x1 137 dJ8_deleteEntry_137 (by first | rfl | exact va_rf_cat _) (by first | rfl | exact va_rf_cat _) ?_
        refine z_put 138 pJ8_124 (fun h => by cases h) dJ8_deleteEntry_138 xgk (rfl) (rfl) ?_
        refine z_dup_x1 141 dJ8_deleteEntry_141 (by first | rfl | exact va_rf_cat _) (by first | rfl | exact va_rf_cat _) ?_
        refine z_put 142 pJ8_114 (fun h => by cases h) dJ8_deleteEntry_142 xgk (rfl) (rfl) ?_
        refine z_put 145 pJ8_111 (fun h => by cases h) dJ8_deleteEntry_145 xgk (rfl) (rfl) ?_
        first | refine z_aload1 148 dJ8_deleteEntry_148 ?_ | refine z_aload1N 148 dJ8_deleteEntry_148 ?_ | refine z_aload1o 148 dJ8_deleteEntry_148 ?_
        refine z_get 149 gJ8_290 dJ8_deleteEntry_149 xgk (show HP.mm _ g 5 = .int (cl g) from by simp only [mm_put]; grind [va_rf]) ?_
        refine z_iconst 152 (nI 1) dJ8_deleteEntry_152 kI1 ?_
        refine z_icne 153 245 dJ8_deleteEntry_153 (by decide) (fun c153 => ?_) (fun c153 => ?_)
        · refine z_return 245 rfl dJ8_deleteEntry_245 ?_
          refine ⟨rfl, ⟨_, _, _, _, _, cl, T.out (c := some c) hg (Or.inl ⟨hL, hc.symm⟩), fun a ha => ?_, ⟨?_, ?_, ?_, ?_, ?_, ?_⟩⟩, ?_, ?_⟩
          · obtain ⟨ha, hag⟩ := ha
            obtain ⟨x1, x2, x3, x4, x5, x6, x7, x8⟩ := X a ha
            have e1 : ¬ a = t := fun e => by rw [e, mk] at x1; cases x1
            clear X T hxs9
            refine ⟨x1, ?_, ?_, ?_, ?_, ?_, ?_, x8⟩ <;> simp only [mm_put] <;> (try unfold oL) <;> (try unfold oR) <;> (try unfold oP) <;> grind [va_rf]
          · exact mk
          · simp only [mm_put]; grind
          · simp only [mm_put]; unfold oRt; grind [va_rf]
          · simp only [mm_put]; grind
          · simp only [mm_put]; grind
          · simp only [mm_put]; grind
          · repeat' (first | exact A | refine Sm.putS ?_ (by first | exact Or.inr rfl | exact Or.inl (by assumption)))
          · exact zz
        · first | refine z_aload0 156 dJ8_deleteEntry_156 ?_ | refine z_aload0N 156 dJ8_deleteEntry_156 ?_ | refine z_aload0o 156 dJ8_deleteEntry_156 ?_
          first | refine z_aload2 157 dJ8_deleteEntry_157 ?_ | refine z_aload2N 157 dJ8_deleteEntry_157 ?_ | refine z_aload2o 157 dJ8_deleteEntry_157 ?_
          refine z_V1 (k' := k) 158 vJ8_317 dJ8_deleteEntry_158 mk (c_fixDel (S := fun a => S a ∧ a ≠ g) (lt := KO κ) (xs := xs) (ke := ke) (va := va) (n := n) (mc := mc) (ks := ks) (cl0 := cl) False (d - 1) 0 (by omega) (fun a ha => hxs9 a ha.1) ⟨T.out (c := some c) hg (Or.inl ⟨hL, hc.symm⟩), ?EN1, ?MO1, Sm.refl _ _, rfl⟩ ⟨kc.1, hcg⟩ (fun f => f.elim)) (by omega) (by omega) (Nat.le_of_ble_eq_true rfl) (aft_V fun h4 hq => ?AF1)
          case EN1 =>
            intro a ha
            obtain ⟨ha, hag⟩ := ha
            obtain ⟨x1, x2, x3, x4, x5, x6, x7, x8⟩ := X a ha
            have e1 : ¬ a = t := fun e => by rw [e, mk] at x1; cases x1
            clear X T hxs9
            refine ⟨x1, ?_, ?_, ?_, ?_, ?_, ?_, x8⟩ <;> simp only [mm_put] <;> (try unfold oL) <;> (try unfold oR) <;> (try unfold oP) <;> grind [va_rf]
          case MO1 =>
            refine ⟨mk, ?_, ?_, ?_, ?_, ?_⟩
            · simp only [mm_put]; grind
            · simp only [mm_put]; unfold oRt; grind [va_rf]
            · simp only [mm_put]; grind
            · simp only [mm_put]; grind
            · simp only [mm_put]; grind
          case AF1 =>
            obtain ⟨L4, R4, P4, rt4, D4, cl4, I4, -⟩ := hq
            refine z_goto 161 245 dJ8_deleteEntry_161 (by decide) ?_
            refine z_return 245 rfl dJ8_deleteEntry_245 ?_
            refine ⟨rfl, ⟨_, _, _, _, _, _, I4.1, I4.2.1, I4.2.2.1⟩, ?_, I4.2.2.2.2.trans zz⟩
            refine Sm.tr ?_ I4.2.2.2.1 (fun q _ e => e.elim (fun e => Or.inl e.1) Or.inr)
            repeat' (first | exact A | refine Sm.putS ?_ (by first | exact Or.inr rfl | exact Or.inl (by assumption)))
      · obtain ⟨hqS, hqk, hqg, hqt, hq2, hq3, hqo⟩ := hq9 q hP
        have hcq9 := hcq q hP
        refine z_ifnonnull 92 103 dJ8_deleteEntry_92 (by decide) ?_
        first | refine z_aload1 103 dJ8_deleteEntry_103 ?_ | refine z_aload1N 103 dJ8_deleteEntry_103 ?_ | refine z_aload1o 103 dJ8_deleteEntry_103 ?_
        first | refine z_aload1 104 dJ8_deleteEntry_104 ?_ | refine z_aload1N 104 dJ8_deleteEntry_104 ?_ | refine z_aload1o 104 dJ8_deleteEntry_104 ?_
        refine z_get 105 gJ8_124 dJ8_deleteEntry_105 xgk (show HP.mm _ g 4 = .ref q from by simp only [mm_put]; grind [va_rf]) ?_
        refine z_get 108 gJ8_111 dJ8_deleteEntry_108 hqk (show HP.mm _ q 2 = va_rf (L q) from by simp only [mm_put]; grind [va_rf]) ?_
        refine z_acne (some g) (L q) 111 125 dJ8_deleteEntry_111 (by decide) (fun cg => ?_) (fun cg => ?_)
        · first | refine z_aload1 125 dJ8_deleteEntry_125 ?_ | refine z_aload1N 125 dJ8_deleteEntry_125 ?_ | refine z_aload1o 125 dJ8_deleteEntry_125 ?_
          refine z_get 126 gJ8_124 dJ8_deleteEntry_126 xgk (show HP.mm _ g 4 = .ref q from by simp only [mm_put]; grind [va_rf]) ?_
          first | refine z_aload2 129 dJ8_deleteEntry_129 ?_ | refine z_aload2N 129 dJ8_deleteEntry_129 ?_ | refine z_aload2o 129 dJ8_deleteEntry_129 ?_
          refine z_put 130 pJ8_114 (fun h => by cases h) dJ8_deleteEntry_130 hqk (rfl) (rfl) ?_
          first | refine z_aload1 133 dJ8_deleteEntry_133 ?_ | refine z_aload1N 133 dJ8_deleteEntry_133 ?_ | refine z_aload1o 133 dJ8_deleteEntry_133 ?_
          first | refine z_aload1 134 dJ8_deleteEntry_134 ?_ | refine z_aload1N 134 dJ8_deleteEntry_134 ?_ | refine z_aload1o 134 dJ8_deleteEntry_134 ?_
          first | refine z_aload1 135 dJ8_deleteEntry_135 ?_ | refine z_aload1N 135 dJ8_deleteEntry_135 ?_ | refine z_aload1o 135 dJ8_deleteEntry_135 ?_
          refine z_null 136 dJ8_deleteEntry_136 ?_
          refine z_dup_x1 137 dJ8_deleteEntry_137 (by first | rfl | exact va_rf_cat _) (by first | rfl | exact va_rf_cat _) ?_
          refine z_put 138 pJ8_124 (fun h => by cases h) dJ8_deleteEntry_138 xgk (rfl) (rfl) ?_
          refine z_dup_x1 141 dJ8_deleteEntry_141 (by first | rfl | exact va_rf_cat _) (by first | rfl | exact va_rf_cat _) ?_
          refine z_put 142 pJ8_114 (fun h => by cases h) dJ8_deleteEntry_142 xgk (rfl) (rfl) ?_
          refine z_put 145 pJ8_111 (fun h => by cases h) dJ8_deleteEntry_145 xgk (rfl) (rfl) ?_
          first | refine z_aload1 148 dJ8_deleteEntry_148 ?_ | refine z_aload1N 148 dJ8_deleteEntry_148 ?_ | refine z_aload1o 148 dJ8_deleteEntry_148 ?_
          refine z_get 149 gJ8_290 dJ8_deleteEntry_149 xgk (show HP.mm _ g 5 = .int (cl g) from by simp only [mm_put]; grind [va_rf]) ?_
          refine z_iconst 152 (nI 1) dJ8_deleteEntry_152 kI1 ?_
          refine z_icne 153 245 dJ8_deleteEntry_153 (by decide) (fun c153 => ?_) (fun c153 => ?_)
          · refine z_return 245 rfl dJ8_deleteEntry_245 ?_
            refine ⟨rfl, ⟨_, _, _, _, _, cl, T.out (c := some c) hg (Or.inl ⟨hL, hc.symm⟩), fun a ha => ?_, ⟨?_, ?_, ?_, ?_, ?_, ?_⟩⟩, ?_, ?_⟩
            · obtain ⟨ha, hag⟩ := ha
              obtain ⟨x1, x2, x3, x4, x5, x6, x7, x8⟩ := X a ha
              have e1 : ¬ a = t := fun e => by rw [e, mk] at x1; cases x1
              clear X T hxs9
              refine ⟨x1, ?_, ?_, ?_, ?_, ?_, ?_, x8⟩ <;> simp only [mm_put] <;> (try unfold oL) <;> (try unfold oR) <;> (try unfold oP) <;> grind [va_rf]
            · exact mk
            · simp only [mm_put]; grind
            · simp only [mm_put]; unfold oRt; grind [va_rf]
            · simp only [mm_put]; grind
            · simp only [mm_put]; grind
            · simp only [mm_put]; grind
            · repeat' (first | exact A | refine Sm.putS ?_ (by first | exact Or.inr rfl | exact Or.inl (by assumption)))
            · exact zz
          · first | refine z_aload0 156 dJ8_deleteEntry_156 ?_ | refine z_aload0N 156 dJ8_deleteEntry_156 ?_ | refine z_aload0o 156 dJ8_deleteEntry_156 ?_
            first | refine z_aload2 157 dJ8_deleteEntry_157 ?_ | refine z_aload2N 157 dJ8_deleteEntry_157 ?_ | refine z_aload2o 157 dJ8_deleteEntry_157 ?_
            refine z_V1 (k' := k) 158 vJ8_317 dJ8_deleteEntry_158 mk (c_fixDel (S := fun a => S a ∧ a ≠ g) (lt := KO κ) (xs := xs) (ke := ke) (va := va) (n := n) (mc := mc) (ks := ks) (cl0 := cl) False (d - 1) 0 (by omega) (fun a ha => hxs9 a ha.1) ⟨T.out (c := some c) hg (Or.inl ⟨hL, hc.symm⟩), ?EN2, ?MO2, Sm.refl _ _, rfl⟩ ⟨kc.1, hcg⟩ (fun f => f.elim)) (by omega) (by omega) (Nat.le_of_ble_eq_true rfl) (aft_V fun h4 hq => ?AF2)
            case EN2 =>
              intro a ha
              obtain ⟨ha, hag⟩ := ha
              obtain ⟨x1, x2, x3, x4, x5, x6, x7, x8⟩ := X a ha
              have e1 : ¬ a = t := fun e => by rw [e, mk] at x1; cases x1
              clear X T hxs9
              refine ⟨x1, ?_, ?_, ?_, ?_, ?_, ?_, x8⟩ <;> simp only [mm_put] <;> (try unfold oL) <;> (try unfold oR) <;> (try unfold oP) <;> grind [va_rf]
            case MO2 =>
              refine ⟨mk, ?_, ?_, ?_, ?_, ?_⟩
              · simp only [mm_put]; grind
              · simp only [mm_put]; unfold oRt; grind [va_rf]
              · simp only [mm_put]; grind
              · simp only [mm_put]; grind
              · simp only [mm_put]; grind
            case AF2 =>
              obtain ⟨L4, R4, P4, rt4, D4, cl4, I4, -⟩ := hq
              refine z_goto 161 245 dJ8_deleteEntry_161 (by decide) ?_
              refine z_return 245 rfl dJ8_deleteEntry_245 ?_
              refine ⟨rfl, ⟨_, _, _, _, _, _, I4.1, I4.2.1, I4.2.2.1⟩, ?_, I4.2.2.2.2.trans zz⟩
              refine Sm.tr ?_ I4.2.2.2.1 (fun q _ e => e.elim (fun e => Or.inl e.1) Or.inr)
              repeat' (first | exact A | refine Sm.putS ?_ (by first | exact Or.inr rfl | exact Or.inl (by assumption)))
        · first | refine z_aload1 114 dJ8_deleteEntry_114 ?_ | refine z_aload1N 114 dJ8_deleteEntry_114 ?_ | refine z_aload1o 114 dJ8_deleteEntry_114 ?_
          refine z_get 115 gJ8_124 dJ8_deleteEntry_115 xgk (show HP.mm _ g 4 = .ref q from by simp only [mm_put]; grind [va_rf]) ?_
          first | refine z_aload2 118 dJ8_deleteEntry_118 ?_ | refine z_aload2N 118 dJ8_deleteEntry_118 ?_ | refine z_aload2o 118 dJ8_deleteEntry_118 ?_
          refine z_put 119 pJ8_111 (fun h => by cases h) dJ8_deleteEntry_119 hqk (rfl) (rfl) ?_
          refine z_goto 122 133 dJ8_deleteEntry_122 (by decide) ?_
          first | refine z_aload1 133 dJ8_deleteEntry_133 ?_ | refine z_aload1N 133 dJ8_deleteEntry_133 ?_ | refine z_aload1o 133 dJ8_deleteEntry_133 ?_
          first | refine z_aload1 134 dJ8_deleteEntry_134 ?_ | refine z_aload1N 134 dJ8_deleteEntry_134 ?_ | refine z_aload1o 134 dJ8_deleteEntry_134 ?_
          first | refine z_aload1 135 dJ8_deleteEntry_135 ?_ | refine z_aload1N 135 dJ8_deleteEntry_135 ?_ | refine z_aload1o 135 dJ8_deleteEntry_135 ?_
          refine z_null 136 dJ8_deleteEntry_136 ?_
          refine z_dup_x1 137 dJ8_deleteEntry_137 (by first | rfl | exact va_rf_cat _) (by first | rfl | exact va_rf_cat _) ?_
          refine z_put 138 pJ8_124 (fun h => by cases h) dJ8_deleteEntry_138 xgk (rfl) (rfl) ?_
          refine z_dup_x1 141 dJ8_deleteEntry_141 (by first | rfl | exact va_rf_cat _) (by first | rfl | exact va_rf_cat _) ?_
          refine z_put 142 pJ8_114 (fun h => by cases h) dJ8_deleteEntry_142 xgk (rfl) (rfl) ?_
          refine z_put 145 pJ8_111 (fun h => by cases h) dJ8_deleteEntry_145 xgk (rfl) (rfl) ?_
          first | refine z_aload1 148 dJ8_deleteEntry_148 ?_ | refine z_aload1N 148 dJ8_deleteEntry_148 ?_ | refine z_aload1o 148 dJ8_deleteEntry_148 ?_
          refine z_get 149 gJ8_290 dJ8_deleteEntry_149 xgk (show HP.mm _ g 5 = .int (cl g) from by simp only [mm_put]; grind [va_rf]) ?_
          refine z_iconst 152 (nI 1) dJ8_deleteEntry_152 kI1 ?_
          refine z_icne 153 245 dJ8_deleteEntry_153 (by decide) (fun c153 => ?_) (fun c153 => ?_)
          · refine z_return 245 rfl dJ8_deleteEntry_245 ?_
            refine ⟨rfl, ⟨_, _, _, _, _, cl, T.out (c := some c) hg (Or.inl ⟨hL, hc.symm⟩), fun a ha => ?_, ⟨?_, ?_, ?_, ?_, ?_, ?_⟩⟩, ?_, ?_⟩
            · obtain ⟨ha, hag⟩ := ha
              obtain ⟨x1, x2, x3, x4, x5, x6, x7, x8⟩ := X a ha
              have e1 : ¬ a = t := fun e => by rw [e, mk] at x1; cases x1
              clear X T hxs9
              refine ⟨x1, ?_, ?_, ?_, ?_, ?_, ?_, x8⟩ <;> simp only [mm_put] <;> (try unfold oL) <;> (try unfold oR) <;> (try unfold oP) <;> grind [va_rf]
            · exact mk
            · simp only [mm_put]; grind
            · simp only [mm_put]; unfold oRt; grind [va_rf]
            · simp only [mm_put]; grind
            · simp only [mm_put]; grind
            · simp only [mm_put]; grind
            · repeat' (first | exact A | refine Sm.putS ?_ (by first | exact Or.inr rfl | exact Or.inl (by assumption)))
            · exact zz
          · first | refine z_aload0 156 dJ8_deleteEntry_156 ?_ | refine z_aload0N 156 dJ8_deleteEntry_156 ?_ | refine z_aload0o 156 dJ8_deleteEntry_156 ?_
            first | refine z_aload2 157 dJ8_deleteEntry_157 ?_ | refine z_aload2N 157 dJ8_deleteEntry_157 ?_ | refine z_aload2o 157 dJ8_deleteEntry_157 ?_
            refine z_V1 (k' := k) 158 vJ8_317 dJ8_deleteEntry_158 mk (c_fixDel (S := fun a => S a ∧ a ≠ g) (lt := KO κ) (xs := xs) (ke := ke) (va := va) (n := n) (mc := mc) (ks := ks) (cl0 := cl) False (d - 1) 0 (by omega) (fun a ha => hxs9 a ha.1) ⟨T.out (c := some c) hg (Or.inl ⟨hL, hc.symm⟩), ?EN3, ?MO3, Sm.refl _ _, rfl⟩ ⟨kc.1, hcg⟩ (fun f => f.elim)) (by omega) (by omega) (Nat.le_of_ble_eq_true rfl) (aft_V fun h4 hq => ?AF3)
            case EN3 =>
              intro a ha
              obtain ⟨ha, hag⟩ := ha
              obtain ⟨x1, x2, x3, x4, x5, x6, x7, x8⟩ := X a ha
              have e1 : ¬ a = t := fun e => by rw [e, mk] at x1; cases x1
              clear X T hxs9
              refine ⟨x1, ?_, ?_, ?_, ?_, ?_, ?_, x8⟩ <;> simp only [mm_put] <;> (try unfold oL) <;> (try unfold oR) <;> (try unfold oP) <;> grind [va_rf]
            case MO3 =>
              refine ⟨mk, ?_, ?_, ?_, ?_, ?_⟩
              · simp only [mm_put]; grind
              · simp only [mm_put]; unfold oRt; grind [va_rf]
              · simp only [mm_put]; grind
              · simp only [mm_put]; grind
              · simp only [mm_put]; grind
            case AF3 =>
              obtain ⟨L4, R4, P4, rt4, D4, cl4, I4, -⟩ := hq
              refine z_goto 161 245 dJ8_deleteEntry_161 (by decide) ?_
              refine z_return 245 rfl dJ8_deleteEntry_245 ?_
              refine ⟨rfl, ⟨_, _, _, _, _, _, I4.1, I4.2.1, I4.2.2.1⟩, ?_, I4.2.2.2.2.trans zz⟩
              refine Sm.tr ?_ I4.2.2.2.1 (fun q _ e => e.elim (fun e => Or.inl e.1) Or.inr)
              repeat' (first | exact A | refine Sm.putS ?_ (by first | exact Or.inr rfl | exact Or.inl (by assumption)))
  · have hc := hL
    have hR : R g = none := hone.elim (fun e => by rw [e] at hL; cases hL) id
    have kc := T.kidL hg hc
    have hcS := kc.1
    have xc := X c kc.1
    have hcg : ¬ c = g := (T.up kc.1 kc.2.1).2.2.1 ∘ Eq.symm
    have hct : ¬ c = t := fun e => (by rw [e, mk] at xc; exact absurd xc.1 (by decide))
    have xck := xc.1
    have hcq : ∀ q, P g = some q → ¬ c = q := fun q e e2 => (T.up2 kc.1 kc.2.1 e).2.2 e2.symm
    clear xc
    first | refine z_aload1 57 dJ8_deleteEntry_57 ?_ | refine z_aload1N 57 dJ8_deleteEntry_57 ?_ | refine z_aload1o 57 dJ8_deleteEntry_57 ?_
    refine z_get 58 gJ8_111 dJ8_deleteEntry_58 xgk (show HP.mm _ g 2 = .ref c from by rw [xg2, hc]; rfl) ?_
    refine z_ifnull 61 dJ8_deleteEntry_61 ?_
    first | refine z_aload1 64 dJ8_deleteEntry_64 ?_ | refine z_aload1N 64 dJ8_deleteEntry_64 ?_ | refine z_aload1o 64 dJ8_deleteEntry_64 ?_
    refine z_get 65 gJ8_111 dJ8_deleteEntry_65 xgk (show HP.mm _ g 2 = .ref c from by rw [xg2, hc]; rfl) ?_
    refine z_goto 68 75 dJ8_deleteEntry_68 (by decide) ?_
    first | refine z_astore2 75 dJ8_deleteEntry_75 rfl ?_ | refine z_astore2N 75 dJ8_deleteEntry_75 rfl ?_ | refine z_astore2o 75 dJ8_deleteEntry_75 rfl ?_
    first | refine z_aload2 76 dJ8_deleteEntry_76 ?_ | refine z_aload2N 76 dJ8_deleteEntry_76 ?_ | refine z_aload2o 76 dJ8_deleteEntry_76 ?_
    refine z_ifnull 77 dJ8_deleteEntry_77 ?_
    first | refine z_aload2 80 dJ8_deleteEntry_80 ?_ | refine z_aload2N 80 dJ8_deleteEntry_80 ?_ | refine z_aload2o 80 dJ8_deleteEntry_80 ?_
    first | refine z_aload1 81 dJ8_deleteEntry_81 ?_ | refine z_aload1N 81 dJ8_deleteEntry_81 ?_ | refine z_aload1o 81 dJ8_deleteEntry_81 ?_
    refine z_get 82 gJ8_124 dJ8_deleteEntry_82 xgk xg4 ?_
    refine z_put 85 pJ8_124 (fun h => by cases h) dJ8_deleteEntry_85 xck (nrO _ _) (ftO _ _) ?_
    first | refine z_aload1 88 dJ8_deleteEntry_88 ?_ | refine z_aload1N 88 dJ8_deleteEntry_88 ?_ | refine z_aload1o 88 dJ8_deleteEntry_88 ?_
    refine z_get 89 gJ8_124 dJ8_deleteEntry_89 xgk (show HP.mm _ g 4 = va_rf (P g) from by simp only [mm_put]; grind [va_rf]) ?_
    rcases hP : P g with _ | q
    · skip
      refine z_ifnonnullN 92 dJ8_deleteEntry_92 ?_
      first | refine z_aload0 95 dJ8_deleteEntry_95 ?_ | refine z_aload0N 95 dJ8_deleteEntry_95 ?_ | refine z_aload0o 95 dJ8_deleteEntry_95 ?_
      first | refine z_aload2 96 dJ8_deleteEntry_96 ?_ | refine z_aload2N 96 dJ8_deleteEntry_96 ?_ | refine z_aload2o 96 dJ8_deleteEntry_96 ?_
      refine z_put 97 pJ8_101 (fun h => by cases h) dJ8_deleteEntry_97 mk (rfl) (rfl) ?_
      refine z_goto 100 133 dJ8_deleteEntry_100 (by decide) ?_
      first | refine z_aload1 133 dJ8_deleteEntry_133 ?_ | refine z_aload1N 133 dJ8_deleteEntry_133 ?_ | refine z_aload1o 133 dJ8_deleteEntry_133 ?_
      first | refine z_aload1 134 dJ8_deleteEntry_134 ?_ | refine z_aload1N 134 dJ8_deleteEntry_134 ?_ | refine z_aload1o 134 dJ8_deleteEntry_134 ?_
      first | refine z_aload1 135 dJ8_deleteEntry_135 ?_ | refine z_aload1N 135 dJ8_deleteEntry_135 ?_ | refine z_aload1o 135 dJ8_deleteEntry_135 ?_
      refine z_null 136 dJ8_deleteEntry_136 ?_
      refine z_dup_x1 137 dJ8_deleteEntry_137 (by first | rfl | exact va_rf_cat _) (by first | rfl | exact va_rf_cat _) ?_
      refine z_put 138 pJ8_124 (fun h => by cases h) dJ8_deleteEntry_138 xgk (rfl) (rfl) ?_
      refine z_dup_x1 141 dJ8_deleteEntry_141 (by first | rfl | exact va_rf_cat _) (by first | rfl | exact va_rf_cat _) ?_
      refine z_put 142 pJ8_114 (fun h => by cases h) dJ8_deleteEntry_142 xgk (rfl) (rfl) ?_
      refine z_put 145 pJ8_111 (fun h => by cases h) dJ8_deleteEntry_145 xgk (rfl) (rfl) ?_
      first | refine z_aload1 148 dJ8_deleteEntry_148 ?_ | refine z_aload1N 148 dJ8_deleteEntry_148 ?_ | refine z_aload1o 148 dJ8_deleteEntry_148 ?_
      refine z_get 149 gJ8_290 dJ8_deleteEntry_149 xgk (show HP.mm _ g 5 = .int (cl g) from by simp only [mm_put]; grind [va_rf]) ?_
      refine z_iconst 152 (nI 1) dJ8_deleteEntry_152 kI1 ?_
      refine z_icne 153 245 dJ8_deleteEntry_153 (by decide) (fun c153 => ?_) (fun c153 => ?_)
      · refine z_return 245 rfl dJ8_deleteEntry_245 ?_
        refine ⟨rfl, ⟨_, _, _, _, _, cl, T.out (c := some c) hg (Or.inr ⟨hR, hc.symm⟩), fun a ha => ?_, ⟨?_, ?_, ?_, ?_, ?_, ?_⟩⟩, ?_, ?_⟩
        · obtain ⟨ha, hag⟩ := ha
          obtain ⟨x1, x2, x3, x4, x5, x6, x7, x8⟩ := X a ha
          have e1 : ¬ a = t := fun e => by rw [e, mk] at x1; cases x1
          clear X T hxs9
          refine ⟨x1, ?_, ?_, ?_, ?_, ?_, ?_, x8⟩ <;> simp only [mm_put] <;> (try unfold oL) <;> (try unfold oR) <;> (try unfold oP) <;> grind [va_rf]
        · exact mk
        · simp only [mm_put]; grind
        · simp only [mm_put]; unfold oRt; grind [va_rf]
        · simp only [mm_put]; grind
        · simp only [mm_put]; grind
        · simp only [mm_put]; grind
        · repeat' (first | exact A | refine Sm.putS ?_ (by first | exact Or.inr rfl | exact Or.inl (by assumption)))
        · exact zz
      · first | refine z_aload0 156 dJ8_deleteEntry_156 ?_ | refine z_aload0N 156 dJ8_deleteEntry_156 ?_ | refine z_aload0o 156 dJ8_deleteEntry_156 ?_
        first | refine z_aload2 157 dJ8_deleteEntry_157 ?_ | refine z_aload2N 157 dJ8_deleteEntry_157 ?_ | refine z_aload2o 157 dJ8_deleteEntry_157 ?_
        refine z_V1 (k' := k) 158 vJ8_317 dJ8_deleteEntry_158 mk (c_fixDel (S := fun a => S a ∧ a ≠ g) (lt := KO κ) (xs := xs) (ke := ke) (va := va) (n := n) (mc := mc) (ks := ks) (cl0 := cl) False (d - 1) 0 (by omega) (fun a ha => hxs9 a ha.1) ⟨T.out (c := some c) hg (Or.inr ⟨hR, hc.symm⟩), ?EN4, ?MO4, Sm.refl _ _, rfl⟩ ⟨kc.1, hcg⟩ (fun f => f.elim)) (by omega) (by omega) (Nat.le_of_ble_eq_true rfl) (aft_V fun h4 hq => ?AF4)
        case EN4 =>
          intro a ha
          obtain ⟨ha, hag⟩ := ha
          obtain ⟨x1, x2, x3, x4, x5, x6, x7, x8⟩ := X a ha
          have e1 : ¬ a = t := fun e => by rw [e, mk] at x1; cases x1
          clear X T hxs9
          refine ⟨x1, ?_, ?_, ?_, ?_, ?_, ?_, x8⟩ <;> simp only [mm_put] <;> (try unfold oL) <;> (try unfold oR) <;> (try unfold oP) <;> grind [va_rf]
        case MO4 =>
          refine ⟨mk, ?_, ?_, ?_, ?_, ?_⟩
          · simp only [mm_put]; grind
          · simp only [mm_put]; unfold oRt; grind [va_rf]
          · simp only [mm_put]; grind
          · simp only [mm_put]; grind
          · simp only [mm_put]; grind
        case AF4 =>
          obtain ⟨L4, R4, P4, rt4, D4, cl4, I4, -⟩ := hq
          refine z_goto 161 245 dJ8_deleteEntry_161 (by decide) ?_
          refine z_return 245 rfl dJ8_deleteEntry_245 ?_
          refine ⟨rfl, ⟨_, _, _, _, _, _, I4.1, I4.2.1, I4.2.2.1⟩, ?_, I4.2.2.2.2.trans zz⟩
          refine Sm.tr ?_ I4.2.2.2.1 (fun q _ e => e.elim (fun e => Or.inl e.1) Or.inr)
          repeat' (first | exact A | refine Sm.putS ?_ (by first | exact Or.inr rfl | exact Or.inl (by assumption)))
    · obtain ⟨hqS, hqk, hqg, hqt, hq2, hq3, hqo⟩ := hq9 q hP
      have hcq9 := hcq q hP
      refine z_ifnonnull 92 103 dJ8_deleteEntry_92 (by decide) ?_
      first | refine z_aload1 103 dJ8_deleteEntry_103 ?_ | refine z_aload1N 103 dJ8_deleteEntry_103 ?_ | refine z_aload1o 103 dJ8_deleteEntry_103 ?_
      first | refine z_aload1 104 dJ8_deleteEntry_104 ?_ | refine z_aload1N 104 dJ8_deleteEntry_104 ?_ | refine z_aload1o 104 dJ8_deleteEntry_104 ?_
      refine z_get 105 gJ8_124 dJ8_deleteEntry_105 xgk (show HP.mm _ g 4 = .ref q from by simp only [mm_put]; grind [va_rf]) ?_
      refine z_get 108 gJ8_111 dJ8_deleteEntry_108 hqk (show HP.mm _ q 2 = va_rf (L q) from by simp only [mm_put]; grind [va_rf]) ?_
      refine z_acne (some g) (L q) 111 125 dJ8_deleteEntry_111 (by decide) (fun cg => ?_) (fun cg => ?_)
      · first | refine z_aload1 125 dJ8_deleteEntry_125 ?_ | refine z_aload1N 125 dJ8_deleteEntry_125 ?_ | refine z_aload1o 125 dJ8_deleteEntry_125 ?_
        refine z_get 126 gJ8_124 dJ8_deleteEntry_126 xgk (show HP.mm _ g 4 = .ref q from by simp only [mm_put]; grind [va_rf]) ?_
        first | refine z_aload2 129 dJ8_deleteEntry_129 ?_ | refine z_aload2N 129 dJ8_deleteEntry_129 ?_ | refine z_aload2o 129 dJ8_deleteEntry_129 ?_
        refine z_put 130 pJ8_114 (fun h => by cases h) dJ8_deleteEntry_130 hqk (rfl) (rfl) ?_
        first | refine z_aload1 133 dJ8_deleteEntry_133 ?_ | refine z_aload1N 133 dJ8_deleteEntry_133 ?_ | refine z_aload1o 133 dJ8_deleteEntry_133 ?_
        first | refine z_aload1 134 dJ8_deleteEntry_134 ?_ | refine z_aload1N 134 dJ8_deleteEntry_134 ?_ | refine z_aload1o 134 dJ8_deleteEntry_134 ?_
        first | refine z_aload1 135 dJ8_deleteEntry_135 ?_ | refine z_aload1N 135 dJ8_deleteEntry_135 ?_ | refine z_aload1o 135 dJ8_deleteEntry_135 ?_
        refine z_null 136 dJ8_deleteEntry_136 ?_
        refine z_dup_x1 137 dJ8_deleteEntry_137 (by first | rfl | exact va_rf_cat _) (by first | rfl | exact va_rf_cat _) ?_
        refine z_put 138 pJ8_124 (fun h => by cases h) dJ8_deleteEntry_138 xgk (rfl) (rfl) ?_
        refine z_dup_x1 141 dJ8_deleteEntry_141 (by first | rfl | exact va_rf_cat _) (by first | rfl | exact va_rf_cat _) ?_
        refine z_put 142 pJ8_114 (fun h => by cases h) dJ8_deleteEntry_142 xgk (rfl) (rfl) ?_
        refine z_put 145 pJ8_111 (fun h => by cases h) dJ8_deleteEntry_145 xgk (rfl) (rfl) ?_
        first | refine z_aload1 148 dJ8_deleteEntry_148 ?_ | refine z_aload1N 148 dJ8_deleteEntry_148 ?_ | refine z_aload1o 148 dJ8_deleteEntry_148 ?_
        refine z_get 149 gJ8_290 dJ8_deleteEntry_149 xgk (show HP.mm _ g 5 = .int (cl g) from by simp only [mm_put]; grind [va_rf]) ?_
        refine z_iconst 152 (nI 1) dJ8_deleteEntry_152 kI1 ?_
        refine z_icne 153 245 dJ8_deleteEntry_153 (by decide) (fun c153 => ?_) (fun c153 => ?_)
        · refine z_return 245 rfl dJ8_deleteEntry_245 ?_
          refine ⟨rfl, ⟨_, _, _, _, _, cl, T.out (c := some c) hg (Or.inr ⟨hR, hc.symm⟩), fun a ha => ?_, ⟨?_, ?_, ?_, ?_, ?_, ?_⟩⟩, ?_, ?_⟩
          · obtain ⟨ha, hag⟩ := ha
            obtain ⟨x1, x2, x3, x4, x5, x6, x7, x8⟩ := X a ha
            have e1 : ¬ a = t := fun e => by rw [e, mk] at x1; cases x1
            clear X T hxs9
            refine ⟨x1, ?_, ?_, ?_, ?_, ?_, ?_, x8⟩ <;> simp only [mm_put] <;> (try unfold oL) <;> (try unfold oR) <;> (try unfold oP) <;> grind [va_rf]
          · exact mk
          · simp only [mm_put]; grind
          · simp only [mm_put]; unfold oRt; grind [va_rf]
          · simp only [mm_put]; grind
          · simp only [mm_put]; grind
          · simp only [mm_put]; grind
          · repeat' (first | exact A | refine Sm.putS ?_ (by first | exact Or.inr rfl | exact Or.inl (by assumption)))
          · exact zz
        · first | refine z_aload0 156 dJ8_deleteEntry_156 ?_ | refine z_aload0N 156 dJ8_deleteEntry_156 ?_ | refine z_aload0o 156 dJ8_deleteEntry_156 ?_
          first | refine z_aload2 157 dJ8_deleteEntry_157 ?_ | refine z_aload2N 157 dJ8_deleteEntry_157 ?_ | refine z_aload2o 157 dJ8_deleteEntry_157 ?_
          refine z_V1 (k' := k) 158 vJ8_317 dJ8_deleteEntry_158 mk (c_fixDel (S := fun a => S a ∧ a ≠ g) (lt := KO κ) (xs := xs) (ke := ke) (va := va) (n := n) (mc := mc) (ks := ks) (cl0 := cl) False (d - 1) 0 (by omega) (fun a ha => hxs9 a ha.1) ⟨T.out (c := some c) hg (Or.inr ⟨hR, hc.symm⟩), ?EN5, ?MO5, Sm.refl _ _, rfl⟩ ⟨kc.1, hcg⟩ (fun f => f.elim)) (by omega) (by omega) (Nat.le_of_ble_eq_true rfl) (aft_V fun h4 hq => ?AF5)
          case EN5 =>
            intro a ha
            obtain ⟨ha, hag⟩ := ha
            obtain ⟨x1, x2, x3, x4, x5, x6, x7, x8⟩ := X a ha
            have e1 : ¬ a = t := fun e => by rw [e, mk] at x1; cases x1
            clear X T hxs9
            refine ⟨x1, ?_, ?_, ?_, ?_, ?_, ?_, x8⟩ <;> simp only [mm_put] <;> (try unfold oL) <;> (try unfold oR) <;> (try unfold oP) <;> grind [va_rf]
          case MO5 =>
            refine ⟨mk, ?_, ?_, ?_, ?_, ?_⟩
            · simp only [mm_put]; grind
            · simp only [mm_put]; unfold oRt; grind [va_rf]
            · simp only [mm_put]; grind
            · simp only [mm_put]; grind
            · simp only [mm_put]; grind
          case AF5 =>
            obtain ⟨L4, R4, P4, rt4, D4, cl4, I4, -⟩ := hq
            refine z_goto 161 245 dJ8_deleteEntry_161 (by decide) ?_
            refine z_return 245 rfl dJ8_deleteEntry_245 ?_
            refine ⟨rfl, ⟨_, _, _, _, _, _, I4.1, I4.2.1, I4.2.2.1⟩, ?_, I4.2.2.2.2.trans zz⟩
            refine Sm.tr ?_ I4.2.2.2.1 (fun q _ e => e.elim (fun e => Or.inl e.1) Or.inr)
            repeat' (first | exact A | refine Sm.putS ?_ (by first | exact Or.inr rfl | exact Or.inl (by assumption)))
      · first | refine z_aload1 114 dJ8_deleteEntry_114 ?_ | refine z_aload1N 114 dJ8_deleteEntry_114 ?_ | refine z_aload1o 114 dJ8_deleteEntry_114 ?_
        refine z_get 115 gJ8_124 dJ8_deleteEntry_115 xgk (show HP.mm _ g 4 = .ref q from by simp only [mm_put]; grind [va_rf]) ?_
        first | refine z_aload2 118 dJ8_deleteEntry_118 ?_ | refine z_aload2N 118 dJ8_deleteEntry_118 ?_ | refine z_aload2o 118 dJ8_deleteEntry_118 ?_
        refine z_put 119 pJ8_111 (fun h => by cases h) dJ8_deleteEntry_119 hqk (rfl) (rfl) ?_
        refine z_goto 122 133 dJ8_deleteEntry_122 (by decide) ?_
        first | refine z_aload1 133 dJ8_deleteEntry_133 ?_ | refine z_aload1N 133 dJ8_deleteEntry_133 ?_ | refine z_aload1o 133 dJ8_deleteEntry_133 ?_
        first | refine z_aload1 134 dJ8_deleteEntry_134 ?_ | refine z_aload1N 134 dJ8_deleteEntry_134 ?_ | refine z_aload1o 134 dJ8_deleteEntry_134 ?_
        first | refine z_aload1 135 dJ8_deleteEntry_135 ?_ | refine z_aload1N 135 dJ8_deleteEntry_135 ?_ | refine z_aload1o 135 dJ8_deleteEntry_135 ?_
        refine z_null 136 dJ8_deleteEntry_136 ?_
        refine z_dup_x1 137 dJ8_deleteEntry_137 (by first | rfl | exact va_rf_cat _) (by first | rfl | exact va_rf_cat _) ?_
        refine z_put 138 pJ8_124 (fun h => by cases h) dJ8_deleteEntry_138 xgk (rfl) (rfl) ?_
        refine z_dup_x1 141 dJ8_deleteEntry_141 (by first | rfl | exact va_rf_cat _) (by first | rfl | exact va_rf_cat _) ?_
        refine z_put 142 pJ8_114 (fun h => by cases h) dJ8_deleteEntry_142 xgk (rfl) (rfl) ?_
        refine z_put 145 pJ8_111 (fun h => by cases h) dJ8_deleteEntry_145 xgk (rfl) (rfl) ?_
        first | refine z_aload1 148 dJ8_deleteEntry_148 ?_ | refine z_aload1N 148 dJ8_deleteEntry_148 ?_ | refine z_aload1o 148 dJ8_deleteEntry_148 ?_
        refine z_get 149 gJ8_290 dJ8_deleteEntry_149 xgk (show HP.mm _ g 5 = .int (cl g) from by simp only [mm_put]; grind [va_rf]) ?_
        refine z_iconst 152 (nI 1) dJ8_deleteEntry_152 kI1 ?_
        refine z_icne 153 245 dJ8_deleteEntry_153 (by decide) (fun c153 => ?_) (fun c153 => ?_)
        · refine z_return 245 rfl dJ8_deleteEntry_245 ?_
          refine ⟨rfl, ⟨_, _, _, _, _, cl, T.out (c := some c) hg (Or.inr ⟨hR, hc.symm⟩), fun a ha => ?_, ⟨?_, ?_, ?_, ?_, ?_, ?_⟩⟩, ?_, ?_⟩
          · obtain ⟨ha, hag⟩ := ha
            obtain ⟨x1, x2, x3, x4, x5, x6, x7, x8⟩ := X a ha
            have e1 : ¬ a = t := fun e => by rw [e, mk] at x1; cases x1
            clear X T hxs9
            refine ⟨x1, ?_, ?_, ?_, ?_, ?_, ?_, x8⟩ <;> simp only [mm_put] <;> (try unfold oL) <;> (try unfold oR) <;> (try unfold oP) <;> grind [va_rf]
          · exact mk
          · simp only [mm_put]; grind
          · simp only [mm_put]; unfold oRt; grind [va_rf]
          · simp only [mm_put]; grind
          · simp only [mm_put]; grind
          · simp only [mm_put]; grind
          · repeat' (first | exact A | refine Sm.putS ?_ (by first | exact Or.inr rfl | exact Or.inl (by assumption)))
          · exact zz
        · first | refine z_aload0 156 dJ8_deleteEntry_156 ?_ | refine z_aload0N 156 dJ8_deleteEntry_156 ?_ | refine z_aload0o 156 dJ8_deleteEntry_156 ?_
          first | refine z_aload2 157 dJ8_deleteEntry_157 ?_ | refine z_aload2N 157 dJ8_deleteEntry_157 ?_ | refine z_aload2o 157 dJ8_deleteEntry_157 ?_
          refine z_V1 (k' := k) 158 vJ8_317 dJ8_deleteEntry_158 mk (c_fixDel (S := fun a => S a ∧ a ≠ g) (lt := KO κ) (xs := xs) (ke := ke) (va := va) (n := n) (mc := mc) (ks := ks) (cl0 := cl) False (d - 1) 0 (by omega) (fun a ha => hxs9 a ha.1) ⟨T.out (c := some c) hg (Or.inr ⟨hR, hc.symm⟩), ?EN6, ?MO6, Sm.refl _ _, rfl⟩ ⟨kc.1, hcg⟩ (fun f => f.elim)) (by omega) (by omega) (Nat.le_of_ble_eq_true rfl) (aft_V fun h4 hq => ?AF6)
          case EN6 =>
            intro a ha
            obtain ⟨ha, hag⟩ := ha
            obtain ⟨x1, x2, x3, x4, x5, x6, x7, x8⟩ := X a ha
            have e1 : ¬ a = t := fun e => by rw [e, mk] at x1; cases x1
            clear X T hxs9
            refine ⟨x1, ?_, ?_, ?_, ?_, ?_, ?_, x8⟩ <;> simp only [mm_put] <;> (try unfold oL) <;> (try unfold oR) <;> (try unfold oP) <;> grind [va_rf]
          case MO6 =>
            refine ⟨mk, ?_, ?_, ?_, ?_, ?_⟩
            · simp only [mm_put]; grind
            · simp only [mm_put]; unfold oRt; grind [va_rf]
            · simp only [mm_put]; grind
            · simp only [mm_put]; grind
            · simp only [mm_put]; grind
          case AF6 =>
            obtain ⟨L4, R4, P4, rt4, D4, cl4, I4, -⟩ := hq
            refine z_goto 161 245 dJ8_deleteEntry_161 (by decide) ?_
            refine z_return 245 rfl dJ8_deleteEntry_245 ?_
            refine ⟨rfl, ⟨_, _, _, _, _, _, I4.1, I4.2.1, I4.2.2.1⟩, ?_, I4.2.2.2.2.trans zz⟩
            refine Sm.tr ?_ I4.2.2.2.1 (fun q _ e => e.elim (fun e => Or.inl e.1) Or.inr)
            repeat' (first | exact A | refine Sm.putS ?_ (by first | exact Or.inr rfl | exact Or.inl (by assumption)))
