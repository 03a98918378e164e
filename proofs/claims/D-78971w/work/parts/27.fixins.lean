/-! TREEMAP: fixAfterInsertion -/
section TWup
variable {S : Nat → Prop} {lt : Nat → Nat → Prop} {L R P : Nat → Option Nat} {rt : Option Nat} {D : Nat → Nat → Prop}
theorem TW.kidL (h : TW S lt L R P rt D) {a b : Nat} (ha : S a) (e : L a = some b) : S b ∧ P b = some a ∧ D a b ∧ lt b a := by
  have := h.2.2.2.1 a ha b e
  have h2 := (this.2.2 b).mp (h.2.1 b this.1)
  exact ⟨this.1, this.2.1, h2.1, h2.2⟩
theorem TW.kidR (h : TW S lt L R P rt D) {a b : Nat} (ha : S a) (e : R a = some b) : S b ∧ P b = some a ∧ D a b ∧ lt a b := by
  have := h.2.2.2.2.2.1 a ha b e
  have h2 := (this.2.2 b).mp (h.2.1 b this.1)
  exact ⟨this.1, this.2.1, h2.1, h2.2⟩
theorem TW.irr (h : TW S lt L R P rt D) {a : Nat} (ha : S a) : ¬ lt a a := h.2.2.2.2.2.2.2.2.2.2.1 a ha
theorem TW.up (h : TW S lt L R P rt D) {a b : Nat} (hb : S b) (e : P b = some a) : S a ∧ D a b ∧ ¬ a = b ∧ (L a = some b ∨ R a = some b) := by
  obtain ⟨h1, h2⟩ := h.2.2.2.2.2.2.2.2.2.1 b hb a e
  refine ⟨h1, ?_, fun e2 => ?_, h2⟩
  · rcases h2 with h2 | h2
    · exact (h.kidL h1 h2).2.2.1
    · exact (h.kidR h1 h2).2.2.1
  · subst e2
    rcases h2 with h2 | h2
    · exact h.irr h1 (h.kidL h1 h2).2.2.2
    · exact h.irr h1 (h.kidR h1 h2).2.2.2
theorem TW.up2 (h : TW S lt L R P rt D) {a b g : Nat} (hb : S b) (e : P b = some a) (e2 : P a = some g) : S g ∧ D g b ∧ ¬ g = b := by
  have u1 := h.up hb e
  have u2 := h.up u1.1 e2
  refine ⟨u2.1, h.2.2.2.2.2.2.2.2.2.2.2.2.2.1 g a b u2.2.1 u1.2.1, fun q => ?_⟩
  subst q
  exact u1.2.2.1 (h.anti u1.2.1 u2.2.1)
theorem TW.lr (h : TW S lt L R P rt D) {a b c : Nat} (ha : S a) (e : L a = some b) (e2 : R a = some c) : ¬ b = c := by
  intro q
  subst q
  have h1 := h.kidL ha e
  have h2 := h.kidR ha e2
  exact h.irr ha (h.2.2.2.2.2.2.2.2.2.2.2.1 a b a ha h1.1 ha h2.2.2.2 h1.2.2.2)
theorem tP_o {q r a : Nat} (h1 : ¬ a = q) (h2 : ¬ a = r) (h3 : ¬ L r = some a) : tP L P q r a = P a := by unfold tP; rw [if_neg h1, if_neg h2, if_neg h3]
theorem tP_q {q r : Nat} : tP L P q r q = some r := by unfold tP; rw [if_pos rfl]
theorem tP_r {q r : Nat} (h : ¬ r = q) : tP L P q r r = P q := by unfold tP; rw [if_neg h, if_pos rfl]
theorem tL_r {q r : Nat} : tL L P q r r = some q := by unfold tL; rw [if_pos rfl]
theorem tL_g {q r g : Nat} (h : ¬ g = r) (h1 : P q = some g) (h2 : L g = some q) : tL L P q r g = some r := by unfold tL; rw [if_neg h, if_pos ⟨h1, h2⟩]
end TWup
theorem nI01 : ¬ nI 1 = nI 0 := by decide
/-- inside TreeMap's own walks: the links are seen; h0: where the walk began -/
def IV (h0 : HP) (t : Nat) (S : Nat → Prop) (lt : Nat → Nat → Prop) (ke va : Nat → Nat) (n mc : Int32) (ks : Option Nat) (h : HP) (L R P : Nat → Option Nat) (rt : Option Nat) (D : Nat → Nat → Prop) (cl : Nat → Int32) : Prop :=
  TW S lt L R P rt D ∧ EnS h S L R P ke va cl ∧ MapO h t rt n mc ks ∧ Sm (fun a => S a ∨ a = t) h0 h ∧ h.sz = h0.sz
/-- outside: some links -/
def TT (h0 : HP) (t : Nat) (S : Nat → Prop) (lt : Nat → Nat → Prop) (ke va : Nat → Nat) (n mc : Int32) (ks : Option Nat) (h : HP) : Prop := ∃ (L R P : Nat → Option Nat) (rt : Option Nat) (D : Nat → Nat → Prop) (cl : Nat → Int32), IV h0 t S lt ke va n mc ks h L R P rt D cl
section IVs
variable {E : Ev} {h0 h : HP} {t : Nat} {S : Nat → Prop} {lt : Nat → Nat → Prop} {ke va : Nat → Nat} {n mc : Int32} {ks : Option Nat} {L R P : Nat → Option Nat} {rt : Option Nat} {D : Nat → Nat → Prop} {cl : Nat → Int32}
theorem IV.nt (I : IV h0 t S lt ke va n mc ks h L R P rt D cl) {a : Nat} (ha : S a) : ¬ a = t := fun e => by
  have h1 := (I.2.1 a ha).1
  rw [e, I.2.2.1.1] at h1
  cases h1
theorem IV.col (I : IV h0 t S lt ke va n mc ks h L R P rt D cl) (o : Option Nat) {c : Int32} (hc : bt01 c) (ho : ∀ a, o = some a → S a) : IV h0 t S lt ke va n mc ks (scO h o c) L R P rt D (fun a => if o = some a then c else cl a) := by
  cases o with
  | none => simpa [scO] using I
  | some b =>
    have hb := ho b rfl
    have hn := I.nt hb
    obtain ⟨T, X, M, A, Zz⟩ := I
    refine ⟨T, fun a ha => ?_, ?_, A.putS (Or.inl hb), Zz⟩
    · obtain ⟨x1, x2, x3, x4, x5, x6, x7, x8⟩ := X a ha
      refine ⟨x1, ?_, ?_, ?_, ?_, ?_, ?_, ?_⟩
      · simp [scO, mm_put, x2]
      · simp [scO, mm_put, x3]
      · simp [scO, mm_put, x4]
      · simp [scO, mm_put, x5]
      · simp [scO, mm_put, x6]
      · by_cases e : a = b
        · subst e; simp [scO, mm_put]
        · simp [scO, mm_put, e, Ne.symm e, x7]
      · by_cases e : b = a
        · simp [e, hc]
        · simp [e, x8]
    · obtain ⟨m1, m2, m3, m4, m5, m7⟩ := M
      exact ⟨m1, by simp [scO, mm_put, m2], by simp [scO, mm_put, m3], by simp [scO, mm_put, m4], by simp [scO, mm_put, m5, Ne.symm hn], by simp [scO, mm_put, m7]⟩
theorem c_par (d k : Nat) {a : Nat} {r : Option Nat} (hk : h.kd a = 8) (hv : h.mm a 4 = va_rf r) : Call E yJ8_parentOf d k [.ref a] h (rA (fun x h' => h' = h ∧ x = r)) :=
  c_parentOf d k (o := some a) (f := fun _ => r) (fun _ e => by cases e; exact ⟨hk, hv⟩)
theorem c_lef (d k : Nat) {a : Nat} {r : Option Nat} (hk : h.kd a = 8) (hv : h.mm a 2 = va_rf r) : Call E yJ8_leftOf d k [.ref a] h (rA (fun x h' => h' = h ∧ x = r)) :=
  c_leftOf d k (o := some a) (f := fun _ => r) (fun _ e => by cases e; exact ⟨hk, hv⟩)
theorem c_rig (d k : Nat) {a : Nat} {r : Option Nat} (hk : h.kd a = 8) (hv : h.mm a 3 = va_rf r) : Call E yJ8_rightOf d k [.ref a] h (rA (fun x h' => h' = h ∧ x = r)) :=
  c_rightOf d k (o := some a) (f := fun _ => r) (fun _ e => by cases e; exact ⟨hk, hv⟩)
theorem c_parN (d k : Nat) : Call E yJ8_parentOf d k [.null] h (rA (fun x h' => h' = h ∧ x = none)) := c_parentOf d k (o := none) (f := fun _ => none) (fun _ e => nomatch e)
theorem c_lefN (d k : Nat) : Call E yJ8_leftOf d k [.null] h (rA (fun x h' => h' = h ∧ x = none)) := c_leftOf d k (o := none) (f := fun _ => none) (fun _ e => nomatch e)
theorem c_rigN (d k : Nat) : Call E yJ8_rightOf d k [.null] h (rA (fun x h' => h' = h ∧ x = none)) := c_rightOf d k (o := none) (f := fun _ => none) (fun _ e => nomatch e)
theorem c_colI (I : IV h0 t S lt ke va n mc ks h L R P rt D cl) (d k : Nat) (o : Option Nat) (ho : ∀ a, o = some a → S a) : Call E yJ8_colorOf d k [va_rf o] h (rI (fun x h' => h' = h ∧ x = clO cl o)) :=
  c_colorOf d k (fun a e => ⟨(I.2.1 a (ho a e)).1, (I.2.1 a (ho a e)).2.2.2.2.2.2.1, (I.2.1 a (ho a e)).2.2.2.2.2.2.2⟩)
theorem c_setI (I : IV h0 t S lt ke va n mc ks h L R P rt D cl) (d k : Nat) (o : Option Nat) {c : Int32} (hc : bt01 c) (ho : ∀ a, o = some a → S a) : Call E yJ8_setColor d k [va_rf o, .int c] h (rV (fun h' => IV h0 t S lt ke va n mc ks h' L R P rt D (fun a => if o = some a then c else cl a))) :=
  (c_setColor d k hc (fun a e => ⟨(I.2.1 a (ho a e)).1, trivial⟩)).mono (fun r h' ⟨e, q⟩ => ⟨e, by subst q; exact I.col o hc ho⟩)
theorem c_rotLI (I : IV h0 t S lt ke va n mc ks h L R P rt D cl) (d k : Nat) {q r : Nat} (hq : S q) (hr : R q = some r) : Call E yJ8_rotateLeft d k [.ref t, .ref q] h (rV (fun h' => IV h0 t S lt ke va n mc ks h' (tL L P q r) (tR L R P q r) (tP L P q r) (tRt P rt q r) (tD lt D q r) cl)) :=
  (c_rotL d k I.1 I.2.1 I.2.2.1 hq hr).mono (fun x h' ⟨e, a1, a2, a3, a4⟩ => ⟨e, I.1.rot hq hr, a1, a2, I.2.2.2.1.trans a3, a4.trans I.2.2.2.2⟩)
theorem c_rotRI (I : IV h0 t S lt ke va n mc ks h L R P rt D cl) (d k : Nat) {q r : Nat} (hq : S q) (hr : L q = some r) : Call E yJ8_rotateRight d k [.ref t, .ref q] h (rV (fun h' => IV h0 t S lt ke va n mc ks h' (tR R L P q r) (tL R P q r) (tP R P q r) (tRt P rt q r) (tD (fun a b => lt b a) D q r) cl)) :=
  (c_rotR d k I.1 I.2.1 I.2.2.1 hq hr).mono (fun x h' ⟨e, a1, a2, a3, a4⟩ => ⟨e, (I.1.mirror.rot hq hr).mirror, a1, a2, I.2.2.2.1.trans a3, a4.trans I.2.2.2.2⟩)
end IVs
set_option maxHeartbeats 8000000 in
/-- fixAfterInsertion: the same nodes in the same order, other links -/
theorem c_fixIns {E : Ev} {h0 : HP} {t : Nat} {S : Nat → Prop} {lt : Nat → Nat → Prop} {ke va : Nat → Nat} {n mc : Int32} {ks : Option Nat} {L0 R0 P0 : Nat → Option Nat} {rt0 : Option Nat} {D0 : Nat → Nat → Prop} {cl0 : Nat → Int32} {x0 : Nat} {xs : List Nat} (d k : Nat) (hd1 : 1 ≤ d) (hxs9 : ∀ a, S a → a ∈ xs) (I0 : IV h0 t S lt ke va n mc ks h0 L0 R0 P0 rt0 D0 cl0) (hx0 : S x0) :
    Call E yJ8_fixAfterInsertion d k [.ref t, .ref x0] h0 (rV (TT h0 t S lt ke va n mc ks)) := by
  have EX : ∀ (L R P : Nat → Option Nat) (rt : Option Nat) (D : Nat → Nat → Prop) (cl : Nat → Int32) (x : Nat) (v2 : Value) (h : HP), IV h0 t S lt ke va n mc ks h L R P rt D cl → S x → Z E mJ8_fixAfterInsertion d (rV (TT h0 t S lt ke va n mc ks)) k h 258 [.ref t, .ref x, v2] [] := by
    intro L R P rt D cl x v2 h I hx
    obtain ⟨r, hr⟩ : ∃ r, rt = some r := by
      cases e : rt with
      | none => exact absurd hx (I.1.2.2.2.2.2.2.1 e x)
      | some r => exact ⟨r, rfl⟩
    have hrS := (I.1.2.2.2.2.2.2.2.1 r hr).1
    first | refine z_aload0 258 dJ8_fixAfterInsertion_258 ?_ | refine z_aload0N 258 dJ8_fixAfterInsertion_258 ?_ | refine z_aload0o 258 dJ8_fixAfterInsertion_258 ?_
    refine z_get 259 gJ8_101 dJ8_fixAfterInsertion_259 I.2.2.1.1 (show HP.mm _ t 3 = .ref r from by rw [I.2.2.1.2.2.1, hr]; rfl) ?_
    refine z_iconst 262 (nI 1) dJ8_fixAfterInsertion_262 kI1 ?_
    refine z_put 263 pJ8_290 (fun h => by cases h) dJ8_fixAfterInsertion_263 (I.2.1 r hrS).1 (nb1) (fb1) ?_
    refine z_return 266 rfl dJ8_fixAfterInsertion_266 ?_
    exact ⟨rfl, _, _, _, _, _, _, I.col (some r) bt01_1 (fun a e => by cases e; exact hrS)⟩
  have HX : ∀ (L R P : Nat → Option Nat) (rt : Option Nat) (D : Nat → Nat → Prop) (cl : Nat → Int32) (x : Nat) (v2 : Value) (h : HP), IV h0 t S lt ke va n mc ks h L R P rt D cl → S x → (∀ p, P x = some p → ¬ cl p = nI 0) → Z E mJ8_fixAfterInsertion d (rV (TT h0 t S lt ke va n mc ks)) k h 5 [.ref t, .ref x, v2] [] := by
    intro L R P rt D cl x v2 h I hx hbl
    first | refine z_aload1 5 dJ8_fixAfterInsertion_5 ?_ | refine z_aload1N 5 dJ8_fixAfterInsertion_5 ?_ | refine z_aload1o 5 dJ8_fixAfterInsertion_5 ?_
    refine z_ifnull 6 dJ8_fixAfterInsertion_6 ?_
    first | refine z_aload1 9 dJ8_fixAfterInsertion_9 ?_ | refine z_aload1N 9 dJ8_fixAfterInsertion_9 ?_ | refine z_aload1o 9 dJ8_fixAfterInsertion_9 ?_
    first | refine z_aload0 10 dJ8_fixAfterInsertion_10 ?_ | refine z_aload0N 10 dJ8_fixAfterInsertion_10 ?_ | refine z_aload0o 10 dJ8_fixAfterInsertion_10 ?_
    refine z_get 11 gJ8_101 dJ8_fixAfterInsertion_11 I.2.2.1.1 I.2.2.1.2.2.1 ?_
    refine z_aceq (some x) rt 14 258 dJ8_fixAfterInsertion_14 (by decide) (fun c14 => ?_) (fun c14 => ?_)
    · exact EX _ _ _ _ _ _ _ _ _ I hx
    · obtain ⟨p, hP⟩ : ∃ p, P x = some p := by
        cases e : P x with
        | none => exact absurd (I.1.2.2.2.2.2.2.2.2.1 x hx e).symm c14
        | some p => exact ⟨p, rfl⟩
      have hp := (I.1.up hx hP).1
      first | refine z_aload1 17 dJ8_fixAfterInsertion_17 ?_ | refine z_aload1N 17 dJ8_fixAfterInsertion_17 ?_ | refine z_aload1o 17 dJ8_fixAfterInsertion_17 ?_
      refine z_get 18 gJ8_124 dJ8_fixAfterInsertion_18 (I.2.1 x hx).1 (show HP.mm _ x 4 = .ref p from by rw [(I.2.1 x hx).2.2.2.2.2.1, hP]; rfl) ?_
      refine z_get 21 gJ8_290 dJ8_fixAfterInsertion_21 (I.2.1 p hp).1 (I.2.1 p hp).2.2.2.2.2.2.1 ?_
      refine z_ifne 24 258 dJ8_fixAfterInsertion_24 (by decide) (fun c24 => ?_) (fun d24 => ?_)
      · exact EX _ _ _ _ _ _ _ _ _ I hx
      · exact absurd (by first | exact d24 | exact Classical.not_not.mp d24) (hbl p hP)
  have LOOP : ∀ (m : Nat) (L R P : Nat → Option Nat) (rt : Option Nat) (D : Nat → Nat → Prop) (cl : Nat → Int32) (x : Nat) (v2 : Value) (h : HP), IV h0 t S lt ke va n mc ks h L R P rt D cl → S x → xs.length - cnD D xs x < m → Z E mJ8_fixAfterInsertion d (rV (TT h0 t S lt ke va n mc ks)) k h 5 [.ref t, .ref x, v2] [] := by
    intro m
    induction m with
    | zero => exact fun _ _ _ _ _ _ _ _ _ _ _ q => absurd q (Nat.not_lt_zero _)
    | succ m ih =>
      intro L R P rt D cl x v2 h I hx hm
      first | refine z_aload1 5 dJ8_fixAfterInsertion_5 ?_ | refine z_aload1N 5 dJ8_fixAfterInsertion_5 ?_ | refine z_aload1o 5 dJ8_fixAfterInsertion_5 ?_
      refine z_ifnull 6 dJ8_fixAfterInsertion_6 ?_
      first | refine z_aload1 9 dJ8_fixAfterInsertion_9 ?_ | refine z_aload1N 9 dJ8_fixAfterInsertion_9 ?_ | refine z_aload1o 9 dJ8_fixAfterInsertion_9 ?_
      first | refine z_aload0 10 dJ8_fixAfterInsertion_10 ?_ | refine z_aload0N 10 dJ8_fixAfterInsertion_10 ?_ | refine z_aload0o 10 dJ8_fixAfterInsertion_10 ?_
      refine z_get 11 gJ8_101 dJ8_fixAfterInsertion_11 I.2.2.1.1 I.2.2.1.2.2.1 ?_
      refine z_aceq (some x) rt 14 258 dJ8_fixAfterInsertion_14 (by decide) (fun c14 => ?_) (fun c14 => ?_)
      · exact EX _ _ _ _ _ _ _ _ _ I hx
      · obtain ⟨p, hP⟩ : ∃ p, P x = some p := by
          cases e : P x with
          | none => exact absurd (I.1.2.2.2.2.2.2.2.2.1 x hx e).symm c14
          | some p => exact ⟨p, rfl⟩
        have hp := (I.1.up hx hP).1
        first | refine z_aload1 17 dJ8_fixAfterInsertion_17 ?_ | refine z_aload1N 17 dJ8_fixAfterInsertion_17 ?_ | refine z_aload1o 17 dJ8_fixAfterInsertion_17 ?_
        refine z_get 18 gJ8_124 dJ8_fixAfterInsertion_18 (I.2.1 x hx).1 (show HP.mm _ x 4 = .ref p from by rw [(I.2.1 x hx).2.2.2.2.2.1, hP]; rfl) ?_
        refine z_get 21 gJ8_290 dJ8_fixAfterInsertion_21 (I.2.1 p hp).1 (I.2.1 p hp).2.2.2.2.2.2.1 ?_
        refine z_ifne 24 258 dJ8_fixAfterInsertion_24 (by decide) (fun c24 => ?_) (fun d24 => ?_)
        · exact EX _ _ _ _ _ _ _ _ _ I hx
        · skip
          have hxs := (I.1.up hx hP).2.2.2
          cases hG : P p with
          | none =>
            first | refine z_aload1 27 dJ8_fixAfterInsertion_27 ?_ | refine z_aload1N 27 dJ8_fixAfterInsertion_27 ?_ | refine z_aload1o 27 dJ8_fixAfterInsertion_27 ?_
            refine z_S1 (k' := k) 28 sJ8_294 dJ8_fixAfterInsertion_28 (c_par 0 0 (r := some p) (I.2.1 x hx).1 ((I.2.1 x hx).2.2.2.2.2.1.trans (congrArg va_rf hP))) (by omega) (by omega) (Nat.le_of_ble_eq_true rfl) (aft_A fun o9 h' hq => ?_)
            obtain ⟨rfl, rfl⟩ := hq
            first | refine z_aload1 31 dJ8_fixAfterInsertion_31 ?_ | refine z_aload1N 31 dJ8_fixAfterInsertion_31 ?_ | refine z_aload1o 31 dJ8_fixAfterInsertion_31 ?_
            refine z_S1 (k' := k) 32 sJ8_294 dJ8_fixAfterInsertion_32 (c_par 0 0 (r := some p) (I.2.1 x hx).1 ((I.2.1 x hx).2.2.2.2.2.1.trans (congrArg va_rf hP))) (by omega) (by omega) (Nat.le_of_ble_eq_true rfl) (aft_A fun o9 h' hq => ?_)
            obtain ⟨rfl, rfl⟩ := hq
            refine z_S1 (k' := k) 35 sJ8_294 dJ8_fixAfterInsertion_35 (c_par 0 0 (r := none) (I.2.1 p hp).1 ((I.2.1 p hp).2.2.2.2.2.1.trans (congrArg va_rf hG))) (by omega) (by omega) (Nat.le_of_ble_eq_true rfl) (aft_A fun o9 h' hq => ?_)
            obtain ⟨rfl, rfl⟩ := hq
            refine z_S1 (k' := k) 38 sJ8_297 dJ8_fixAfterInsertion_38 (c_lefN 0 0) (by omega) (by omega) (Nat.le_of_ble_eq_true rfl) (aft_A fun o9 h' hq => ?_)
            obtain ⟨rfl, rfl⟩ := hq
            refine z_acne (some p) (none) 41 151 dJ8_fixAfterInsertion_41 (by decide) (fun c41 => ?_) (fun c41 => by first | exact absurd c41 (fun e => nomatch e) | exact absurd (fun e => nomatch e) c41)
            first | refine z_aload1 151 dJ8_fixAfterInsertion_151 ?_ | refine z_aload1N 151 dJ8_fixAfterInsertion_151 ?_ | refine z_aload1o 151 dJ8_fixAfterInsertion_151 ?_
            refine z_S1 (k' := k) 152 sJ8_294 dJ8_fixAfterInsertion_152 (c_par 0 0 (r := some p) (I.2.1 x hx).1 ((I.2.1 x hx).2.2.2.2.2.1.trans (congrArg va_rf hP))) (by omega) (by omega) (Nat.le_of_ble_eq_true rfl) (aft_A fun o9 h' hq => ?_)
            obtain ⟨rfl, rfl⟩ := hq
            refine z_S1 (k' := k) 155 sJ8_294 dJ8_fixAfterInsertion_155 (c_par 0 0 (r := none) (I.2.1 p hp).1 ((I.2.1 p hp).2.2.2.2.2.1.trans (congrArg va_rf hG))) (by omega) (by omega) (Nat.le_of_ble_eq_true rfl) (aft_A fun o9 h' hq => ?_)
            obtain ⟨rfl, rfl⟩ := hq
            refine z_S1 (k' := k) 158 sJ8_297 dJ8_fixAfterInsertion_158 (c_lefN 0 0) (by omega) (by omega) (Nat.le_of_ble_eq_true rfl) (aft_A fun o9 h' hq => ?_)
            obtain ⟨rfl, rfl⟩ := hq
            refine z_astore2o 161 dJ8_fixAfterInsertion_161 rfl ?_
            refine z_aload2o 162 dJ8_fixAfterInsertion_162 ?_
            refine z_S1 (k' := k) 163 sJ8_303 dJ8_fixAfterInsertion_163 (c_colI I 0 0 (none) ((fun a e => nomatch e))) (by omega) (by omega) (Nat.le_of_ble_eq_true rfl) (aft_I fun o9 h' hq => ?_)
            obtain ⟨rfl, rfl⟩ := hq
            refine z_ifne 166 204 dJ8_fixAfterInsertion_166 (by decide) (fun c59 => ?_) (fun c59 => by first | exact absurd c59 (nI01) | exact absurd (nI01) c59)
            first | refine z_aload1 204 dJ8_fixAfterInsertion_204 ?_ | refine z_aload1N 204 dJ8_fixAfterInsertion_204 ?_ | refine z_aload1o 204 dJ8_fixAfterInsertion_204 ?_
            first | refine z_aload1 205 dJ8_fixAfterInsertion_205 ?_ | refine z_aload1N 205 dJ8_fixAfterInsertion_205 ?_ | refine z_aload1o 205 dJ8_fixAfterInsertion_205 ?_
            refine z_S1 (k' := k) 206 sJ8_294 dJ8_fixAfterInsertion_206 (c_par 0 0 (r := some p) (I.2.1 x hx).1 ((I.2.1 x hx).2.2.2.2.2.1.trans (congrArg va_rf hP))) (by omega) (by omega) (Nat.le_of_ble_eq_true rfl) (aft_A fun o9 h' hq => ?_)
            obtain ⟨rfl, rfl⟩ := hq
            refine z_S1 (k' := k) 209 sJ8_297 dJ8_fixAfterInsertion_209 (c_lef 0 0 (r := L p) (I.2.1 p hp).1 ((I.2.1 p hp).2.2.2.1.trans (congrArg va_rf rfl))) (by omega) (by omega) (Nat.le_of_ble_eq_true rfl) (aft_A fun o9 h' hq => ?_)
            obtain ⟨rfl, rfl⟩ := hq
            refine z_acne (some x) (L p) 212 225 dJ8_fixAfterInsertion_212 (by decide) (fun c105 => ?_) (fun c105 => ?_)
            · first | refine z_aload1 225 dJ8_fixAfterInsertion_225 ?_ | refine z_aload1N 225 dJ8_fixAfterInsertion_225 ?_ | refine z_aload1o 225 dJ8_fixAfterInsertion_225 ?_
              refine z_S1 (k' := k) 226 sJ8_294 dJ8_fixAfterInsertion_226 (c_par 0 0 (r := some p) (I.2.1 x hx).1 ((I.2.1 x hx).2.2.2.2.2.1.trans (congrArg va_rf hP))) (by omega) (by omega) (Nat.le_of_ble_eq_true rfl) (aft_A fun o9 h' hq => ?_)
              obtain ⟨rfl, rfl⟩ := hq
              refine z_iconst 229 (nI 1) dJ8_fixAfterInsertion_229 kI1 ?_
              refine z_S2 (k' := k) 230 sJ8_307 dJ8_fixAfterInsertion_230 (c_setI I 0 0 (some p) bt01_1 ((fun a e => by cases e; exact hp))) (by omega) (by omega) (Nat.le_of_ble_eq_true rfl) (aft_V fun h' I1 => ?_)
              skip
              first | refine z_aload1 233 dJ8_fixAfterInsertion_233 ?_ | refine z_aload1N 233 dJ8_fixAfterInsertion_233 ?_ | refine z_aload1o 233 dJ8_fixAfterInsertion_233 ?_
              refine z_S1 (k' := k) 234 sJ8_294 dJ8_fixAfterInsertion_234 (c_par 0 0 (r := some p) (I1.2.1 x hx).1 ((I1.2.1 x hx).2.2.2.2.2.1.trans (congrArg va_rf hP))) (by omega) (by omega) (Nat.le_of_ble_eq_true rfl) (aft_A fun o9 h' hq => ?_)
              obtain ⟨rfl, rfl⟩ := hq
              refine z_S1 (k' := k) 237 sJ8_294 dJ8_fixAfterInsertion_237 (c_par 0 0 (r := none) (I1.2.1 p hp).1 ((I1.2.1 p hp).2.2.2.2.2.1.trans (congrArg va_rf hG))) (by omega) (by omega) (Nat.le_of_ble_eq_true rfl) (aft_A fun o9 h' hq => ?_)
              obtain ⟨rfl, rfl⟩ := hq
              refine z_iconst 240 (nI 0) dJ8_fixAfterInsertion_240 kI0 ?_
              refine z_S2 (k' := k) 241 sJ8_307 dJ8_fixAfterInsertion_241 (c_setI I1 0 0 (none) bt01_0 ((fun a e => nomatch e))) (by omega) (by omega) (Nat.le_of_ble_eq_true rfl) (aft_V fun h' I2 => ?_)
              skip
              first | refine z_aload0 244 dJ8_fixAfterInsertion_244 ?_ | refine z_aload0N 244 dJ8_fixAfterInsertion_244 ?_ | refine z_aload0o 244 dJ8_fixAfterInsertion_244 ?_
              first | refine z_aload1 245 dJ8_fixAfterInsertion_245 ?_ | refine z_aload1N 245 dJ8_fixAfterInsertion_245 ?_ | refine z_aload1o 245 dJ8_fixAfterInsertion_245 ?_
              refine z_S1 (k' := k) 246 sJ8_294 dJ8_fixAfterInsertion_246 (c_par 0 0 (r := some p) (I2.2.1 x hx).1 ((I2.2.1 x hx).2.2.2.2.2.1.trans (congrArg va_rf hP))) (by omega) (by omega) (Nat.le_of_ble_eq_true rfl) (aft_A fun o9 h' hq => ?_)
              obtain ⟨rfl, rfl⟩ := hq
              refine z_S1 (k' := k) 249 sJ8_294 dJ8_fixAfterInsertion_249 (c_par 0 0 (r := none) (I2.2.1 p hp).1 ((I2.2.1 p hp).2.2.2.2.2.1.trans (congrArg va_rf hG))) (by omega) (by omega) (Nat.le_of_ble_eq_true rfl) (aft_A fun o9 h' hq => ?_)
              obtain ⟨rfl, rfl⟩ := hq
              refine z_V1 (k' := k) 252 vJ8_311 dJ8_fixAfterInsertion_252 I2.2.2.1.1 (c_rotLN 0 0) (by omega) (by omega) (Nat.le_of_ble_eq_true rfl) (aft_V fun h' hq => ?_)
              subst hq
              refine z_goto 255 5 dJ8_fixAfterInsertion_255 (by decide) ?_
              exact HX _ _ _ _ _ _ _ _ _ I2 hx (fun p9 e9 => by rw [hP] at e9; cases e9; simp [nI01])
            · first | refine z_aload1 215 dJ8_fixAfterInsertion_215 ?_ | refine z_aload1N 215 dJ8_fixAfterInsertion_215 ?_ | refine z_aload1o 215 dJ8_fixAfterInsertion_215 ?_
              refine z_S1 (k' := k) 216 sJ8_294 dJ8_fixAfterInsertion_216 (c_par 0 0 (r := some p) (I.2.1 x hx).1 ((I.2.1 x hx).2.2.2.2.2.1.trans (congrArg va_rf hP))) (by omega) (by omega) (Nat.le_of_ble_eq_true rfl) (aft_A fun o9 h' hq => ?_)
              obtain ⟨rfl, rfl⟩ := hq
              first | refine z_astore1 219 dJ8_fixAfterInsertion_219 rfl ?_ | refine z_astore1N 219 dJ8_fixAfterInsertion_219 rfl ?_ | refine z_astore1o 219 dJ8_fixAfterInsertion_219 rfl ?_
              first | refine z_aload0 220 dJ8_fixAfterInsertion_220 ?_ | refine z_aload0N 220 dJ8_fixAfterInsertion_220 ?_ | refine z_aload0o 220 dJ8_fixAfterInsertion_220 ?_
              first | refine z_aload1 221 dJ8_fixAfterInsertion_221 ?_ | refine z_aload1N 221 dJ8_fixAfterInsertion_221 ?_ | refine z_aload1o 221 dJ8_fixAfterInsertion_221 ?_
              refine z_V1 (k' := k) 222 vJ8_314 dJ8_fixAfterInsertion_222 I.2.2.1.1 (c_rotRI I 0 0 hp c105.symm) (by omega) (by omega) (Nat.le_of_ble_eq_true rfl) (aft_V fun h' J1 => ?_)
              have u1 := I.1.up hx hP
              have eP1 : (tP R P p x) p = some x := tP_q
              have eP2 : (tP R P p x) x = none := (tP_r (fun e => u1.2.2.1 e.symm)).trans hG
              first | refine z_aload1 225 dJ8_fixAfterInsertion_225 ?_ | refine z_aload1N 225 dJ8_fixAfterInsertion_225 ?_ | refine z_aload1o 225 dJ8_fixAfterInsertion_225 ?_
              refine z_S1 (k' := k) 226 sJ8_294 dJ8_fixAfterInsertion_226 (c_par 0 0 (r := some x) (J1.2.1 p hp).1 ((J1.2.1 p hp).2.2.2.2.2.1.trans (congrArg va_rf eP1))) (by omega) (by omega) (Nat.le_of_ble_eq_true rfl) (aft_A fun o9 h' hq => ?_)
              obtain ⟨rfl, rfl⟩ := hq
              refine z_iconst 229 (nI 1) dJ8_fixAfterInsertion_229 kI1 ?_
              refine z_S2 (k' := k) 230 sJ8_307 dJ8_fixAfterInsertion_230 (c_setI J1 0 0 (some x) bt01_1 ((fun a e => by cases e; exact hx))) (by omega) (by omega) (Nat.le_of_ble_eq_true rfl) (aft_V fun h' J2 => ?_)
              skip
              first | refine z_aload1 233 dJ8_fixAfterInsertion_233 ?_ | refine z_aload1N 233 dJ8_fixAfterInsertion_233 ?_ | refine z_aload1o 233 dJ8_fixAfterInsertion_233 ?_
              refine z_S1 (k' := k) 234 sJ8_294 dJ8_fixAfterInsertion_234 (c_par 0 0 (r := some x) (J2.2.1 p hp).1 ((J2.2.1 p hp).2.2.2.2.2.1.trans (congrArg va_rf eP1))) (by omega) (by omega) (Nat.le_of_ble_eq_true rfl) (aft_A fun o9 h' hq => ?_)
              obtain ⟨rfl, rfl⟩ := hq
              refine z_S1 (k' := k) 237 sJ8_294 dJ8_fixAfterInsertion_237 (c_par 0 0 (r := none) (J2.2.1 x hx).1 ((J2.2.1 x hx).2.2.2.2.2.1.trans (congrArg va_rf eP2))) (by omega) (by omega) (Nat.le_of_ble_eq_true rfl) (aft_A fun o9 h' hq => ?_)
              obtain ⟨rfl, rfl⟩ := hq
              refine z_iconst 240 (nI 0) dJ8_fixAfterInsertion_240 kI0 ?_
              refine z_S2 (k' := k) 241 sJ8_307 dJ8_fixAfterInsertion_241 (c_setI J2 0 0 (none) bt01_0 ((fun a e => nomatch e))) (by omega) (by omega) (Nat.le_of_ble_eq_true rfl) (aft_V fun h' J3 => ?_)
              skip
              first | refine z_aload0 244 dJ8_fixAfterInsertion_244 ?_ | refine z_aload0N 244 dJ8_fixAfterInsertion_244 ?_ | refine z_aload0o 244 dJ8_fixAfterInsertion_244 ?_
              first | refine z_aload1 245 dJ8_fixAfterInsertion_245 ?_ | refine z_aload1N 245 dJ8_fixAfterInsertion_245 ?_ | refine z_aload1o 245 dJ8_fixAfterInsertion_245 ?_
              refine z_S1 (k' := k) 246 sJ8_294 dJ8_fixAfterInsertion_246 (c_par 0 0 (r := some x) (J3.2.1 p hp).1 ((J3.2.1 p hp).2.2.2.2.2.1.trans (congrArg va_rf eP1))) (by omega) (by omega) (Nat.le_of_ble_eq_true rfl) (aft_A fun o9 h' hq => ?_)
              obtain ⟨rfl, rfl⟩ := hq
              refine z_S1 (k' := k) 249 sJ8_294 dJ8_fixAfterInsertion_249 (c_par 0 0 (r := none) (J3.2.1 x hx).1 ((J3.2.1 x hx).2.2.2.2.2.1.trans (congrArg va_rf eP2))) (by omega) (by omega) (Nat.le_of_ble_eq_true rfl) (aft_A fun o9 h' hq => ?_)
              obtain ⟨rfl, rfl⟩ := hq
              refine z_V1 (k' := k) 252 vJ8_311 dJ8_fixAfterInsertion_252 J3.2.2.1.1 (c_rotLN 0 0) (by omega) (by omega) (Nat.le_of_ble_eq_true rfl) (aft_V fun h' hq => ?_)
              subst hq
              refine z_goto 255 5 dJ8_fixAfterInsertion_255 (by decide) ?_
              exact HX _ _ _ _ _ _ _ _ _ J3 hp (fun p9 e9 => by rw [eP1] at e9; cases e9; simp [nI01])
          | some g =>
            have hg := (I.1.up hp hG).1
            rcases (I.1.up hp hG).2.2.2 with hL | hL
            · skip
              first | refine z_aload1 27 dJ8_fixAfterInsertion_27 ?_ | refine z_aload1N 27 dJ8_fixAfterInsertion_27 ?_ | refine z_aload1o 27 dJ8_fixAfterInsertion_27 ?_
              refine z_S1 (k' := k) 28 sJ8_294 dJ8_fixAfterInsertion_28 (c_par 0 0 (r := some p) (I.2.1 x hx).1 ((I.2.1 x hx).2.2.2.2.2.1.trans (congrArg va_rf hP))) (by omega) (by omega) (Nat.le_of_ble_eq_true rfl) (aft_A fun o9 h' hq => ?_)
              obtain ⟨rfl, rfl⟩ := hq
              first | refine z_aload1 31 dJ8_fixAfterInsertion_31 ?_ | refine z_aload1N 31 dJ8_fixAfterInsertion_31 ?_ | refine z_aload1o 31 dJ8_fixAfterInsertion_31 ?_
              refine z_S1 (k' := k) 32 sJ8_294 dJ8_fixAfterInsertion_32 (c_par 0 0 (r := some p) (I.2.1 x hx).1 ((I.2.1 x hx).2.2.2.2.2.1.trans (congrArg va_rf hP))) (by omega) (by omega) (Nat.le_of_ble_eq_true rfl) (aft_A fun o9 h' hq => ?_)
              obtain ⟨rfl, rfl⟩ := hq
              refine z_S1 (k' := k) 35 sJ8_294 dJ8_fixAfterInsertion_35 (c_par 0 0 (r := some g) (I.2.1 p hp).1 ((I.2.1 p hp).2.2.2.2.2.1.trans (congrArg va_rf hG))) (by omega) (by omega) (Nat.le_of_ble_eq_true rfl) (aft_A fun o9 h' hq => ?_)
              obtain ⟨rfl, rfl⟩ := hq
              refine z_S1 (k' := k) 38 sJ8_297 dJ8_fixAfterInsertion_38 (c_lef 0 0 (r := some p) (I.2.1 g hg).1 ((I.2.1 g hg).2.2.2.1.trans (congrArg va_rf hL))) (by omega) (by omega) (Nat.le_of_ble_eq_true rfl) (aft_A fun o9 h' hq => ?_)
              obtain ⟨rfl, rfl⟩ := hq
              refine z_acneR 41 151 dJ8_fixAfterInsertion_41 (by decide) (fun c41 => by first | exact absurd c41 (rfl) | exact absurd (rfl) c41) (fun c41 => ?_)
              first | refine z_aload1 44 dJ8_fixAfterInsertion_44 ?_ | refine z_aload1N 44 dJ8_fixAfterInsertion_44 ?_ | refine z_aload1o 44 dJ8_fixAfterInsertion_44 ?_
              refine z_S1 (k' := k) 45 sJ8_294 dJ8_fixAfterInsertion_45 (c_par 0 0 (r := some p) (I.2.1 x hx).1 ((I.2.1 x hx).2.2.2.2.2.1.trans (congrArg va_rf hP))) (by omega) (by omega) (Nat.le_of_ble_eq_true rfl) (aft_A fun o9 h' hq => ?_)
              obtain ⟨rfl, rfl⟩ := hq
              refine z_S1 (k' := k) 48 sJ8_294 dJ8_fixAfterInsertion_48 (c_par 0 0 (r := some g) (I.2.1 p hp).1 ((I.2.1 p hp).2.2.2.2.2.1.trans (congrArg va_rf hG))) (by omega) (by omega) (Nat.le_of_ble_eq_true rfl) (aft_A fun o9 h' hq => ?_)
              obtain ⟨rfl, rfl⟩ := hq
              refine z_S1 (k' := k) 51 sJ8_300 dJ8_fixAfterInsertion_51 (c_rig 0 0 (r := R g) (I.2.1 g hg).1 ((I.2.1 g hg).2.2.2.2.1.trans (congrArg va_rf rfl))) (by omega) (by omega) (Nat.le_of_ble_eq_true rfl) (aft_A fun o9 h' hq => ?_)
              obtain ⟨rfl, rfl⟩ := hq
              refine z_astore2o 54 dJ8_fixAfterInsertion_54 rfl ?_
              refine z_aload2o 55 dJ8_fixAfterInsertion_55 ?_
              refine z_S1 (k' := k) 56 sJ8_303 dJ8_fixAfterInsertion_56 (c_colI I 0 0 (R g) ((fun a e => (I.1.kidR hg e).1))) (by omega) (by omega) (Nat.le_of_ble_eq_true rfl) (aft_I fun o9 h' hq => ?_)
              obtain ⟨rfl, rfl⟩ := hq
              refine z_ifne 59 97 dJ8_fixAfterInsertion_59 (by decide) (fun c59 => ?_) (fun d59 => ?_)
              · first | refine z_aload1 97 dJ8_fixAfterInsertion_97 ?_ | refine z_aload1N 97 dJ8_fixAfterInsertion_97 ?_ | refine z_aload1o 97 dJ8_fixAfterInsertion_97 ?_
                first | refine z_aload1 98 dJ8_fixAfterInsertion_98 ?_ | refine z_aload1N 98 dJ8_fixAfterInsertion_98 ?_ | refine z_aload1o 98 dJ8_fixAfterInsertion_98 ?_
                refine z_S1 (k' := k) 99 sJ8_294 dJ8_fixAfterInsertion_99 (c_par 0 0 (r := some p) (I.2.1 x hx).1 ((I.2.1 x hx).2.2.2.2.2.1.trans (congrArg va_rf hP))) (by omega) (by omega) (Nat.le_of_ble_eq_true rfl) (aft_A fun o9 h' hq => ?_)
                obtain ⟨rfl, rfl⟩ := hq
                refine z_S1 (k' := k) 102 sJ8_300 dJ8_fixAfterInsertion_102 (c_rig 0 0 (r := R p) (I.2.1 p hp).1 ((I.2.1 p hp).2.2.2.2.1.trans (congrArg va_rf rfl))) (by omega) (by omega) (Nat.le_of_ble_eq_true rfl) (aft_A fun o9 h' hq => ?_)
                obtain ⟨rfl, rfl⟩ := hq
                refine z_acne (some x) (R p) 105 118 dJ8_fixAfterInsertion_105 (by decide) (fun c105 => ?_) (fun c105 => ?_)
                · first | refine z_aload1 118 dJ8_fixAfterInsertion_118 ?_ | refine z_aload1N 118 dJ8_fixAfterInsertion_118 ?_ | refine z_aload1o 118 dJ8_fixAfterInsertion_118 ?_
                  refine z_S1 (k' := k) 119 sJ8_294 dJ8_fixAfterInsertion_119 (c_par 0 0 (r := some p) (I.2.1 x hx).1 ((I.2.1 x hx).2.2.2.2.2.1.trans (congrArg va_rf hP))) (by omega) (by omega) (Nat.le_of_ble_eq_true rfl) (aft_A fun o9 h' hq => ?_)
                  obtain ⟨rfl, rfl⟩ := hq
                  refine z_iconst 122 (nI 1) dJ8_fixAfterInsertion_122 kI1 ?_
                  refine z_S2 (k' := k) 123 sJ8_307 dJ8_fixAfterInsertion_123 (c_setI I 0 0 (some p) bt01_1 ((fun a e => by cases e; exact hp))) (by omega) (by omega) (Nat.le_of_ble_eq_true rfl) (aft_V fun h' I1 => ?_)
                  skip
                  first | refine z_aload1 126 dJ8_fixAfterInsertion_126 ?_ | refine z_aload1N 126 dJ8_fixAfterInsertion_126 ?_ | refine z_aload1o 126 dJ8_fixAfterInsertion_126 ?_
                  refine z_S1 (k' := k) 127 sJ8_294 dJ8_fixAfterInsertion_127 (c_par 0 0 (r := some p) (I1.2.1 x hx).1 ((I1.2.1 x hx).2.2.2.2.2.1.trans (congrArg va_rf hP))) (by omega) (by omega) (Nat.le_of_ble_eq_true rfl) (aft_A fun o9 h' hq => ?_)
                  obtain ⟨rfl, rfl⟩ := hq
                  refine z_S1 (k' := k) 130 sJ8_294 dJ8_fixAfterInsertion_130 (c_par 0 0 (r := some g) (I1.2.1 p hp).1 ((I1.2.1 p hp).2.2.2.2.2.1.trans (congrArg va_rf hG))) (by omega) (by omega) (Nat.le_of_ble_eq_true rfl) (aft_A fun o9 h' hq => ?_)
                  obtain ⟨rfl, rfl⟩ := hq
                  refine z_iconst 133 (nI 0) dJ8_fixAfterInsertion_133 kI0 ?_
                  refine z_S2 (k' := k) 134 sJ8_307 dJ8_fixAfterInsertion_134 (c_setI I1 0 0 (some g) bt01_0 ((fun a e => by cases e; exact hg))) (by omega) (by omega) (Nat.le_of_ble_eq_true rfl) (aft_V fun h' I2 => ?_)
                  skip
                  first | refine z_aload0 137 dJ8_fixAfterInsertion_137 ?_ | refine z_aload0N 137 dJ8_fixAfterInsertion_137 ?_ | refine z_aload0o 137 dJ8_fixAfterInsertion_137 ?_
                  first | refine z_aload1 138 dJ8_fixAfterInsertion_138 ?_ | refine z_aload1N 138 dJ8_fixAfterInsertion_138 ?_ | refine z_aload1o 138 dJ8_fixAfterInsertion_138 ?_
                  refine z_S1 (k' := k) 139 sJ8_294 dJ8_fixAfterInsertion_139 (c_par 0 0 (r := some p) (I2.2.1 x hx).1 ((I2.2.1 x hx).2.2.2.2.2.1.trans (congrArg va_rf hP))) (by omega) (by omega) (Nat.le_of_ble_eq_true rfl) (aft_A fun o9 h' hq => ?_)
                  obtain ⟨rfl, rfl⟩ := hq
                  refine z_S1 (k' := k) 142 sJ8_294 dJ8_fixAfterInsertion_142 (c_par 0 0 (r := some g) (I2.2.1 p hp).1 ((I2.2.1 p hp).2.2.2.2.2.1.trans (congrArg va_rf hG))) (by omega) (by omega) (Nat.le_of_ble_eq_true rfl) (aft_A fun o9 h' hq => ?_)
                  obtain ⟨rfl, rfl⟩ := hq
                  refine z_V1 (k' := k) 145 vJ8_314 dJ8_fixAfterInsertion_145 I2.2.2.1.1 (c_rotRI I2 0 0 hg hL) (by omega) (by omega) (Nat.le_of_ble_eq_true rfl) (aft_V fun h' I3 => ?_)
                  skip
                  refine z_goto 148 5 dJ8_fixAfterInsertion_148 (by decide) ?_
                  have hxL : L p = some x := (hxs.elim (fun e => e) (fun e => absurd e.symm c105))
                  have u1 := I.1.up hx hP
                  have u2 := I.1.up hp hG
                  have u3 := I.1.up2 hx hP hG
                  have hRx : ¬ R p = some x := fun e => I.1.lr hp hxL e rfl
                  exact HX _ _ _ _ _ _ _ _ _ I3 hx (fun p9 e9 => by
                    rw [tP_o (fun e => u3.2.2 e.symm) (fun e => u1.2.2.1 e.symm) hRx, hP] at e9
                    cases e9; simp [u2.2.2.1, nI01])
                · first | refine z_aload1 108 dJ8_fixAfterInsertion_108 ?_ | refine z_aload1N 108 dJ8_fixAfterInsertion_108 ?_ | refine z_aload1o 108 dJ8_fixAfterInsertion_108 ?_
                  refine z_S1 (k' := k) 109 sJ8_294 dJ8_fixAfterInsertion_109 (c_par 0 0 (r := some p) (I.2.1 x hx).1 ((I.2.1 x hx).2.2.2.2.2.1.trans (congrArg va_rf hP))) (by omega) (by omega) (Nat.le_of_ble_eq_true rfl) (aft_A fun o9 h' hq => ?_)
                  obtain ⟨rfl, rfl⟩ := hq
                  first | refine z_astore1 112 dJ8_fixAfterInsertion_112 rfl ?_ | refine z_astore1N 112 dJ8_fixAfterInsertion_112 rfl ?_ | refine z_astore1o 112 dJ8_fixAfterInsertion_112 rfl ?_
                  first | refine z_aload0 113 dJ8_fixAfterInsertion_113 ?_ | refine z_aload0N 113 dJ8_fixAfterInsertion_113 ?_ | refine z_aload0o 113 dJ8_fixAfterInsertion_113 ?_
                  first | refine z_aload1 114 dJ8_fixAfterInsertion_114 ?_ | refine z_aload1N 114 dJ8_fixAfterInsertion_114 ?_ | refine z_aload1o 114 dJ8_fixAfterInsertion_114 ?_
                  refine z_V1 (k' := k) 115 vJ8_311 dJ8_fixAfterInsertion_115 I.2.2.1.1 (c_rotLI I 0 0 hp c105.symm) (by omega) (by omega) (Nat.le_of_ble_eq_true rfl) (aft_V fun h' J1 => ?_)
                  have u1 := I.1.up hx hP
                  have eP1 : (tP L P p x) p = some x := tP_q
                  have eP2 : (tP L P p x) x = some g := (tP_r (fun e => u1.2.2.1 e.symm)).trans hG
                  have u2 := I.1.up hp hG
                  have u3 := I.1.up2 hx hP hG
                  have eL : (tL L P p x) g = some x := tL_g u3.2.2 hG hL
                  first | refine z_aload1 118 dJ8_fixAfterInsertion_118 ?_ | refine z_aload1N 118 dJ8_fixAfterInsertion_118 ?_ | refine z_aload1o 118 dJ8_fixAfterInsertion_118 ?_
                  refine z_S1 (k' := k) 119 sJ8_294 dJ8_fixAfterInsertion_119 (c_par 0 0 (r := some x) (J1.2.1 p hp).1 ((J1.2.1 p hp).2.2.2.2.2.1.trans (congrArg va_rf eP1))) (by omega) (by omega) (Nat.le_of_ble_eq_true rfl) (aft_A fun o9 h' hq => ?_)
                  obtain ⟨rfl, rfl⟩ := hq
                  refine z_iconst 122 (nI 1) dJ8_fixAfterInsertion_122 kI1 ?_
                  refine z_S2 (k' := k) 123 sJ8_307 dJ8_fixAfterInsertion_123 (c_setI J1 0 0 (some x) bt01_1 ((fun a e => by cases e; exact hx))) (by omega) (by omega) (Nat.le_of_ble_eq_true rfl) (aft_V fun h' J2 => ?_)
                  skip
                  first | refine z_aload1 126 dJ8_fixAfterInsertion_126 ?_ | refine z_aload1N 126 dJ8_fixAfterInsertion_126 ?_ | refine z_aload1o 126 dJ8_fixAfterInsertion_126 ?_
                  refine z_S1 (k' := k) 127 sJ8_294 dJ8_fixAfterInsertion_127 (c_par 0 0 (r := some x) (J2.2.1 p hp).1 ((J2.2.1 p hp).2.2.2.2.2.1.trans (congrArg va_rf eP1))) (by omega) (by omega) (Nat.le_of_ble_eq_true rfl) (aft_A fun o9 h' hq => ?_)
                  obtain ⟨rfl, rfl⟩ := hq
                  refine z_S1 (k' := k) 130 sJ8_294 dJ8_fixAfterInsertion_130 (c_par 0 0 (r := some g) (J2.2.1 x hx).1 ((J2.2.1 x hx).2.2.2.2.2.1.trans (congrArg va_rf eP2))) (by omega) (by omega) (Nat.le_of_ble_eq_true rfl) (aft_A fun o9 h' hq => ?_)
                  obtain ⟨rfl, rfl⟩ := hq
                  refine z_iconst 133 (nI 0) dJ8_fixAfterInsertion_133 kI0 ?_
                  refine z_S2 (k' := k) 134 sJ8_307 dJ8_fixAfterInsertion_134 (c_setI J2 0 0 (some g) bt01_0 ((fun a e => by cases e; exact hg))) (by omega) (by omega) (Nat.le_of_ble_eq_true rfl) (aft_V fun h' J3 => ?_)
                  skip
                  first | refine z_aload0 137 dJ8_fixAfterInsertion_137 ?_ | refine z_aload0N 137 dJ8_fixAfterInsertion_137 ?_ | refine z_aload0o 137 dJ8_fixAfterInsertion_137 ?_
                  first | refine z_aload1 138 dJ8_fixAfterInsertion_138 ?_ | refine z_aload1N 138 dJ8_fixAfterInsertion_138 ?_ | refine z_aload1o 138 dJ8_fixAfterInsertion_138 ?_
                  refine z_S1 (k' := k) 139 sJ8_294 dJ8_fixAfterInsertion_139 (c_par 0 0 (r := some x) (J3.2.1 p hp).1 ((J3.2.1 p hp).2.2.2.2.2.1.trans (congrArg va_rf eP1))) (by omega) (by omega) (Nat.le_of_ble_eq_true rfl) (aft_A fun o9 h' hq => ?_)
                  obtain ⟨rfl, rfl⟩ := hq
                  refine z_S1 (k' := k) 142 sJ8_294 dJ8_fixAfterInsertion_142 (c_par 0 0 (r := some g) (J3.2.1 x hx).1 ((J3.2.1 x hx).2.2.2.2.2.1.trans (congrArg va_rf eP2))) (by omega) (by omega) (Nat.le_of_ble_eq_true rfl) (aft_A fun o9 h' hq => ?_)
                  obtain ⟨rfl, rfl⟩ := hq
                  refine z_V1 (k' := k) 145 vJ8_314 dJ8_fixAfterInsertion_145 J3.2.2.1.1 (c_rotRI J3 0 0 hg eL) (by omega) (by omega) (Nat.le_of_ble_eq_true rfl) (aft_V fun h' J4 => ?_)
                  skip
                  refine z_goto 148 5 dJ8_fixAfterInsertion_148 (by decide) ?_
                  have eLx : (tL L P p x) x = some p := tL_r
                  have hRp : ¬ (tR L R P p x) x = some p := fun e => J1.1.lr hx eLx e rfl
                  exact HX _ _ _ _ _ _ _ _ _ J4 hp (fun p9 e9 => by
                    rw [tP_o (fun e => u2.2.2.1 e.symm) u1.2.2.1 hRp, eP1] at e9
                    cases e9; simp [u3.2.2, nI01])
              · first | refine z_aload1 62 dJ8_fixAfterInsertion_62 ?_ | refine z_aload1N 62 dJ8_fixAfterInsertion_62 ?_ | refine z_aload1o 62 dJ8_fixAfterInsertion_62 ?_
                refine z_S1 (k' := k) 63 sJ8_294 dJ8_fixAfterInsertion_63 (c_par 0 0 (r := some p) (I.2.1 x hx).1 ((I.2.1 x hx).2.2.2.2.2.1.trans (congrArg va_rf hP))) (by omega) (by omega) (Nat.le_of_ble_eq_true rfl) (aft_A fun o9 h' hq => ?_)
                obtain ⟨rfl, rfl⟩ := hq
                refine z_iconst 66 (nI 1) dJ8_fixAfterInsertion_66 kI1 ?_
                refine z_S2 (k' := k) 67 sJ8_307 dJ8_fixAfterInsertion_67 (c_setI I 0 0 (some p) bt01_1 ((fun a e => by cases e; exact hp))) (by omega) (by omega) (Nat.le_of_ble_eq_true rfl) (aft_V fun h' I1 => ?_)
                skip
                refine z_aload2o 70 dJ8_fixAfterInsertion_70 ?_
                refine z_iconst 71 (nI 1) dJ8_fixAfterInsertion_71 kI1 ?_
                refine z_S2 (k' := k) 72 sJ8_307 dJ8_fixAfterInsertion_72 (c_setI I1 0 0 (R g) bt01_1 ((fun a e => (I.1.kidR hg e).1))) (by omega) (by omega) (Nat.le_of_ble_eq_true rfl) (aft_V fun h' I2 => ?_)
                skip
                first | refine z_aload1 75 dJ8_fixAfterInsertion_75 ?_ | refine z_aload1N 75 dJ8_fixAfterInsertion_75 ?_ | refine z_aload1o 75 dJ8_fixAfterInsertion_75 ?_
                refine z_S1 (k' := k) 76 sJ8_294 dJ8_fixAfterInsertion_76 (c_par 0 0 (r := some p) (I2.2.1 x hx).1 ((I2.2.1 x hx).2.2.2.2.2.1.trans (congrArg va_rf hP))) (by omega) (by omega) (Nat.le_of_ble_eq_true rfl) (aft_A fun o9 h' hq => ?_)
                obtain ⟨rfl, rfl⟩ := hq
                refine z_S1 (k' := k) 79 sJ8_294 dJ8_fixAfterInsertion_79 (c_par 0 0 (r := some g) (I2.2.1 p hp).1 ((I2.2.1 p hp).2.2.2.2.2.1.trans (congrArg va_rf hG))) (by omega) (by omega) (Nat.le_of_ble_eq_true rfl) (aft_A fun o9 h' hq => ?_)
                obtain ⟨rfl, rfl⟩ := hq
                refine z_iconst 82 (nI 0) dJ8_fixAfterInsertion_82 kI0 ?_
                refine z_S2 (k' := k) 83 sJ8_307 dJ8_fixAfterInsertion_83 (c_setI I2 0 0 (some g) bt01_0 ((fun a e => by cases e; exact hg))) (by omega) (by omega) (Nat.le_of_ble_eq_true rfl) (aft_V fun h' I3 => ?_)
                skip
                first | refine z_aload1 86 dJ8_fixAfterInsertion_86 ?_ | refine z_aload1N 86 dJ8_fixAfterInsertion_86 ?_ | refine z_aload1o 86 dJ8_fixAfterInsertion_86 ?_
                refine z_S1 (k' := k) 87 sJ8_294 dJ8_fixAfterInsertion_87 (c_par 0 0 (r := some p) (I3.2.1 x hx).1 ((I3.2.1 x hx).2.2.2.2.2.1.trans (congrArg va_rf hP))) (by omega) (by omega) (Nat.le_of_ble_eq_true rfl) (aft_A fun o9 h' hq => ?_)
                obtain ⟨rfl, rfl⟩ := hq
                refine z_S1 (k' := k) 90 sJ8_294 dJ8_fixAfterInsertion_90 (c_par 0 0 (r := some g) (I3.2.1 p hp).1 ((I3.2.1 p hp).2.2.2.2.2.1.trans (congrArg va_rf hG))) (by omega) (by omega) (Nat.le_of_ble_eq_true rfl) (aft_A fun o9 h' hq => ?_)
                obtain ⟨rfl, rfl⟩ := hq
                first | refine z_astore1 93 dJ8_fixAfterInsertion_93 rfl ?_ | refine z_astore1N 93 dJ8_fixAfterInsertion_93 rfl ?_ | refine z_astore1o 93 dJ8_fixAfterInsertion_93 rfl ?_
                refine z_goto 94 148 dJ8_fixAfterInsertion_94 (by decide) ?_
                refine z_goto 148 5 dJ8_fixAfterInsertion_148 (by decide) ?_
                exact ih _ _ _ _ _ _ _ _ _ I3 hg (by have := I.1.cnt hxs9 (I.1.up2 hx hP hG).2.1 (I.1.up2 hx hP hG).2.2; have := cnD_le D xs g; omega)
            · skip
              first | refine z_aload1 27 dJ8_fixAfterInsertion_27 ?_ | refine z_aload1N 27 dJ8_fixAfterInsertion_27 ?_ | refine z_aload1o 27 dJ8_fixAfterInsertion_27 ?_
              refine z_S1 (k' := k) 28 sJ8_294 dJ8_fixAfterInsertion_28 (c_par 0 0 (r := some p) (I.2.1 x hx).1 ((I.2.1 x hx).2.2.2.2.2.1.trans (congrArg va_rf hP))) (by omega) (by omega) (Nat.le_of_ble_eq_true rfl) (aft_A fun o9 h' hq => ?_)
              obtain ⟨rfl, rfl⟩ := hq
              first | refine z_aload1 31 dJ8_fixAfterInsertion_31 ?_ | refine z_aload1N 31 dJ8_fixAfterInsertion_31 ?_ | refine z_aload1o 31 dJ8_fixAfterInsertion_31 ?_
              refine z_S1 (k' := k) 32 sJ8_294 dJ8_fixAfterInsertion_32 (c_par 0 0 (r := some p) (I.2.1 x hx).1 ((I.2.1 x hx).2.2.2.2.2.1.trans (congrArg va_rf hP))) (by omega) (by omega) (Nat.le_of_ble_eq_true rfl) (aft_A fun o9 h' hq => ?_)
              obtain ⟨rfl, rfl⟩ := hq
              refine z_S1 (k' := k) 35 sJ8_294 dJ8_fixAfterInsertion_35 (c_par 0 0 (r := some g) (I.2.1 p hp).1 ((I.2.1 p hp).2.2.2.2.2.1.trans (congrArg va_rf hG))) (by omega) (by omega) (Nat.le_of_ble_eq_true rfl) (aft_A fun o9 h' hq => ?_)
              obtain ⟨rfl, rfl⟩ := hq
              refine z_S1 (k' := k) 38 sJ8_297 dJ8_fixAfterInsertion_38 (c_lef 0 0 (r := L g) (I.2.1 g hg).1 ((I.2.1 g hg).2.2.2.1.trans (congrArg va_rf rfl))) (by omega) (by omega) (Nat.le_of_ble_eq_true rfl) (aft_A fun o9 h' hq => ?_)
              obtain ⟨rfl, rfl⟩ := hq
              refine z_acne (some p) (L g) 41 151 dJ8_fixAfterInsertion_41 (by decide) (fun c41 => ?_) (fun c41 => by first | exact absurd c41 (fun e => I.1.lr hg e.symm hL rfl) | exact absurd (fun e => I.1.lr hg e.symm hL rfl) c41)
              first | refine z_aload1 151 dJ8_fixAfterInsertion_151 ?_ | refine z_aload1N 151 dJ8_fixAfterInsertion_151 ?_ | refine z_aload1o 151 dJ8_fixAfterInsertion_151 ?_
              refine z_S1 (k' := k) 152 sJ8_294 dJ8_fixAfterInsertion_152 (c_par 0 0 (r := some p) (I.2.1 x hx).1 ((I.2.1 x hx).2.2.2.2.2.1.trans (congrArg va_rf hP))) (by omega) (by omega) (Nat.le_of_ble_eq_true rfl) (aft_A fun o9 h' hq => ?_)
              obtain ⟨rfl, rfl⟩ := hq
              refine z_S1 (k' := k) 155 sJ8_294 dJ8_fixAfterInsertion_155 (c_par 0 0 (r := some g) (I.2.1 p hp).1 ((I.2.1 p hp).2.2.2.2.2.1.trans (congrArg va_rf hG))) (by omega) (by omega) (Nat.le_of_ble_eq_true rfl) (aft_A fun o9 h' hq => ?_)
              obtain ⟨rfl, rfl⟩ := hq
              refine z_S1 (k' := k) 158 sJ8_297 dJ8_fixAfterInsertion_158 (c_lef 0 0 (r := L g) (I.2.1 g hg).1 ((I.2.1 g hg).2.2.2.1.trans (congrArg va_rf rfl))) (by omega) (by omega) (Nat.le_of_ble_eq_true rfl) (aft_A fun o9 h' hq => ?_)
              obtain ⟨rfl, rfl⟩ := hq
              refine z_astore2o 161 dJ8_fixAfterInsertion_161 rfl ?_
              refine z_aload2o 162 dJ8_fixAfterInsertion_162 ?_
              refine z_S1 (k' := k) 163 sJ8_303 dJ8_fixAfterInsertion_163 (c_colI I 0 0 (L g) ((fun a e => (I.1.kidL hg e).1))) (by omega) (by omega) (Nat.le_of_ble_eq_true rfl) (aft_I fun o9 h' hq => ?_)
              obtain ⟨rfl, rfl⟩ := hq
              refine z_ifne 166 204 dJ8_fixAfterInsertion_166 (by decide) (fun c59 => ?_) (fun d59 => ?_)
              · first | refine z_aload1 204 dJ8_fixAfterInsertion_204 ?_ | refine z_aload1N 204 dJ8_fixAfterInsertion_204 ?_ | refine z_aload1o 204 dJ8_fixAfterInsertion_204 ?_
                first | refine z_aload1 205 dJ8_fixAfterInsertion_205 ?_ | refine z_aload1N 205 dJ8_fixAfterInsertion_205 ?_ | refine z_aload1o 205 dJ8_fixAfterInsertion_205 ?_
                refine z_S1 (k' := k) 206 sJ8_294 dJ8_fixAfterInsertion_206 (c_par 0 0 (r := some p) (I.2.1 x hx).1 ((I.2.1 x hx).2.2.2.2.2.1.trans (congrArg va_rf hP))) (by omega) (by omega) (Nat.le_of_ble_eq_true rfl) (aft_A fun o9 h' hq => ?_)
                obtain ⟨rfl, rfl⟩ := hq
                refine z_S1 (k' := k) 209 sJ8_297 dJ8_fixAfterInsertion_209 (c_lef 0 0 (r := L p) (I.2.1 p hp).1 ((I.2.1 p hp).2.2.2.1.trans (congrArg va_rf rfl))) (by omega) (by omega) (Nat.le_of_ble_eq_true rfl) (aft_A fun o9 h' hq => ?_)
                obtain ⟨rfl, rfl⟩ := hq
                refine z_acne (some x) (L p) 212 225 dJ8_fixAfterInsertion_212 (by decide) (fun c105 => ?_) (fun c105 => ?_)
                · first | refine z_aload1 225 dJ8_fixAfterInsertion_225 ?_ | refine z_aload1N 225 dJ8_fixAfterInsertion_225 ?_ | refine z_aload1o 225 dJ8_fixAfterInsertion_225 ?_
                  refine z_S1 (k' := k) 226 sJ8_294 dJ8_fixAfterInsertion_226 (c_par 0 0 (r := some p) (I.2.1 x hx).1 ((I.2.1 x hx).2.2.2.2.2.1.trans (congrArg va_rf hP))) (by omega) (by omega) (Nat.le_of_ble_eq_true rfl) (aft_A fun o9 h' hq => ?_)
                  obtain ⟨rfl, rfl⟩ := hq
                  refine z_iconst 229 (nI 1) dJ8_fixAfterInsertion_229 kI1 ?_
                  refine z_S2 (k' := k) 230 sJ8_307 dJ8_fixAfterInsertion_230 (c_setI I 0 0 (some p) bt01_1 ((fun a e => by cases e; exact hp))) (by omega) (by omega) (Nat.le_of_ble_eq_true rfl) (aft_V fun h' I1 => ?_)
                  skip
                  first | refine z_aload1 233 dJ8_fixAfterInsertion_233 ?_ | refine z_aload1N 233 dJ8_fixAfterInsertion_233 ?_ | refine z_aload1o 233 dJ8_fixAfterInsertion_233 ?_
                  refine z_S1 (k' := k) 234 sJ8_294 dJ8_fixAfterInsertion_234 (c_par 0 0 (r := some p) (I1.2.1 x hx).1 ((I1.2.1 x hx).2.2.2.2.2.1.trans (congrArg va_rf hP))) (by omega) (by omega) (Nat.le_of_ble_eq_true rfl) (aft_A fun o9 h' hq => ?_)
                  obtain ⟨rfl, rfl⟩ := hq
                  refine z_S1 (k' := k) 237 sJ8_294 dJ8_fixAfterInsertion_237 (c_par 0 0 (r := some g) (I1.2.1 p hp).1 ((I1.2.1 p hp).2.2.2.2.2.1.trans (congrArg va_rf hG))) (by omega) (by omega) (Nat.le_of_ble_eq_true rfl) (aft_A fun o9 h' hq => ?_)
                  obtain ⟨rfl, rfl⟩ := hq
                  refine z_iconst 240 (nI 0) dJ8_fixAfterInsertion_240 kI0 ?_
                  refine z_S2 (k' := k) 241 sJ8_307 dJ8_fixAfterInsertion_241 (c_setI I1 0 0 (some g) bt01_0 ((fun a e => by cases e; exact hg))) (by omega) (by omega) (Nat.le_of_ble_eq_true rfl) (aft_V fun h' I2 => ?_)
                  skip
                  first | refine z_aload0 244 dJ8_fixAfterInsertion_244 ?_ | refine z_aload0N 244 dJ8_fixAfterInsertion_244 ?_ | refine z_aload0o 244 dJ8_fixAfterInsertion_244 ?_
                  first | refine z_aload1 245 dJ8_fixAfterInsertion_245 ?_ | refine z_aload1N 245 dJ8_fixAfterInsertion_245 ?_ | refine z_aload1o 245 dJ8_fixAfterInsertion_245 ?_
                  refine z_S1 (k' := k) 246 sJ8_294 dJ8_fixAfterInsertion_246 (c_par 0 0 (r := some p) (I2.2.1 x hx).1 ((I2.2.1 x hx).2.2.2.2.2.1.trans (congrArg va_rf hP))) (by omega) (by omega) (Nat.le_of_ble_eq_true rfl) (aft_A fun o9 h' hq => ?_)
                  obtain ⟨rfl, rfl⟩ := hq
                  refine z_S1 (k' := k) 249 sJ8_294 dJ8_fixAfterInsertion_249 (c_par 0 0 (r := some g) (I2.2.1 p hp).1 ((I2.2.1 p hp).2.2.2.2.2.1.trans (congrArg va_rf hG))) (by omega) (by omega) (Nat.le_of_ble_eq_true rfl) (aft_A fun o9 h' hq => ?_)
                  obtain ⟨rfl, rfl⟩ := hq
                  refine z_V1 (k' := k) 252 vJ8_311 dJ8_fixAfterInsertion_252 I2.2.2.1.1 (c_rotLI I2 0 0 hg hL) (by omega) (by omega) (Nat.le_of_ble_eq_true rfl) (aft_V fun h' I3 => ?_)
                  skip
                  refine z_goto 255 5 dJ8_fixAfterInsertion_255 (by decide) ?_
                  have hxL : R p = some x := (hxs.elim (fun e => absurd e.symm c105) (fun e => e))
                  have u1 := I.1.up hx hP
                  have u2 := I.1.up hp hG
                  have u3 := I.1.up2 hx hP hG
                  have hRx : ¬ L p = some x := fun e => I.1.lr hp e hxL rfl
                  exact HX _ _ _ _ _ _ _ _ _ I3 hx (fun p9 e9 => by
                    rw [tP_o (fun e => u3.2.2 e.symm) (fun e => u1.2.2.1 e.symm) hRx, hP] at e9
                    cases e9; simp [u2.2.2.1, nI01])
                · first | refine z_aload1 215 dJ8_fixAfterInsertion_215 ?_ | refine z_aload1N 215 dJ8_fixAfterInsertion_215 ?_ | refine z_aload1o 215 dJ8_fixAfterInsertion_215 ?_
                  refine z_S1 (k' := k) 216 sJ8_294 dJ8_fixAfterInsertion_216 (c_par 0 0 (r := some p) (I.2.1 x hx).1 ((I.2.1 x hx).2.2.2.2.2.1.trans (congrArg va_rf hP))) (by omega) (by omega) (Nat.le_of_ble_eq_true rfl) (aft_A fun o9 h' hq => ?_)
                  obtain ⟨rfl, rfl⟩ := hq
                  first | refine z_astore1 219 dJ8_fixAfterInsertion_219 rfl ?_ | refine z_astore1N 219 dJ8_fixAfterInsertion_219 rfl ?_ | refine z_astore1o 219 dJ8_fixAfterInsertion_219 rfl ?_
                  first | refine z_aload0 220 dJ8_fixAfterInsertion_220 ?_ | refine z_aload0N 220 dJ8_fixAfterInsertion_220 ?_ | refine z_aload0o 220 dJ8_fixAfterInsertion_220 ?_
                  first | refine z_aload1 221 dJ8_fixAfterInsertion_221 ?_ | refine z_aload1N 221 dJ8_fixAfterInsertion_221 ?_ | refine z_aload1o 221 dJ8_fixAfterInsertion_221 ?_
                  refine z_V1 (k' := k) 222 vJ8_314 dJ8_fixAfterInsertion_222 I.2.2.1.1 (c_rotRI I 0 0 hp c105.symm) (by omega) (by omega) (Nat.le_of_ble_eq_true rfl) (aft_V fun h' J1 => ?_)
                  have u1 := I.1.up hx hP
                  have eP1 : (tP R P p x) p = some x := tP_q
                  have eP2 : (tP R P p x) x = some g := (tP_r (fun e => u1.2.2.1 e.symm)).trans hG
                  have u2 := I.1.up hp hG
                  have u3 := I.1.up2 hx hP hG
                  have eL : (tL R P p x) g = some x := tL_g u3.2.2 hG hL
                  first | refine z_aload1 225 dJ8_fixAfterInsertion_225 ?_ | refine z_aload1N 225 dJ8_fixAfterInsertion_225 ?_ | refine z_aload1o 225 dJ8_fixAfterInsertion_225 ?_
                  refine z_S1 (k' := k) 226 sJ8_294 dJ8_fixAfterInsertion_226 (c_par 0 0 (r := some x) (J1.2.1 p hp).1 ((J1.2.1 p hp).2.2.2.2.2.1.trans (congrArg va_rf eP1))) (by omega) (by omega) (Nat.le_of_ble_eq_true rfl) (aft_A fun o9 h' hq => ?_)
                  obtain ⟨rfl, rfl⟩ := hq
                  refine z_iconst 229 (nI 1) dJ8_fixAfterInsertion_229 kI1 ?_
                  refine z_S2 (k' := k) 230 sJ8_307 dJ8_fixAfterInsertion_230 (c_setI J1 0 0 (some x) bt01_1 ((fun a e => by cases e; exact hx))) (by omega) (by omega) (Nat.le_of_ble_eq_true rfl) (aft_V fun h' J2 => ?_)
                  skip
                  first | refine z_aload1 233 dJ8_fixAfterInsertion_233 ?_ | refine z_aload1N 233 dJ8_fixAfterInsertion_233 ?_ | refine z_aload1o 233 dJ8_fixAfterInsertion_233 ?_
                  refine z_S1 (k' := k) 234 sJ8_294 dJ8_fixAfterInsertion_234 (c_par 0 0 (r := some x) (J2.2.1 p hp).1 ((J2.2.1 p hp).2.2.2.2.2.1.trans (congrArg va_rf eP1))) (by omega) (by omega) (Nat.le_of_ble_eq_true rfl) (aft_A fun o9 h' hq => ?_)
                  obtain ⟨rfl, rfl⟩ := hq
                  refine z_S1 (k' := k) 237 sJ8_294 dJ8_fixAfterInsertion_237 (c_par 0 0 (r := some g) (J2.2.1 x hx).1 ((J2.2.1 x hx).2.2.2.2.2.1.trans (congrArg va_rf eP2))) (by omega) (by omega) (Nat.le_of_ble_eq_true rfl) (aft_A fun o9 h' hq => ?_)
                  obtain ⟨rfl, rfl⟩ := hq
                  refine z_iconst 240 (nI 0) dJ8_fixAfterInsertion_240 kI0 ?_
                  refine z_S2 (k' := k) 241 sJ8_307 dJ8_fixAfterInsertion_241 (c_setI J2 0 0 (some g) bt01_0 ((fun a e => by cases e; exact hg))) (by omega) (by omega) (Nat.le_of_ble_eq_true rfl) (aft_V fun h' J3 => ?_)
                  skip
                  first | refine z_aload0 244 dJ8_fixAfterInsertion_244 ?_ | refine z_aload0N 244 dJ8_fixAfterInsertion_244 ?_ | refine z_aload0o 244 dJ8_fixAfterInsertion_244 ?_
                  first | refine z_aload1 245 dJ8_fixAfterInsertion_245 ?_ | refine z_aload1N 245 dJ8_fixAfterInsertion_245 ?_ | refine z_aload1o 245 dJ8_fixAfterInsertion_245 ?_
                  refine z_S1 (k' := k) 246 sJ8_294 dJ8_fixAfterInsertion_246 (c_par 0 0 (r := some x) (J3.2.1 p hp).1 ((J3.2.1 p hp).2.2.2.2.2.1.trans (congrArg va_rf eP1))) (by omega) (by omega) (Nat.le_of_ble_eq_true rfl) (aft_A fun o9 h' hq => ?_)
                  obtain ⟨rfl, rfl⟩ := hq
                  refine z_S1 (k' := k) 249 sJ8_294 dJ8_fixAfterInsertion_249 (c_par 0 0 (r := some g) (J3.2.1 x hx).1 ((J3.2.1 x hx).2.2.2.2.2.1.trans (congrArg va_rf eP2))) (by omega) (by omega) (Nat.le_of_ble_eq_true rfl) (aft_A fun o9 h' hq => ?_)
                  obtain ⟨rfl, rfl⟩ := hq
                  refine z_V1 (k' := k) 252 vJ8_311 dJ8_fixAfterInsertion_252 J3.2.2.1.1 (c_rotLI J3 0 0 hg eL) (by omega) (by omega) (Nat.le_of_ble_eq_true rfl) (aft_V fun h' J4 => ?_)
                  skip
                  refine z_goto 255 5 dJ8_fixAfterInsertion_255 (by decide) ?_
                  have eLx : (tL R P p x) x = some p := tL_r
                  have hRp : ¬ (tR R L P p x) x = some p := fun e => J1.1.lr hx e eLx rfl
                  exact HX _ _ _ _ _ _ _ _ _ J4 hp (fun p9 e9 => by
                    rw [tP_o (fun e => u2.2.2.1 e.symm) u1.2.2.1 hRp, eP1] at e9
                    cases e9; simp [u3.2.2, nI01])
              · first | refine z_aload1 169 dJ8_fixAfterInsertion_169 ?_ | refine z_aload1N 169 dJ8_fixAfterInsertion_169 ?_ | refine z_aload1o 169 dJ8_fixAfterInsertion_169 ?_
                refine z_S1 (k' := k) 170 sJ8_294 dJ8_fixAfterInsertion_170 (c_par 0 0 (r := some p) (I.2.1 x hx).1 ((I.2.1 x hx).2.2.2.2.2.1.trans (congrArg va_rf hP))) (by omega) (by omega) (Nat.le_of_ble_eq_true rfl) (aft_A fun o9 h' hq => ?_)
                obtain ⟨rfl, rfl⟩ := hq
                refine z_iconst 173 (nI 1) dJ8_fixAfterInsertion_173 kI1 ?_
                refine z_S2 (k' := k) 174 sJ8_307 dJ8_fixAfterInsertion_174 (c_setI I 0 0 (some p) bt01_1 ((fun a e => by cases e; exact hp))) (by omega) (by omega) (Nat.le_of_ble_eq_true rfl) (aft_V fun h' I1 => ?_)
                skip
                refine z_aload2o 177 dJ8_fixAfterInsertion_177 ?_
                refine z_iconst 178 (nI 1) dJ8_fixAfterInsertion_178 kI1 ?_
                refine z_S2 (k' := k) 179 sJ8_307 dJ8_fixAfterInsertion_179 (c_setI I1 0 0 (L g) bt01_1 ((fun a e => (I.1.kidL hg e).1))) (by omega) (by omega) (Nat.le_of_ble_eq_true rfl) (aft_V fun h' I2 => ?_)
                skip
                first | refine z_aload1 182 dJ8_fixAfterInsertion_182 ?_ | refine z_aload1N 182 dJ8_fixAfterInsertion_182 ?_ | refine z_aload1o 182 dJ8_fixAfterInsertion_182 ?_
                refine z_S1 (k' := k) 183 sJ8_294 dJ8_fixAfterInsertion_183 (c_par 0 0 (r := some p) (I2.2.1 x hx).1 ((I2.2.1 x hx).2.2.2.2.2.1.trans (congrArg va_rf hP))) (by omega) (by omega) (Nat.le_of_ble_eq_true rfl) (aft_A fun o9 h' hq => ?_)
                obtain ⟨rfl, rfl⟩ := hq
                refine z_S1 (k' := k) 186 sJ8_294 dJ8_fixAfterInsertion_186 (c_par 0 0 (r := some g) (I2.2.1 p hp).1 ((I2.2.1 p hp).2.2.2.2.2.1.trans (congrArg va_rf hG))) (by omega) (by omega) (Nat.le_of_ble_eq_true rfl) (aft_A fun o9 h' hq => ?_)
                obtain ⟨rfl, rfl⟩ := hq
                refine z_iconst 189 (nI 0) dJ8_fixAfterInsertion_189 kI0 ?_
                refine z_S2 (k' := k) 190 sJ8_307 dJ8_fixAfterInsertion_190 (c_setI I2 0 0 (some g) bt01_0 ((fun a e => by cases e; exact hg))) (by omega) (by omega) (Nat.le_of_ble_eq_true rfl) (aft_V fun h' I3 => ?_)
                skip
                first | refine z_aload1 193 dJ8_fixAfterInsertion_193 ?_ | refine z_aload1N 193 dJ8_fixAfterInsertion_193 ?_ | refine z_aload1o 193 dJ8_fixAfterInsertion_193 ?_
                refine z_S1 (k' := k) 194 sJ8_294 dJ8_fixAfterInsertion_194 (c_par 0 0 (r := some p) (I3.2.1 x hx).1 ((I3.2.1 x hx).2.2.2.2.2.1.trans (congrArg va_rf hP))) (by omega) (by omega) (Nat.le_of_ble_eq_true rfl) (aft_A fun o9 h' hq => ?_)
                obtain ⟨rfl, rfl⟩ := hq
                refine z_S1 (k' := k) 197 sJ8_294 dJ8_fixAfterInsertion_197 (c_par 0 0 (r := some g) (I3.2.1 p hp).1 ((I3.2.1 p hp).2.2.2.2.2.1.trans (congrArg va_rf hG))) (by omega) (by omega) (Nat.le_of_ble_eq_true rfl) (aft_A fun o9 h' hq => ?_)
                obtain ⟨rfl, rfl⟩ := hq
                first | refine z_astore1 200 dJ8_fixAfterInsertion_200 rfl ?_ | refine z_astore1N 200 dJ8_fixAfterInsertion_200 rfl ?_ | refine z_astore1o 200 dJ8_fixAfterInsertion_200 rfl ?_
                refine z_goto 201 255 dJ8_fixAfterInsertion_201 (by decide) ?_
                refine z_goto 255 5 dJ8_fixAfterInsertion_255 (by decide) ?_
                exact ih _ _ _ _ _ _ _ _ _ I3 hg (by have := I.1.cnt hxs9 (I.1.up2 hx hP hG).2.1 (I.1.up2 hx hP hG).2.2; have := cnD_le D xs g; omega)
  refine Call.of [.ref t, .ref x0, dum] q1410 (by decide) pn_J8 (Nat.le_of_ble_eq_true rfl) rfl ?_
  first | refine z_aload1 0 dJ8_fixAfterInsertion_0 ?_ | refine z_aload1N 0 dJ8_fixAfterInsertion_0 ?_ | refine z_aload1o 0 dJ8_fixAfterInsertion_0 ?_
  refine z_iconst 1 (nI 0) dJ8_fixAfterInsertion_1 kI0 ?_
  refine z_put 2 pJ8_290 (fun h => by cases h) dJ8_fixAfterInsertion_2 (I0.2.1 x0 hx0).1 (nb0) (fb0) ?_
  exact LOOP _ _ _ _ _ _ _ _ _ _ (I0.col (some x0) bt01_0 (fun a e => by cases e; exact hx0)) hx0 (Nat.lt_succ_self _)
