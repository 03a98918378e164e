/-! TREES BY LINKS, in plain Lean: who lies below whom (D), the order lt; rotating, hanging a leaf in, taking a node out -/
/-- a search tree of the nodes S: links L R P, root rt; D a c: c is a or lies below a -/
def TW (S : Nat → Prop) (lt : Nat → Nat → Prop) (L R P : Nat → Option Nat) (rt : Option Nat) (D : Nat → Nat → Prop) : Prop :=
  (∀ a c, D a c → S a ∧ S c) ∧ (∀ a, S a → D a a) ∧
  (∀ a, S a → L a = none → ∀ c, D a c → ¬ lt c a) ∧ (∀ a, S a → ∀ b, L a = some b → S b ∧ P b = some a ∧ ∀ c, D b c ↔ D a c ∧ lt c a) ∧
  (∀ a, S a → R a = none → ∀ c, D a c → ¬ lt a c) ∧ (∀ a, S a → ∀ b, R a = some b → S b ∧ P b = some a ∧ ∀ c, D b c ↔ D a c ∧ lt a c) ∧
  (rt = none → ∀ a, ¬ S a) ∧ (∀ r, rt = some r → S r ∧ P r = none ∧ ∀ c, S c → D r c) ∧
  (∀ b, S b → P b = none → rt = some b) ∧ (∀ b, S b → ∀ a, P b = some a → S a ∧ (L a = some b ∨ R a = some b)) ∧
  (∀ a, S a → ¬ lt a a) ∧ (∀ a b c, S a → S b → S c → lt a b → lt b c → lt a c) ∧ (∀ a b, S a → S b → a ≠ b → lt a b ∨ lt b a) ∧
  (∀ a b c, D a b → D b c → D a c) ∧ (∀ a b t, D a b → a ≠ b → P b = some t → D a t)
theorem TW.mirror {S lt L R P rt D} (h : TW S lt L R P rt D) : TW S (fun a b => lt b a) R L P rt D := by
  obtain ⟨h1, h2, h3, h4, h5, h6, h7, h8, h9, h10, h11, h12, h13, h14, h15⟩ := h
  exact ⟨h1, h2, h5, h6, h3, h4, h7, h8, h9, fun b hb a hp => ⟨(h10 b hb a hp).1, (h10 b hb a hp).2.symm⟩, h11, fun a b c ha hb hc x y => h12 c b a hc hb ha y x, fun a b ha hb hn => (h13 a b ha hb hn).symm, h14, h15⟩
theorem TW.side {S lt L R P rt D} (h : TW S lt L R P rt D) {a b c : Nat} (hab : D a b) (hbc : D b c) (hne : a ≠ b) : (lt b a → lt c a) ∧ (lt a b → lt a c) := by
  obtain ⟨h1, h2, h3, h4, h5, h6, h7, h8, h9, h10, h11, h12, h13, h14, h15⟩ := h
  have ha := (h1 _ _ hab).1
  constructor
  · intro q
    cases hL : L a with
    | none => exact absurd q (h3 a ha hL b hab)
    | some l => exact (((h4 a ha l hL).2.2 c).mp (h14 l b c (((h4 a ha l hL).2.2 b).mpr ⟨hab, q⟩) hbc)).2
  · intro q
    cases hL : R a with
    | none => exact absurd q (h5 a ha hL b hab)
    | some l => exact (((h6 a ha l hL).2.2 c).mp (h14 l b c (((h6 a ha l hL).2.2 b).mpr ⟨hab, q⟩) hbc)).2
theorem TW.anti {S lt L R P rt D} (h : TW S lt L R P rt D) {a b : Nat} (hab : D a b) (hba : D b a) : a = b := by
  have hs := @TW.side S lt L R P rt D h a b a hab hba
  obtain ⟨h1, h2, h3, h4, h5, h6, h7, h8, h9, h10, h11, h12, h13, h14, h15⟩ := h
  grind
def tR (L R P : Nat → Option Nat) (q r : Nat) : Nat → Option Nat := fun a => if a = q then L r else if P q = some a ∧ ¬ L a = some q then some r else R a
def tL (L P : Nat → Option Nat) (q r : Nat) : Nat → Option Nat := fun a => if a = r then some q else if P q = some a ∧ L a = some q then some r else L a
def tP (L P : Nat → Option Nat) (q r : Nat) : Nat → Option Nat := fun a => if a = q then some r else if a = r then P q else if L r = some a then some q else P a
def tRt (P : Nat → Option Nat) (rt : Option Nat) (q r : Nat) : Option Nat := if P q = none then some r else rt
def tD (lt : Nat → Nat → Prop) (D : Nat → Nat → Prop) (q r : Nat) : Nat → Nat → Prop := fun a c => if a = r then D q c else if a = q then D q c ∧ lt c r else D a c
theorem TW.rot {S lt L R P rt D} (h : TW S lt L R P rt D) {q r : Nat} (hq : S q) (hr : R q = some r) :
    TW S lt (tL L P q r) (tR L R P q r) (tP L P q r) (tRt P rt q r) (tD lt D q r) := by
  have hsd : ∀ a b c, D a b → D b c → a ≠ b → (lt b a → lt c a) ∧ (lt a b → lt a c) := fun a b c x y z => h.side x y z
  have han : ∀ a b, D a b → D b a → a = b := fun a b x y => h.anti x y
  obtain ⟨h1, h2, h3, h4, h5, h6, h7, h8, h9, h10, h11, h12, h13, h14, h15⟩ := h
  obtain ⟨g1, g2, g3⟩ := h6 q hq r hr
  have hrr := h2 r g1
  have hlt : lt q r := ((g3 r).mp hrr).2
  have hne : q ≠ r := fun e => h11 q hq (e ▸ hlt)
  refine ⟨?_, ?_, ?_, ?_, ?_, ?_, ?_, ?_, ?_, ?_, h11, h12, h13, ?_, ?_⟩
  · clear hsd han; intro a c; unfold tD; grind
  · clear hsd han; intro a ha; unfold tD; grind
  · clear hsd han; intro a ha; unfold tD tL; grind
  · clear hsd han; intro a ha b; unfold tD tL tP; grind
  · clear hsd han; intro a ha; unfold tD tR; grind
  · clear hsd han; intro a ha b; unfold tD tR tP; grind
  · clear hsd han; unfold tRt; grind
  · clear hsd han; intro x; unfold tRt tP tD; grind
  · clear hsd han; intro b hb; unfold tP tRt; grind
  · clear hsd han; intro b hb a; unfold tP tL tR; grind
  · intro a b c; have t1 := h15 a r q; have t2 := h15 b r q; have t3 := hsd q b c; have t4 := hsd a b c; have t5 := hsd r b c; clear hsd han; unfold tD; grind
  · intro a b t; have t1 := h15 a r q; have t2 := hsd q t b; have t3 := hsd r t b; have t4 := hsd q r b; have t5 := hsd a q b; clear hsd han; unfold tD tP; grind
/-- a leaf x hung in at the left of p -/
def iL (L : Nat → Option Nat) (p x : Nat) : Nat → Option Nat := fun a => if a = p then some x else if a = x then none else L a
def iN (R : Nat → Option Nat) (x : Nat) : Nat → Option Nat := fun a => if a = x then none else R a
def iP (P : Nat → Option Nat) (p x : Nat) : Nat → Option Nat := fun a => if a = x then some p else P a
def iD (D : Nat → Nat → Prop) (p x : Nat) : Nat → Nat → Prop := fun a c => D a c ∨ (c = x ∧ (a = x ∨ D a p))
theorem TW.ins {S lt L R P rt D} (h : TW S lt L R P rt D) {p x : Nat} (hp : S p) (hx : ¬ S x) (hl : L p = none) (hlt : lt x p)
    (hi : ¬ lt x x) (htr : (∀ a b, S a → S b → lt x a → lt a b → lt x b) ∧ (∀ a b, S a → S b → lt a x → lt x b → lt a b) ∧ (∀ a b, S a → S b → lt a b → lt b x → lt a x)) (has : ∀ a, S a → ¬ (lt x a ∧ lt a x)) (hto : ∀ a, S a → lt x a ∨ lt a x)
    (hs : ∀ a, D a p → a ≠ p → (lt x a ↔ lt p a)) :
    TW (fun a => S a ∨ a = x) lt (iL L p x) (iN R x) (iP P p x) rt (iD D p x) := by
  have hsd : ∀ a b c, D a b → D b c → a ≠ b → (lt b a → lt c a) ∧ (lt a b → lt a c) := fun a b c x y z => h.side x y z
  have han : ∀ a b, D a b → D b a → a = b := fun a b x y => h.anti x y
  obtain ⟨h1, h2, h3, h4, h5, h6, h7, h8, h9, h10, h11, h12, h13, h14, h15⟩ := h
  have hne : p ≠ x := fun e => hx (e ▸ hp)
  have hD1 : ∀ c, ¬ D x c := fun c q => hx (h1 _ _ q).1
  have hD2 : ∀ c, ¬ D c x := fun c q => hx (h1 _ _ q).2
  have hpp := h2 p hp
  refine ⟨?_, ?_, ?_, ?_, ?_, ?_, ?_, ?_, ?_, ?_, ?_, ?_, ?_, ?_, ?_⟩
  · intro a c; unfold iD; grind
  · intro a ha; unfold iD; grind
  · intro a ha; unfold iD iL; grind
  · intro a ha b; unfold iD iL iP; grind
  · intro a ha; unfold iD iN; grind
  · intro a ha b; unfold iD iN iP; grind
  · grind
  · intro r; unfold iD iP; grind
  · intro b hb; unfold iP; grind
  · intro b hb a; unfold iL iN iP; grind
  · grind
  · grind
  · grind
  · intro a b c; unfold iD; grind
  · intro a b t; unfold iD iP; grind
/-- a node p with one child at most taken out; c takes its place -/
def oL (L P : Nat → Option Nat) (p : Nat) (c : Option Nat) : Nat → Option Nat := fun a => if P p = some a ∧ L a = some p then c else L a
def oR (L R P : Nat → Option Nat) (p : Nat) (c : Option Nat) : Nat → Option Nat := fun a => if P p = some a ∧ ¬ L a = some p then c else R a
def oP (P : Nat → Option Nat) (p : Nat) (c : Option Nat) : Nat → Option Nat := fun a => if c = some a then P p else P a
def oRt (P : Nat → Option Nat) (rt : Option Nat) (p : Nat) (c : Option Nat) : Option Nat := if P p = none then c else rt
def oD (D : Nat → Nat → Prop) (p : Nat) : Nat → Nat → Prop := fun a b => D a b ∧ a ≠ p ∧ b ≠ p
theorem TW.out {S lt L R P rt D} (h : TW S lt L R P rt D) {p : Nat} {c : Option Nat} (hp : S p) (hc : (L p = none ∧ c = R p) ∨ (R p = none ∧ c = L p)) :
    TW (fun a => S a ∧ a ≠ p) lt (oL L P p c) (oR L R P p c) (oP P p c) (oRt P rt p c) (oD D p) := by
  have hsd : ∀ a b c, D a b → D b c → a ≠ b → (lt b a → lt c a) ∧ (lt a b → lt a c) := fun a b c x y z => h.side x y z
  have han : ∀ a b, D a b → D b a → a = b := fun a b x y => h.anti x y
  obtain ⟨h1, h2, h3, h4, h5, h6, h7, h8, h9, h10, h11, h12, h13, h14, h15⟩ := h
  have hpp := h2 p hp
  refine ⟨?_, ?_, ?_, ?_, ?_, ?_, ?_, ?_, ?_, ?_, ?_, ?_, ?_, ?_, ?_⟩
  · intro a c; unfold oD; grind
  · intro a ha; unfold oD; grind
  · intro a ha; unfold oD oL; grind
  · intro a ha b; unfold oD oL oP; grind
  · intro a ha; unfold oD oR; grind
  · intro a ha b; unfold oD oR oP; grind
  · unfold oRt; grind
  · intro r; unfold oD oRt oP; grind
  · intro b hb; unfold oP oRt; grind
  · intro b hb a; unfold oL oR oP; grind
  · grind
  · grind
  · grind
  · intro a b c; unfold oD; grind
  · intro a b t; unfold oD oP; grind
theorem TW.congr {S lt lt' L R P rt D} (h : TW S lt L R P rt D) (he : ∀ a b, S a → S b → (lt a b ↔ lt' a b)) : TW S lt' L R P rt D := by
  obtain ⟨h1, h2, h3, h4, h5, h6, h7, h8, h9, h10, h11, h12, h13, h14, h15⟩ := h
  refine ⟨h1, h2, ?_, ?_, ?_, ?_, h7, h8, h9, h10, ?_, ?_, ?_, h14, h15⟩ <;> grind
/-! a measure: how many lie below -/
noncomputable def cnD (D : Nat → Nat → Prop) (xs : List Nat) (a : Nat) : Nat := xs.countP (fun c => @decide (D a c) (Classical.propDecidable _))
theorem countP_lt {p q : Nat → Bool} : ∀ {xs : List Nat}, (∀ c, p c = true → q c = true) → ∀ e, e ∈ xs → q e = true → p e = false → xs.countP p < xs.countP q
  | [], _, e, he, _, _ => nomatch he
  | x :: xs, h, e, he, hq, hp => by
    rw [List.countP_cons, List.countP_cons]
    have hle : xs.countP p ≤ xs.countP q := List.countP_mono_left (fun c _ => h c)
    rcases List.mem_cons.mp he with rfl | he
    · rw [hq, hp]; simp; omega
    · have := countP_lt h e he hq hp
      have h3 : (if p x = true then 1 else 0) ≤ (if q x = true then 1 else 0) := by
        by_cases e1 : p x = true
        · simp [e1, h x e1]
        · simp [e1]
      omega
theorem TW.cnt {S lt L R P rt D} (h : TW S lt L R P rt D) {xs : List Nat} (hx : ∀ a, S a → a ∈ xs) {a b : Nat} (hab : D a b) (hne : a ≠ b) : cnD D xs b < cnD D xs a := by
  refine countP_lt (fun c hc => ?_) a (hx a (h.1 _ _ hab).1) ?_ ?_
  · simp only [decide_eq_true_eq] at hc ⊢
    exact h.2.2.2.2.2.2.2.2.2.2.2.2.2.1 a b c hab hc
  · simp only [decide_eq_true_eq]
    exact h.2.1 a (h.1 _ _ hab).1
  · simp only [decide_eq_false_iff_not]
    exact fun q => hne (h.anti hab q)
theorem cnD_le (D : Nat → Nat → Prop) (xs : List Nat) (a : Nat) : cnD D xs a ≤ xs.length := List.countP_le_length
