/-! TEXTS: what is read. A state: goes well, place, what is told (three numbers an outing), how many -/
def sgF (BF : Nat → Nat) (L a : Nat) : Nat := if a < L then BF a else 0
def nmF (BF : Nat → Nat) (L most : Nat) : Nat → Nat → Nat → Nat × Nat
  | 0, a, v => (a, v)
  | f + 1, a, v => if 0 < v ∧ inN (sgF BF L a) 48 57 = true ∧ 10 * v + sgF BF L a - 48 ≤ most then nmF BF L most f (a + 1) (10 * v + sgF BF L a - 48) else (a, v)
def hiM (most : Nat) : Nat := if most < 9 then 48 + most else 57
def numP (BF : Nat → Nat) (L least most a : Nat) : Option (Nat × Nat) := if inN (sgF BF L a) (48 + least) (hiM most) = true then some (nmF BF L most 61 (a + 1) (sgF BF L a - 48)) else none
abbrev Ps : Type := Bool × Nat × (Nat → Nat) × Nat
def grP (BF : Nat → Nat) (L a : Nat) : Bool × Nat × Nat × Nat := match numP BF L 1 99 a with
  | none => (false, a, 0, 0)
  | some (a1, v) => if sgF BF L a1 = 64 then (if inN (sgF BF L (a1 + 1)) 48 55 = true then (true, a1 + 2, v, sgF BF L (a1 + 1) - 48) else (false, a1 + 1, 0, 0)) else (false, a1, 0, 0)
def gsP (BF : Nat → Nat) (L dy : Nat) (s : Ps) : Ps := if s.1 = true then (if (grP BF L s.2.1).1 = true then (true, (grP BF L s.2.1).2.1, upn (upn (upn s.2.2.1 (3 * s.2.2.2) dy) (3 * s.2.2.2 + 1) (grP BF L s.2.1).2.2.1) (3 * s.2.2.2 + 2) (grP BF L s.2.1).2.2.2, s.2.2.2 + 1) else (false, (grP BF L s.2.1).2.1, s.2.2)) else s
def psL (BF : Nat → Nat) (L dy : Nat) : Nat → Ps → Ps
  | 0, s => s
  | f + 1, s => if s.1 = true ∧ sgF BF L s.2.1 = 43 then psL BF L dy f (gsP BF L dy (true, s.2.1 + 1, s.2.2)) else s
def paP (BF : Nat → Nat) (L : Nat) (s : Ps) : Ps := if s.1 = true then (match numP BF L 0 999 s.2.1 with
  | none => (false, s.2)
  | some (a1, v) => if sgF BF L a1 = 58 then psL BF L v 61 (gsP BF L v (true, a1 + 1, s.2.2)) else (false, a1, s.2.2)) else s
def alL (BF : Nat → Nat) (L : Nat) : Nat → Ps → Ps
  | 0, s => s
  | f + 1, s => if s.1 = true ∧ s.2.1 < L then (if sgF BF L s.2.1 = 59 then alL BF L f (paP BF L (true, s.2.1 + 1, s.2.2)) else (false, s.2)) else s
def alP (BF : Nat → Nat) (L : Nat) : Ps := alL BF L 61 (paP BF L (true, 0, (fun _ => 0), 0))
theorem sgF_lt {BF : Nat → Nat} {L a : Nat} (h : sgF BF L a ≠ 0) : a < L := by
  unfold sgF at h; split at h
  · assumption
  · exact absurd rfl h
theorem inN_t {v a b : Nat} (h : inN v a b = true) : a ≤ v ∧ v ≤ b := by
  unfold inN at h
  rw [Bool.and_eq_true, decide_eq_true_eq, decide_eq_true_eq] at h; exact h
theorem inN_f {v a b : Nat} (h : inN v a b = false) : v < a ∨ b < v := by
  rcases Classical.em (v < a ∨ b < v) with q | q
  · exact q
  · have : inN v a b = true := by
      unfold inN
      rw [Bool.and_eq_true, decide_eq_true_eq, decide_eq_true_eq]; omega
    rw [this] at h; cases h
theorem nmF_in (BF : Nat → Nat) (L most : Nat) : ∀ f a v, a ≤ (nmF BF L most f a v).1 ∧ ((nmF BF L most f a v).1 ≤ L ∨ (nmF BF L most f a v).1 = a) ∧ (v ≤ most → (nmF BF L most f a v).2 ≤ most) ∧ (1 ≤ v → 1 ≤ (nmF BF L most f a v).2) := by
  intro f
  induction f with
  | zero => intro a v; exact ⟨Nat.le_refl _, Or.inr rfl, id, id⟩
  | succ f ih =>
    intro a v
    unfold nmF
    split
    · rename_i q
      obtain ⟨g1, g2, g3, g4⟩ := ih (a + 1) (10 * v + sgF BF L a - 48)
      have q2 := inN_t q.2.1
      have hl : a < L := sgF_lt (BF := BF) (by omega)
      exact ⟨by omega, by rcases g2 with g2 | g2 <;> omega, fun _ => g3 q.2.2, fun _ => g4 (by omega)⟩
    · exact ⟨Nat.le_refl _, Or.inr rfl, id, id⟩
theorem numP_in {BF : Nat → Nat} {L least most a a' v : Nat} (h : numP BF L least most a = some (a', v)) (h9 : 9 ≤ most ∨ most = 7) (hl : least ≤ 1) : a + 1 ≤ a' ∧ a' ≤ L ∧ least ≤ v ∧ v ≤ most ∧ a < L := by
  unfold numP at h
  split at h
  · rename_i q
    have q2 := inN_t q
    have hh : hiM most ≤ 57 ∧ hiM most ≤ 48 + most := by unfold hiM; split <;> omega
    have hlt : a < L := sgF_lt (BF := BF) (by omega)
    obtain ⟨g1, g2, g3, g4⟩ := nmF_in BF L most 61 (a + 1) (sgF BF L a - 48)
    have e := Option.some.inj h
    rw [e] at g1 g2 g3 g4
    have g1 : a + 1 ≤ a' := g1
    have g2 : a' ≤ L ∨ a' = a + 1 := g2
    have g3 : sgF BF L a - 48 ≤ most → v ≤ most := g3
    have g4 : 1 ≤ sgF BF L a - 48 → 1 ≤ v := g4
    refine ⟨g1, by rcases g2 with g2 | g2 <;> omega, ?_, g3 (by omega), hlt⟩
    rcases (by omega : least = 0 ∨ least = 1) with e | e
    · omega
    · have := g4 (by omega); omega
  · cases h
theorem nmF_one (BF : Nat → Nat) (L f a v : Nat) (hf : f = 0 ∨ True) : nmF BF L 7 f a v = (a, v) := by
  cases f with
  | zero => rfl
  | succ f =>
    unfold nmF
    rw [if_neg]
    intro q
    have := (inN_t q.2.1).1
    omega
theorem numP_7 (BF : Nat → Nat) (L a : Nat) : numP BF L 0 7 a = if inN (sgF BF L a) 48 55 = true then some (a + 1, sgF BF L a - 48) else none := by
  unfold numP
  rw [nmF_one _ _ _ _ _ (Or.inr trivial)]
  rfl
theorem grP_in (BF : Nat → Nat) (L a : Nat) (ha : a ≤ L) : a ≤ (grP BF L a).2.1 ∧ (grP BF L a).2.1 ≤ L ∧ ((grP BF L a).1 = true → a + 3 ≤ (grP BF L a).2.1 ∧ 1 ≤ (grP BF L a).2.2.1 ∧ (grP BF L a).2.2.1 ≤ 99 ∧ (grP BF L a).2.2.2 < 8) := by
  unfold grP
  cases hn : numP BF L 1 99 a with
  | none => exact ⟨Nat.le_refl _, ha, fun q => by cases q⟩
  | some p =>
    obtain ⟨a1, v⟩ := p
    obtain ⟨g1, g2, g3, g4, g5⟩ := numP_in hn (by omega) (by omega)
    show a ≤ (if sgF BF L a1 = 64 then _ else _ : Bool × Nat × Nat × Nat).2.1 ∧ (if sgF BF L a1 = 64 then _ else _ : Bool × Nat × Nat × Nat).2.1 ≤ L ∧ ((if sgF BF L a1 = 64 then _ else _ : Bool × Nat × Nat × Nat).1 = true → a + 3 ≤ (if sgF BF L a1 = 64 then _ else _ : Bool × Nat × Nat × Nat).2.1 ∧ 1 ≤ (if sgF BF L a1 = 64 then _ else _ : Bool × Nat × Nat × Nat).2.2.1 ∧ (if sgF BF L a1 = 64 then _ else _ : Bool × Nat × Nat × Nat).2.2.1 ≤ 99 ∧ (if sgF BF L a1 = 64 then _ else _ : Bool × Nat × Nat × Nat).2.2.2 < 8)
    by_cases c1 : sgF BF L a1 = 64
    · have l1 : a1 < L := sgF_lt (BF := BF) (by omega)
      simp only [c1, if_true]
      by_cases c2 : inN (sgF BF L (a1 + 1)) 48 55 = true
      · have c3 := inN_t c2
        have l2 : a1 + 1 < L := sgF_lt (BF := BF) (by omega)
        simp only [c2, if_true]
        exact ⟨by omega, by omega, fun _ => ⟨by omega, g3, g4, by omega⟩⟩
      · simp only [c2, Bool.false_eq_true, if_false]
        exact ⟨by omega, by omega, fun q => by cases q⟩
    · simp only [c1, if_false]
      exact ⟨by omega, by omega, fun q => by cases q⟩
/-- what holds of a state that was read -/
def PsI (L : Nat) (s : Ps) : Prop := 4 * s.2.2.2 ≤ s.2.1 ∧ s.2.1 ≤ L ∧ ∀ k, k < s.2.2.2 → s.2.2.1 (3 * k) ≤ 999 ∧ 1 ≤ s.2.2.1 (3 * k + 1) ∧ s.2.2.1 (3 * k + 1) ≤ 99 ∧ s.2.2.1 (3 * k + 2) < 8
theorem gsP_in {BF : Nat → Nat} {L dy a tm : Nat} {td : Nat → Nat} (h : PsI L (true, a, td, tm)) (h1 : 4 * tm + 1 ≤ a) (hd : dy ≤ 999) : PsI L (gsP BF L dy (true, a, td, tm)) ∧ a ≤ (gsP BF L dy (true, a, td, tm)).2.1 := by
  obtain ⟨h2, h3, h4⟩ := h
  have h3 : a ≤ L := h3
  have h4 : ∀ k, k < tm → td (3 * k) ≤ 999 ∧ 1 ≤ td (3 * k + 1) ∧ td (3 * k + 1) ≤ 99 ∧ td (3 * k + 2) < 8 := h4
  obtain ⟨g1, g2, g3⟩ := grP_in BF L a h3
  unfold gsP
  simp only [if_true]
  split
  · rename_i q
    obtain ⟨k1, k2, k3, k4⟩ := g3 q
    refine ⟨⟨by show 4 * (tm + 1) ≤ (grP BF L a).2.1; omega, g2, fun k hk => ?_⟩, g1⟩
    have hk : k < tm + 1 := hk
    show upn (upn (upn td (3 * tm) dy) (3 * tm + 1) (grP BF L a).2.2.1) (3 * tm + 2) (grP BF L a).2.2.2 (3 * k) ≤ 999 ∧ 1 ≤ upn (upn (upn td (3 * tm) dy) (3 * tm + 1) (grP BF L a).2.2.1) (3 * tm + 2) (grP BF L a).2.2.2 (3 * k + 1) ∧ upn (upn (upn td (3 * tm) dy) (3 * tm + 1) (grP BF L a).2.2.1) (3 * tm + 2) (grP BF L a).2.2.2 (3 * k + 1) ≤ 99 ∧ upn (upn (upn td (3 * tm) dy) (3 * tm + 1) (grP BF L a).2.2.1) (3 * tm + 2) (grP BF L a).2.2.2 (3 * k + 2) < 8
    by_cases e : k = tm
    · rw [e, upn_n _ _ (by omega), upn_n _ _ (by omega), upn_s, upn_n _ _ (by omega), upn_s, upn_s]
      exact ⟨hd, k2, k3, k4⟩
    · rw [upn_n _ _ (by omega), upn_n _ _ (by omega), upn_n _ _ (by omega), upn_n _ _ (by omega), upn_n _ _ (by omega), upn_n _ _ (by omega), upn_n _ _ (by omega), upn_n _ _ (by omega), upn_n _ _ (by omega)]
      exact h4 k (by omega)
  · exact ⟨⟨by show 4 * tm ≤ (grP BF L a).2.1; omega, g2, h4⟩, g1⟩
theorem psL_in {BF : Nat → Nat} {L dy : Nat} (hd : dy ≤ 999) : ∀ (f : Nat) (s : Ps), PsI L s → PsI L (psL BF L dy f s) := by
  intro f
  induction f with
  | zero => intro s h; exact h
  | succ f ih =>
    intro s h
    unfold psL
    split
    · rename_i q
      obtain ⟨w, a, td, tm⟩ := s
      have hl : a < L := sgF_lt (BF := BF) (by have q2 : sgF BF L a = 43 := q.2; omega)
      obtain ⟨h1, h2, h3⟩ := h
      have h1 : 4 * tm ≤ a := h1
      exact ih _ (gsP_in (a := a + 1) (tm := tm) (td := td) ⟨by show 4 * tm ≤ a + 1; omega, by show a + 1 ≤ L; omega, h3⟩ (by omega) hd).1
    · exact h
theorem paP_in {BF : Nat → Nat} {L : Nat} {s : Ps} (h : PsI L s) : PsI L (paP BF L s) := by
  obtain ⟨w, a, td, tm⟩ := s
  obtain ⟨h1, h2, h3⟩ := id h
  have h1 : 4 * tm ≤ a := h1
  unfold paP
  split
  · cases hn : numP BF L 0 999 a with
    | none => simp only [hn]; exact ⟨h1, h2, h3⟩
    | some p =>
      obtain ⟨a1, v⟩ := p
      obtain ⟨g1, g2, g3, g4, g5⟩ := numP_in hn (by omega) (by omega)
      simp only [hn]
      split
      · rename_i c
        have l1 : a1 < L := sgF_lt (BF := BF) (by omega)
        exact psL_in g4 _ _ (gsP_in (a := a1 + 1) (tm := tm) (td := td) ⟨by show 4 * tm ≤ a1 + 1; omega, by show a1 + 1 ≤ L; omega, h3⟩ (by omega) g4).1
      · exact ⟨by show 4 * tm ≤ a1; omega, g2, h3⟩
  · exact h
theorem alL_in {BF : Nat → Nat} {L : Nat} : ∀ (f : Nat) (s : Ps), PsI L s → PsI L (alL BF L f s) := by
  intro f
  induction f with
  | zero => intro s h; exact h
  | succ f ih =>
    intro s h
    unfold alL
    split
    · rename_i q
      obtain ⟨w, a, td, tm⟩ := s
      obtain ⟨h1, h2, h3⟩ := id h
      have h1 : 4 * tm ≤ a := h1
      split
      · exact ih _ (paP_in ⟨by show 4 * tm ≤ a + 1; omega, by show a + 1 ≤ L; exact q.2, h3⟩)
      · exact ⟨h1, h2, h3⟩
    · exact h
theorem alP_in (BF : Nat → Nat) (L : Nat) : PsI L (alP BF L) :=
  alL_in 61 _ (paP_in ⟨Nat.le_refl 0, Nat.zero_le _, fun k hk => absurd hk (Nat.not_lt_zero k)⟩)
/-- what is read stands in the reference's fields -/
def PsX (X : Nat → Nat → Nat) (s : Ps) : Prop := X 10 0 = s.2.1 ∧ X 11 0 = bN s.1 ∧ (∀ j, j < 3 * s.2.2.2 → X 12 j = s.2.2.1 j) ∧ X 13 0 = s.2.2.2
theorem gsP_f (BF : Nat → Nat) (L dy : Nat) (s : Nat × (Nat → Nat) × Nat) : gsP BF L dy (false, s) = (false, s) := rfl
theorem gsP_none {BF : Nat → Nat} {L dy a tm : Nat} {td : Nat → Nat} (h : numP BF L 1 99 a = none) : gsP BF L dy (true, a, td, tm) = (false, a, td, tm) := by
  have e : grP BF L a = (false, a, 0, 0) := by unfold grP; rw [h]
  unfold gsP
  simp only [if_true, e, Bool.false_eq_true, if_false]
theorem gsP_at {BF : Nat → Nat} {L dy a a1 v tm : Nat} {td : Nat → Nat} (h : numP BF L 1 99 a = some (a1, v)) (h2 : ¬ sgF BF L a1 = 64) : gsP BF L dy (true, a, td, tm) = (false, a1, td, tm) := by
  have e : grP BF L a = (false, a1, 0, 0) := by
    unfold grP; rw [h]
    show (if sgF BF L a1 = 64 then _ else _) = _
    rw [if_neg h2]
  unfold gsP
  simp only [if_true, e, Bool.false_eq_true, if_false]
theorem gsP_gt {BF : Nat → Nat} {L dy a a1 v tm : Nat} {td : Nat → Nat} (h : numP BF L 1 99 a = some (a1, v)) (h2 : sgF BF L a1 = 64) (h3 : inN (sgF BF L (a1 + 1)) 48 55 = false) : gsP BF L dy (true, a, td, tm) = (false, a1 + 1, td, tm) := by
  have e : grP BF L a = (false, a1 + 1, 0, 0) := by
    unfold grP; rw [h]
    show (if sgF BF L a1 = 64 then (if inN (sgF BF L (a1 + 1)) 48 55 = true then _ else _) else _) = _
    rw [if_pos h2, if_neg (by rw [h3]; decide)]
  unfold gsP
  simp only [if_true, e, Bool.false_eq_true, if_false]
theorem gsP_ok {BF : Nat → Nat} {L dy a a1 v tm : Nat} {td : Nat → Nat} (h : numP BF L 1 99 a = some (a1, v)) (h2 : sgF BF L a1 = 64) (h3 : inN (sgF BF L (a1 + 1)) 48 55 = true) : gsP BF L dy (true, a, td, tm) = (true, a1 + 2, upn (upn (upn td (3 * tm) dy) (3 * tm + 1) v) (3 * tm + 2) (sgF BF L (a1 + 1) - 48), tm + 1) := by
  have e : grP BF L a = (true, a1 + 2, v, sgF BF L (a1 + 1) - 48) := by
    unfold grP; rw [h]
    show (if sgF BF L a1 = 64 then (if inN (sgF BF L (a1 + 1)) 48 55 = true then _ else _) else _) = _
    rw [if_pos h2, if_pos h3]
  unfold gsP
  simp only [if_true, e]
theorem psL_stop {BF : Nat → Nat} {L dy f : Nat} {s : Ps} (h : ¬ (s.1 = true ∧ sgF BF L s.2.1 = 43)) : psL BF L dy f s = s := by
  cases f with
  | zero => rfl
  | succ f => unfold psL; rw [if_neg h]
theorem psL_go {BF : Nat → Nat} {L dy f a tm : Nat} {td : Nat → Nat} (h : sgF BF L a = 43) : psL BF L dy (f + 1) (true, a, td, tm) = psL BF L dy f (gsP BF L dy (true, a + 1, td, tm)) := by
  show (if (true = true ∧ sgF BF L a = 43) then _ else _) = _
  rw [if_pos ⟨rfl, h⟩]
theorem paP_f (BF : Nat → Nat) (L : Nat) (s : Nat × (Nat → Nat) × Nat) : paP BF L (false, s) = (false, s) := rfl
theorem paP_none {BF : Nat → Nat} {L a tm : Nat} {td : Nat → Nat} (h : numP BF L 0 999 a = none) : paP BF L (true, a, td, tm) = (false, a, td, tm) := by
  unfold paP; simp only [if_true, h]
theorem paP_no {BF : Nat → Nat} {L a a1 v tm : Nat} {td : Nat → Nat} (h : numP BF L 0 999 a = some (a1, v)) (h2 : ¬ sgF BF L a1 = 58) : paP BF L (true, a, td, tm) = (false, a1, td, tm) := by
  unfold paP; simp only [if_true, h, h2, if_false]
theorem paP_ok {BF : Nat → Nat} {L a a1 v tm : Nat} {td : Nat → Nat} (h : numP BF L 0 999 a = some (a1, v)) (h2 : sgF BF L a1 = 58) : paP BF L (true, a, td, tm) = psL BF L v 61 (gsP BF L v (true, a1 + 1, td, tm)) := by
  unfold paP; simp only [if_true, h, h2]
theorem alL_stop {BF : Nat → Nat} {L f : Nat} {s : Ps} (h : ¬ (s.1 = true ∧ s.2.1 < L)) : alL BF L f s = s := by
  cases f with
  | zero => rfl
  | succ f => unfold alL; rw [if_neg h]
theorem alL_no {BF : Nat → Nat} {L f a tm : Nat} {td : Nat → Nat} (h : a < L) (h2 : ¬ sgF BF L a = 59) : alL BF L (f + 1) (true, a, td, tm) = (false, a, td, tm) := by
  show (if (true = true ∧ a < L) then (if sgF BF L a = 59 then _ else _) else _) = _
  rw [if_pos ⟨rfl, h⟩, if_neg h2]
theorem alL_go {BF : Nat → Nat} {L f a tm : Nat} {td : Nat → Nat} (h : a < L) (h2 : sgF BF L a = 59) : alL BF L (f + 1) (true, a, td, tm) = alL BF L f (paP BF L (true, a + 1, td, tm)) := by
  show (if (true = true ∧ a < L) then (if sgF BF L a = 59 then _ else _) else _) = _
  rw [if_pos ⟨rfl, h⟩, if_pos h2]
theorem psL_a {BF : Nat → Nat} {L dy : Nat} (hd : dy ≤ 999) : ∀ (f : Nat) (s : Ps), PsI L s → s.2.1 ≤ (psL BF L dy f s).2.1 := by
  intro f
  induction f with
  | zero => intro s h; exact Nat.le_refl _
  | succ f ih =>
    intro s h
    unfold psL
    split
    · rename_i q
      obtain ⟨w, a, td, tm⟩ := s
      have hl : a < L := sgF_lt (BF := BF) (by have q2 : sgF BF L a = 43 := q.2; omega)
      obtain ⟨h1, h2, h3⟩ := h
      have h1 : 4 * tm ≤ a := h1
      have g := gsP_in (BF := BF) (dy := dy) (a := a + 1) (tm := tm) (td := td) ⟨by show 4 * tm ≤ a + 1; omega, by show a + 1 ≤ L; omega, h3⟩ (by omega) hd
      exact Nat.le_trans (by show a ≤ a + 1; omega) (Nat.le_trans g.2 (ih _ g.1))
    · exact Nat.le_refl _
theorem paP_a {BF : Nat → Nat} {L : Nat} {s : Ps} (h : PsI L s) : s.2.1 ≤ (paP BF L s).2.1 := by
  obtain ⟨w, a, td, tm⟩ := s
  obtain ⟨h1, h2, h3⟩ := id h
  have h1 : 4 * tm ≤ a := h1
  unfold paP
  split
  · cases hn : numP BF L 0 999 a with
    | none => simp only [hn]; exact Nat.le_refl _
    | some p =>
      obtain ⟨a1, v⟩ := p
      obtain ⟨g1, g2, g3, g4, g5⟩ := numP_in hn (by omega) (by omega)
      simp only [hn]
      split
      · rename_i c
        have l1 : a1 < L := sgF_lt (BF := BF) (by omega)
        have g := gsP_in (BF := BF) (dy := v) (a := a1 + 1) (tm := tm) (td := td) ⟨by show 4 * tm ≤ a1 + 1; omega, by show a1 + 1 ≤ L; omega, h3⟩ (by omega) g4
        exact Nat.le_trans (by show a ≤ a1 + 1; omega) (Nat.le_trans g.2 (psL_a g4 _ _ g.1))
      · show a ≤ a1; omega
  · exact Nat.le_refl _
/-- planning all that was read -/
def paQ (P : Nat → Nat) (s : Ps) : Nat → Nat := itN s.2.2.2 (fun k Q => plP Q (s.2.2.1 (3 * k)) (s.2.2.1 (3 * k + 1)) (s.2.2.1 (3 * k + 2))) P
def paC (P : Nat → Nat) (s : Ps) : Bool := itN s.2.2.2 (fun k b => b && decide (P 5 ≤ s.2.2.1 (3 * k))) (decide (P 7 + s.2.2.2 ≤ 16))
def a_first (S : Sx) : AO := (0, nI (alP S.2.2.2.1 S.2.2.2.2).2.1, S)
def a_planAll (S : Sx) : AO := if (alP S.2.2.2.1 S.2.2.2.2).1 = false then (1, nI 0, S) else if paC S.1 (alP S.2.2.2.1 S.2.2.2.2) = false then (2, nI 0, S) else (0, nI (S.1 7 + (alP S.2.2.2.1 S.2.2.2.2).2.2.2), paQ S.1 (alP S.2.2.2.1 S.2.2.2.2), svX S.2.1 S.2.2.1 S.1, svN S.2.2.1, S.2.2.2.1, 0)
