/-! FOUNTAINPARK: its picture. Index 0: its own frame (0 itself, 1 the list, 2 the text, 3 the list's array, 4 the text's bytes), 1 now, 2 tried, 3 + i saved i -/
theorem AlP.keep {E : Ev} {V : Nat → Prop} {h h' : HP} {l n ci : Nat} {ar : Option Nat} {f : Nat → Nat} {mc : Int32} (X : AlP E h l ar n ci f mc) (M : Sm V h h') (hl : ¬ V l) (ha : ∀ a, ar = some a → ¬ V a) : AlP E h' l ar n ci f mc := by
  obtain ⟨x1, x2, x3, x4, x5, x6⟩ := X
  have m := M.2 l x4
  refine ⟨m.1.trans x1, by rw [m.2.2 hl]; exact x2, by rw [m.2.2 hl]; exact x3, Nat.lt_of_lt_of_le x4 M.1, x5, ?_⟩
  cases ar with
  | none => rw [m.2.2 hl]; exact x6
  | some a =>
    obtain ⟨y1, y2, y3, y4, y5, y6, y7, y8, y9⟩ := x6
    have q := M.2 a y6
    refine ⟨by rw [m.2.2 hl]; exact y1, q.1.trans y2, by rw [q.2.1]; exact y3, by rw [q.2.1]; exact y4, by rw [q.2.1]; exact y5, Nat.lt_of_lt_of_le y6 M.1, y7, fun i hi => ?_, fun i h1 h2 => ?_⟩
    · obtain ⟨z1, z2, z3⟩ := y8 i hi
      exact ⟨by rw [q.2.2 (ha a rfl)]; exact z1, (M.2 _ z3).1.trans z2, Nat.lt_of_lt_of_le z3 M.1⟩
    · rw [q.2.2 (ha a rfl)]; rw [q.2.1] at h2; exact y9 i h1 h2
/-- owned cells: there, of no immutable kind -/
def OwT (h : HP) (tg : Nat → Nat) : Prop := ∀ a, tg a ≠ 100 → a < h.sz ∧ h.kd a ≠ 4 ∧ h.kd a ≠ 9 ∧ h.kd a ≠ 15
theorem OwT.keep {V : Nat → Prop} {h h' : HP} {tg : Nat → Nat} (X : OwT h tg) (M : Sm V h h') : OwT h' tg := fun a ha => by
  obtain ⟨g1, g2⟩ := X a ha
  exact ⟨Nat.lt_of_lt_of_le g1 M.1, by rw [(M.2 a g1).1]; exact g2⟩
def FkF (E : Ev) (h : HP) (f L1 L2 : Nat) (PS tg : Nat → Nat) (n : Nat) (bf : Nat → Nat) (len : Nat) (hs : Int64) : Prop :=
  h.kd f = 0 ∧ tg f = 0 ∧ h.mm f 0 = .ref L1 ∧ h.mm f 1 = .ref L2 ∧ h.mm f 4 = .long hs ∧ OwT h tg ∧ (∃ (al : Nat) (ar : Option Nat) (mc : Int32), h.mm f 2 = .ref al ∧ AlP E h al ar n 1 PS mc ∧ tg al = 1 ∧ ∀ a, ar = some a → tg a = 3) ∧ ∃ b br, h.mm f 3 = .ref b ∧ SbP h b br len bf ∧ tg b = 2 ∧ tg br = 4
def PkS (h : HP) (L tg P : Nat → Nat) (N : Nat) : Prop := ∃ td pn, Pk h L tg P td pn (frP P (P 5)) ∧ pn ≤ N
def svP (S : Sx) (i : Nat) : Nat → Nat := fun k => if k < 204 then S.2.1 (204 * i + k) else 0
def Fk (E : Ev) (h : HP) (f : Nat) (LL TT : Nat → Nat → Nat) (S : Sx) (N : Nat) (hs : Int64) : Prop :=
  FkF E h f (LL 1 0) (LL 2 0) (fun i => LL (3 + i) 0) (TT 0) S.2.2.1 S.2.2.2.1 S.2.2.2.2 hs ∧ PkS h (LL 1) (TT 1) S.1 N ∧ (∃ P, P 6 ≤ 6 ∧ PkS h (LL 2) (TT 2) P (N + 1)) ∧ (∀ i, i < S.2.2.1 → PkS h (LL (3 + i)) (TT (3 + i)) (svP S i) N) ∧ ∀ i j, i ≠ j → i < S.2.2.1 + 3 → j < S.2.2.1 + 3 → Dj (TT i) (TT j)
/-- its own cells -/
def Ow (TT : Nat → Nat → Nat) (n a : Nat) : Prop := ∃ j, j < n + 3 ∧ TT j a ≠ 100
def FkTo (E : Ev) (h0 : HP) (f : Nat) (O0 : Nat → Prop) (LL TT : Nat → Nat → Nat) (S : Sx) (N : Nat) (hs : Int64) (h : HP) : Prop := Fk E h f LL TT S N hs ∧ Sm O0 h0 h ∧ ∀ a, Ow TT S.2.2.1 a → O0 a ∨ h0.sz ≤ a
def upt (TT : Nat → Nat → Nat) (i : Nat) (t : Nat → Nat) : Nat → Nat → Nat := fun j => if j = i then t else TT j
theorem upt_s (TT : Nat → Nat → Nat) (i : Nat) (t : Nat → Nat) : upt TT i t i = t := if_pos rfl
theorem upt_n (TT : Nat → Nat → Nat) {i j : Nat} (t : Nat → Nat) (e : j ≠ i) : upt TT i t j = TT j := if_neg e
theorem PkS.keep {V : Nat → Prop} {h h' : HP} {L tg P : Nat → Nat} {N : Nat} (X : PkS h L tg P N) (M : Sm V h h') (hv : ∀ a, tg a ≠ 100 → ¬ V a) (im : ∀ a, h.kd a = 4 ∨ h.kd a = 9 ∨ h.kd a = 15 → ¬ V a) : PkS h' L tg P N := by
  obtain ⟨td, pn, x, hp⟩ := X
  exact ⟨td, pn, x.keep M hv (fun a ha => im a (by omega)) (fun a ha => im a (by omega)) (fun a ha => im a (by omega)), hp⟩
theorem PkS.o {h : HP} {L tg P : Nat → Nat} {N : Nat} (X : PkS h L tg P N) : PkO h L tg := by
  obtain ⟨td, pn, x, hp⟩ := X; exact x.1
theorem PkS.mono {h : HP} {L tg P : Nat → Nat} {N N' : Nat} (X : PkS h L tg P N) (e : N ≤ N') : PkS h L tg P N' := by
  obtain ⟨td, pn, x, hp⟩ := X; exact ⟨td, pn, x, by omega⟩
theorem PkS.cong {h : HP} {L tg P P' : Nat → Nat} {N : Nat} (X : PkS h L tg P N) (b6 : P 6 ≤ 6) (b7 : P 7 ≤ 17) (e : ∀ i, i < 204 → P' i = P i) : PkS h L tg P' N := by
  obtain ⟨td, pn, x, hp⟩ := X
  have T := x.to.cong (P' := P') b6 (fun i hi => e i (by omega)) (fun i w hi hw => e _ (by omega))
  refine ⟨td, pn, ?_, hp⟩
  have e5 := e 5 (by decide)
  rw [e5, fr_cong (A := P) b6 (fun i hi => e i (by omega))]
  exact T.1
theorem FkF.keep {E : Ev} {V : Nat → Prop} {h h' : HP} {f L1 L2 : Nat} {PS tg : Nat → Nat} {n : Nat} {bf : Nat → Nat} {len : Nat} {hs : Int64} (X : FkF E h f L1 L2 PS tg n bf len hs) (M : Sm V h h') (hv : ∀ a, tg a ≠ 100 → ¬ V a) : FkF E h' f L1 L2 PS tg n bf len hs := by
  obtain ⟨x1, x2, x3, x4, x5, x6, ⟨al, ar, mc, a1, a2, a3, a4⟩, b, br, b1, b2, b3, b4⟩ := X
  have hf : f < h.sz := (x6 f (by omega)).1
  have m := M.2 f hf
  have nf : ¬ V f := hv f (by omega)
  refine ⟨m.1.trans x1, x2, by rw [m.2.2 nf]; exact x3, by rw [m.2.2 nf]; exact x4, by rw [m.2.2 nf]; exact x5, x6.keep M, ⟨al, ar, mc, by rw [m.2.2 nf]; exact a1, a2.keep M (hv al (by omega)) (fun a ha => hv a (by have := a4 a ha; omega)), a3, a4⟩, b, br, by rw [m.2.2 nf]; exact b1, b2.keep M (hv b (by omega)) (hv br (by omega)), b3, b4⟩
section
variable {E : Ev} {h0 h h' : HP} {f : Nat} {O0 : Nat → Prop} {LL TT : Nat → Nat → Nat} {S : Sx} {N N' : Nat} {hs : Int64} {V : Nat → Prop}
theorem Fk.own (F : Fk E h f LL TT S N hs) {j : Nat} (hj : j < S.2.2.1 + 3) : OwT h (TT j) := by
  obtain ⟨F0, F1, ⟨P2, -, F2⟩, F3, -⟩ := F
  by_cases e0 : j = 0
  · subst e0; exact F0.2.2.2.2.2.1
  · by_cases e1 : j = 1
    · subst e1; exact F1.o.2
    · by_cases e2 : j = 2
      · subst e2; exact F2.o.2
      · have := (F3 (j - 3) (by omega)).o.2
        rw [show 3 + (j - 3) = j from by omega] at this
        exact this
theorem Fk.ow (F : Fk E h f LL TT S N hs) {a : Nat} (ha : Ow TT S.2.2.1 a) : a < h.sz ∧ h.kd a ≠ 4 ∧ h.kd a ≠ 9 ∧ h.kd a ≠ 15 := by
  obtain ⟨j, hj, e⟩ := ha
  exact F.own hj a e
theorem Fk.far (F : Fk E h f LL TT S N hs) {j a : Nat} (hj : j < S.2.2.1 + 3) (ha : h.sz ≤ a) : TT j a = 100 := Classical.byContradiction fun q => by have := (F.own hj a q).1; omega
theorem Fk.kd (F : Fk E h f LL TT S N hs) : h.kd f = 0 := F.1.1
theorem Fk.f0 (F : Fk E h f LL TT S N hs) : h.mm f 0 = .ref (LL 1 0) := F.1.2.2.1
theorem Fk.f1 (F : Fk E h f LL TT S N hs) : h.mm f 1 = .ref (LL 2 0) := F.1.2.2.2.1
theorem Fk.fh (F : Fk E h f LL TT S N hs) : h.mm f 4 = .long hs := F.1.2.2.2.2.1
theorem Fk.mono (F : Fk E h f LL TT S N hs) (e : N ≤ N') : Fk E h f LL TT S N' hs := by
  obtain ⟨F0, F1, ⟨P2, p6, F2⟩, F3, D⟩ := F
  exact ⟨F0, F1.mono e, ⟨P2, p6, F2.mono (by omega)⟩, fun i hi => (F3 i hi).mono e, D⟩
theorem Fk.keep (F : Fk E h f LL TT S N hs) (M : Sm V h h') (hv : ∀ a, Ow TT S.2.2.1 a → ¬ V a) (im : ∀ a, h.kd a = 4 ∨ h.kd a = 9 ∨ h.kd a = 15 → ¬ V a) : Fk E h' f LL TT S N hs := by
  obtain ⟨F0, F1, ⟨P2, p6, F2⟩, F3, D⟩ := F
  exact ⟨F0.keep M (fun a ha => hv a ⟨0, by omega, ha⟩), F1.keep M (fun a ha => hv a ⟨1, by omega, ha⟩) im, ⟨P2, p6, F2.keep M (fun a ha => hv a ⟨2, by omega, ha⟩) im⟩, fun i hi => (F3 i hi).keep M (fun a ha => hv a ⟨3 + i, by omega, ha⟩) im, D⟩
theorem Fk.to (F : Fk E h f LL TT S N hs) : FkTo E h f (Ow TT S.2.2.1) LL TT S N hs h := ⟨F, Sm.refl _ _, fun _ ha => Or.inl ha⟩
theorem FkTo.mono (T : FkTo E h0 f O0 LL TT S N hs h) (e : N ≤ N') : FkTo E h0 f O0 LL TT S N' hs h := ⟨T.1.mono e, T.2⟩
theorem FkTo.new (T : FkTo E h0 f O0 LL TT S N hs h) (M : Sm V h h') (hv : ∀ a, a < h.sz → ¬ V a) : FkTo E h0 f O0 LL TT S N hs h' := by
  have M0 : Sm (fun _ => False) h h' := M.mono (fun q hq v => hv q hq v)
  exact ⟨T.1.keep M0 (fun _ _ f => f) (fun _ _ f => f), T.2.1.tr M0 (fun _ _ f => f.elim), T.2.2⟩
theorem Sm.up {h : HP} {n : Nat} (hn : h.sz ≤ n) : Sm (fun _ => False) h (h.up n) := ⟨hn, fun a ha => ⟨rfl, rfl, fun _ => rfl⟩⟩
theorem FkTo.up (T : FkTo E h0 f O0 LL TT S N hs h) {n : Nat} (hn : h.sz ≤ n) : FkTo E h0 f O0 LL TT S N hs (h.up n) := T.new (Sm.up hn) (fun _ _ f => f)
theorem Fk.dj (F : Fk E h f LL TT S N hs) {i j a : Nat} (e : i ≠ j) (hi : i < S.2.2.1 + 3) (hj : j < S.2.2.1 + 3) (ha : TT i a ≠ 100) : TT j a = 100 := by have := F.2.2.2.2 i j e hi hj a; omega
theorem Fk.im (F : Fk E h f LL TT S N hs) (hV : ∀ a, V a → Ow TT S.2.2.1 a) : ∀ a, h.kd a = 4 ∨ h.kd a = 9 ∨ h.kd a = 15 → ¬ V a := fun a ha v => by have := F.ow (hV a v); omega
/-- parks i, j in I were written; what they are now; the rest is as it was -/
theorem FkTo.parks (T : FkTo E h0 f O0 LL TT S N hs h) {I : Nat → Prop} {tg1 tg2 P1 P2 : Nat → Nat} (M : Sm V h h') (hV : ∀ a, V a → ∃ j, I j ∧ TT j a ≠ 100) (hI : ∀ j, I j → j = 1 ∨ j = 2) (X1 : PkS h' (LL 1) tg1 P1 N') (X2 : PkS h' (LL 2) tg2 P2 (N' + 1)) (b6 : P2 6 ≤ 6) (e1 : ∀ a, a < h.sz → tg1 a = TT 1 a) (e2 : ∀ a, a < h.sz → tg2 a = TT 2 a) (dd : Dj tg1 tg2) (hN : N ≤ N') : FkTo E h0 f O0 LL (upt (upt TT 1 tg1) 2 tg2) (P1, S.2) N' hs h' := by
  obtain ⟨F, M0, hO⟩ := T
  have im := F.im (V := V) (fun a v => by obtain ⟨j, hj, e⟩ := hV a v; exact ⟨j, by have := hI j hj; omega, e⟩)
  have nv : ∀ j, j < S.2.2.1 + 3 → j ≠ 1 → j ≠ 2 → ∀ a, TT j a ≠ 100 → ¬ V a := fun j hj n1 n2 a ha v => by
    obtain ⟨i, hi, e⟩ := hV a v
    have := hI i hi
    exact ha (F.dj (i := i) (j := j) (by omega) (by omega) hj e)
  have far := fun {j a} => F.far (j := j) (a := a)
  obtain ⟨F0, F1, F2, F3, D⟩ := id F
  have ut : ∀ j, j ≠ 1 → j ≠ 2 → upt (upt TT 1 tg1) 2 tg2 j = TT j := fun j h1 h2 => by rw [upt_n _ _ h2, upt_n _ _ h1]
  have u1 : upt (upt TT 1 tg1) 2 tg2 1 = tg1 := by rw [upt_n _ _ (by decide), upt_s]
  have u2 : upt (upt TT 1 tg1) 2 tg2 2 = tg2 := upt_s _ _ _
  have old : ∀ j a, j < S.2.2.1 + 3 → a < h.sz → upt (upt TT 1 tg1) 2 tg2 j a = TT j a := fun j a hj ha => by
    by_cases c1 : j = 1
    · subst c1; rw [u1]; exact e1 a ha
    · by_cases c2 : j = 2
      · subst c2; rw [u2]; exact e2 a ha
      · rw [ut j c1 c2]
  refine ⟨⟨by rw [ut 0 (by decide) (by decide)]; exact F0.keep M (nv 0 (by omega) (by decide) (by decide)), by rw [u1]; exact X1, ⟨P2, b6, by rw [u2]; exact X2⟩, fun i hi => ?_, fun i j hij hi hj a => ?_⟩, M0.tr M (fun q hq v => ?_), fun a ha => ?_⟩
  · have hi : i < S.2.2.1 := hi
    rw [ut (3 + i) (by omega) (by omega)]
    exact ((F3 i hi).keep M (nv (3 + i) (by omega) (by omega) (by omega)) im).mono hN
  · have hi : i < S.2.2.1 + 3 := hi
    have hj : j < S.2.2.1 + 3 := hj
    by_cases c : a < h.sz
    · rw [old i a hi c, old j a hj c]; exact D i j hij hi hj a
    · have fr : ∀ q, q < S.2.2.1 + 3 → q ≠ 1 → q ≠ 2 → upt (upt TT 1 tg1) 2 tg2 q a = 100 := fun q hq q1 q2 => by rw [ut q q1 q2]; exact far hq (by omega)
      by_cases i1 : i = 1 ∨ i = 2
      · by_cases j1 : j = 1 ∨ j = 2
        · rcases i1 with i1 | i1 <;> rcases j1 with j1 | j1 <;> subst i1 <;> subst j1
          · exact absurd rfl hij
          · rw [u1, u2]; exact dd a
          · rw [u1, u2]; exact (dd a).symm
          · exact absurd rfl hij
        · exact Or.inr (fr j hj (by omega) (by omega))
      · exact Or.inl (fr i hi (by omega) (by omega))
  · obtain ⟨j, hj, e⟩ := hV q v
    have := hI j hj
    rcases hO q ⟨j, by omega, e⟩ with w | w
    · exact w
    · omega
  · obtain ⟨j, hj, e⟩ := ha
    have hj : j < S.2.2.1 + 3 := hj
    by_cases c : a < h.sz
    · rw [old j a hj c] at e; exact hO a ⟨j, hj, e⟩
    · exact Or.inr (by have := M0.1; omega)
/-- the park now was written -/
theorem FkTo.now (T : FkTo E h0 f O0 LL TT S N hs h) {tg1 P1 td1 : Nat → Nat} {pn1 : Nat} (X : PkTo h (LL 1) (TT 1) tg1 P1 td1 pn1 (frP P1 (P1 5)) h') (hp : pn1 ≤ N') (hN : N ≤ N') : FkTo E h0 f O0 LL (upt (upt TT 1 tg1) 2 (TT 2)) (P1, S.2) N' hs h' := by
  obtain ⟨F0, F1, ⟨P2, p6, F2⟩, F3, D⟩ := id T.1
  have im := T.1.im (V := fun a => TT 1 a ≠ 100) (fun a v => ⟨1, by omega, v⟩)
  have d12 := D 1 2 (by decide) (by omega) (by omega)
  refine T.parks (I := fun j => j = 1) X.2.1 (fun a v => ⟨1, rfl, v⟩) (fun j hj => Or.inl hj) ⟨_, _, X.1, hp⟩ ((F2.keep X.2.1 (fun a ha v => by have := d12 a; omega) im).mono (by omega)) p6 X.2.2 (fun _ _ => rfl) (fun a => ?_) hN
  by_cases c : a < h.sz
  · rw [X.2.2 a c]; exact d12 a
  · exact Or.inr (T.1.far (j := 2) (by omega) (by omega))
/-- the park that is tried was written -/
theorem FkTo.try (T : FkTo E h0 f O0 LL TT S N hs h) {tg2 P2 td2 : Nat → Nat} {pn2 : Nat} (X : PkTo h (LL 2) (TT 2) tg2 P2 td2 pn2 (frP P2 (P2 5)) h') (b6 : P2 6 ≤ 6) (hp : pn2 ≤ N + 1) : FkTo E h0 f O0 LL (upt (upt TT 1 (TT 1)) 2 tg2) S N hs h' := by
  obtain ⟨F0, F1, F2, F3, D⟩ := id T.1
  have im := T.1.im (V := fun a => TT 2 a ≠ 100) (fun a v => ⟨2, by omega, v⟩)
  have d12 := D 1 2 (by decide) (by omega) (by omega)
  refine T.parks (I := fun j => j = 2) X.2.1 (fun a v => ⟨2, rfl, v⟩) (fun j hj => Or.inr hj) (F1.keep X.2.1 (fun a ha v => by have := d12 a; omega) im) ⟨_, _, X.1, hp⟩ b6 (fun _ _ => rfl) X.2.2 (fun a => ?_) (Nat.le_refl _)
  by_cases c : a < h.sz
  · rw [X.2.2 a c]; exact d12 a
  · exact Or.inl (T.1.far (j := 1) (by omega) (by omega))
theorem Fk.p1 (F : Fk E h f LL TT S N hs) : ∃ td pn, Pk h (LL 1) (TT 1) S.1 td pn (frP S.1 (S.1 5)) ∧ pn ≤ N := F.2.1
theorem Fk.k1 (F : Fk E h f LL TT S N hs) : h.kd (LL 1 0) = 1 := by obtain ⟨td, pn, x, -⟩ := F.2.1; exact x.v.k0
theorem Fk.k2 (F : Fk E h f LL TT S N hs) : h.kd (LL 2 0) = 1 := by obtain ⟨P, -, td, pn, x, -⟩ := F.2.2.1; exact x.v.k0
/-- the end of a public method: ex: which exception a code stands for -/
def FkApi (E : Ev) (h0 : HP) (f : Nat) (O0 : Nat → Prop) (ex : Nat → String) (N : Nat) (o : AO) : Res → HP → Prop := fun r h' => (∃ LL TT hs, FkTo E h0 f O0 LL TT o.2.2 N hs h') ∧ ((o.1 = 0 ∧ r = .inl (some (.int o.2.1))) ∨ (o.1 ≠ 0 ∧ r = .inr (ex o.1)))
theorem FkApi.ok {ex : Nat → String} {o : AO} {v x : Int32} {S' : Sx} (ho : o = (0, v, S')) (T : FkTo E h0 f O0 LL TT S' N hs h) (e : x = v) : FkApi E h0 f O0 ex N o (.inl (some (.int x))) h := by
  subst ho; subst e; exact ⟨⟨LL, TT, hs, T⟩, Or.inl ⟨rfl, rfl⟩⟩
theorem FkApi.thr {ex : Nat → String} {o : AO} {v : Int32} {S' : Sx} {c : Nat} {X : String} (ho : o = (c + 1, v, S')) (T : FkTo E h0 f O0 LL TT S' N hs h) (e : ex (c + 1) = X) {n : Nat} (hn : h.sz ≤ n) : FkApi E h0 f O0 ex N o (.inr X) (h.up n) := by
  subst ho; subst e; exact ⟨⟨LL, TT, hs, T.up hn⟩, Or.inr ⟨Nat.succ_ne_zero _, rfl⟩⟩
theorem aft_need {mt : Mth} {d k pc : Nat} {Q : Res → HP → Prop} {ls rest : List Value} {b : Bool} {X : String} (kk : b = true → Z E mt d Q k h pc ls rest) (ht : mt.2.2.2.2 = []) (hx : b = false → ∀ n, h.sz ≤ n → Q (.inr X) (h.up n)) : Aft E mt d Q k (fun r h' => (b = true ∧ r = .inl none ∧ h' = h) ∨ (b = false ∧ r = .inr X ∧ ∃ n, h.sz ≤ n ∧ h' = h.up n)) pc ls rest :=
  ⟨fun v h' hq => (by
    rcases hq with ⟨h1, h2, rfl⟩ | ⟨-, h2, -⟩
    · cases h2; exact kk h1
    · cases h2), fun Y h' hq => (by
    rcases hq with ⟨-, h2, -⟩ | ⟨h1, h2, n, hn, rfl⟩
    · cases h2
    · cases h2; exact ⟨ht, hx h1 n hn⟩)⟩
end
