/-! PARK: serving all outings of a day, against svF and dpP -/
/-- the same but for the outings -/
def Eo (A B : Nat → Nat) : Prop := ∀ i, i < 153 → i ≠ 7 → A i = B i
theorem Eo.uP {A B : Nat → Nat} (e : Eo A B) (i v : Nat) : Eo (upn A i v) (upn B i v) := fun j hj h7 => by
  by_cases q : j = i
  · rw [q, upn_s, upn_s]
  · rw [upn_n _ _ q, upn_n _ _ q]; exact e j hj h7
theorem Eo.of {A B : Nat → Nat} (e : Eo A B) {p w : Nat} (hp : p < 8) (hw : w < 10) : ofP A p w = ofP B p w := e _ (by omega) (by omega)
theorem Eo.fr {A B : Nat → Nat} (e : Eo A B) (h6 : A 6 ≤ 6) (y : Nat) : frP A y = frP B y := by
  rw [frP_mt, frP_mt]
  unfold mtB
  rw [← e 6 (by decide) (by decide)]
  generalize A 6 = n at h6
  have : ∀ m, m ≤ n → anN m (fun k => decide (y ≤ A (141 + 2 * k + 1)) && decide (A (141 + 2 * k) ≤ y)) = anN m (fun k => decide (y ≤ B (141 + 2 * k + 1)) && decide (B (141 + 2 * k) ≤ y)) := by
    intro m
    induction m with
    | zero => intro _; rfl
    | succ m ih => intro hm; rw [anN_s, anN_s, ih (by omega), e (141 + 2 * m) (by omega) (by omega), e (141 + 2 * m + 1) (by omega) (by omega)]
  exact this n (Nat.le_refl _)
theorem Eo.cl {A B : Nat → Nat} (e : Eo A B) (h6 : A 6 ≤ 6) {p : Nat} (hp : p < 8) : clP A p = clP B p := by
  unfold clP
  rw [e.of hp (by decide : 6 < 10), e.of hp (by decide : 5 < 10), e.of hp (by decide : 4 < 10), e.of hp (by decide : 3 < 10), e.of hp (by decide : 2 < 10), e.of hp (by decide : 1 < 10), ← e 5 (by decide) (by decide), e.fr h6]
theorem Eo.gA {A B : Nat → Nat} (e : Eo A B) (FL : Nat → Nat) {p : Nat} (hp : p < 8) (w : Nat) : gvA A FL p w = gvA B FL p w := by
  unfold gvA; rw [e.of hp (by decide : 1 < 10), e.of hp (by decide : 2 < 10)]
theorem Eo.rp {A B : Nat → Nat} (e : Eo A B) (j : Nat) (hj : j < 16) : Eo (rpP A j) (rpP B j) := by
  unfold rpP
  have : upn A (93 + 3 * j + 0) 1 5 = upn B (93 + 3 * j + 0) 1 5 := e.uP _ _ 5 (by decide) (by decide)
  rw [this]
  exact ((e.uP _ _).uP _ _).uP _ _
theorem Eo.ly {A B : Nat → Nat} (e : Eo A B) (p w v : Nat) : Eo (lyP A p w v) (lyP B p w v) := e.uP _ _
theorem Eo.gQ {A B : Nat → Nat} (e : Eo A B) {p : Nat} (hp : p < 8) (n : Nat) : Eo (gvQ A p n) (gvQ B p n) := by
  rw [gvQ_12, gvQ_12]
  unfold gvQ0
  rw [e.of hp (by decide : 2 < 10), e.of hp (by decide : 7 < 10), e 12 (by decide) (by decide)]
  exact ((e.ly _ _ _).ly _ _ _).uP _ _
theorem Eo.gP {A B : Nat → Nat} (e : Eo A B) (FL : Nat → Nat) {p : Nat} (hp : p < 8) (w : Nat) : Eo (gvP A FL p w) (gvP B FL p w) := by
  unfold gvP
  rw [e.gA FL hp w, e.of hp (by decide : 1 < 10), e.of hp (by decide : 2 < 10)]
  split
  · exact (e.gQ hp _).rp _ (by omega)
  · exact e.gQ hp _
theorem Eo.dS {A B : Nat → Nat} (e : Eo A B) (h6 : A 6 ≤ 6) (FL : Nat → Nat) (n g k : Nat) (hg : g < 8) (hk : k < 8) : Eo (drS g k (A, FL, n)).1 (drS g k (B, FL, n)).1 ∧ (drS g k (A, FL, n)).2 = (drS g k (B, FL, n)).2 ∧ (drS g k (A, FL, n)).1 6 ≤ 6 := by
  have hp := ngO_lt g hg k hk
  unfold drS
  simp only []
  rw [e.cl h6 hp]
  by_cases c : clP B (ngO g k) = 0 ∧ apN (ngO g k) g < 3
  · simp only [if_pos c]
    refine ⟨e.gP FL hp n, ?_, ?_⟩
    · unfold gwF; rw [e.gA FL hp n]
    · rw [gvP_lo _ _ _ _ hp (by decide)]; exact h6
  · simp only [if_neg c]
    exact ⟨e, trivial, h6⟩
theorem Eo.dL {A B : Nat → Nat} (e : Eo A B) (h6 : A 6 ≤ 6) (FL : Nat → Nat) (c g : Nat) (hg : g < 8) : Eo (drL A FL c g).1 (drL B FL c g).1 ∧ (drL A FL c g).2 = (drL B FL c g).2 := by
  have key : ∀ m, m ≤ 8 → Eo (itN m (drS g) (A, FL, c * A 2)).1 (itN m (drS g) (B, FL, c * B 2)).1 ∧ (itN m (drS g) (A, FL, c * A 2)).2 = (itN m (drS g) (B, FL, c * B 2)).2 ∧ (itN m (drS g) (A, FL, c * A 2)).1 6 ≤ 6 := by
    intro m
    induction m with
    | zero => intro _; exact ⟨e, by show (FL, c * A 2) = (FL, c * B 2); rw [e 2 (by decide) (by decide)], h6⟩
    | succ m ih =>
      intro hm
      obtain ⟨i1, i2, i3⟩ := ih (by omega)
      rw [itN_s, itN_s]
      generalize itN m (drS g) (A, FL, c * A 2) = s at i1 i2 i3
      generalize itN m (drS g) (B, FL, c * B 2) = t at i1 i2
      obtain ⟨A', FA, na⟩ := s
      obtain ⟨B', FB, nb⟩ := t
      have i2 : (FA, na) = (FB, nb) := i2
      cases i2
      exact Eo.dS i1 i3 FA na g m hg (by omega)
  exact ⟨(key 8 (Nat.le_refl _)).1, (key 8 (Nat.le_refl _)).2.1⟩
theorem Eo.dr {A B : Nat → Nat} (e : Eo A B) (h6 : A 6 ≤ 6) (FL : Nat → Nat) (c g : Nat) (hg : g < 8) : Eo (drP A FL c g) (drP B FL c g) ∧ drF A FL c g = drF B FL c g := by
  obtain ⟨k1, k2⟩ := e.dL h6 FL c g hg
  unfold drP drF
  rw [k2]
  refine ⟨?_, rfl⟩
  unfold drE
  simp only []
  rw [k1 8 (by decide) (by decide), k1 2 (by decide) (by decide)]
  have := (k1.uP 8 ((drL B FL c g).1 8 + ((drL B FL c g).2.2 + (drL B FL c g).1 2 - 1) / (drL B FL c g).1 2))
  rw [this 9 (by decide) (by decide)]
  exact this.uP _ _
theorem fr_cong {A B : Nat → Nat} (h6 : A 6 ≤ 6) (e : ∀ i, (i < 8 ∧ i ≠ 7) ∨ (141 ≤ i ∧ i < 153) → B i = A i) (y : Nat) : frP B y = frP A y := by
  refine Eq.symm ?_
  rw [frP_mt, frP_mt]
  unfold mtB
  rw [e 6 (by omega)]
  generalize A 6 = n at h6
  have : ∀ m, m ≤ n → anN m (fun k => decide (y ≤ A (141 + 2 * k + 1)) && decide (A (141 + 2 * k) ≤ y)) = anN m (fun k => decide (y ≤ B (141 + 2 * k + 1)) && decide (B (141 + 2 * k) ≤ y)) := by
    intro m
    induction m with
    | zero => intro _; rfl
    | succ m ih => intro hm; rw [anN_s, anN_s, ih (by omega), e (141 + 2 * m) (by omega), e (141 + 2 * m + 1) (by omega)]
  exact this n (Nat.le_refl _)
/-- the park B is A less the outings D -/
def SA (A D B : Nat → Nat) : Prop := Eo A B ∧ ∃ e : Nat → Nat, (∀ a, a < B 7 → e a < A 7 ∧ D (e a) = 0 ∧ ∀ w, w < 3 → ogP B a w = ogP A (e a) w) ∧ (∀ a b, a < b → b < B 7 → e a < e b) ∧ ∀ i, i < A 7 → D i = 0 → ∃ a, a < B 7 ∧ e a = i
theorem SA.refl (A : Nat → Nat) : SA A (fun _ => 0) A := ⟨fun _ _ _ => rfl, id, fun a ha => ⟨ha, rfl, fun _ _ => rfl⟩, fun _ _ h _ => h, fun i hi _ => ⟨i, hi, rfl⟩⟩
theorem en_mono {n m : Nat} {e f : Nat → Nat} (he : ∀ a b, a < b → b < n → e a < e b) (hf : ∀ a b, a < b → b < m → f a < f b) (h1 : ∀ a, a < n → ∃ b, b < m ∧ f b = e a) (h2 : ∀ b, b < m → ∃ a, a < n ∧ e a = f b) : n = m ∧ ∀ a, a < n → e a = f a := by
  have key : ∀ a, (a < n → a < m ∧ e a = f a) ∧ (a < m → a < n ∧ e a = f a) := by
    intro a
    induction a using Nat.strongRecOn with
    | _ a ih =>
      constructor
      · intro ha
        obtain ⟨b, hb, eb⟩ := h1 a ha
        have hba : ¬ b < a := fun q => by
          have := ((ih b q).2 hb)
          have := he b a q ha
          omega
        have ham : a < m := by omega
        refine ⟨ham, ?_⟩
        obtain ⟨c, hc, ec⟩ := h2 a ham
        by_cases q : b = a
        · rw [← eb, q]
        · have f1 := hf a b (by omega) hb
          have hca : ¬ c < a := fun q2 => by
            have := (ih c q2).1 hc
            have := hf c a q2 ham
            omega
          by_cases q3 : c = a
          · rw [← ec, q3]
          · have := he a c (by omega) hc; omega
      · intro ha
        obtain ⟨b, hb, eb⟩ := h2 a ha
        have hba : ¬ b < a := fun q => by
          have := ((ih b q).1 hb)
          have := hf b a q ha
          omega
        have han : a < n := by omega
        refine ⟨han, ?_⟩
        obtain ⟨c, hc, ec⟩ := h1 a han
        by_cases q : b = a
        · rw [← eb, q]
        · have f1 := he a b (by omega) hb
          have hca : ¬ c < a := fun q2 => by
            have := (ih c q2).2 hc
            have := he c a q2 han
            omega
          by_cases q3 : c = a
          · rw [← ec, q3]
          · have := hf a c (by omega) hc; omega
  refine ⟨?_, fun a ha => ((key a).1 ha).2⟩
  have k1 := (key m).1; have k2 := (key n).2
  omega
theorem SA.dp {A D B : Nat → Nat} {y : Nat} (S : SA A D B) (hD : ∀ i, i < A 7 → (D i = 0 ↔ ¬ ogP A i 0 = y)) : (∀ i, i < 153 → dpP A y i = B i) ∧ ∀ i w, i < B 7 → w < 3 → ogP (dpP A y) i w = ogP B i w := by
  obtain ⟨s1, e, s2, s3, s4⟩ := S
  obtain ⟨d1, f, d2, d3, d4⟩ := dpP_og A y
  have k := en_mono (n := dpP A y 7) (m := B 7) (e := f) (f := e) d3 s3 (fun a ha => by
    obtain ⟨g1, g2, -⟩ := d2 a ha
    exact s4 _ g1 ((hD _ g1).mpr g2)) (fun b hb => by
    obtain ⟨g1, g2, -⟩ := s2 b hb
    exact d4 _ g1 ((hD _ g1).mp g2))
  refine ⟨fun i hi => ?_, fun i w hi hw => ?_⟩
  · by_cases q : i = 7
    · subst q; exact k.1
    · rw [dpP_lo _ _ _ ⟨hi, q⟩]; exact s1 i hi q
  · rw [(d2 i (by omega)).2.2 w hw, (s2 i hi).2.2 w hw, k.2 i (by omega)]
/-- the outing a is gone -/
theorem SA.del {A D B : Nat → Nat} (S : SA A D B) {a : Nat} (ha : a < B 7) (h7 : A 7 ≤ 17) : ∃ i, i < A 7 ∧ D i = 0 ∧ (∀ w, w < 3 → ogP B a w = ogP A i w) ∧ (∀ b, b < B 7 → ∃ j, j < A 7 ∧ D j = 0 ∧ (∀ w, w < 3 → ogP B b w = ogP A j w) ∧ (a ≤ b → i ≤ j) ∧ (b ≤ a → j ≤ i)) ∧ (∀ j, j < A 7 → D j = 0 → ∃ b, b < B 7 ∧ (∀ w, w < 3 → ogP B b w = ogP A j w) ∧ (a ≤ b → i ≤ j) ∧ (b < a → j < i)) ∧ SA A (upn D i 1) (dlP B a) := by
  obtain ⟨s1, e, s2, s3, s4⟩ := S
  obtain ⟨g1, g2, g3⟩ := s2 a ha
  have mo : ∀ b c, b < B 7 → c < B 7 → (b ≤ c → e b ≤ e c) := fun b c hb hc hbc => by
    by_cases q : b = c
    · rw [q]; exact Nat.le_refl _
    · exact Nat.le_of_lt (s3 b c (by omega) hc)
  have h7B : B 7 ≤ 17 := by
    apply Classical.byContradiction
    intro q
    have : ∀ m, m < B 7 → m ≤ e m := by
      intro m
      induction m with
      | zero => intro _; omega
      | succ m ih => intro hm; have := ih (by omega); have := s3 m (m + 1) (by omega) hm; omega
    have := this 17 (by omega)
    have := (s2 17 (by omega)).1
    omega
  refine ⟨e a, g1, g2, g3, fun b hb => ?_, fun j hj hDj => ?_, fun i hi h7i => ?_, fun b => e (sk9 a b), fun b hb => ?_, fun b c hbc hc => ?_, fun i hi hDi => ?_⟩
  · obtain ⟨f1, f2, f3⟩ := s2 b hb
    exact ⟨e b, f1, f2, f3, mo a b ha hb, mo b a hb ha⟩
  · obtain ⟨b, hb, eb⟩ := s4 j hj hDj
    subst eb
    exact ⟨b, hb, (s2 b hb).2.2, mo a b ha hb, fun q => s3 b a q ha⟩
  · rw [dlP_c _ _ _ hi h7i]; exact s1 i hi h7i
  · rw [dlP_7] at hb
    have hs : sk9 a b < B 7 ∧ sk9 a b ≠ a := by unfold sk9; split <;> omega
    obtain ⟨f1, f2, f3⟩ := s2 _ hs.1
    have hne : e (sk9 a b) ≠ e a := fun q => by
      by_cases c : sk9 a b < a
      · have := s3 _ _ c ha; omega
      · have := s3 a (sk9 a b) (by omega) hs.1; omega
    exact ⟨f1, (upn_n _ _ hne).trans f2, fun w hw => by rw [dlP_o _ _ _ _ hw (by omega)]; exact f3 w hw⟩
  · rw [dlP_7] at hc
    exact s3 _ _ (by unfold sk9; split <;> split <;> omega) (by unfold sk9; split <;> omega)
  · by_cases q : i = e a
    · subst q; rw [upn_s] at hDi; cases hDi
    · rw [upn_n _ _ q] at hDi
      obtain ⟨b, hb, eb⟩ := s4 i hi hDi
      have hba : b ≠ a := fun q2 => q (by rw [← eb, q2])
      refine ⟨if b < a then b else b - 1, by rw [dlP_7]; split <;> omega, ?_⟩
      rw [← eb]; show e (sk9 a (if b < a then b else b - 1)) = e b
      rw [sk9_inv hba]
/-- the next outing of the reference -/
theorem noP_min {A D : Nat → Nat} {y k : Nat} (hk : k < A 7) (hc : ogP A k 0 = y ∧ D k = 0) (mn : ∀ i, i < A 7 → (ogP A i 0 = y ∧ D i = 0) → ogP A i 1 < ogP A k 1 ∨ (ogP A i 1 = ogP A k 1 ∧ k ≤ i)) : noP A D y = some k := by
  have key : (noP A D y = none → ∀ i, i < A 7 → ¬ (ogP A i 0 = y ∧ D i = 0)) ∧ ∀ b, noP A D y = some b → b < A 7 ∧ (ogP A b 0 = y ∧ D b = 0) ∧ ∀ i, i < A 7 → (ogP A i 0 = y ∧ D i = 0) → ogP A i 1 < ogP A b 1 ∨ (ogP A i 1 = ogP A b 1 ∧ b ≤ i) := by
    unfold noP
    generalize A 7 = n
    refine itN_ind (n := n) (fun m (o : Option Nat) => (o = none → ∀ i, i < m → ¬ (ogP A i 0 = y ∧ D i = 0)) ∧ ∀ b, o = some b → b < m ∧ (ogP A b 0 = y ∧ D b = 0) ∧ ∀ i, i < m → (ogP A i 0 = y ∧ D i = 0) → ogP A i 1 < ogP A b 1 ∨ (ogP A i 1 = ogP A b 1 ∧ b ≤ i)) ⟨fun _ i hi => absurd hi (Nat.not_lt_zero _), fun b hb => by cases hb⟩ (fun i a hi ih => ?_)
    cases a with
    | none =>
      simp only [noS]
      split
      · rename_i c
        refine ⟨fun q => (by cases q), fun b hb => ?_⟩
        cases hb
        refine ⟨by omega, c, fun l hl cl => ?_⟩
        by_cases e : l = i
        · rw [e]; omega
        · exact absurd cl (ih.1 rfl l (by omega))
      · rename_i c
        refine ⟨fun _ l hl cl => ?_, fun b hb => (by cases hb)⟩
        by_cases e : l = i
        · subst e; exact c cl
        · exact ih.1 rfl l (by omega) cl
    | some b =>
      obtain ⟨b1, b2, b3⟩ := ih.2 b rfl
      simp only [noS]
      split
      · rename_i c
        refine ⟨fun q => (by cases q), fun b' hb => ?_⟩
        cases hb
        refine ⟨by omega, c.1, fun l hl cl => ?_⟩
        by_cases e : l = i
        · rw [e]; omega
        · have := b3 l (by omega) cl; omega
      · rename_i c
        refine ⟨fun q => (by cases q), fun b' hb => ?_⟩
        cases hb
        refine ⟨by omega, b2, fun l hl cl => ?_⟩
        by_cases e : l = i
        · subst e
          have h9 : ¬ ogP A b 1 < ogP A l 1 := fun q => c ⟨cl, q⟩
          omega
        · exact b3 l (by omega) cl
  rcases h : noP A D y with _ | b
  · exact absurd hc (key.1 h k hk)
  · obtain ⟨b1, b2, b3⟩ := key.2 b h
    have := b3 k hk hc
    have := mn b b1 b2
    have : b = k := by omega
    rw [this]
theorem noP_none {A D : Nat → Nat} {y : Nat} (h : ∀ i, i < A 7 → ¬ (ogP A i 0 = y ∧ D i = 0)) : noP A D y = none := by
  rcases e : noP A D y with _ | b
  · rfl
  · exact absurd (noP_some e) (h b (noP_lt e))
theorem svF_n {n : Nat} {P FL D : Nat → Nat} (h : noP P D (P 5) = none) : svF n P FL D = (P, FL) := by
  cases n with
  | zero => rfl
  | succ n => unfold svF; rw [h]
theorem svF_s {n k : Nat} {P FL D : Nat → Nat} (h : noP P D (P 5) = some k) : svF (n + 1) P FL D = svF n (drP P FL (ogP P k 1) (ogP P k 2)) (drF P FL (ogP P k 1) (ogP P k 2)) (upn D k 1) := by
  rw [svF, h]
theorem drP_og {P FL : Nat → Nat} {c g : Nat} (hg : g < 8) (k w : Nat) : ogP (drP P FL c g) k w = ogP P k w := drP_at _ _ _ _ _ hg (Or.inr (by omega))
/-- one outing served, both sides -/
theorem SA.sv {A D B : Nat → Nat} (S : SA A D B) (h6 : A 6 ≤ 6) (FL : Nat → Nat) (c g : Nat) (hg : g < 8) : SA (drP A FL c g) D (drP B FL c g) ∧ drF A FL c g = drF B FL c g := by
  obtain ⟨s1, e, s2, s3, s4⟩ := S
  obtain ⟨d1, d2⟩ := s1.dr h6 FL c g hg
  have e7 : ∀ Q, drP Q FL c g 7 = Q 7 := fun Q => drP_at _ _ _ _ _ hg (Or.inl (by decide))
  refine ⟨⟨d1, e, ?_, ?_, ?_⟩, d2⟩
  · intro a ha
    rw [e7] at ha ⊢
    exact ⟨(s2 a ha).1, (s2 a ha).2.1, fun w hw => by rw [drP_og hg, drP_og hg]; exact (s2 a ha).2.2 w hw⟩
  · intro a b hab hb; rw [e7] at hb; exact s3 a b hab hb
  · intro i hi hD; rw [e7] at hi ⊢; exact s4 i hi hD
set_option maxHeartbeats 4000000 in
theorem c_pkServeAll {E : Ev} {h : HP} {L tg P td : Nat → Nat} {pn : Nat} {fz : Bool} (T0 : Pk h L tg P td pn fz) (W : WF P) {FL : Nat → Nat} (H : tdO P td) (hfz : frP P (P 5) = fz) (hp : pn < 1048576) (hFL : ∀ p, p < 8 → FL p = flP P td p) (d k : Nat) (hd : 7 ≤ d) : Call E yX2_serveAll d k [.ref (L 0)] h (rV fun h' => ∃ td', PkTo h L tg tg (dpP (svF 18 P FL (fun _ => 0)).1 (P 5)) td' pn fz h' ∧ tdO (dpP (svF 18 P FL (fun _ => 0)).1 (P 5)) td' ∧ ∀ p, p < 8 → (svF 18 P FL (fun _ => 0)).2 p = flP (dpP (svF 18 P FL (fun _ => 0)).1 (P 5)) td' p) := by
  obtain ⟨FL0, eFL⟩ : ∃ FL0, FL0 = FL := ⟨_, rfl⟩
  rw [← eFL] at hFL ⊢
  clear eFL FL
  refine Call.of [.ref (L 0), dum] q1637 (by decide) pn_X2 (Nat.le_of_ble_eq_true rfl) rfl ?_
  obtain ⟨Rr, hRr⟩ : ∃ Rr, Rr = svF 18 P FL0 (fun _ => 0) := ⟨_, rfl⟩
  have Y9 : ∀ s : (Nat → Nat) × (Nat → Nat) × (Nat → Nat) × Nat × (Nat → Nat) × (Nat → Nat), True := fun _ => trivial
  refine lpW 0 (fun (s : (Nat → Nat) × (Nat → Nat) × (Nat → Nat) × Nat × (Nat → Nat) × (Nat → Nat)) => [.ref (L 0), dum]) (fun (s : (Nat → Nat) × (Nat → Nat) × (Nat → Nat) × Nat × (Nat → Nat) × (Nat → Nat)) h9 => svF s.2.2.2.1 s.1 s.2.1 s.2.2.1 = Rr ∧ cuD (s.1 7) s.2.2.1 < s.2.2.2.1 ∧ WF s.1 ∧ WF s.2.2.2.2.1 ∧ SA s.1 s.2.2.1 s.2.2.2.2.1 ∧ (∀ i, i < s.1 7 → s.2.2.1 i ≠ 0 → ogP s.1 i 0 = s.1 5) ∧ s.1 5 = P 5 ∧ frP s.1 (s.1 5) = fz ∧ tdO s.2.2.2.2.1 s.2.2.2.2.2 ∧ (∀ p, p < 8 → s.2.1 p = flP s.2.2.2.2.1 s.2.2.2.2.2 p) ∧ PkTo h L tg tg s.2.2.2.2.1 s.2.2.2.2.2 pn fz h9) (fun _ => k) (fun (s : (Nat → Nat) × (Nat → Nat) × (Nat → Nat) × Nat × (Nat → Nat) × (Nat → Nat)) => s.2.2.2.1) (P, FL0, (fun _ => 0), 18, P, td) ⟨hRr.symm, by show cuD (P 7) (fun _ => 0) < 18; rw [cuD_0]; have := W.h7; omega, W, W, SA.refl P, fun i _ q => absurd rfl q, rfl, hfz, H, hFL, T0.to⟩ (fun s h4 hI ih => ?_)
  obtain ⟨A, FL, D, f, B, td⟩ := s
  obtain ⟨hR9, hcu9, WA9, WB9, S9, hD9, e59, hfz9, H9, hFL9, T9⟩ := hI
  have hR : svF f A FL D = Rr := hR9
  have hcu : cuD (A 7) D < f := hcu9
  have WA : WF A := WA9
  have WB : WF B := WB9
  have S : SA A D B := S9
  have hD : ∀ i, i < A 7 → D i ≠ 0 → ogP A i 0 = A 5 := hD9
  have e5 : A 5 = P 5 := e59
  have hfz : frP A (A 5) = fz := hfz9
  have H : tdO B td := H9
  have hFL : ∀ p, p < 8 → FL p = flP B td p := hFL9
  have T : PkTo h L tg tg B td pn fz h4 := T9
  clear hR9 hcu9 WA9 WB9 S9 hD9 e59 hfz9 H9 hFL9 T9
  have B5 : B 5 = A 5 := (S.1 5 (by decide) (by decide)).symm
  have b7 := WB.h7
  show Z E _ d _ k h4 0 [.ref (L 0), dum] []
  obtain ⟨K, mc, ks, ν, ad, X⟩ : ∃ K mc ks ν ad, Opn h4 L tg B pn K mc ks ν ad := T.1.2.2.2.2.2.2.2
  refine z_aload0 0 dX2_serveAll_0 ?_
  refine z_get 1 gX2_40 dX2_serveAll_1 T.V.k0 (T.V.2.1.2.1.2.2.2.2.1) ?_
  refine z_V0 (k' := k) 4 vX2_211 dX2_serveAll_4 T.1.kT (c_tsIsEmpty (d - 1) 0 X.1 (by omega) (by omega)) (by omega) (by omega) (Nat.le_of_ble_eq_true rfl) (aft_I fun x h5 hq => ?_)
  obtain ⟨rfl, hx⟩ := hq
  rcases hx with ⟨rfl, hx⟩ | ⟨rfl, hx⟩
  · have hno : ∀ i, i < A 7 → ¬ (ogP A i 0 = A 5 ∧ D i = 0) := fun i hi q => by
      obtain ⟨a, ha, -⟩ := S.2.choose_spec.2.2 i hi q.2
      omega
    refine z_ifneN 7 58 dX2_serveAll_7 (by decide) (by omega) (fun c_7 => ?_) (fun c_7 => absurd c_7 (by decide))
    
    refine z_return 58 rfl dX2_serveAll_58 ?_
    have e0 := svF_n (n := f) (FL := FL) (noP_none hno)
    rw [hR] at e0
    have hD9 : ∀ i, i < A 7 → (D i = 0 ↔ ¬ ogP A i 0 = A 5) := fun i hi => ⟨fun q q2 => hno i hi ⟨q2, q⟩, fun q => Classical.byContradiction fun q2 => q (hD i hi q2)⟩
    obtain ⟨c1, c2⟩ := S.dp hD9
    refine ⟨rfl, td, ?_⟩
    show PkTo h L tg tg (dpP (svF 18 P FL0 (fun _ => 0)).1 (P 5)) td pn fz _ ∧ tdO (dpP (svF 18 P FL0 (fun _ => 0)).1 (P 5)) td ∧ (∀ p, p < 8 → (svF 18 P FL0 (fun _ => 0)).2 p = flP (dpP (svF 18 P FL0 (fun _ => 0)).1 (P 5)) td p)
    rw [← hRr, e0, ← e5]
    have o0 : ∀ p, p < 8 → ofP (dpP A (A 5)) p 0 = ofP B p 0 := fun p hp => c1 _ (by omega)
    exact ⟨T.cong WB.h6 c1 c2, fun p hp => by rw [o0 p hp]; exact H p hp, fun p hp => by show FL p = flP (dpP A (A 5)) td p; rw [hFL p hp]; unfold flP; rw [o0 p hp]⟩
  · refine z_ifneN 7 58 dX2_serveAll_7 (by decide) (by omega) (fun c_7 => absurd c_7 (by decide)) (fun c_7 => ?_)
    refine z_aload0 10 dX2_serveAll_10 ?_
    refine z_get 11 gX2_40 dX2_serveAll_11 T.V.k0 (T.V.2.1.2.1.2.2.2.2.1) ?_
    refine z_V0 (k' := k) 14 vX2_212 dX2_serveAll_14 T.1.kT (c_first9 X WB hp hx (d - 1) 0 (by omega)) (by omega) (by omega) (Nat.le_of_ble_eq_true rfl) (aft_R fun a1 h6 hq => ?_)
    obtain ⟨rfl, i1, hi1, rfl, hm1⟩ := hq
    have o1 := (X.2.2.1 i1 hi1).1
    have w1 := WB.og hi1
    have w0 := WB.B.og (j := i1) (w := 0) (by omega) (by decide)
    have b5 := WB.B.s 5 (by decide)
    refine z_castY 17 (ci := 4) ok_4.1 q1445 (Or.inl rfl) dX2_serveAll_17 o1.1 ?_
    refine z_get 20 gX2_215 dX2_serveAll_20 o1.1 o1.2.1 ?_
    refine z_aload0 23 dX2_serveAll_23 ?_
    refine z_get 24 gX2_103 dX2_serveAll_24 T.V.k0 T.V.day ?_
    refine z_icneN 27 58 dX2_serveAll_27 (by decide) (by omega) (by omega) (fun c_27 => ?_) (fun c_27 => ?_)
    · have hno : ∀ i, i < A 7 → ¬ (ogP A i 0 = A 5 ∧ D i = 0) := fun i hi q => by
        obtain ⟨a, ha, ea⟩ := S.2.choose_spec.2.2 i hi q.2
        have g := (S.2.choose_spec.1 a ha).2.2 0 (by decide)
        rw [ea, q.1] at g
        have m := hm1 a ha
        have w1 := WB.og hi1
        unfold oge at m
        omega
      
      refine z_return 58 rfl dX2_serveAll_58 ?_
      have e0 := svF_n (n := f) (FL := FL) (noP_none hno)
      rw [hR] at e0
      have hD9 : ∀ i, i < A 7 → (D i = 0 ↔ ¬ ogP A i 0 = A 5) := fun i hi => ⟨fun q q2 => hno i hi ⟨q2, q⟩, fun q => Classical.byContradiction fun q2 => q (hD i hi q2)⟩
      obtain ⟨c1, c2⟩ := S.dp hD9
      refine ⟨rfl, td, ?_⟩
      show PkTo h L tg tg (dpP (svF 18 P FL0 (fun _ => 0)).1 (P 5)) td pn fz _ ∧ tdO (dpP (svF 18 P FL0 (fun _ => 0)).1 (P 5)) td ∧ (∀ p, p < 8 → (svF 18 P FL0 (fun _ => 0)).2 p = flP (dpP (svF 18 P FL0 (fun _ => 0)).1 (P 5)) td p)
      rw [← hRr, e0, ← e5]
      have o0 : ∀ p, p < 8 → ofP (dpP A (A 5)) p 0 = ofP B p 0 := fun p hp => c1 _ (by omega)
      exact ⟨T.cong WB.h6 c1 c2, fun p hp => by rw [o0 p hp]; exact H p hp, fun p hp => by show FL p = flP (dpP A (A 5)) td p; rw [hFL p hp]; unfold flP; rw [o0 p hp]⟩
    · refine z_aload0 30 dX2_serveAll_30 ?_
      refine z_get 31 gX2_40 dX2_serveAll_31 T.V.k0 (T.V.2.1.2.1.2.2.2.2.1) ?_
      refine z_V0 (k' := k) 34 vX2_212 dX2_serveAll_34 T.1.kT (c_first9 X WB hp hx (d - 1) 0 (by omega)) (by omega) (by omega) (Nat.le_of_ble_eq_true rfl) (aft_R fun a2 h7 hq => ?_)
      obtain ⟨rfl, i, hi, rfl, hm⟩ := hq
      obtain ⟨o2, n2, l2⟩ := X.2.2.1 i hi
      have w2 := WB.og hi
      have y2 : ogP B i 0 = A 5 := by
        have := hm i1 hi1
        unfold oge at this
        omega
      refine z_castY 37 (ci := 4) ok_4.1 q1445 (Or.inl rfl) dX2_serveAll_37 o2.1 ?_
      refine z_astore1 40 dX2_serveAll_40 rfl ?_
      refine z_aload0 41 dX2_serveAll_41 ?_
      refine z_get 42 gX2_40 dX2_serveAll_42 T.V.k0 (T.V.2.1.2.1.2.2.2.2.1) ?_
      refine z_aload1 45 dX2_serveAll_45 ?_
      refine z_V1 (k' := k) 46 vX2_216 dX2_serveAll_46 T.1.kT (c_del9 T X WB hp hi (d - 1) 0 (by omega)) (by omega) (by omega) (Nat.le_of_ble_eq_true rfl) (aft_I fun x h8 hq => ?_)
      obtain ⟨TD, mc', XD, o8, lo⟩ := hq
      obtain ⟨k1, hk1, hDk, ek, -, hmin, S9⟩ := S.del hi WA.h7
      have e1 := ek 1 (by decide)
      have e2 := ek 2 (by decide)
      have hcand : ogP A k1 0 = A 5 ∧ D k1 = 0 := ⟨by rw [← ek 0 (by decide)]; exact y2, hDk⟩
      have hno : noP A D (A 5) = some k1 := by
        refine noP_min hk1 hcand (fun j hj hc => ?_)
        obtain ⟨b, hb, eb, m1, m2⟩ := hmin j hj hc.2
        have m := hm b hb
        unfold oge at m
        have f0 := eb 0 (by decide); have f1 := eb 1 (by decide)
        omega
      obtain ⟨f', rfl⟩ : ∃ f', f = f' + 1 := ⟨f - 1, by omega⟩
      have hR' : svF f' (drP A FL (ogP A k1 1) (ogP A k1 2)) (drF A FL (ogP A k1 1) (ogP A k1 2)) (upn D k1 1) = Rr := by rw [← hR, svF_s hno]
      have hg : ogP A k1 2 < 8 := by omega
      have hc100 : ogP A k1 1 < 100 := by omega
      have d7 : drP A FL (ogP A k1 1) (ogP A k1 2) 7 = A 7 := drP_at _ _ _ _ _ hg (Or.inl (by decide))
      have d5 : drP A FL (ogP A k1 1) (ogP A k1 2) 5 = A 5 := drP_at _ _ _ _ _ hg (Or.inl (by decide))
      have hcu' : cuD (drP A FL (ogP A k1 1) (ogP A k1 2) 7) (upn D k1 1) < f' := by
        rw [d7]; have := cuD_s hk1 hDk; omega
      have hFb : ∀ p, p < 8 → FL p < 4096 := fun p hp => by
        have := WB.pl hp
        rw [hFL p hp]; unfold flP; omega
      have WD : WF (dlP B i) := WB.dl hi
      have WA' : WF (drP A FL (ogP A k1 1) (ogP A k1 2)) := WA.dr hg hFb
      have WB' : WF (drP (dlP B i) FL (ogP A k1 1) (ogP A k1 2)) := WD.dr hg hFb
      obtain ⟨S', eF⟩ := S9.sv WA.h6 FL (ogP A k1 1) (ogP A k1 2) hg
      have hD' : ∀ j, j < drP A FL (ogP A k1 1) (ogP A k1 2) 7 → upn D k1 1 j ≠ 0 → ogP (drP A FL (ogP A k1 1) (ogP A k1 2)) j 0 = drP A FL (ogP A k1 1) (ogP A k1 2) 5 := fun j hj hn => by
        rw [d7] at hj
        rw [drP_og hg, d5]
        by_cases q : j = k1
        · rw [q]; exact hcand.1
        · rw [upn_n _ _ q] at hn; exact hD j hj hn
      have e5' : drP A FL (ogP A k1 1) (ogP A k1 2) 5 = P 5 := d5.trans e5
      have hfz' : frP (drP A FL (ogP A k1 1) (ogP A k1 2)) (drP A FL (ogP A k1 1) (ogP A k1 2) 5) = fz := by
        rw [d5, ← hfz]
        exact fr_cong WA.h6 (fun i hi => drP_at _ _ _ _ _ hg (by omega)) _
      have oD : ∀ p, p < 8 → ofP (dlP B i) p 0 = ofP B p 0 := fun p hp => dlP_c _ _ _ (by omega) (by omega)
      have HD : tdO (dlP B i) td := fun p hp => by rw [oD p hp]; exact H p hp
      have fD : frP (dlP B i) ((dlP B i) 5) = fz := by
        rw [← hfz, ← S9.1.fr WA.h6, ← S9.1 5 (by decide) (by decide)]
      have RR : SvR fz (dlP B i, td, ogP A k1 1 * dlP B i 2) (dlP B i, FL, ogP A k1 1 * dlP B i 2) := ⟨rfl, rfl, fun p hp => by show FL p = flP (dlP B i) td p; rw [hFL p hp]; unfold flP; rw [oD p hp], HD, fD⟩
      have R9 := sv_R (c := ogP A k1 1) hg RR
      have e9 : drE (svL fz (ogP A k1 2) (dlP B i) td (ogP A k1 1)).1 (ogP A k1 1) (svL fz (ogP A k1 2) (dlP B i) td (ogP A k1 1)).2.2 = drP (dlP B i) FL (ogP A k1 1) (ogP A k1 2) := by
        unfold drP; rw [R9.1, R9.2.1]
      have oE : ∀ p, p < 8 → ofP (drP (dlP B i) FL (ogP A k1 1) (ogP A k1 2)) p 0 = ofP (svL fz (ogP A k1 2) (dlP B i) td (ogP A k1 1)).1 p 0 := fun p hp => by
        rw [← e9]; unfold drE ofP
        simp only []
        rw [upn_n _ _ (by omega), upn_n _ _ (by omega)]
      have H' : tdO (drP (dlP B i) FL (ogP A k1 1) (ogP A k1 2)) (svL fz (ogP A k1 2) (dlP B i) td (ogP A k1 1)).2.1 := fun p hp => by rw [oE p hp]; exact R9.2.2.2.1 p hp
      have hFL' : ∀ p, p < 8 → drF A FL (ogP A k1 1) (ogP A k1 2) p = flP (drP (dlP B i) FL (ogP A k1 1) (ogP A k1 2)) (svL fz (ogP A k1 2) (dlP B i) td (ogP A k1 1)).2.1 p := fun p hp => by
        have := R9.2.2.1 p hp
        rw [eF]
        show (drL (dlP B i) FL (ogP A k1 1) (ogP A k1 2)).2.1 p = _
        rw [this]; unfold flP; rw [oE p hp]
      rw [ek 0 (by decide), e1, ek 2 (by decide)] at o8
      refine z_pop 49 dX2_serveAll_49 (rfl) ?_
      refine z_aload0 50 dX2_serveAll_50 ?_
      refine z_aload1 51 dX2_serveAll_51 ?_
      refine z_V1 (k' := k) 52 vX2_219 dX2_serveAll_52 TD.V.k0 (c_pkServe TD.1 WD HD lo o8 hg hc100 (d - 1) 0 (by omega)) (by omega) (by omega) (Nat.le_of_ble_eq_true rfl) (aft_V fun h9 T9 => ?_)
      have T2 := TD.trans T9
      rw [e9] at T2
      refine z_goto 55 0 dX2_serveAll_55 (by decide) ?_
      refine z_fog 1 ?_
      generalize drP A FL (ogP A k1 1) (ogP A k1 2) = A2 at hR' hcu' WA' S' hD' e5' hfz'
      generalize drF A FL (ogP A k1 1) (ogP A k1 2) = F2 at hR' hFL'
      generalize drP (dlP B i) FL (ogP A k1 1) (ogP A k1 2) = B2 at WB' S' H' hFL' T2
      generalize (svL fz (ogP A k1 2) (dlP B i) td (ogP A k1 1)).2.1 = t2 at H' hFL' T2
      generalize upn D k1 1 = D2 at hR' hcu' S' hD'
      exact ih (A2, F2, D2, f', B2, t2) _ (Nat.lt_succ_self f') ⟨hR', hcu', WA', WB', S', hD', e5', hfz', H', hFL', T2⟩

