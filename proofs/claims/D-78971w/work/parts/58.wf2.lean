/-! WHAT STAYS when places and jobs are written -/
theorem rpP_at (P : Nat → Nat) (j i : Nat) (h : ¬ (93 + 3 * j ≤ i ∧ i < 93 + 3 * j + 3)) : rpP P j i = P i := by
  unfold rpP; rw [upn_n _ _ (by omega), upn_n _ _ (by omega), upn_n _ _ (by omega)]
theorem enP_at (P : Nat → Nat) (j i : Nat) (h : ¬ (93 + 3 * j ≤ i ∧ i < 93 + 3 * j + 3)) : enP P j i = P i := by
  unfold enP
  refine itN_ind (fun _ (Q : Nat → Nat) => Q i = P i) rfl (fun k Q hk ih => ?_)
  rw [upn_n _ _ (by omega)]; exact ih
theorem lyP_at (P : Nat → Nat) (pl u v i : Nat) (h : i ≠ 13 + 10 * pl + u) : lyP P pl u v i = P i := upn_n P v h
theorem gvQ_at (P : Nat → Nat) (pl its i : Nat) (h : i ≠ 13 + 10 * pl + 2 ∧ i ≠ 13 + 10 * pl + 7 ∧ i ≠ 12) : gvQ P pl its i = P i := by
  unfold gvQ
  rw [upn_n _ _ h.2.2, lyP_at _ _ _ _ _ h.2.1, lyP_at _ _ _ _ _ h.1]
theorem gvP_at (P FL : Nat → Nat) (pl wn i : Nat) (hp : pl < 8) (h : i < 12 ∨ 141 ≤ i) : gvP P FL pl wn i = P i := by
  unfold gvP
  split
  · rw [rpP_at _ _ _ (by omega), gvQ_at _ _ _ _ (by omega)]
  · rw [gvQ_at _ _ _ _ (by omega)]
theorem gvP_lo (P FL : Nat → Nat) (pl wn : Nat) {i : Nat} (hp : pl < 8) (h : i < 12) : gvP P FL pl wn i = P i := gvP_at P FL pl wn i hp (Or.inl h)
theorem drS_at (g k i : Nat) (s : Gv) (hg : g < 8) (hk : k < 8) (h : i < 12 ∨ 141 ≤ i) : (drS g k s).1 i = s.1 i := by
  unfold drS
  split
  · exact gvP_at _ _ _ _ _ (ngO_lt g hg k hk) h
  · rfl
theorem drL_at (P FL : Nat → Nat) (ch g i : Nat) (hg : g < 8) (h : i < 12 ∨ 141 ≤ i) : (drL P FL ch g).1 i = P i := by
  unfold drL
  exact itN_ind (n := 8) (f := drS g) (a := (P, FL, ch * P 2)) (fun _ (s : Gv) => s.1 i = P i) rfl (fun k s hk ih => (drS_at g k i s hg hk h).trans ih)
theorem drP_at (P FL : Nat → Nat) (ch g i : Nat) (hg : g < 8) (h : i < 8 ∨ 141 ≤ i) : drP P FL ch g i = P i := by
  unfold drP drE
  rw [upn_n _ _ (by omega), upn_n _ _ (by omega), drL_at _ _ _ _ _ hg (by omega)]
theorem drL_J {P FL : Nat → Nat} {ch g : Nat} (hg : g < 8) (W : WF P) (hF : ∀ p, p < 8 → FL p < 4096) : WF (drL P FL ch g).1 ∧ ∀ p, p < 8 → (drL P FL ch g).2.1 p < 4096 := by
  unfold drL
  refine itN_ind (n := 8) (f := drS g) (a := (P, FL, ch * P 2)) (fun _ (s : Gv) => WF s.1 ∧ ∀ p, p < 8 → s.2.1 p < 4096) ⟨W, hF⟩ (fun k s hk ih => ?_)
  have ho := ngO_lt g hg k hk
  unfold drS
  split
  · refine ⟨ih.1.gv ho, fun p hp => ?_⟩
    show gwF s.1 s.2.1 (ngO g k) s.2.2 p < 4096
    unfold gwF upn
    split
    · have := ih.2 _ ho; omega
    · exact ih.2 p hp
  · exact ih
theorem WF.dr {P FL : Nat → Nat} {ch g : Nat} (W : WF P) (hg : g < 8) (hF : ∀ p, p < 8 → FL p < 4096) : WF (drP P FL ch g) := by
  have a1 := (drL_J (ch := ch) hg W hF).1
  have a2 := a1.acc 8 ((drL P FL ch g).1 8 + ((drL P FL ch g).2.2 + (drL P FL ch g).1 2 - 1) / (drL P FL ch g).1 2) (by omega)
  exact a2.acc 9 _ (by omega)
theorem drF_lt {P FL : Nat → Nat} {ch g : Nat} (hg : g < 8) (W : WF P) (hF : ∀ p, p < 8 → FL p < 4096) : ∀ p, p < 8 → drF P FL ch g p < 4096 := (drL_J (ch := ch) hg W hF).2
/-- outings go: what is known of the steps -/
theorem dpS_at (y k i : Nat) (s : Dp) (h : i < 153) : (dpS y k s).1 i = s.1 i := by
  unfold dpS
  split
  · rfl
  · exact itN_ind (fun _ (Q : Nat → Nat) => Q i = s.1 i) rfl (fun q Q hq ih => by rw [upn_n _ _ (by omega)]; exact ih)
theorem dpS_n (y k : Nat) (s : Dp) : s.2.1 ≤ (dpS y k s).2.1 ∧ (dpS y k s).2.1 ≤ s.2.1 + 1 := by
  unfold dpS; split
  · exact ⟨Nat.le_refl _, Nat.le_succ _⟩
  · exact ⟨Nat.le_succ _, Nat.le_refl _⟩
theorem cp3 (Q : Nat → Nat) (n k : Nat) (hn : n ≤ k) (i : Nat) : itN 3 (fun i Q => upn Q (153 + 3 * n + i) (Q (153 + 3 * k + i))) Q i = if 153 + 3 * n ≤ i ∧ i < 153 + 3 * n + 3 then Q (153 + 3 * k + (i - (153 + 3 * n))) else Q i := by
  have e1 : upn Q (153 + 3 * n + 0) (Q (153 + 3 * k + 0)) (153 + 3 * k + 1) = Q (153 + 3 * k + 1) := upn_n _ _ (by omega)
  have e2 : upn (upn Q (153 + 3 * n + 0) (Q (153 + 3 * k + 0))) (153 + 3 * n + 1) (upn Q (153 + 3 * n + 0) (Q (153 + 3 * k + 0)) (153 + 3 * k + 1)) (153 + 3 * k + 2) = Q (153 + 3 * k + 2) := by rw [upn_n _ _ (by omega), upn_n _ _ (by omega)]
  show upn (upn (upn Q (153 + 3 * n + 0) (Q (153 + 3 * k + 0))) (153 + 3 * n + 1) (upn Q (153 + 3 * n + 0) (Q (153 + 3 * k + 0)) (153 + 3 * k + 1))) (153 + 3 * n + 2) (upn (upn Q (153 + 3 * n + 0) (Q (153 + 3 * k + 0))) (153 + 3 * n + 1) (upn Q (153 + 3 * n + 0) (Q (153 + 3 * k + 0)) (153 + 3 * k + 1)) (153 + 3 * k + 2)) i = _
  rw [e2, e1]
  by_cases q2 : i = 153 + 3 * n + 2
  · rw [q2, upn_s, if_pos (by omega)]; congr 1; omega
  · rw [upn_n _ _ q2]
    by_cases q1 : i = 153 + 3 * n + 1
    · rw [q1, upn_s, if_pos (by omega)]; congr 1; omega
    · rw [upn_n _ _ q1]
      by_cases q0 : i = 153 + 3 * n + 0
      · rw [q0, upn_s, if_pos (by omega)]; congr 1; omega
      · rw [upn_n _ _ q0, if_neg (by omega)]
/-- after k steps: the first n are those of the first k that stay, in their order; the rest as before -/
def DpI (P : Nat → Nat) (y k : Nat) (s : Dp) : Prop := s.2.1 ≤ k ∧ (∀ i, i < 153 ∨ 153 + 3 * k ≤ i → s.1 i = P i) ∧ ∃ e : Nat → Nat, (∀ a, a < s.2.1 → e a < k ∧ ¬ ogP P (e a) 0 = y ∧ ∀ u, u < 3 → ogP s.1 a u = ogP P (e a) u) ∧ (∀ a b, a < b → b < s.2.1 → e a < e b) ∧ ∀ i, i < k → ¬ ogP P i 0 = y → ∃ a, a < s.2.1 ∧ e a = i
theorem dpS_I {P : Nat → Nat} {y k : Nat} {s : Dp} (h : DpI P y k s) : DpI P y (k + 1) (dpS y k s) := by
  obtain ⟨Q, n, ch⟩ := s
  obtain ⟨h1, h2, e, h3, h4, h5⟩ := h
  have h1 : n ≤ k := h1
  have h2 : ∀ i, i < 153 ∨ 153 + 3 * k ≤ i → Q i = P i := h2
  have h3 : ∀ a, a < n → e a < k ∧ ¬ ogP P (e a) 0 = y ∧ ∀ u, u < 3 → ogP Q a u = ogP P (e a) u := h3
  have h4 : ∀ a b, a < b → b < n → e a < e b := h4
  have h5 : ∀ i, i < k → ¬ ogP P i 0 = y → ∃ a, a < n ∧ e a = i := h5
  have hk : ogP Q k 0 = ogP P k 0 := h2 (153 + 3 * k + 0) (by omega)
  unfold dpS
  by_cases c : ogP Q k 0 = y
  · rw [if_pos c]
    refine ⟨Nat.le_succ_of_le h1, fun i hi => h2 i (by omega), e, fun a ha => ?_, h4, fun i hi hy => ?_⟩
    · obtain ⟨g1, g2, g3⟩ := h3 a ha
      exact ⟨by omega, g2, g3⟩
    · by_cases ei : i = k
      · subst ei; exact absurd (hk ▸ c) hy
      · exact h5 i (by omega) hy
  · rw [if_neg c]
    refine ⟨Nat.succ_le_succ h1, fun i hi => ?_, fun a => if a = n then k else e a, fun a ha => ?_, fun a b hab hb => ?_, fun i hi hy => ?_⟩
    · show itN 3 (fun i Q => upn Q (153 + 3 * n + i) (Q (153 + 3 * k + i))) Q i = P i
      rw [cp3 Q n k h1, if_neg (by omega)]; exact h2 i (by omega)
    · have ha : a < n + 1 := ha
      by_cases ea : a = n
      · subst ea
        simp only [if_true]
        refine ⟨by omega, by rw [← hk]; exact c, fun u hu => ?_⟩
        show itN 3 (fun i Q => upn Q (153 + 3 * a + i) (Q (153 + 3 * k + i))) Q (153 + 3 * a + u) = P (153 + 3 * k + u)
        rw [cp3 Q a k h1, if_pos (by omega), show 153 + 3 * k + (153 + 3 * a + u - (153 + 3 * a)) = 153 + 3 * k + u by omega]; exact h2 _ (by omega)
      · simp only [ea, if_false]
        obtain ⟨g1, g2, g3⟩ := h3 a (by omega)
        refine ⟨by omega, g2, fun u hu => ?_⟩
        rw [← g3 u hu]
        show itN 3 (fun i Q => upn Q (153 + 3 * n + i) (Q (153 + 3 * k + i))) Q (153 + 3 * a + u) = Q (153 + 3 * a + u)
        rw [cp3 Q n k h1, if_neg (by omega)]
    · have hb : b < n + 1 := hb
      show (if a = n then k else e a) < (if b = n then k else e b)
      rw [if_neg (by omega)]
      by_cases eb : b = n
      · rw [if_pos eb]; exact (h3 a (by omega)).1
      · rw [if_neg eb]; exact h4 a b hab (by omega)
    · by_cases ei : i = k
      · exact ⟨n, Nat.lt_succ_self n, by show (if n = n then k else e n) = i; rw [if_pos rfl, ei]⟩
      · obtain ⟨a, ha, hea⟩ := h5 i (by omega) hy
        exact ⟨a, by show a < n + 1; omega, by show (if a = n then k else e a) = i; rw [if_neg (by omega), hea]⟩
theorem dpL_I (P : Nat → Nat) (y : Nat) : DpI P y (P 7) (dpL P y) :=
  itN_ind (fun k s => DpI P y k s) ⟨Nat.le_refl 0, fun _ _ => rfl, id, fun a ha => absurd ha (Nat.not_lt_zero a), fun a b _ hb => absurd hb (Nat.not_lt_zero b), fun i hi => absurd hi (Nat.not_lt_zero i)⟩ (fun k s _ ih => dpS_I ih)
theorem dpZ_at (P : Nat → Nat) (n m i : Nat) (h : i < 153 + 3 * n ∨ 153 + 3 * n + m ≤ i) : dpZ P n m i = P i := by
  unfold dpZ
  exact itN_ind (fun k (Q : Nat → Nat) => Q i = P i) rfl (fun k Q hk ih => by rw [upn_n _ _ (by omega)]; exact ih)
theorem dpP_lo (P : Nat → Nat) (y i : Nat) (h : i < 153 ∧ i ≠ 7) : dpP P y i = P i := by
  unfold dpP
  rw [upn_n _ _ h.2, dpZ_at _ _ _ _ (by omega)]
  exact (dpL_I P y).2.1 i (by omega)
theorem dpP_7 (P : Nat → Nat) (y : Nat) : dpP P y 7 = (dpL P y).2.1 := upn_s _ _ _
/-- the outings that stay, in their order -/
theorem dpP_og (P : Nat → Nat) (y : Nat) : dpP P y 7 ≤ P 7 ∧ ∃ e : Nat → Nat, (∀ a, a < dpP P y 7 → e a < P 7 ∧ ¬ ogP P (e a) 0 = y ∧ ∀ u, u < 3 → ogP (dpP P y) a u = ogP P (e a) u) ∧ (∀ a b, a < b → b < dpP P y 7 → e a < e b) ∧ ∀ i, i < P 7 → ¬ ogP P i 0 = y → ∃ a, a < dpP P y 7 ∧ e a = i := by
  obtain ⟨h1, h2, e, h3, h4, h5⟩ := dpL_I P y
  rw [dpP_7]
  refine ⟨h1, e, fun a ha => ?_, h4, h5⟩
  obtain ⟨g1, g2, g3⟩ := h3 a ha
  refine ⟨g1, g2, fun u hu => ?_⟩
  rw [← g3 u hu]
  show dpP P y (153 + 3 * a + u) = (dpL P y).1 (153 + 3 * a + u)
  unfold dpP
  rw [upn_n _ _ (by omega), dpZ_at _ _ _ _ (by omega)]
theorem dpZ_bd (P : Nat → Nat) (n m : Nat) (B : Bd P) (h : 3 * n + m ≤ 51) : Bd (dpZ P n m) := by
  unfold dpZ
  refine itN_ind (fun k (Q : Nat → Nat) => Bd Q) B (fun k Q hk ih => ?_)
  intro j h1 h2 h3
  unfold upn
  split
  · decide
  · exact ih j h1 h2 h3
theorem dpL_bd (P : Nat → Nat) (y : Nat) (B : Bd P) (h7 : P 7 ≤ 17) : Bd (dpL P y).1 := by
  have := itN_ind (n := P 7) (f := dpS y) (a := ((P, 0, 0) : Dp)) (fun k s => Bd s.1 ∧ s.2.1 ≤ k) ⟨B, Nat.le_refl 0⟩ (fun k s hk ih => ?_)
  · exact this.1
  · refine ⟨?_, Nat.le_trans (dpS_n y k s).2 (by omega)⟩
    unfold dpS
    split
    · exact ih.1
    · have i2 := ih.2
      refine itN_ind (fun _ (Q : Nat → Nat) => Bd Q) ih.1 (fun i Q hi WQ => ?_)
      intro j h1 h2 h3
      unfold upn
      split
      · exact WQ _ (by omega) (by omega) (by omega)
      · exact WQ j h1 h2 h3
theorem WF.dp {P : Nat → Nat} (W : WF P) (y : Nat) : WF (dpP P y) ∧ ∀ k, k < dpP P y 7 → ¬ ogP (dpP P y) k 0 = y := by
  obtain ⟨q1, e, q2, q3, q4⟩ := dpP_og P y
  have h7 := W.h7
  have e9 : ∀ i, i < 153 → i ≠ 7 → dpP P y i = P i := fun i h1 h2 => dpP_lo P y i ⟨h1, h2⟩
  have hle := (dpL_I P y).1
  refine ⟨⟨?_, ?_, ?_, ⟨by omega, fun k hk => ?_⟩, fun pl hp => ?_, fun j hj => ?_⟩, fun k hk => ?_⟩
  · intro j h1 h2 h3
    unfold dpP upn
    split
    · omega
    · exact dpZ_bd _ _ _ (dpL_bd P y W.B h7) (by omega) j h1 h2 h3
  · rw [e9 0 (by omega) (by omega), e9 1 (by omega) (by omega), e9 2 (by omega) (by omega), e9 3 (by omega) (by omega), e9 4 (by omega) (by omega)]; exact W.st
  · rw [e9 6 (by omega) (by omega)]
    have h6 := W.h6
    refine ⟨h6, fun k hk => ?_, fun k hk => ?_⟩
    · rw [e9 (141 + 2 * k) (by omega) (by omega), e9 (141 + 2 * k + 1) (by omega) (by omega)]; exact W.2.2.1.2.1 k hk
    · rw [e9 (141 + 2 * k + 1) (by omega) (by omega), e9 (141 + 2 * (k + 1)) (by omega) (by omega)]; exact W.2.2.1.2.2 k hk
  · obtain ⟨g1, g2, g3⟩ := q2 k hk
    rw [e9 5 (by omega) (by omega), g3 0 (by omega), g3 1 (by omega), g3 2 (by omega)]
    exact W.og g1
  · simp only [ofP]
    rw [e9 (13 + 10 * pl + 3) (by omega) (by omega), e9 (13 + 10 * pl + 4) (by omega) (by omega), e9 (13 + 10 * pl + 5) (by omega) (by omega), e9 (13 + 10 * pl + 6) (by omega) (by omega), e9 (13 + 10 * pl + 0) (by omega) (by omega), e9 (13 + 10 * pl + 1) (by omega) (by omega), e9 (13 + 10 * pl + 2) (by omega) (by omega)]
    exact W.pl hp
  · simp only [jbP]
    rw [e9 (93 + 3 * j + 0) (by omega) (by omega), e9 (93 + 3 * j + 1) (by omega) (by omega), e9 (93 + 3 * j + 2) (by omega) (by omega), e9 5 (by omega) (by omega)]
    exact W.jb hj
  · obtain ⟨g1, g2, g3⟩ := q2 k hk
    rw [g3 0 (by omega)]; exact g2
