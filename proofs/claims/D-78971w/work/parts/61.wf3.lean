/-! A DAY: what stays, and that what always holds goes on to hold -/
theorem fzS_at (Q : Nat → Nat) (pl i : Nat) (hp : pl < 8) (h : i < 13 ∨ 141 ≤ i) : fzS pl Q i = Q i := by
  unfold fzS
  split
  · rw [rpP_at _ _ _ (by omega), lyP_at _ _ _ _ _ (by omega), lyP_at _ _ _ _ _ (by omega)]
  · rfl
theorem fzP_at (P : Nat → Nat) (i : Nat) (h : i < 13 ∨ 141 ≤ i) : fzP P i = P i :=
  itN_ind (fun _ (Q : Nat → Nat) => Q i = P i) rfl (fun k Q hk ih => (fzS_at Q k i hk h).trans ih)
theorem dy0_at (P : Nat → Nat) (i : Nat) (h : i < 13 ∨ 141 ≤ i) : dy0 P i = P i := by
  unfold dy0; split
  · exact fzP_at P i h
  · rfl
theorem wk1_at (P : Nat → Nat) (a j i : Nat) (h : i < 10 ∨ i = 12 ∨ (13 ≤ i ∧ i < 93) ∨ 141 ≤ i) (hj : j < 16) : wk1 P a j i = P i := by
  unfold wk1
  rw [upn_n _ _ (by omega), upn_n _ _ (by omega), upn_n _ _ (by omega)]
theorem fiP_at (P : Nat → Nat) (j i : Nat) (h : i < 13 ∨ 141 ≤ i) (hj : j < 16) : fiP P j i = P i := by
  unfold fiP; split
  · rw [enP_at _ _ _ (by omega), lyP_at _ _ _ _ _ (by omega)]
  · rw [enP_at _ _ _ (by omega), lyP_at _ _ _ _ _ (by omega), lyP_at _ _ _ _ _ (by omega)]
theorem wkS_at (fz : Bool) (P : Nat → Nat) (left j i : Nat) (h : i < 10 ∨ i = 12 ∨ 141 ≤ i) (hj : j < 16) : wkS fz P left j i = P i := by
  unfold wkS; split
  · rw [fiP_at _ _ _ (by omega) hj, wk1_at _ _ _ _ (by omega) hj]
  · rw [wk1_at _ _ _ _ (by omega) hj]
theorem wkF_at (fz : Bool) (i : Nat) (h : i < 10 ∨ i = 12 ∨ 141 ≤ i) : ∀ (n : Nat) (P : Nat → Nat) (left : Nat) (D : Nat → Nat), wkF fz n P left D i = P i := by
  intro n
  induction n with
  | zero => intro P left D; rfl
  | succ n ih =>
    intro P left D
    unfold wkF
    cases hn : njP P D with
    | none => rfl
    | some j => exact (ih _ _ _).trans (wkS_at fz P left j i h (njP_lt hn))
theorem dy1_at (P : Nat → Nat) (i : Nat) (h : i < 10 ∨ i = 12 ∨ 141 ≤ i) : dy1 P i = P i := by
  unfold dy1 wkP
  rw [wkF_at _ i h, dy0_at P i (by omega)]
theorem svF_at (i : Nat) (h : i < 8 ∨ 141 ≤ i) : ∀ (n : Nat) (P FL : Nat → Nat) (D : Nat → Nat), WF P → (∀ p, p < 8 → FL p < 4096) → (svF n P FL D).1 i = P i ∧ WF (svF n P FL D).1 ∧ ∀ p, p < 8 → (svF n P FL D).2 p < 4096 := by
  intro n
  induction n with
  | zero => intro P FL D W hF; exact ⟨rfl, W, hF⟩
  | succ n ih =>
    intro P FL D W hF
    unfold svF
    cases hn : noP P D (P 5) with
    | none => exact ⟨rfl, W, hF⟩
    | some k =>
      have hk := (W.og (noP_lt hn)).2.2.2
      obtain ⟨a1, a2, a3⟩ := ih (drP P FL (ogP P k 1) (ogP P k 2)) (drF P FL (ogP P k 1) (ogP P k 2)) (upn D k 1) (W.dr hk hF) (drF_lt hk W hF)
      exact ⟨a1.trans (drP_at P FL _ _ i hk h), a2, a3⟩
theorem vsS_J {i : Nat} {s : (Nat → Nat) × (Nat → Nat)} (hi : i < 8) (hJ : WF s.1 ∧ ∀ p, p < 8 → s.2 p < 4096) : WF (vsS i s).1 ∧ ∀ p, p < 8 → (vsS i s).2 p < 4096 := by
  unfold vsS; split
  · refine ⟨hJ.1.gv hi, fun p hp => ?_⟩
    show gwF s.1 s.2 i (4 * s.1 3) p < 4096
    unfold gwF upn
    split
    · have := hJ.2 _ hi; omega
    · exact hJ.2 p hp
  · exact hJ
theorem vsS_at {i q : Nat} {s : (Nat → Nat) × (Nat → Nat)} (hi : i < 8) (h : q < 12 ∨ 141 ≤ q) : (vsS i s).1 q = s.1 q := by
  unfold vsS; split
  · exact gvP_at _ _ _ _ _ hi h
  · rfl
theorem dy0_W {P : Nat → Nat} (W : WF P) : WF (dy0 P) := by
  unfold dy0; split
  · exact W.fz
  · exact W
theorem dy1_W {P : Nat → Nat} (W : WF P) : WF (dy1 P) := (dy0_W W).wk _
theorem dy2_W {P : Nat → Nat} (W : WF P) : (WF (dy2 P).1 ∧ ∀ p, p < 8 → (dy2 P).2 p < 4096) ∧ ∀ i, i < 8 ∨ 141 ≤ i → (dy2 P).1 i = P i := by
  have W1 := dy1_W W
  have hF : ∀ p, p < 8 → 4 * ofP (dy1 P) p 0 < 4096 := fun p hp => by have := (W1.pl hp).2.2.2.2.1; omega
  refine ⟨(svF_at 0 (by omega) 18 (dy1 P) _ (fun _ => 0) W1 hF).2, fun i hi => ?_⟩
  have := (svF_at i hi 18 (dy1 P) _ (fun _ => 0) W1 hF).1
  exact this.trans (dy1_at P i (by omega))
theorem dy3_W {P : Nat → Nat} (W : WF P) : WF (dy3 P).1 ∧ (∀ i, (i < 8 ∧ i ≠ 7) ∨ (141 ≤ i ∧ i < 153) → (dy3 P).1 i = P i) ∧ ∀ i, i = 7 ∨ 153 ≤ i → (dy3 P).1 i = dpP (dy2 P).1 ((dy2 P).1 5) i := by
  obtain ⟨⟨a1, a2⟩, a3⟩ := dy2_W W
  have b1 := (a1.dp ((dy2 P).1 5)).1
  unfold dy3
  refine ⟨(itN_ind (n := 8) (f := vsS) (a := (dpP (dy2 P).1 ((dy2 P).1 5), (dy2 P).2)) (fun _ (s : (Nat → Nat) × (Nat → Nat)) => WF s.1 ∧ ∀ p, p < 8 → s.2 p < 4096) ⟨b1, a2⟩ (fun i s hi ih => vsS_J hi ih)).1, fun i hi => ?_, fun i hi => ?_⟩
  · refine itN_ind (n := 8) (f := vsS) (a := (dpP (dy2 P).1 ((dy2 P).1 5), (dy2 P).2)) (fun _ (s : (Nat → Nat) × (Nat → Nat)) => s.1 i = P i) ?_ (fun k s hk ih => (vsS_at hk (by omega)).trans ih)
    exact (dpP_lo _ _ i (by omega)).trans (a3 i (by omega))
  · exact itN_ind (n := 8) (f := vsS) (a := (dpP (dy2 P).1 ((dy2 P).1 5), (dy2 P).2)) (fun _ (s : (Nat → Nat) × (Nat → Nat)) => s.1 i = dpP (dy2 P).1 ((dy2 P).1 5) i) rfl (fun k s hk ih => (vsS_at hk (by omega)).trans ih)
theorem dyP_5 {P : Nat → Nat} (W : WF P) : dyP P 5 = P 5 + 1 := by
  unfold dyP; rw [upn_s, (dy3_W W).2.1 5 (by omega)]
theorem WF.dy {P : Nat → Nat} (W : WF P) (h5 : P 5 + 1 < 4096) : WF (dyP P) := by
  obtain ⟨W3, g1, g2⟩ := dy3_W W
  have d5 : (dy3 P).1 5 = P 5 := g1 5 (by omega)
  have d2 : (dy2 P).1 5 = P 5 := (dy2_W W).2 5 (by omega)
  have hy := ((dy2_W W).1.1.dp ((dy2 P).1 5)).2
  have e : ∀ i, i ≠ 5 → dyP P i = (dy3 P).1 i := fun i hi => upn_n _ _ hi
  have e5 : dyP P 5 = P 5 + 1 := dyP_5 W
  obtain ⟨w1, w2, w3, w4, w5, w6⟩ := W3
  refine ⟨fun j h1 h2 h3 => ?_, ?_, ?_, ?_, fun pl hp => ?_, fun j hj => ?_⟩
  · by_cases q : j = 5
    · rw [q, e5]; exact h5
    · rw [e j q]; exact w1 j h1 h2 h3
  · rw [e 0 (by omega), e 1 (by omega), e 2 (by omega), e 3 (by omega), e 4 (by omega)]; exact w2
  · rw [e 6 (by omega)]
    refine ⟨w3.1, fun k hk => ?_, fun k hk => ?_⟩
    · rw [e (141 + 2 * k) (by omega), e (141 + 2 * k + 1) (by omega)]; exact w3.2.1 k hk
    · rw [e (141 + 2 * k + 1) (by omega), e (141 + 2 * (k + 1)) (by omega)]; exact w3.2.2 k hk
  · rw [e 7 (by omega), e5]
    refine ⟨w4.1, fun k hk => ?_⟩
    have q := w4.2 k hk
    simp only [ogP] at q ⊢
    rw [e (153 + 3 * k + 0) (by omega), e (153 + 3 * k + 1) (by omega), e (153 + 3 * k + 2) (by omega)]
    refine ⟨?_, q.2⟩
    have q1 := q.1
    rw [d5] at q1
    have hk2 : k < dpP (dy2 P).1 ((dy2 P).1 5) 7 := by rw [← g2 7 (by omega)]; exact hk
    have q2 : ¬ (dy3 P).1 (153 + 3 * k + 0) = P 5 := by
      rw [g2 _ (by omega), ← d2]; exact hy k hk2
    omega
  · simp only [ofP]
    rw [e (13 + 10 * pl + 3) (by omega), e (13 + 10 * pl + 4) (by omega), e (13 + 10 * pl + 5) (by omega), e (13 + 10 * pl + 6) (by omega), e (13 + 10 * pl + 0) (by omega), e (13 + 10 * pl + 1) (by omega), e (13 + 10 * pl + 2) (by omega)]
    exact w5 pl hp
  · have q := w6 j hj
    simp only [jbP] at q ⊢
    rw [e (93 + 3 * j + 0) (by omega), e (93 + 3 * j + 1) (by omega), e (93 + 3 * j + 2) (by omega), e5]
    omega
theorem dsP_s (n : Nat) (P : Nat → Nat) : dsP (n + 1) P = dyP (dsP n P) := by unfold dsP; rw [itN_s]
theorem dsP_0 (P : Nat → Nat) : dsP 0 P = P := by unfold dsP; rw [itN_0]
theorem dsP_W {P : Nat → Nat} (W : WF P) : ∀ n, P 5 + n < 4096 → WF (dsP n P) ∧ dsP n P 5 = P 5 + n := by
  intro n
  induction n with
  | zero => intro _; rw [dsP_0]; exact ⟨W, rfl⟩
  | succ n ih =>
    intro hn
    obtain ⟨a1, a2⟩ := ih (by omega)
    rw [dsP_s]
    exact ⟨a1.dy (by omega), by rw [dyP_5 a1, a2]; omega⟩
theorem dpS_bd {y k : Nat} {s : Dp} (B : Bd s.1) (hk : k < 17) (hn : s.2.1 ≤ 17) (hle : s.2.1 ≤ k) : Bd (dpS y k s).1 := by
  unfold dpS
  split
  · exact B
  · refine itN_ind (fun _ (Q : Nat → Nat) => Bd Q) B (fun i Q hi WQ => ?_)
    intro j h1 h2 h3
    unfold upn
    split
    · exact WQ _ (by omega) (by omega) (by omega)
    · exact WQ j h1 h2 h3
/-- a setting is written -/
theorem WF.stt {P : Nat → Nat} (W : WF P) (i v : Nat) (hi : i < 5) (h0 : i = 0 → v ≤ 20) (h1 : i = 1 → v < 3) (h2 : i = 2 → 1 ≤ v ∧ v ≤ 9) (h3 : i = 3 → v ≤ 90) (h4 : i = 4 → v ≤ 50) : WF (upn P i v) := by
  obtain ⟨w1, w2, w3, w4, w5, w6⟩ := W
  have e : ∀ j, j ≠ i → upn P i v j = P j := fun j hj => upn_n P v hj
  have s9 : upn P i v i = v := upn_s P i v
  refine ⟨fun j g1 g2 g3 => ?_, ?_, ?_, ?_, fun pl hp => ?_, fun j hj => ?_⟩
  · by_cases q : j = i
    · rw [q, s9]; omega
    · rw [e j q]; exact w1 j g1 g2 g3
  · rcases (by omega : i = 0 ∨ i = 1 ∨ i = 2 ∨ i = 3 ∨ i = 4) with hu | hu | hu | hu | hu <;> subst hu
    · rw [s9, e 1 (by omega), e 2 (by omega), e 3 (by omega), e 4 (by omega)]; have := h0 rfl; omega
    · rw [s9, e 0 (by omega), e 2 (by omega), e 3 (by omega), e 4 (by omega)]; have := h1 rfl; omega
    · rw [s9, e 0 (by omega), e 1 (by omega), e 3 (by omega), e 4 (by omega)]; have := h2 rfl; omega
    · rw [s9, e 0 (by omega), e 1 (by omega), e 2 (by omega), e 4 (by omega)]; have := h3 rfl; omega
    · rw [s9, e 0 (by omega), e 1 (by omega), e 2 (by omega), e 3 (by omega)]; have := h4 rfl; omega
  · rw [e 6 (by omega)]
    refine ⟨w3.1, fun k hk => ?_, fun k hk => ?_⟩
    · have := w3.1
      rw [e (141 + 2 * k) (by omega), e (141 + 2 * k + 1) (by omega)]; exact w3.2.1 k hk
    · have := w3.1
      rw [e (141 + 2 * k + 1) (by omega), e (141 + 2 * (k + 1)) (by omega)]; exact w3.2.2 k hk
  · rw [e 7 (by omega), e 5 (by omega)]
    refine ⟨w4.1, fun k hk => ?_⟩
    have := w4.1
    simp only [ogP]
    rw [e (153 + 3 * k + 0) (by omega), e (153 + 3 * k + 1) (by omega), e (153 + 3 * k + 2) (by omega)]; exact w4.2 k hk
  · simp only [ofP]
    rw [e (13 + 10 * pl + 3) (by omega), e (13 + 10 * pl + 4) (by omega), e (13 + 10 * pl + 5) (by omega), e (13 + 10 * pl + 6) (by omega), e (13 + 10 * pl + 0) (by omega), e (13 + 10 * pl + 1) (by omega), e (13 + 10 * pl + 2) (by omega)]
    exact w5 pl hp
  · simp only [jbP]
    rw [e (93 + 3 * j + 0) (by omega), e (93 + 3 * j + 1) (by omega), e (93 + 3 * j + 2) (by omega), e 5 (by omega)]
    exact w6 j hj
theorem WF.ord {P : Nat → Nat} (W : WF P) {i : Nat} (hi : i < 3) : WF (upn P 1 i) := W.stt 1 i (by omega) (by omega) (fun _ => hi) (by omega) (by omega) (by omega)
theorem plP_at (P : Nat → Nat) (y c g i : Nat) (h : i ≠ 7 ∧ i ≠ 153 + 3 * P 7 + 0 ∧ i ≠ 153 + 3 * P 7 + 1 ∧ i ≠ 153 + 3 * P 7 + 2) : plP P y c g i = P i := by
  unfold plP
  rw [upn_n _ _ h.1, upn_n _ _ h.2.2.2, upn_n _ _ h.2.2.1, upn_n _ _ h.2.1]
theorem plP_lo (P : Nat → Nat) (y c g i : Nat) (h : i ≠ 7 ∧ i < 153) : plP P y c g i = P i := plP_at P y c g i (by omega)
theorem plP_7 (P : Nat → Nat) (y c g : Nat) : plP P y c g 7 = P 7 + 1 := by
  unfold plP
  rw [upn_s, upn_n _ _ (by omega), upn_n _ _ (by omega), upn_n _ _ (by omega)]
theorem plP_og (P : Nat → Nat) (y c g k u : Nat) (hu : u < 3) : ogP (plP P y c g) k u = if k = P 7 then (if u = 0 then y else if u = 1 then c else g) else ogP P k u := by
  unfold ogP
  by_cases e : k = P 7
  · rw [if_pos e]
    unfold plP upn
    rw [if_neg (by omega), e]
    rcases (by omega : u = 0 ∨ u = 1 ∨ u = 2) with q | q | q <;> subst q
    · rw [if_neg (by omega), if_neg (by omega), if_pos rfl, if_pos rfl]
    · rw [if_neg (by omega), if_pos rfl, if_neg (by decide), if_pos rfl]
    · rw [if_pos rfl, if_neg (by decide), if_neg (by decide)]
  · rw [if_neg e]; exact plP_at P y c g _ (by omega)
theorem WF.plan {P : Nat → Nat} (W : WF P) {y c g : Nat} (h7 : P 7 ≤ 16) (hy : P 5 ≤ y) (hy2 : y < 4096) (hc : 1 ≤ c ∧ c ≤ 99) (hg : g < 8) : WF (plP P y c g) := by
  obtain ⟨w1, w2, w3, w4, w5, w6⟩ := W
  have e : ∀ i, i ≠ 7 → i < 153 → plP P y c g i = P i := fun i a b => plP_lo P y c g i ⟨a, b⟩
  refine ⟨fun j g1 g2 g3 => ?_, ?_, ?_, ⟨by rw [plP_7]; omega, fun k hk => ?_⟩, fun pl hp => ?_, fun j hj => ?_⟩
  · unfold plP upn
    have a7 := w1 7 (by omega) (by omega) (by omega)
    split
    · rw [if_neg (by omega), if_neg (by omega), if_neg (by omega)]; omega
    · split
      · omega
      · split
        · omega
        · split
          · omega
          · exact w1 j g1 g2 g3
  · rw [e 0 (by omega) (by omega), e 1 (by omega) (by omega), e 2 (by omega) (by omega), e 3 (by omega) (by omega), e 4 (by omega) (by omega)]; exact w2
  · rw [e 6 (by omega) (by omega)]
    refine ⟨w3.1, fun k hk => ?_, fun k hk => ?_⟩
    · have := w3.1
      rw [e (141 + 2 * k) (by omega) (by omega), e (141 + 2 * k + 1) (by omega) (by omega)]; exact w3.2.1 k hk
    · have := w3.1
      rw [e (141 + 2 * k + 1) (by omega) (by omega), e (141 + 2 * (k + 1)) (by omega) (by omega)]; exact w3.2.2 k hk
  · rw [plP_7] at hk
    rw [e 5 (by omega) (by omega), plP_og _ _ _ _ _ _ (by omega), plP_og _ _ _ _ _ _ (by omega), plP_og _ _ _ _ _ _ (by omega)]
    by_cases q : k = P 7
    · simp only [q, if_true]; exact ⟨hy, hc.1, hc.2, hg⟩
    · simp only [q, if_false]; exact w4.2 k (by omega)
  · simp only [ofP]
    rw [e (13 + 10 * pl + 3) (by omega) (by omega), e (13 + 10 * pl + 4) (by omega) (by omega), e (13 + 10 * pl + 5) (by omega) (by omega), e (13 + 10 * pl + 6) (by omega) (by omega), e (13 + 10 * pl + 0) (by omega) (by omega), e (13 + 10 * pl + 1) (by omega) (by omega), e (13 + 10 * pl + 2) (by omega) (by omega)]
    exact w5 pl hp
  · simp only [jbP]
    rw [e (93 + 3 * j + 0) (by omega) (by omega), e (93 + 3 * j + 1) (by omega) (by omega), e (93 + 3 * j + 2) (by omega) (by omega), e 5 (by omega) (by omega)]
    exact w6 j hj
