/-! WHAT ALWAYS HOLDS of the park's numbers -/
def WF (P : Nat → Nat) : Prop := Bd P ∧ (P 0 ≤ 20 ∧ P 1 < 3 ∧ 1 ≤ P 2 ∧ P 2 ≤ 9 ∧ P 3 ≤ 90 ∧ P 4 ≤ 50) ∧ (P 6 ≤ 6 ∧ (∀ k, k < P 6 → P (141 + 2 * k) ≤ P (141 + 2 * k + 1) ∧ P (141 + 2 * k + 1) ≤ 999) ∧ ∀ k, k + 1 < P 6 → P (141 + 2 * k + 1) < P (141 + 2 * (k + 1))) ∧ (P 7 ≤ 17 ∧ ∀ k, k < P 7 → P 5 ≤ ogP P k 0 ∧ 1 ≤ ogP P k 1 ∧ ogP P k 1 ≤ 99 ∧ ogP P k 2 < 8) ∧ (∀ pl, pl < 8 → ofP P pl 3 ≤ 1 ∧ ofP P pl 4 ≤ 1 ∧ ofP P pl 5 ≤ 1 ∧ ofP P pl 6 ≤ 1 ∧ ofP P pl 0 ≤ 90 ∧ ofP P pl 1 ≤ 900 ∧ ofP P pl 2 ≤ 4 * ofP P pl 1) ∧ ∀ j, j < 16 → jbP P j 0 ≤ 1 ∧ jbP P j 1 ≤ P 5 ∧ jbP P j 2 ≤ neM j
theorem WF.B {P : Nat → Nat} (W : WF P) : Bd P := W.1
theorem WF.h6 {P : Nat → Nat} (W : WF P) : P 6 ≤ 6 := W.2.2.1.1
theorem WF.h7 {P : Nat → Nat} (W : WF P) : P 7 ≤ 17 := W.2.2.2.1.1
theorem WF.st {P : Nat → Nat} (W : WF P) : P 0 ≤ 20 ∧ P 1 < 3 ∧ 1 ≤ P 2 ∧ P 2 ≤ 9 ∧ P 3 ≤ 90 ∧ P 4 ≤ 50 := W.2.1
theorem WF.og {P : Nat → Nat} (W : WF P) {k : Nat} (hk : k < P 7) : P 5 ≤ ogP P k 0 ∧ 1 ≤ ogP P k 1 ∧ ogP P k 1 ≤ 99 ∧ ogP P k 2 < 8 := W.2.2.2.1.2 k hk
theorem WF.pl {P : Nat → Nat} (W : WF P) {pl : Nat} (hp : pl < 8) : ofP P pl 3 ≤ 1 ∧ ofP P pl 4 ≤ 1 ∧ ofP P pl 5 ≤ 1 ∧ ofP P pl 6 ≤ 1 ∧ ofP P pl 0 ≤ 90 ∧ ofP P pl 1 ≤ 900 ∧ ofP P pl 2 ≤ 4 * ofP P pl 1 := W.2.2.2.2.1 pl hp
theorem WF.jb {P : Nat → Nat} (W : WF P) {j : Nat} (hj : j < 16) : jbP P j 0 ≤ 1 ∧ jbP P j 1 ≤ P 5 ∧ jbP P j 2 ≤ neM j := W.2.2.2.2.2 j hj
theorem neM_le (j : Nat) : 2 ≤ neM j ∧ neM j ≤ 6 := by unfold neM; split <;> omega
/-- a sum's cell is written -/
theorem WF.acc {P : Nat → Nat} (W : WF P) (i v : Nat) (hi : (8 ≤ i ∧ i ≤ 12) ∨ (13 ≤ i ∧ i < 93 ∧ 7 ≤ (i - 13) % 10)) : WF (upn P i v) := by
  obtain ⟨w1, w2, w3, w4, w5, w6⟩ := W
  have e : ∀ j, j ≠ i → upn P i v j = P j := fun j hj => upn_n P v hj
  refine ⟨fun j h1 h2 h3 => ?_, ?_, ?_, ?_, fun pl hp => ?_, fun j hj => ?_⟩
  · rw [e j (by omega)]; exact w1 j h1 h2 h3
  · rw [e 0 (by omega), e 1 (by omega), e 2 (by omega), e 3 (by omega), e 4 (by omega)]; exact w2
  · rw [e 6 (by omega)]
    refine ⟨w3.1, fun k hk => ?_, fun k hk => ?_⟩
    · have := w3.1
      rw [e (141 + 2 * k) (by omega), e (141 + 2 * k + 1) (by omega)]; exact w3.2.1 k hk
    · have := w3.1
      rw [e (141 + 2 * k + 1) (by omega), e (141 + 2 * (k + 1)) (by omega)]; exact w3.2.2 k hk
  · rw [e 7 (by omega), e 5 (by omega)]
    refine ⟨w4.1, fun k hk => ?_⟩
    have := w4.1
    simp only [ogP]
    rw [e (153 + 3 * k + 0) (by omega), e (153 + 3 * k + 1) (by omega), e (153 + 3 * k + 2) (by omega)]; exact w4.2 k hk
  · simp only [ofP]
    rw [e (13 + 10 * pl + 3) (by omega), e (13 + 10 * pl + 4) (by omega), e (13 + 10 * pl + 5) (by omega), e (13 + 10 * pl + 6) (by omega), e (13 + 10 * pl + 0) (by omega), e (13 + 10 * pl + 1) (by omega), e (13 + 10 * pl + 2) (by omega)]
    exact w5 pl hp
  · simp only [jbP]
    rw [e (93 + 3 * j + 0) (by omega), e (93 + 3 * j + 1) (by omega), e (93 + 3 * j + 2) (by omega), e 5 (by omega)]
    exact w6 j hj
/-- a job's cell is written -/
theorem WF.job {P : Nat → Nat} (W : WF P) (j u v : Nat) (hj : j < 16) (hu : u < 3) (h0 : u = 0 → v ≤ 1) (h1 : u = 1 → v ≤ P 5) (h2 : u = 2 → v ≤ neM j) : WF (upn P (93 + 3 * j + u) v) := by
  obtain ⟨w1, w2, w3, w4, w5, w6⟩ := W
  have e : ∀ i, i ≠ 93 + 3 * j + u → upn P (93 + 3 * j + u) v i = P i := fun i hi => upn_n P v hi
  have n9 := neM_le j
  have d9 := w1 5 (by omega) (by omega) (by omega)
  refine ⟨fun i g1 g2 g3 => ?_, ?_, ?_, ?_, fun pl hp => ?_, fun i hi => ?_⟩
  · by_cases q : i = 93 + 3 * j + u
    · rw [q, upn_s]; rcases (by omega : u = 0 ∨ u = 1 ∨ u = 2) with hu | hu | hu
      · have := h0 hu; omega
      · have := h1 hu; omega
      · have := h2 hu; omega
    · rw [e i q]; exact w1 i g1 g2 g3
  · rw [e 0 (by omega), e 1 (by omega), e 2 (by omega), e 3 (by omega), e 4 (by omega)]; exact w2
  · rw [e 6 (by omega)]
    refine ⟨w3.1, fun k hk => ?_, fun k hk => ?_⟩
    · have := w3.1
      rw [e (141 + 2 * k) (by omega), e (141 + 2 * k + 1) (by omega)]; exact w3.2.1 k hk
    · have := w3.1
      rw [e (141 + 2 * k + 1) (by omega), e (141 + 2 * (k + 1)) (by omega)]; exact w3.2.2 k hk
  · rw [e 7 (by omega), e 5 (by omega)]
    refine ⟨w4.1, fun k hk => ?_⟩
    have := w4.1
    simp only [ogP]
    rw [e (153 + 3 * k + 0) (by omega), e (153 + 3 * k + 1) (by omega), e (153 + 3 * k + 2) (by omega)]; exact w4.2 k hk
  · simp only [ofP]
    rw [e (13 + 10 * pl + 3) (by omega), e (13 + 10 * pl + 4) (by omega), e (13 + 10 * pl + 5) (by omega), e (13 + 10 * pl + 6) (by omega), e (13 + 10 * pl + 0) (by omega), e (13 + 10 * pl + 1) (by omega), e (13 + 10 * pl + 2) (by omega)]
    exact w5 pl hp
  · have w9 := w6 i hi
    simp only [jbP] at w9 ⊢
    rw [e 5 (by omega)]
    by_cases q : i = j
    · subst q
      rcases (by omega : u = 0 ∨ u = 1 ∨ u = 2) with hu | hu | hu
      · subst hu; rw [upn_s, e _ (by omega), e _ (by omega)]; exact ⟨h0 rfl, w9.2⟩
      · subst hu; rw [upn_s, e _ (by omega), e _ (by omega)]; exact ⟨w9.1, h1 rfl, w9.2.2⟩
      · subst hu; rw [upn_s, e _ (by omega), e _ (by omega)]; exact ⟨w9.1, w9.2.1, h2 rfl⟩
    · rw [e _ (by omega), e _ (by omega), e _ (by omega)]; exact w9
/-- a place's cell is written -/
theorem WF.plc {P : Nat → Nat} (W : WF P) (p u v : Nat) (hp : p < 8) (hu : u < 7) (h0 : u = 0 → v ≤ 90) (h1 : u = 1 → v ≤ 900 ∧ ofP P p 2 ≤ 4 * v) (h2 : u = 2 → v ≤ 4 * ofP P p 1) (h3 : 3 ≤ u → v ≤ 1) : WF (lyP P p u v) := by
  obtain ⟨w1, w2, w3, w4, w5, w6⟩ := W
  have e : ∀ i, i ≠ 13 + 10 * p + u → lyP P p u v i = P i := fun i hi => upn_n P v hi
  have s9 : lyP P p u v (13 + 10 * p + u) = v := upn_s P _ v
  have p9 := w5 p hp
  refine ⟨fun i g1 g2 g3 => ?_, ?_, ?_, ?_, fun pl hpl => ?_, fun i hi => ?_⟩
  · by_cases q : i = 13 + 10 * p + u
    · rw [q, s9]
      by_cases q3 : 3 ≤ u
      · have := h3 q3; omega
      · rcases (by omega : u = 0 ∨ u = 1 ∨ u = 2) with hu | hu | hu
        · have := h0 hu; omega
        · have := h1 hu; omega
        · have := h2 hu; omega
    · rw [e i q]; exact w1 i g1 g2 g3
  · rw [e 0 (by omega), e 1 (by omega), e 2 (by omega), e 3 (by omega), e 4 (by omega)]; exact w2
  · rw [e 6 (by omega)]
    refine ⟨w3.1, fun k hk => ?_, fun k hk => ?_⟩
    · have := w3.1
      rw [e (141 + 2 * k) (by omega), e (141 + 2 * k + 1) (by omega)]; exact w3.2.1 k hk
    · have := w3.1
      rw [e (141 + 2 * k + 1) (by omega), e (141 + 2 * (k + 1)) (by omega)]; exact w3.2.2 k hk
  · rw [e 7 (by omega), e 5 (by omega)]
    refine ⟨w4.1, fun k hk => ?_⟩
    have := w4.1
    simp only [ogP]
    rw [e (153 + 3 * k + 0) (by omega), e (153 + 3 * k + 1) (by omega), e (153 + 3 * k + 2) (by omega)]; exact w4.2 k hk
  · have w9 := w5 pl hpl
    simp only [ofP] at w9 ⊢ h1 h2
    by_cases q : pl = p
    · subst q
      rcases (by omega : u = 0 ∨ u = 1 ∨ u = 2 ∨ u = 3 ∨ u = 4 ∨ u = 5 ∨ u = 6) with hu | hu | hu | hu | hu | hu | hu <;> subst hu
      · rw [s9, e (13 + 10 * pl + 3) (by omega), e (13 + 10 * pl + 4) (by omega), e (13 + 10 * pl + 5) (by omega), e (13 + 10 * pl + 6) (by omega), e (13 + 10 * pl + 1) (by omega), e (13 + 10 * pl + 2) (by omega)]
        have := h0 rfl; omega
      · rw [s9, e (13 + 10 * pl + 3) (by omega), e (13 + 10 * pl + 4) (by omega), e (13 + 10 * pl + 5) (by omega), e (13 + 10 * pl + 6) (by omega), e (13 + 10 * pl + 0) (by omega), e (13 + 10 * pl + 2) (by omega)]
        have := h1 rfl; omega
      · rw [s9, e (13 + 10 * pl + 3) (by omega), e (13 + 10 * pl + 4) (by omega), e (13 + 10 * pl + 5) (by omega), e (13 + 10 * pl + 6) (by omega), e (13 + 10 * pl + 0) (by omega), e (13 + 10 * pl + 1) (by omega)]
        have := h2 rfl; omega
      · rw [s9, e (13 + 10 * pl + 4) (by omega), e (13 + 10 * pl + 5) (by omega), e (13 + 10 * pl + 6) (by omega), e (13 + 10 * pl + 0) (by omega), e (13 + 10 * pl + 1) (by omega), e (13 + 10 * pl + 2) (by omega)]
        have := h3 (by omega); omega
      · rw [s9, e (13 + 10 * pl + 3) (by omega), e (13 + 10 * pl + 5) (by omega), e (13 + 10 * pl + 6) (by omega), e (13 + 10 * pl + 0) (by omega), e (13 + 10 * pl + 1) (by omega), e (13 + 10 * pl + 2) (by omega)]
        have := h3 (by omega); omega
      · rw [s9, e (13 + 10 * pl + 3) (by omega), e (13 + 10 * pl + 4) (by omega), e (13 + 10 * pl + 6) (by omega), e (13 + 10 * pl + 0) (by omega), e (13 + 10 * pl + 1) (by omega), e (13 + 10 * pl + 2) (by omega)]
        have := h3 (by omega); omega
      · rw [s9, e (13 + 10 * pl + 3) (by omega), e (13 + 10 * pl + 4) (by omega), e (13 + 10 * pl + 5) (by omega), e (13 + 10 * pl + 0) (by omega), e (13 + 10 * pl + 1) (by omega), e (13 + 10 * pl + 2) (by omega)]
        have := h3 (by omega); omega
    · rw [e (13 + 10 * pl + 3) (by omega), e (13 + 10 * pl + 4) (by omega), e (13 + 10 * pl + 5) (by omega), e (13 + 10 * pl + 6) (by omega), e (13 + 10 * pl + 0) (by omega), e (13 + 10 * pl + 1) (by omega), e (13 + 10 * pl + 2) (by omega)]
      exact w9
  · simp only [jbP]
    rw [e (93 + 3 * i + 0) (by omega), e (93 + 3 * i + 1) (by omega), e (93 + 3 * i + 2) (by omega), e 5 (by omega)]
    exact w6 i hi
theorem WF.rp {P : Nat → Nat} (W : WF P) {j : Nat} (hj : j < 16) : WF (rpP P j) := by
  have a1 := W.job j 0 1 hj (by omega) (by omega) (by omega) (by omega)
  have a2 := a1.job j 1 (upn P (93 + 3 * j + 0) 1 5) hj (by omega) (by omega) (fun _ => Nat.le_refl _) (by omega)
  exact a2.job j 2 0 hj (by omega) (by omega) (by omega) (fun _ => Nat.zero_le _)
theorem WF.en {P : Nat → Nat} (W : WF P) {j : Nat} (hj : j < 16) : WF (enP P j) :=
  itN_ind (fun _ Q => WF Q) W (fun i Q hi WQ => WQ.job j i 0 hj hi (by omega) (fun _ => Nat.zero_le _) (fun _ => Nat.zero_le _))
theorem WF.fzSt {P : Nat → Nat} (W : WF P) {pl : Nat} (hp : pl < 8) : WF (fzS pl P) := by
  unfold fzS
  split
  · have a1 := W.plc pl 5 1 hp (by omega) (by omega) (by omega) (by omega) (by omega)
    have a2 := a1.acc (13 + 10 * pl + 9) (ofP (lyP P pl 5 1) pl 9 + 1) (by omega)
    exact WF.rp a2 (by omega)
  · exact W
theorem WF.fz {P : Nat → Nat} (W : WF P) : WF (fzP P) := itN_ind (fun _ Q => WF Q) W (fun _ _ hi WQ => WQ.fzSt hi)
theorem WF.fi {P : Nat → Nat} (W : WF P) {j : Nat} (hj : j < 16) : WF (fiP P j) := by
  unfold fiP
  split
  · exact (W.plc (j / 2) 5 0 (by omega) (by omega) (by omega) (by omega) (by omega) (by omega)).en hj
  · have a1 := W.plc (j / 2) 2 0 (by omega) (by omega) (by omega) (by omega) (fun _ => Nat.zero_le _) (by omega)
    exact WF.en (a1.acc (13 + 10 * (j / 2) + 8) _ (by omega)) hj
theorem WF.wk1t {P : Nat → Nat} (W : WF P) {j a : Nat} (hj : j < 16) (ha : a ≤ neP P j) : WF (wk1 P a j) := by
  have a1 := W.acc 11 (P 11 + a) (by omega)
  have a2 := a1.acc 10 (upn P 11 (P 11 + a) 10 + a * upn P 11 (P 11 + a) 4) (by omega)
  refine a2.job j 2 _ hj (by omega) (by omega) (by omega) (fun _ => ?_)
  have w9 := (W.jb hj).2.2
  rw [upn_n _ _ (by omega), upn_n _ _ (by omega)]
  unfold neP jbP at ha
  unfold jbP at w9
  omega
theorem haP_le (fz : Bool) (P : Nat → Nat) (left j : Nat) : haP fz P left j ≤ neP P j ∧ haP fz P left j ≤ left := by
  unfold haP; split
  · omega
  · split <;> omega
theorem WF.wkSt {P : Nat → Nat} (W : WF P) {fz : Bool} {left j : Nat} (hj : j < 16) : WF (wkS fz P left j) := by
  unfold wkS
  have a1 := W.wk1t hj (haP_le fz P left j).1
  split
  · exact a1.fi hj
  · exact a1
theorem wkF_none {fz : Bool} {n left : Nat} {P D : Nat → Nat} (h : njP P D = none) : wkF fz (n + 1) P left D = P := by unfold wkF; rw [h]
theorem wkF_some {fz : Bool} {n left j : Nat} {P D : Nat → Nat} (h : njP P D = some j) : wkF fz (n + 1) P left D = wkF fz n (wkS fz P left j) (left - haP fz P left j) (upn D j 1) := by
  show (match njP P D with | none => P | some j => wkF fz n (wkS fz P left j) (left - haP fz P left j) (upn D j 1)) = _
  rw [h]
theorem svF_none {n : Nat} {P FL D : Nat → Nat} (h : noP P D (P 5) = none) : svF (n + 1) P FL D = (P, FL) := by unfold svF; rw [h]
theorem svF_some {n k : Nat} {P FL D : Nat → Nat} (h : noP P D (P 5) = some k) : svF (n + 1) P FL D = svF n (drP P FL (ogP P k 1) (ogP P k 2)) (drF P FL (ogP P k 1) (ogP P k 2)) (upn D k 1) := by
  show (match noP P D (P 5) with | none => (P, FL) | some k => svF n (drP P FL (ogP P k 1) (ogP P k 2)) (drF P FL (ogP P k 1) (ogP P k 2)) (upn D k 1)) = _
  rw [h]
theorem WF.wkFt {fz : Bool} : ∀ (n : Nat) {P : Nat → Nat} (left : Nat) (D : Nat → Nat), WF P → WF (wkF fz n P left D) := by
  intro n
  induction n with
  | zero => intro P left D W; exact W
  | succ n ih =>
    intro P left D W
    unfold wkF
    cases hn : njP P D with
    | none => exact W
    | some j => exact ih _ _ (W.wkSt (njP_lt hn))
theorem WF.wk {P : Nat → Nat} (W : WF P) (fz : Bool) : WF (wkP fz P) := WF.wkFt 17 _ _ W
theorem WF.gvQt {P : Nat → Nat} (W : WF P) {pl its : Nat} (hp : pl < 8) (hi : its ≤ 4 * ofP P pl 1 - ofP P pl 2) : WF (gvQ P pl its) := by
  have p9 := W.pl hp
  have a1 := W.plc pl 2 (ofP P pl 2 + its) hp (by omega) (by omega) (by omega) (by omega) (by omega)
  have a2 := a1.acc (13 + 10 * pl + 7) (ofP (lyP P pl 2 (ofP P pl 2 + its)) pl 7 + its) (by omega)
  exact a2.acc 12 _ (by omega)
theorem WF.gv {P : Nat → Nat} (W : WF P) {FL : Nat → Nat} {pl wn : Nat} (hp : pl < 8) : WF (gvP P FL pl wn) := by
  unfold gvP
  have a1 := W.gvQt hp (gvA_t P FL pl wn)
  split
  · exact a1.rp (by omega)
  · exact a1
