/-! PARK: a fountain gives -/
def flP (P td : Nat → Nat) : Nat → Nat := fun p => 4 * ofP P p 0 - td p
def gvQ0 (P : Nat → Nat) (pl its : Nat) : Nat → Nat := lyP (lyP P pl 2 (ofP P pl 2 + its)) pl 7 (ofP P pl 7 + its)
def gvP0 (P FL : Nat → Nat) (pl wn : Nat) : Nat → Nat := if gvA P FL pl wn = 4 * ofP P pl 1 - ofP P pl 2 then rpP (gvQ0 P pl (gvA P FL pl wn)) (2 * pl + 1) else gvQ0 P pl (gvA P FL pl wn)
theorem gvQ_12 (P : Nat → Nat) (pl its : Nat) : gvQ P pl its = upn (gvQ0 P pl its) 12 (P 12 + its) := by
  have e1 : ofP (lyP P pl 2 (ofP P pl 2 + its)) pl 7 = ofP P pl 7 := upn_n _ _ (by omega)
  unfold gvQ gvQ0
  simp only [e1]
  congr 1
  simp only [lyP]
  rw [upn_n _ _ (by omega), upn_n _ _ (by omega)]
theorem upn_comm (P : Nat → Nat) {i j : Nat} (v w : Nat) (e : i ≠ j) : upn (upn P i v) j w = upn (upn P j w) i v := by
  funext c
  simp only [upn]
  by_cases c1 : c = i
  · by_cases c2 : c = j
    · omega
    · simp [c1, c2, e]
  · by_cases c2 : c = j
    · simp [c1, c2, Ne.symm e]
    · simp [c1, c2]
theorem rpP_12 (P : Nat → Nat) (j v : Nat) : rpP (upn P 12 v) j = upn (rpP P j) 12 v := by
  unfold rpP
  have e : upn (upn P 12 v) (93 + 3 * j + 0) 1 5 = upn P (93 + 3 * j + 0) 1 5 := by rw [upn_n _ _ (by omega), upn_n _ _ (by omega), upn_n _ _ (by omega)]
  rw [e, upn_comm P v 1 (by omega), upn_comm _ v _ (by omega), upn_comm _ v 0 (by omega)]
theorem gvP_12 (P FL : Nat → Nat) (pl wn : Nat) : gvP P FL pl wn = upn (gvP0 P FL pl wn) 12 (P 12 + gvA P FL pl wn) := by
  unfold gvP gvP0
  rw [gvQ_12]
  split
  · rw [rpP_12]
  · rfl
theorem gvQ0_of (P : Nat → Nat) (pl its w : Nat) : ofP (gvQ0 P pl its) pl w = if w = 7 then ofP P pl 7 + its else if w = 2 then ofP P pl 2 + its else ofP P pl w := by
  simp only [gvQ0, lyP, ofP, upn]
  by_cases c1 : w = 7
  · simp [c1]
  · by_cases c2 : w = 2
    · simp [c2]
    · simp [c1, c2]
theorem rpP_of (P : Nat → Nat) (j pl w : Nat) (hp : pl < 8) (hw : w < 10) : ofP (rpP P j) pl w = ofP P pl w := by
  unfold rpP ofP
  rw [upn_n _ _ (by omega), upn_n _ _ (by omega), upn_n _ _ (by omega)]
theorem gvQ0_jb (P : Nat → Nat) (pl its j w : Nat) (hp : pl < 8) : jbP (gvQ0 P pl its) j w = jbP P j w := by
  simp only [gvQ0, lyP, jbP]
  rw [upn_n _ _ (by omega), upn_n _ _ (by omega)]
theorem rpP_jn (P : Nat → Nat) {j i w : Nat} (e : i ≠ j) (hw : w < 3) : jbP (rpP P j) i w = jbP P i w := by
  unfold rpP jbP
  rw [upn_n _ _ (by omega), upn_n _ _ (by omega), upn_n _ _ (by omega)]
theorem rpP_js (P : Nat → Nat) (j : Nat) : jbP (rpP P j) j 0 = 1 ∧ jbP (rpP P j) j 1 = P 5 ∧ jbP (rpP P j) j 2 = 0 := by
  unfold rpP jbP
  refine ⟨?_, ?_, ?_⟩
  · rw [upn_n _ _ (by omega), upn_n _ _ (by omega), upn_s]
  · rw [upn_n _ _ (by omega), upn_s, upn_n _ _ (by omega)]
  · rw [upn_s]
theorem gvP0_far (P FL : Nat → Nat) (pl wn c : Nat) (hc : far pl c) : gvP0 P FL pl wn c = P c := by
  have g : ∀ its, gvQ0 P pl its c = P c := fun its => by
    simp only [gvQ0, lyP]
    rw [upn_n _ _ (hc.1 7 (by omega)), upn_n _ _ (hc.1 2 (by omega))]
  unfold gvP0
  split
  · unfold rpP
    have := hc.2 3 (by omega); have := hc.2 4 (by omega); have := hc.2 5 (by omega)
    rw [upn_n _ _ (by omega), upn_n _ _ (by omega), upn_n _ _ (by omega)]; exact g _
  · exact g _
theorem gvN_F (P td : Nat → Nat) (W : WF P) {i wn : Nat} (hi : i < 8) (ht : td i ≤ 4 * ofP P i 0) (hw : wn < 1000000) : gvN (ftF P (td i) i) (nI wn) = nI (gvA P (flP P td) i wn) := by
  have b := W.pl hi
  have e1 : nI 4 * nI (ofP P i 1) - nI (ofP P i 2) = nI (4 * ofP P i 1 - ofP P i 2) := by rw [nI_mul4, pk_sub (by omega)]
  have e2 : nI 4 * nI (ofP P i 0) - nI (td i) = nI (4 * ofP P i 0 - td i) := by rw [nI_mul4, pk_sub (by omega)]
  have mn : ∀ a c, a < 1000000 → c < 1000000 → (if nI a < nI c then nI a else nI c) = nI (if a < c then a else c) := fun a c ha hc => by
    by_cases q : a < c
    · rw [if_pos (nI_lt q (by omega)), if_pos q]
    · rw [if_neg (nI_nlt (by omega) (by omega)), if_neg q]
  show (if (if nI 4 * nI (ofP P i 1) - nI (ofP P i 2) < nI 4 * nI (ofP P i 0) - nI (td i) then nI 4 * nI (ofP P i 1) - nI (ofP P i 2) else nI 4 * nI (ofP P i 0) - nI (td i)) < nI wn then (if nI 4 * nI (ofP P i 1) - nI (ofP P i 2) < nI 4 * nI (ofP P i 0) - nI (td i) then nI 4 * nI (ofP P i 1) - nI (ofP P i 2) else nI 4 * nI (ofP P i 0) - nI (td i)) else nI wn) = _
  rw [e1, e2, mn _ _ (by omega) (by omega), mn _ _ (by split <;> omega) hw]
  congr 1
  unfold gvA g9 flP
  grind
theorem gvA_b (P td : Nat → Nat) {i wn : Nat} : gvA P (flP P td) i wn ≤ 4 * ofP P i 0 - td i := gvA_f _ _ _ _
/-- how a fountain stands behind its giving -/
theorem gvF_F (P td : Nat → Nat) (W : WF P) {i wn : Nat} (hi : i < 8) : ∀ k, k ≤ 10 → gvF (ftF P (td i) i) (nI (gvA P (flP P td) i wn)) k = ftF (gvP0 P (flP P td) i wn) (upn td i (td i + gvA P (flP P td) i wn) i) i k := by
  generalize hn : gvA P (flP P td) i wn = n
  have ho : ∀ w, w < 10 → ofP (gvP0 P (flP P td) i wn) i w = if w = 7 then ofP P i 7 + n else if w = 2 then ofP P i 2 + n else ofP P i w := fun w hw => by
    unfold gvP0
    rw [hn]
    split
    · rw [rpP_of _ _ _ _ hi hw, gvQ0_of]
    · rw [gvQ0_of]
  intro k hk
  rw [upn_s]
  have hk2 : k = 0 ∨ k = 1 ∨ k = 2 ∨ k = 3 ∨ k = 4 ∨ k = 5 ∨ k = 6 ∨ k = 7 ∨ k = 8 ∨ k = 9 ∨ k = 10 := by omega
  rcases hk2 with e | e | e | e | e | e | e | e | e | e | e <;> subst e
  · show nI (ofP P i 6) = nI (ofP _ i 6); rw [ho 6 (by decide)]; rfl
  · show nI (ofP P i 0) = nI (ofP _ i 0); rw [ho 0 (by decide)]; rfl
  · show nI (ofP P i 1) = nI (ofP _ i 1); rw [ho 1 (by decide)]; rfl
  · show nI (ofP P i 2) + nI n = nI (ofP _ i 2); rw [ho 2 (by decide), nI_add]; rfl
  · show nI (ofP P i 3) = nI (ofP _ i 3); rw [ho 3 (by decide)]; rfl
  · show nI (ofP P i 4) = nI (ofP _ i 4); rw [ho 4 (by decide)]; rfl
  · show nI (ofP P i 5) = nI (ofP _ i 5); rw [ho 5 (by decide)]; rfl
  · show nI (ofP P i 7) + nI n = nI (ofP _ i 7); rw [ho 7 (by decide), nI_add]; rfl
  · show nI (ofP P i 8) = nI (ofP _ i 8); rw [ho 8 (by decide)]; rfl
  · show nI (ofP P i 9) = nI (ofP _ i 9); rw [ho 9 (by decide)]; rfl
  · show nI (td i) + nI n = nI (td i + n); rw [nI_add]
theorem c_pkFtGive {E : Ev} {h0 h : HP} {L tg0 tg P td : Nat → Nat} {pn : Nat} {fz : Bool} (T : PkTo h0 L tg0 tg P td pn fz h) (W : WF P) {i wn : Nat} (hi : i < 8) (ht : td i ≤ 4 * ofP P i 0) (hc : clF fz P i = 0) (hw : wn < 1000000) (d k : Nat) (hd : 2 ≤ d) : Call E yX3_give d k [.ref (L (10 + i)), .int (nI wn), .int (nI (P 5))] h (rI fun x h' => x = nI (gvA P (flP P td) i wn) ∧ PkTo h0 L tg0 tg (gvP0 P (flP P td) i wn) (upn td i (td i + gvA P (flP P td) i wn)) pn fz h') := by
  obtain ⟨w, x, x2⟩ := T.V.2.2.2 i hi
  have b := W.pl hi
  have hne : ¬ ofP P i 2 = 4 * ofP P i 1 := fun q => by
    unfold clF at hc
    rw [if_pos q] at hc
    split at hc
    · cases hc
    · split at hc
      · cases hc
      · split at hc
        · cases hc
        · split at hc <;> cases hc
  refine (c_give d k hd x).mono (fun r h' q => ?_)
  obtain ⟨v, e, e1, e2⟩ := q
  rw [gvN_F P td W hi ht hw] at e1 e2
  refine ⟨v, e, e1, ?_⟩
  have FFs := gvF_F P td W (wn := wn) hi
  have far9 := gvP0_far P (flP P td) i wn
  have hP : ∀ c, far i c → gvP0 P (flP P td) i wn c = P c := far9
  have htd : ∀ j, j ≠ i → upn td i (td i + gvA P (flP P td) i wn) j = td j := fun j hj => upn_n _ _ hj
  have hA := gvA_t P (flP P td) i wn
  have used : gvB (ftF P (td i) i) (nI (gvA P (flP P td) i wn)) ↔ gvA P (flP P td) i wn = 4 * ofP P i 1 - ofP P i 2 := by
    show (0 < nI _ ∧ nI 4 * nI (ofP P i 1) ≤ nI (ofP P i 2) + nI _) ↔ _
    rw [nI_mul4, nI_add]
    constructor
    · rintro ⟨-, q⟩
      apply Classical.byContradiction
      intro q2
      exact nI_ge (by omega) (by omega) q
    · intro q
      exact ⟨nI_lt (a := 0) (by omega) (by omega), nI_le (by omega) (by omega)⟩
  rcases e2 with ⟨g1, g2⟩ | ⟨g1, g2⟩
  · have u := used.mp g1
    have eP : gvP0 P (flP P td) i wn = rpP (gvQ0 P i (gvA P (flP P td) i wn)) (2 * i + 1) := if_pos u
    have j0 : ∀ w2, w2 < 3 → jbP (gvP0 P (flP P td) i wn) (2 * i + 0) w2 = jbP P (2 * i + 0) w2 := fun w2 h2 => by rw [eP, rpP_jn _ (by omega) h2, gvQ0_jb _ _ _ _ _ hi]
    have j1 := rpP_js (gvQ0 P i (gvA P (flP P td) i wn)) (2 * i + 1)
    have q5 : gvQ0 P i (gvA P (flP P td) i wn) 5 = P 5 := by simp only [gvQ0, lyP]; rw [upn_n _ _ (by omega), upn_n _ _ (by omega)]
    rw [← eP, q5] at j1
    refine T.ft hi g2 FFs (fun k hk => ?_) (fun k hk q => ?_) hP htd W.h6
    · have hk2 : k = 0 ∨ k = 1 := by omega
      rcases hk2 with e | e <;> subst e
      · show ftR P i 0 = ftR _ i 0
        unfold ftR; rw [j0 0 (by decide), j0 1 (by decide)]
      · show nI (P 5) = ftR _ i 1
        unfold ftR; rw [j1.1, j1.2.1]; rfl
    · have hk2 : k = 0 ∨ k = 1 := by omega
      rcases hk2 with e | e <;> subst e
      · rw [j0 0 (by decide)] at q; rw [j0 2 (by decide)]; exact x2 0 (by decide) q
      · show nI 0 = _; rw [j1.2.2]
  · have u : ¬ gvA P (flP P td) i wn = 4 * ofP P i 1 - ofP P i 2 := fun q => g1 (used.mpr q)
    have eP : gvP0 P (flP P td) i wn = gvQ0 P i (gvA P (flP P td) i wn) := if_neg u
    have jj : ∀ k2 w2, jbP (gvP0 P (flP P td) i wn) k2 w2 = jbP P k2 w2 := fun k2 w2 => by rw [eP, gvQ0_jb _ _ _ _ _ hi]
    refine T.ft hi g2 FFs (fun k hk => ?_) (fun k hk q => ?_) hP htd W.h6
    · unfold ftR; simp only [jj]
    · rw [jj] at q; rw [jj]; exact x2 k hk q
