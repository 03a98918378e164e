/-! PARK: asking one fountain, component and reference -/
def SvR (fz : Bool) (s : Sv) (t : Gv) : Prop := t.1 = s.1 ∧ t.2.2 = s.2.2 ∧ (∀ p, p < 8 → t.2.1 p = flP s.1 s.2.1 p) ∧ tdO s.1 s.2.1 ∧ frP s.1 (s.1 5) = fz
/-- the reference asks one place -/
def drA (p : Nat) (t : Gv) : Gv := if clP t.1 p = 0 then (gvP t.1 t.2.1 p t.2.2, gwF t.1 t.2.1 p t.2.2, t.2.2 - gvA t.1 t.2.1 p t.2.2) else t
theorem gvA_fl (P : Nat → Nat) {F G : Nat → Nat} (p w : Nat) (e : F p = G p) : gvA P F p w = gvA P G p w := by unfold gvA; rw [e]
theorem gvP_fl (P : Nat → Nat) {F G : Nat → Nat} (p w : Nat) (e : F p = G p) : gvP P F p w = gvP P G p w := by unfold gvP; rw [gvA_fl P p w e]
theorem svA_R {fz : Bool} {p : Nat} {s : Sv} {t : Gv} (R : SvR fz s t) (hp : p < 8) : SvR fz (svA fz p true s) (drA p t) := by
  obtain ⟨P, FL, l⟩ := t
  obtain ⟨r1, r2, r3, r4, r5⟩ := R
  have r1 : P = s.1 := r1
  have r2 : l = s.2.2 := r2
  have r3 : ∀ p, p < 8 → FL p = flP s.1 s.2.1 p := r3
  subst r1; subst r2
  have ec : clP s.1 p = clF fz s.1 p := by rw [← r5]; rfl
  have eg : gvA s.1 FL p s.2.2 = gvA s.1 (flP s.1 s.2.1) p s.2.2 := gvA_fl _ _ _ (r3 p hp)
  rw [svA_t rfl]
  unfold drA
  simp only [ec]
  unfold gvR gvT gvX
  by_cases c : clF fz s.1 p = 0
  · simp only [if_pos c]
    refine ⟨gvP_fl _ _ _ (r3 p hp), by rw [eg], fun q hq => ?_, ?_, ?_⟩
    · show upn FL p (FL p - gvA s.1 FL p s.2.2) q = 4 * ofP (gvP s.1 (flP s.1 s.2.1) p s.2.2) q 0 - upn s.2.1 p _ q
      rw [gvP_of0 _ _ _ _ _ hp hq, eg]
      by_cases e : q = p
      · rw [e, upn_s, upn_s, show FL p = flP s.1 s.2.1 p from r3 p hp]; unfold flP; omega
      · rw [upn_n _ _ e, upn_n _ _ e]; exact r3 q hq
    · have := gvT_O (fz := fz) (wn := s.2.2) r4 hp
      unfold gvR gvT at this
      simp only [if_pos c] at this
      exact this
    · rw [← r5]
      show frP (gvP s.1 (flP s.1 s.2.1) p s.2.2) (gvP s.1 (flP s.1 s.2.1) p s.2.2 5) = frP s.1 (s.1 5)
      unfold frP
      rw [gvP_c _ _ _ _ _ (show 6 < 12 by decide), gvP_c _ _ _ _ _ (show 5 < 12 by decide)]
      congr 1
      funext k
      have e : ∀ c, 141 ≤ c → gvP s.1 (flP s.1 s.2.1) p s.2.2 c = s.1 c := fun c hc => by rw [gvP_12, upn_n _ _ (by omega), gvP0_d _ _ _ _ _ hc hp]
      rw [e _ (by omega), e _ (by omega)]
  · simp only [if_neg c]
    exact ⟨rfl, by rw [Nat.sub_zero], r3, r4, r5⟩
