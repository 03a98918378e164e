/-! PARK: what giving keeps; one outing's round of the fountains, as the component walks it -/
theorem gvR_WF {P td : Nat → Nat} {fz : Bool} {i wn : Nat} (W : WF P) (hi : i < 8) : WF (gvR fz P td i wn) := by
  unfold gvR
  split
  · exact W.gv hi
  · exact W
theorem gvP_of0 (P FL : Nat → Nat) (i wn j : Nat) (hi : i < 8) (hj : j < 8) : ofP (gvP P FL i wn) j 0 = ofP P j 0 := by
  rw [gvP_12]
  have e : ofP (upn (gvP0 P FL i wn) 12 (P 12 + gvA P FL i wn)) j 0 = ofP (gvP0 P FL i wn) j 0 := upn_n _ _ (by omega)
  rw [e]
  unfold gvP0
  split
  · rw [rpP_of _ _ _ _ hj (by decide)]
    simp only [gvQ0, lyP, ofP]
    rw [upn_n _ _ (by omega), upn_n _ _ (by omega)]
  · simp only [gvQ0, lyP, ofP]
    rw [upn_n _ _ (by omega), upn_n _ _ (by omega)]
theorem gvP_c (P FL : Nat → Nat) (i wn c : Nat) (h : c < 12) : gvP P FL i wn c = P c := by
  rw [gvP_12, upn_n _ _ (by omega), gvP0_c _ _ _ _ _ (by omega)]
theorem gvR_c (fz : Bool) (P td : Nat → Nat) (i wn c : Nat) (h : c < 12) : gvR fz P td i wn c = P c := by
  unfold gvR
  split
  · exact gvP_c _ _ _ _ _ h
  · rfl
/-- no fountain gave more than it has -/
def tdO (P td : Nat → Nat) : Prop := ∀ p, p < 8 → td p ≤ 4 * ofP P p 0
theorem gvT_O {P td : Nat → Nat} {fz : Bool} {i wn : Nat} (H : tdO P td) (hi : i < 8) : tdO (gvR fz P td i wn) (gvT fz P td i wn) := by
  intro p hp
  unfold gvR gvT
  split
  · rw [gvP_of0 _ _ _ _ _ hi hp]
    by_cases e : p = i
    · rw [e, upn_s]
      have := gvA_b P td (i := i) (wn := wn)
      have := H i hi
      omega
    · rw [upn_n _ _ e]; exact H p hp
  · exact H p hp
theorem gvX_le (fz : Bool) (P td : Nat → Nat) (i wn : Nat) : gvX fz P td i wn ≤ wn := by
  unfold gvX
  split
  · exact gvA_w _ _ _ _
  · exact Nat.zero_le _
abbrev Sv : Type := (Nat → Nat) × (Nat → Nat) × Nat
/-- one fountain asked (or none) -/
def svA (fz : Bool) (p : Nat) (ok : Bool) (s : Sv) : Sv := if ok = true then (gvR fz s.1 s.2.1 p s.2.2, gvT fz s.1 s.2.1 p s.2.2, s.2.2 - gvX fz s.1 s.2.1 p s.2.2) else s
def svD (fz : Bool) (g d : Nat) (s : Sv) : Sv := svA fz (g + d) (decide (0 < d) && decide (g + d < 8)) (svA fz (g - d) (decide (d ≤ g)) s)
def svL (fz : Bool) (g : Nat) (P td : Nat → Nat) (c : Nat) : Sv := itN 3 (svD fz g) (P, td, c * P 2)
/-- what holds all through -/
def SvJ (s : Sv) : Prop := WF s.1 ∧ tdO s.1 s.2.1 ∧ s.2.2 < 1000000
theorem svA_J {fz : Bool} {p : Nat} {ok : Bool} {s : Sv} (H : SvJ s) (hp : ok = true → p < 8) : SvJ (svA fz p ok s) := by
  unfold svA
  split
  · rename_i e
    exact ⟨gvR_WF H.1 (hp e), gvT_O H.2.1 (hp e), Nat.lt_of_le_of_lt (Nat.sub_le _ _) H.2.2⟩
  · exact H
theorem svD_J {fz : Bool} {g d : Nat} {s : Sv} (hg : g < 8) (H : SvJ s) : SvJ (svD fz g d s) :=
  svA_J (svA_J H (fun _ => by omega)) (fun e => by simp at e; exact e.2)
theorem svA_c {fz : Bool} {p : Nat} {ok : Bool} {s : Sv} {c : Nat} (h : c < 12) : (svA fz p ok s).1 c = s.1 c := by
  unfold svA
  split
  · exact gvR_c _ _ _ _ _ _ h
  · rfl
theorem svD_c {fz : Bool} {g d : Nat} {s : Sv} {c : Nat} (h : c < 12) : (svD fz g d s).1 c = s.1 c := (svA_c h).trans (svA_c h)
