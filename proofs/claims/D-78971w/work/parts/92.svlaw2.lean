/-! PARK: an outing's round, component and reference -/
theorem drS_in {g k p : Nat} {t : Gv} (e : ngO g k = p) (h : apN p g < 3) : drS g k t = drA p t := by
  unfold drS drA
  rw [e]
  by_cases c : clP t.1 p = 0
  · rw [if_pos ⟨c, h⟩, if_pos c]
  · rw [if_neg (fun q => c q.1), if_neg c]
theorem drS_out {g k p : Nat} {t : Gv} (e : ngO g k = p) (h : ¬ apN p g < 3) : drS g k t = t := by
  unfold drS
  rw [e, if_neg (fun q => h q.2)]
theorem svA_no {fz : Bool} {p : Nat} {s : Sv} : svA fz p false s = s := rfl
theorem itN_8 {α : Type} (F : Nat → α → α) (a : α) : itN 8 F a = F 7 (F 6 (F 5 (F 4 (F 3 (F 2 (F 1 (F 0 a))))))) := rfl
theorem itN_3 {α : Type} (F : Nat → α → α) (a : α) : itN 3 F a = F 2 (F 1 (F 0 a)) := rfl
theorem drL_8 (P FL : Nat → Nat) (ch g : Nat) : drL P FL ch g = drS g 7 (drS g 6 (drS g 5 (drS g 4 (drS g 3 (drS g 2 (drS g 1 (drS g 0 (P, FL, ch * P 2)))))))) := itN_8 (drS g) (P, FL, ch * P 2)
theorem svL_3 (fz : Bool) (g : Nat) (P td : Nat → Nat) (c : Nat) : svL fz g P td c = svD fz g 2 (svD fz g 1 (svD fz g 0 (P, td, c * P 2))) := itN_3 (svD fz g) (P, td, c * P 2)
theorem sv_R {fz : Bool} {g : Nat} {P td : Nat → Nat} {FL : Nat → Nat} {c : Nat} (hg : g < 8) (R : SvR fz (P, td, c * P 2) (P, FL, c * P 2)) : SvR fz (svL fz g P td c) (drL P FL c g) := by
  rw [svL_3, drL_8]
  generalize ((P, td, c * P 2) : Sv) = s at R ⊢
  generalize ((P, FL, c * P 2) : Gv) = t at R ⊢
  have hg8 : g = 0 ∨ g = 1 ∨ g = 2 ∨ g = 3 ∨ g = 4 ∨ g = 5 ∨ g = 6 ∨ g = 7 := by omega
  rcases hg8 with e | e | e | e | e | e | e | e <;> subst e
  · rw [drS_in (g := 0) (k := 0) (p := 0) (by decide) (by decide), drS_in (g := 0) (k := 1) (p := 1) (by decide) (by decide), drS_in (g := 0) (k := 2) (p := 2) (by decide) (by decide), drS_out (g := 0) (k := 3) (p := 3) (by decide) (by decide), drS_out (g := 0) (k := 4) (p := 4) (by decide) (by decide), drS_out (g := 0) (k := 5) (p := 5) (by decide) (by decide), drS_out (g := 0) (k := 6) (p := 6) (by decide) (by decide), drS_out (g := 0) (k := 7) (p := 7) (by decide) (by decide)]
    exact (svA_R (p := 2) (svA_R (p := 1) (svA_R (p := 0) R (by decide)) (by decide)) (by decide))
  · rw [drS_in (g := 1) (k := 0) (p := 1) (by decide) (by decide), drS_in (g := 1) (k := 1) (p := 0) (by decide) (by decide), drS_in (g := 1) (k := 2) (p := 2) (by decide) (by decide), drS_in (g := 1) (k := 3) (p := 3) (by decide) (by decide), drS_out (g := 1) (k := 4) (p := 4) (by decide) (by decide), drS_out (g := 1) (k := 5) (p := 5) (by decide) (by decide), drS_out (g := 1) (k := 6) (p := 6) (by decide) (by decide), drS_out (g := 1) (k := 7) (p := 7) (by decide) (by decide)]
    exact (svA_R (p := 3) (svA_R (p := 2) (svA_R (p := 0) (svA_R (p := 1) R (by decide)) (by decide)) (by decide)) (by decide))
  · rw [drS_in (g := 2) (k := 0) (p := 2) (by decide) (by decide), drS_in (g := 2) (k := 1) (p := 1) (by decide) (by decide), drS_in (g := 2) (k := 2) (p := 3) (by decide) (by decide), drS_in (g := 2) (k := 3) (p := 0) (by decide) (by decide), drS_in (g := 2) (k := 4) (p := 4) (by decide) (by decide), drS_out (g := 2) (k := 5) (p := 5) (by decide) (by decide), drS_out (g := 2) (k := 6) (p := 6) (by decide) (by decide), drS_out (g := 2) (k := 7) (p := 7) (by decide) (by decide)]
    exact (svA_R (p := 4) (svA_R (p := 0) (svA_R (p := 3) (svA_R (p := 1) (svA_R (p := 2) R (by decide)) (by decide)) (by decide)) (by decide)) (by decide))
  · rw [drS_in (g := 3) (k := 0) (p := 3) (by decide) (by decide), drS_in (g := 3) (k := 1) (p := 2) (by decide) (by decide), drS_in (g := 3) (k := 2) (p := 4) (by decide) (by decide), drS_in (g := 3) (k := 3) (p := 1) (by decide) (by decide), drS_in (g := 3) (k := 4) (p := 5) (by decide) (by decide), drS_out (g := 3) (k := 5) (p := 0) (by decide) (by decide), drS_out (g := 3) (k := 6) (p := 6) (by decide) (by decide), drS_out (g := 3) (k := 7) (p := 7) (by decide) (by decide)]
    exact (svA_R (p := 5) (svA_R (p := 1) (svA_R (p := 4) (svA_R (p := 2) (svA_R (p := 3) R (by decide)) (by decide)) (by decide)) (by decide)) (by decide))
  · rw [drS_in (g := 4) (k := 0) (p := 4) (by decide) (by decide), drS_in (g := 4) (k := 1) (p := 3) (by decide) (by decide), drS_in (g := 4) (k := 2) (p := 5) (by decide) (by decide), drS_in (g := 4) (k := 3) (p := 2) (by decide) (by decide), drS_in (g := 4) (k := 4) (p := 6) (by decide) (by decide), drS_out (g := 4) (k := 5) (p := 1) (by decide) (by decide), drS_out (g := 4) (k := 6) (p := 7) (by decide) (by decide), drS_out (g := 4) (k := 7) (p := 0) (by decide) (by decide)]
    exact (svA_R (p := 6) (svA_R (p := 2) (svA_R (p := 5) (svA_R (p := 3) (svA_R (p := 4) R (by decide)) (by decide)) (by decide)) (by decide)) (by decide))
  · rw [drS_in (g := 5) (k := 0) (p := 5) (by decide) (by decide), drS_in (g := 5) (k := 1) (p := 4) (by decide) (by decide), drS_in (g := 5) (k := 2) (p := 6) (by decide) (by decide), drS_in (g := 5) (k := 3) (p := 3) (by decide) (by decide), drS_in (g := 5) (k := 4) (p := 7) (by decide) (by decide), drS_out (g := 5) (k := 5) (p := 2) (by decide) (by decide), drS_out (g := 5) (k := 6) (p := 1) (by decide) (by decide), drS_out (g := 5) (k := 7) (p := 0) (by decide) (by decide)]
    exact (svA_R (p := 7) (svA_R (p := 3) (svA_R (p := 6) (svA_R (p := 4) (svA_R (p := 5) R (by decide)) (by decide)) (by decide)) (by decide)) (by decide))
  · rw [drS_in (g := 6) (k := 0) (p := 6) (by decide) (by decide), drS_in (g := 6) (k := 1) (p := 5) (by decide) (by decide), drS_in (g := 6) (k := 2) (p := 7) (by decide) (by decide), drS_in (g := 6) (k := 3) (p := 4) (by decide) (by decide), drS_out (g := 6) (k := 4) (p := 3) (by decide) (by decide), drS_out (g := 6) (k := 5) (p := 2) (by decide) (by decide), drS_out (g := 6) (k := 6) (p := 1) (by decide) (by decide), drS_out (g := 6) (k := 7) (p := 0) (by decide) (by decide)]
    exact (svA_R (p := 4) (svA_R (p := 7) (svA_R (p := 5) (svA_R (p := 6) R (by decide)) (by decide)) (by decide)) (by decide))
  · rw [drS_in (g := 7) (k := 0) (p := 7) (by decide) (by decide), drS_in (g := 7) (k := 1) (p := 6) (by decide) (by decide), drS_in (g := 7) (k := 2) (p := 5) (by decide) (by decide), drS_out (g := 7) (k := 3) (p := 4) (by decide) (by decide), drS_out (g := 7) (k := 4) (p := 3) (by decide) (by decide), drS_out (g := 7) (k := 5) (p := 2) (by decide) (by decide), drS_out (g := 7) (k := 6) (p := 1) (by decide) (by decide), drS_out (g := 7) (k := 7) (p := 0) (by decide) (by decide)]
    exact (svA_R (p := 5) (svA_R (p := 6) (svA_R (p := 7) R (by decide)) (by decide)) (by decide))
theorem sv_drP {fz : Bool} {g : Nat} {P td : Nat → Nat} {c : Nat} (hg : g < 8) (H : tdO P td) (hfz : frP P (P 5) = fz) : drE (svL fz g P td c).1 c (svL fz g P td c).2.2 = drP P (flP P td) c g ∧ SvR fz (svL fz g P td c) (drL P (flP P td) c g) := by
  have R := sv_R (c := c) hg (show SvR fz (P, td, c * P 2) (P, flP P td, c * P 2) from ⟨rfl, rfl, fun _ _ => rfl, H, hfz⟩)
  refine ⟨?_, R⟩
  unfold drP
  rw [R.1, R.2.1]
