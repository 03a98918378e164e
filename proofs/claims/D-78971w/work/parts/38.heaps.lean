/-! HEAPS, in plain Lean: places 0 .. n-1, the parent of i is (i - 1) / 2 -/
def swp (g : Nat → Nat) (i j : Nat) : Nat → Nat := fun a => if a = i then g j else if a = j then g i else g a
def inj9 (n : Nat) (g : Nat → Nat) : Prop := ∀ i j, i < n → j < n → g i = g j → i = j
def el9 (n : Nat) (g : Nat → Nat) (x : Nat) : Prop := ∃ i, i < n ∧ g i = x
def Hp9 (n : Nat) (κ g : Nat → Nat) : Prop := ∀ i, 0 < i → i < n → κ (g ((i - 1) / 2)) ≤ κ (g i)
def Up9 (n : Nat) (κ g : Nat → Nat) (k : Nat) : Prop := k < n ∧ (∀ i, 0 < i → i < n → i ≠ k → κ (g ((i - 1) / 2)) ≤ κ (g i)) ∧ ∀ c, 0 < c → c < n → (c - 1) / 2 = k → 0 < k → κ (g ((k - 1) / 2)) ≤ κ (g c)
def Dn9 (n : Nat) (κ g : Nat → Nat) (k : Nat) : Prop := k < n ∧ (∀ i, 0 < i → i < n → (i - 1) / 2 ≠ k → κ (g ((i - 1) / 2)) ≤ κ (g i)) ∧ ∀ c, 0 < c → c < n → (c - 1) / 2 = k → 0 < k → κ (g ((k - 1) / 2)) ≤ κ (g c)
theorem el9_swp {n : Nat} {g : Nat → Nat} {i j x : Nat} (hi : i < n) (hj : j < n) : el9 n (swp g i j) x ↔ el9 n g x := by
  unfold el9 swp
  constructor
  · rintro ⟨a, ha, e⟩
    by_cases e1 : a = i
    · rw [if_pos e1] at e; exact ⟨j, hj, e⟩
    · rw [if_neg e1] at e
      by_cases e2 : a = j
      · rw [if_pos e2] at e; exact ⟨i, hi, e⟩
      · rw [if_neg e2] at e; exact ⟨a, ha, e⟩
  · rintro ⟨a, ha, e⟩
    by_cases e1 : a = i
    · by_cases e2 : j = i
      · exact ⟨j, hj, by rw [if_pos e2, e2, ← e1]; exact e⟩
      · exact ⟨j, hj, by rw [if_neg e2, if_pos rfl, ← e1]; exact e⟩
    · by_cases e2 : a = j
      · exact ⟨i, hi, by rw [if_pos rfl, ← e2]; exact e⟩
      · exact ⟨a, ha, by rw [if_neg e1, if_neg e2]; exact e⟩
theorem inj9_swp {n : Nat} {g : Nat → Nat} {i j : Nat} (hi : i < n) (hj : j < n) (h : inj9 n g) : inj9 n (swp g i j) := by
  intro a b ha hb e
  unfold swp at e
  have h1 := h a b; have h2 := h a i; have h3 := h a j; have h4 := h b i; have h5 := h b j; have h6 := h i j; have h7 := h j b; have h8 := h i b; have h9 := h i a; have h10 := h j a; have h11 := h j i
  grind
theorem Up9.step {n : Nat} {κ g : Nat → Nat} {k : Nat} (h : Up9 n κ g k) (hk : 0 < k) (hlt : κ (g k) < κ (g ((k - 1) / 2))) : Up9 n κ (swp g k ((k - 1) / 2)) ((k - 1) / 2) := by
  obtain ⟨h1, h2, h3⟩ := h
  have hp : (k - 1) / 2 < k := by omega
  refine ⟨by omega, fun i h0 hi hn => ?_, fun c h0 hc hcp h0p => ?_⟩
  · have a1 := h2 i h0 hi
    have a2 := h3 i h0 hi
    have a3 := h2 ((k - 1) / 2)
    unfold swp
    by_cases e1 : i = k
    · subst e1
      rw [if_neg (by omega), if_pos rfl, if_pos rfl]; omega
    · by_cases e2 : (i - 1) / 2 = k
      · rw [if_pos e2, if_neg e1, if_neg hn]; exact a2 e2 hk
      · by_cases e3 : (i - 1) / 2 = (k - 1) / 2
        · rw [if_neg e2, if_pos e3, if_neg e1, if_neg hn]
          have := a1 e1
          rw [e3] at this
          omega
        · rw [if_neg e2, if_neg e3, if_neg e1, if_neg hn]; exact a1 e1
  · have a1 := h2 c h0 hc
    have a2 := h2 ((k - 1) / 2) h0p (by omega) (by omega)
    unfold swp
    have e4 : ¬ ((k - 1) / 2 - 1) / 2 = k := by omega
    have e5 : ¬ ((k - 1) / 2 - 1) / 2 = (k - 1) / 2 := by omega
    rw [if_neg e4, if_neg e5]
    by_cases e1 : c = k
    · rw [if_pos e1]; exact a2
    · rw [if_neg e1, if_neg (by omega)]
      have := a1 e1
      rw [hcp] at this
      omega
theorem Up9.done {n : Nat} {κ g : Nat → Nat} {k : Nat} (h : Up9 n κ g k) (hd : 0 < k → κ (g ((k - 1) / 2)) ≤ κ (g k)) : Hp9 n κ g := by
  obtain ⟨h1, h2, h3⟩ := h
  intro i h0 hi
  by_cases e : i = k
  · subst e; exact hd h0
  · exact h2 i h0 hi e
theorem Dn9.step {n : Nat} {κ g : Nat → Nat} {k c : Nat} (h : Dn9 n κ g k) (h0 : 0 < c) (hc : c < n) (hp : (c - 1) / 2 = k) (hlt : κ (g c) < κ (g k)) (hm : ∀ b, 0 < b → b < n → (b - 1) / 2 = k → κ (g c) ≤ κ (g b)) : Dn9 n κ (swp g k c) c := by
  obtain ⟨h1, h2, h3⟩ := h
  have hkc : k < c := by omega
  refine ⟨hc, fun i hi0 hi hn => ?_, fun b hb0 hb hbp _ => ?_⟩
  · have a1 := h2 i hi0 hi
    have a2 := h3 i hi0 hi
    have a3 := hm i hi0 hi
    unfold swp
    by_cases e1 : i = k
    · subst e1
      rw [if_neg (by omega), if_neg (by omega), if_pos rfl]
      exact h3 c h0 hc hp hi0
    · by_cases e2 : (i - 1) / 2 = k
      · rw [if_pos e2, if_neg e1]
        by_cases e3 : i = c
        · rw [if_pos e3]; omega
        · rw [if_neg e3]; exact a3 e2
      · by_cases e3 : i = c
        · omega
        · rw [if_neg e2, if_neg hn, if_neg e1, if_neg e3]; exact a1 e2
  · unfold swp
    rw [hp, if_pos rfl, if_neg (by omega), if_neg (by omega)]
    have := h2 b hb0 hb (by omega)
    rw [hbp] at this
    exact this
theorem Dn9.done {n : Nat} {κ g : Nat → Nat} {k : Nat} (h : Dn9 n κ g k) (hd : ∀ c, 0 < c → c < n → (c - 1) / 2 = k → κ (g k) ≤ κ (g c)) : Hp9 n κ g := by
  obtain ⟨h1, h2, h3⟩ := h
  intro i h0 hi
  by_cases e : (i - 1) / 2 = k
  · rw [e]; exact hd i h0 hi e
  · exact h2 i h0 hi e
theorem Hp9.min {n : Nat} {κ g : Nat → Nat} (h : Hp9 n κ g) : ∀ m i, i < m → i < n → κ (g 0) ≤ κ (g i) := by
  intro m
  induction m with
  | zero => exact fun _ q => absurd q (Nat.not_lt_zero _)
  | succ m ih =>
    intro i hm hi
    rcases Nat.eq_zero_or_pos i with e | e
    · subst e; exact Nat.le_refl _
    · exact Nat.le_trans (ih ((i - 1) / 2) (by omega) (by omega)) (h i e hi)
