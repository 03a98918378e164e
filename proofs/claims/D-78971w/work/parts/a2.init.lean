/-! PARK: its constructor -/
def upv (X : Nat → Value) (j : Nat) (v : Value) : Nat → Value := fun k => if k = j then v else X k
theorem mm_upv (h : HP) (a j : Nat) (v : Value) : (h.put a j v).mm a = upv (h.mm a) j v := by
  funext k; simp [mm_put, upv]
/-- labels and tags of a new park at a, its cells from z on -/
def iniL (a z : Nat) : Nat → Nat := fun k => if k = 0 then a else if k = 1 then z else if k = 2 then z + 1 else if k = 3 then z + 2 else if k = 4 then z + 4 else if k = 5 then z + 5 else if k = 6 then z + 6 else if k = 7 then z + 7 else if k < 20 then z + 8 + 5 * (k - 10) else if k < 30 then z + 8 + 5 * (k - 20) + 1 else if k < 40 then z + 8 + 5 * (k - 30) + 2 else z + 8 + 5 * ((k - 40) / 2) + 3 + (k - 40) % 2
def iniG (a z : Nat) : Nat → Nat := fun b => if b = a then 0 else if b < z ∨ z + 48 ≤ b then 100 else if b = z then 1 else if b = z + 1 then 2 else if b = z + 2 then 3 else if b = z + 3 then 62 else if b = z + 4 then 4 else if b = z + 5 then 5 else if b = z + 6 then 6 else if b = z + 7 then 7 else if (b - z - 8) % 5 < 3 then 10 * (1 + (b - z - 8) % 5) + (b - z - 8) / 5 else 40 + 2 * ((b - z - 8) / 5) + ((b - z - 8) % 5 - 3)
theorem ini_f (a z i : Nat) (hi : i < 8) : iniL a z (10 + i) = z + 8 + 5 * i ∧ iniL a z (20 + i) = z + 8 + 5 * i + 1 ∧ iniL a z (30 + i) = z + 8 + 5 * i + 2 := by
  unfold iniL
  refine ⟨?_, ?_, ?_⟩ <;> repeat (first | rw [if_neg (by omega)] | rw [if_pos (by omega)])
  all_goals omega
theorem ini_j (a z j : Nat) (hj : j < 16) : iniL a z (40 + j) = z + 8 + 5 * (j / 2) + 3 + j % 2 := by
  unfold iniL
  repeat (first | rw [if_neg (by omega)] | rw [if_pos (by omega)])
  omega
theorem iniG_f (a z i : Nat) (ha : a < z) (hi : i < 8) : iniG a z (z + 8 + 5 * i) = 10 + i ∧ iniG a z (z + 8 + 5 * i + 1) = 20 + i ∧ iniG a z (z + 8 + 5 * i + 2) = 30 + i := by
  unfold iniG
  refine ⟨?_, ?_, ?_⟩ <;> repeat (first | rw [if_neg (by omega)] | rw [if_pos (by omega)])
  all_goals omega
theorem iniG_j (a z j : Nat) (ha : a < z) (hj : j < 16) : iniG a z (z + 8 + 5 * (j / 2) + 3 + j % 2) = 40 + j := by
  unfold iniG
  repeat (first | rw [if_neg (by omega)] | rw [if_pos (by omega)])
  omega
theorem lab_all {k : Nat} (h : lab k = true) : k < 8 ∨ (10 ≤ k ∧ k < 18) ∨ (20 ≤ k ∧ k < 28) ∨ (30 ≤ k ∧ k < 38) ∨ (40 ≤ k ∧ k < 56) := by
  unfold lab at h
  simp at h
  omega
theorem iniG_L (a z k : Nat) (ha : a < z) (hk : lab k = true) : iniG a z (iniL a z k) = k := by
  rcases lab_all hk with h | h | h | h | h
  · have : k = 0 ∨ k = 1 ∨ k = 2 ∨ k = 3 ∨ k = 4 ∨ k = 5 ∨ k = 6 ∨ k = 7 := by omega
    have na : ∀ j, ¬ z + j = a := fun j => by omega
    have na0 : ¬ z = a := by omega
    rcases this with e | e | e | e | e | e | e | e <;> subst e <;> simp [iniG, iniL, na, na0]
  · obtain ⟨i, rfl⟩ : ∃ i, k = 10 + i := ⟨k - 10, by omega⟩
    rw [(ini_f a z i (by omega)).1, (iniG_f a z i ha (by omega)).1]
  · obtain ⟨i, rfl⟩ : ∃ i, k = 20 + i := ⟨k - 20, by omega⟩
    rw [(ini_f a z i (by omega)).2.1, (iniG_f a z i ha (by omega)).2.1]
  · obtain ⟨i, rfl⟩ : ∃ i, k = 30 + i := ⟨k - 30, by omega⟩
    rw [(ini_f a z i (by omega)).2.2, (iniG_f a z i ha (by omega)).2.2]
  · obtain ⟨i, rfl⟩ : ∃ i, k = 40 + i := ⟨k - 40, by omega⟩
    rw [ini_j a z i (by omega), iniG_j a z i ha (by omega)]
theorem iniL_lt (a z k : Nat) (ha : a < z) (hk : lab k = true) : iniL a z k < z + 48 := by
  rcases lab_all hk with h | h | h | h | h
  · have : k = 0 ∨ k = 1 ∨ k = 2 ∨ k = 3 ∨ k = 4 ∨ k = 5 ∨ k = 6 ∨ k = 7 := by omega
    rcases this with e | e | e | e | e | e | e | e <;> subst e <;> simp [iniL] <;> omega
  · obtain ⟨i, rfl⟩ : ∃ i, k = 10 + i := ⟨k - 10, by omega⟩
    rw [(ini_f a z i (by omega)).1]; omega
  · obtain ⟨i, rfl⟩ : ∃ i, k = 20 + i := ⟨k - 20, by omega⟩
    rw [(ini_f a z i (by omega)).2.1]; omega
  · obtain ⟨i, rfl⟩ : ∃ i, k = 30 + i := ⟨k - 30, by omega⟩
    rw [(ini_f a z i (by omega)).2.2]; omega
  · obtain ⟨i, rfl⟩ : ∃ i, k = 40 + i := ⟨k - 40, by omega⟩
    rw [ini_j a z i (by omega)]; omega
/-- an own cell of the new park: itself, or one of its 48 -/
theorem iniG_own (a z b : Nat) (h : iniG a z b ≠ 100) : b = a ∨ (z ≤ b ∧ b < z + 48) := by
  unfold iniG at h
  by_cases c : b = a
  · exact Or.inl c
  · rw [if_neg c] at h
    by_cases c2 : b < z ∨ z + 48 ≤ b
    · rw [if_pos c2] at h; exact absurd rfl h
    · exact Or.inr (by omega)
theorem P00_0 : P00 0 = 4 ∧ P00 1 = 0 ∧ P00 2 = 2 ∧ P00 3 = 5 ∧ P00 4 = 10 := by
  unfold P00
  refine ⟨?_, ?_, ?_, ?_, ?_⟩ <;> simp [upn]
theorem P00_z (c : Nat) (h : 5 ≤ c) : P00 c = 0 := by
  unfold P00
  rw [upn_n _ _ (by omega), upn_n _ _ (by omega), upn_n _ _ (by omega), upn_n _ _ (by omega)]
/-- what the constructor leaves, by address -/
def Raw (h : HP) (a z : Nat) : Prop := h.sz = z + 48 ∧ (h.kd a = 1 ∧ (h.mm a 0 = .ref z ∧ h.mm a 1 = .ref (z + 1) ∧ h.mm a 2 = .ref (z + 2) ∧ h.mm a 3 = .ref (z + 4) ∧ h.mm a 4 = .ref (z + 5) ∧ h.mm a 5 = .ref (z + 7)) ∧ ∀ k, 6 ≤ k → k ≤ 13 → h.mm a k = .int (nI 0)) ∧ (h.kd z = 105 ∧ h.ln z = 8 ∧ ∀ i, i < 8 → h.mm z i = .ref (z + 8 + 5 * i)) ∧ (h.kd (z + 1) = 106 ∧ h.ln (z + 1) = 16 ∧ ∀ j, j < 16 → h.mm (z + 1) j = .ref (z + 8 + 5 * (j / 2) + 3 + j % 2)) ∧ PqP h (z + 2) (z + 3) 0 11 id id (nI 0) ∧ MapO h (z + 4) none (nI 0) (nI 0) none ∧ (h.kd (z + 5) = 11 ∧ h.mm (z + 5) 0 = .ref (z + 6) ∧ MapO h (z + 6) none (nI 0) (nI 0) none) ∧ (h.kd (z + 7) = 100 ∧ h.ln (z + 7) = 5 ∧ ∀ i, i < 5 → h.mm (z + 7) i = .int (nI (P00 i))) ∧ (∀ i, i < 8 → FtAt h (z + 8 + 5 * i) (z + 8 + 5 * i + 1) (z + 8 + 5 * i + 2) Z0 N1 Z0) ∧ ∀ j, j < 16 → JobAt h (z + 8 + 5 * (j / 2) + 3 + j % 2) (j / 2) (j % 2) (nI 0) (nI 0)
theorem Raw.pk {h : HP} {a z : Nat} (X : Raw h a z) (ha : a < z) : Pk h (iniL a z) (iniG a z) P00 (fun _ => 0) 0 false := by
  obtain ⟨hz, ⟨a1, a2, a3⟩, f, j, q, m, t, s, F, J⟩ := X
  have e0 : iniL a z 0 = a := rfl
  have e1 : iniL a z 1 = z := rfl
  have e2 : iniL a z 2 = z + 1 := rfl
  have e3 : iniL a z 3 = z + 2 := rfl
  have e4 : iniL a z 4 = z + 4 := rfl
  have e5 : iniL a z 5 = z + 5 := rfl
  have e6 : iniL a z 6 = z + 6 := rfl
  have e7 : iniL a z 7 = z + 7 := rfl
  have ez : ∀ i w, ofP P00 i w = 0 := fun i w => P00_z _ (by omega)
  have ejz : ∀ i w, jbP P00 i w = 0 := fun i w => P00_z _ (by omega)
  have hne : ∀ b, iniG a z b ≠ 100 → b < h.sz ∧ h.kd b ≠ 4 ∧ h.kd b ≠ 9 ∧ h.kd b ≠ 15 := fun b hb => by
    rcases iniG_own a z b hb with e | ⟨q1, q2⟩
    · subst e; rw [a1]; exact ⟨by omega, by decide, by decide, by decide⟩
    · refine ⟨by omega, ?_⟩
      by_cases c : b < z + 8
      · have : b = z ∨ b = z + 1 ∨ b = z + 2 ∨ b = z + 3 ∨ b = z + 4 ∨ b = z + 5 ∨ b = z + 6 ∨ b = z + 7 := by omega
        rcases this with e | e | e | e | e | e | e | e <;> subst e
        · rw [f.1]; decide
        · rw [j.1]; decide
        · rw [q.1]; decide
        · rw [q.2.2.2.2.2.2.1.1]; decide
        · rw [m.1]; decide
        · rw [t.1]; decide
        · rw [t.2.2.1]; decide
        · rw [s.1]; decide
      · obtain ⟨i, r, hi, hr, rfl⟩ : ∃ i r, i < 8 ∧ r < 5 ∧ b = z + 8 + 5 * i + r := ⟨(b - z - 8) / 5, (b - z - 8) % 5, by omega, by omega, by omega⟩
        have hr5 : r = 0 ∨ r = 1 ∨ r = 2 ∨ r = 3 ∨ r = 4 := by omega
        have Fi := F i hi
        rcases hr5 with e | e | e | e | e <;> subst e
        · rw [Nat.add_zero, Fi.1]; decide
        · rw [Fi.2.2.2.2.1]; decide
        · rw [Fi.2.2.2.2.2.2.2.1]; decide
        · have Ji := (J (2 * i) (by omega)).1
          rw [show 2 * i / 2 = i from by omega, show 2 * i % 2 = 0 from by omega, Nat.add_zero] at Ji
          rw [Ji]; decide
        · have Ji := (J (2 * i + 1) (by omega)).1
          rw [show (2 * i + 1) / 2 = i from by omega, show (2 * i + 1) % 2 = 1 from by omega] at Ji
          rw [show z + 8 + 5 * i + 4 = z + 8 + 5 * i + 3 + 1 from by omega, Ji]; decide
  refine ⟨⟨fun k hk => ⟨iniG_L a z k ha hk, by rw [hz]; exact iniL_lt a z k ha hk⟩, hne⟩, ?_, ?_, fun i hi => ?_, fun i hi => ?_, ?_, ?_, ?_⟩
  · unfold PkA
    rw [e0, e1, e2, e3, e4, e5, e7]
    refine ⟨a1, a2, ⟨f.1, f.2.1, fun i hi => ?_⟩, ⟨j.1, j.2.1, fun i hi => ?_⟩, s.1, s.2.1⟩
    · rw [(ini_f a z i hi).1]; exact f.2.2 i hi
    · rw [ini_j a z i hi]; exact j.2.2 i hi
  · unfold PkN
    rw [e0, e7]
    exact ⟨s.2.2, (a3 6 (by decide) (by decide)).trans (by rw [P00_z 5 (by decide)]), a3 7 (by decide) (by decide), fun k k1 k2 => (a3 k (by omega) (by omega)).trans (by rw [P00_z k (by omega)]), a3 13 (by decide) (by decide)⟩
  · obtain ⟨g1, g2, g3⟩ := ini_f a z i hi
    rw [g1, g2, g3]
    refine ⟨Z0, (F i hi).congr (fun k hk => ?_) (fun k hk => ?_) (fun _ _ => rfl), fun k hk q => ?_⟩
    · refine ftF_all (F := Z0) ?_ ?_ ?_ ?_ ?_ ?_ ?_ ?_ ?_ ?_ ?_ k hk <;> first | (rw [ez]; rfl) | rfl
    · unfold ftR; rw [ejz, if_neg (by decide)]; rfl
    · rw [ejz] at q; cases q
  · rw [ini_j a z i hi]
    exact ⟨_, _, J i hi⟩
  · have g3 : iniG a z (z + 3) = 62 := by
      unfold iniG
      rw [if_neg (by omega), if_neg (by omega), if_neg (by omega), if_neg (by omega), if_neg (by omega), if_pos rfl]
    exact ⟨z + 3, 0, 11, id, id, nI 0, by rw [e3]; exact q, g3, Or.inl rfl⟩
  · have p6 : P00 6 = 0 := P00_z 6 (by decide)
    refine ⟨fun _ _ _ => False, nI 0, none, by rw [e4, p6]; exact Mp.nil m (Or.inl (iniG_L a z 4 ha rfl)) (fun b hb => (hne b (by omega)).1), fun _ _ _ f => f.elim, fun k hk => by rw [p6] at hk; exact absurd hk (Nat.not_lt_zero _), fun s hs => by cases hs⟩
  · have p7 : P00 7 = 0 := P00_z 7 (by decide)
    refine ⟨fun _ _ => False, nI 0, none, fun _ => 0, fun _ => 0, ⟨by rw [e5]; exact t.1, by rw [e5, e6]; exact t.2.1, fun _ _ _ => False, by rw [e6, p7]; exact Mp.nil t.2.2 (Or.inl (iniG_L a z 6 ha rfl)) (fun b hb => (hne b (by omega)).1), fun q x => ⟨fun f => f.elim, fun ⟨_, f⟩ => f.elim⟩⟩, fun q x => ⟨fun f => f.elim, fun ⟨i, hi, _⟩ => by rw [p7] at hi; exact absurd hi (Nat.not_lt_zero _)⟩, fun i hi => by rw [p7] at hi; exact absurd hi (Nat.not_lt_zero _), fun i j _ hj => by rw [p7] at hj; exact absurd hj (Nat.not_lt_zero _), fun s hs => by cases hs⟩
def Pre (h : HP) (a z : Nat) : Prop := h.sz = z + 8 ∧ (h.kd a = 1 ∧ (h.mm a 0 = .ref z ∧ h.mm a 1 = .ref (z + 1) ∧ h.mm a 2 = .ref (z + 2) ∧ h.mm a 3 = .ref (z + 4) ∧ h.mm a 4 = .ref (z + 5) ∧ h.mm a 5 = .ref (z + 7)) ∧ ∀ k, 6 ≤ k → k ≤ 13 → h.mm a k = .int (nI 0)) ∧ (h.kd z = 105 ∧ h.ln z = 8) ∧ (h.kd (z + 1) = 106 ∧ h.ln (z + 1) = 16) ∧ PqP h (z + 2) (z + 3) 0 11 id id (nI 0) ∧ MapO h (z + 4) none (nI 0) (nI 0) none ∧ (h.kd (z + 5) = 11 ∧ h.mm (z + 5) 0 = .ref (z + 6) ∧ MapO h (z + 6) none (nI 0) (nI 0) none) ∧ (h.kd (z + 7) = 100 ∧ h.ln (z + 7) = 5 ∧ ∀ i, i < 5 → h.mm (z + 7) i = .int (nI (P00 i)))
set_option maxHeartbeats 4000000 in
theorem iniLoop {E : Ev} {h h8 : HP} {a z d k : Nat} (hlt : a < z) (bh : h.sz = z + 0) (Sh : Sm (fun q => q = a) h h8) (PR : Pre h8 a z) (hd : 5 ≤ d) (hk : 110 ≤ k) : Z E mX2_init d (rV fun h' => ∃ L tg, L 0 = a ∧ Pk h' L tg P00 (fun _ => 0) 0 false ∧ Sm (fun q => q = a) h h' ∧ ∀ b, tg b ≠ 100 → b = a ∨ z + 0 ≤ b) (k - 22) h8 85 [.ref a, .int (nI 0)] [] := by
  have hz8 : h8.sz = z + 8 := PR.1
  refine lpH 85 8 (fun i => [.ref a, .int (nI i)]) (fun i h9 => h9.sz = z + 8 + 5 * i ∧ Sm (fun q => q = z ∨ q = z + 1) h8 h9 ∧ (∀ j, j < i → h9.mm z j = .ref (z + 8 + 5 * j)) ∧ (∀ j, j < 2 * i → h9.mm (z + 1) j = .ref (z + 8 + 5 * (j / 2) + 3 + j % 2)) ∧ (∀ j, j < i → FtAt h9 (z + 8 + 5 * j) (z + 8 + 5 * j + 1) (z + 8 + 5 * j + 2) Z0 N1 Z0) ∧ ∀ j, j < 2 * i → JobAt h9 (z + 8 + 5 * (j / 2) + 3 + j % 2) (j / 2) (j % 2) (nI 0) (nI 0)) (fun i => k - 22 - 10 * i) ⟨hz8, Sm.refl _ _, fun j hj => absurd hj (Nat.not_lt_zero _), fun j hj => absurd hj (Nat.not_lt_zero _), fun j hj => absurd hj (Nat.not_lt_zero _), fun j hj => absurd hj (Nat.not_lt_zero _)⟩ (fun g0 hI => ?_) (fun i g0 hi hI ih => ?_)
  · obtain ⟨g1, g2, g3, g4, g5, g6⟩ := hI
    refine z_iload1 85 dX2_init_85 ?_
    refine z_bipush 86 (nI 8) dX2_init_86 kB8 ?_
    refine z_icgeN 88 146 dX2_init_88 (by decide) (by omega) (by omega) (fun c_88 => ?_) (fun c_88 => absurd c_88 (by omega))
    refine z_return 146 rfl dX2_init_146 ?_
    have na : a ≠ z ∧ a ≠ z + 1 := by omega
    have ga := g2.2 a (by omega)
    have RW : Raw g0 a z := by
      refine ⟨by omega, ⟨ga.1.trans PR.2.1.1, by rw [ga.2.2 (by omega)]; exact PR.2.1.2.1, by rw [ga.2.2 (by omega)]; exact PR.2.1.2.2⟩, ⟨(g2.2 z (by omega)).1.trans PR.2.2.1.1, (g2.2 z (by omega)).2.1.trans PR.2.2.1.2, g3⟩, ⟨(g2.2 (z + 1) (by omega)).1.trans PR.2.2.2.1.1, (g2.2 (z + 1) (by omega)).2.1.trans PR.2.2.2.1.2, g4⟩, PR.2.2.2.2.1.keep g2 (by omega) (by omega), PR.2.2.2.2.2.1.keep g2 ⟨by omega, by omega⟩, ⟨(g2.2 (z + 5) (by omega)).1.trans PR.2.2.2.2.2.2.1.1, by rw [(g2.2 (z + 5) (by omega)).2.2 (by omega)]; exact PR.2.2.2.2.2.2.1.2.1, PR.2.2.2.2.2.2.1.2.2.keep g2 ⟨by omega, by omega⟩⟩, ⟨(g2.2 (z + 7) (by omega)).1.trans PR.2.2.2.2.2.2.2.1, (g2.2 (z + 7) (by omega)).2.1.trans PR.2.2.2.2.2.2.2.2.1, by rw [(g2.2 (z + 7) (by omega)).2.2 (by omega)]; exact PR.2.2.2.2.2.2.2.2.2⟩, g5, g6⟩
    refine ⟨rfl, iniL a z, iniG a z, rfl, RW.pk (by omega), ?_, fun b hb => ?_⟩
    · exact Sh.tr g2 (fun q hq e => by omega)
    · rcases iniG_own a z b hb with e | e
      · exact Or.inl e
      · exact Or.inr (by omega)
  · obtain ⟨g1, g2, g3, g4, g5, g6⟩ := hI
    have na : a ≠ z ∧ a ≠ z + 1 := by omega
    have ga := g2.2 a (by omega)
    have ka0 : g0.kd a = 1 := ga.1.trans PR.2.1.1
    have a00 : g0.mm a 0 = .ref z := by rw [ga.2.2 (by omega)]; exact PR.2.1.2.1.1
    have a01 : g0.mm a 1 = .ref (z + 1) := by rw [ga.2.2 (by omega)]; exact PR.2.1.2.1.2.1
    have kz : g0.kd z = 105 := (g2.2 z (by omega)).1.trans PR.2.2.1.1
    have lz : g0.ln z = 8 := (g2.2 z (by omega)).2.1.trans PR.2.2.1.2
    have kz1 : g0.kd (z + 1) = 106 := (g2.2 (z + 1) (by omega)).1.trans PR.2.2.2.1.1
    have lz1 : g0.ln (z + 1) = 16 := (g2.2 (z + 1) (by omega)).2.1.trans PR.2.2.2.1.2
    refine z_iload1 85 dX2_init_85 ?_
    refine z_bipush 86 (nI 8) dX2_init_86 kB8 ?_
    refine z_icgeN 88 146 dX2_init_88 (by decide) (by omega) (by omega) (fun c_88 => absurd c_88 (by omega)) (fun c_88 => ?_)
    refine z_aload0 91 dX2_init_91 ?_
    refine z_get 92 gX2_11 dX2_init_92 ka0 a00 ?_
    refine z_iload1 95 dX2_init_95 ?_
    refine z_new (k' := k - 22 - 10 * i - 4) 96 nX2_9 dX2_init_96 (by omega) (fun p1 e1 => ?_)
    rw [g1]
    have m1 : Sm (fun _ => False) g0 p1 := by rw [e1]; exact Sm.mk'
    have z1 : p1.sz = z + 8 + 5 * i + 1 := by rw [e1]; show g0.sz + 1 = _; omega
    refine z_dup 99 dX2_init_99 (rfl) ?_
    refine z_IN0 (k' := k - 22 - 10 * i - 6) 100 iX2_48 dX2_init_100 (c_ftNew (f := z + 8 + 5 * i) (d - 1) 2 (by omega) (by omega) (by rw [e1, kd_mk, if_pos (by omega)]) (by omega) (fun j hj => by rw [e1]; simp only [mm_mk]; rw [if_pos (by omega)]; rcases (by omega : j = 0 ∨ j = 1 ∨ j = 2 ∨ j = 3 ∨ j = 4 ∨ j = 5 ∨ j = 6 ∨ j = 7 ∨ j = 8 ∨ j = 9 ∨ j = 10) with rfl | rfl | rfl | rfl | rfl | rfl | rfl | rfl | rfl | rfl | rfl <;> rfl)) (by omega) (by omega) (Nat.le_of_ble_eq_true rfl) (aft_V fun p2 hq => ?_)
    obtain ⟨F2, m2, z2⟩ := hq
    rw [z1] at F2
    have M2 : Sm (fun _ => False) g0 p2 := m1.tr m2 (fun q hq e => by omega)
    refine z_aast (n := 8) 103 (i) e_5_2 dX2_init_103 ((M2.2 z (by omega)).1.trans kz) F2.1 ((M2.2 z (by omega)).2.1.trans lz) rfl hi (by decide) ?_
    obtain ⟨p3, e3⟩ : ∃ h9, h9 = p2.put z i (.ref (z + 8 + 5 * i)) := ⟨_, rfl⟩
    rw [← e3]
    have m3 : Sm (fun q => q = z ∨ q = z + 1) p2 p3 := by rw [e3]; exact Sm.put (Or.inl rfl)
    have M3 : Sm (fun q => q = z ∨ q = z + 1) g0 p3 := (M2.mono (fun _ _ f => f.elim)).trans m3
    have z3 : p3.sz = z + 8 + 5 * i + 3 := by rw [e3]; show p2.sz = _; omega
    have q3 := M3.2 a (by omega)
    refine z_aload0 104 dX2_init_104 ?_
    refine z_get 105 gX2_19 dX2_init_105 (q3.1.trans ka0) (show p3.mm a 1 = .ref (z + 1) from by rw [q3.2.2 (by omega)]; exact a01) ?_
    refine z_iconst 108 (nI 2) dX2_init_108 kI2 ?_
    refine z_iload1 109 dX2_init_109 ?_
    refine z_imulN 110 dX2_init_110 ?_
    refine z_new (k' := k - 22 - 10 * i - 8) 111 nX2_17 dX2_init_111 (by omega) (fun p4 e4 => ?_)
    rw [z3]
    have m4 : Sm (fun _ => False) p3 p4 := by rw [e4]; exact Sm.mk'
    have z4 : p4.sz = z + 8 + 5 * i + 4 := by rw [e4]; show p3.sz + 1 = _; omega
    refine z_dup 114 dX2_init_114 (rfl) ?_
    refine z_iload1 115 dX2_init_115 ?_
    refine z_iconst 116 (nI 0) dX2_init_116 kI0 ?_
    refine z_I2 (k' := k - 22 - 10 * i - 8) 117 iX2_49 dX2_init_117 (c_jobNew (j := z + 8 + 5 * i + 3) (r := nI 0) (y := nI 0) (d - 1) 0 (by omega) (by rw [e4, kd_mk, if_pos (by omega)]) (by rw [e4]; simp only [mm_mk]; rw [if_pos (by omega)]; rfl) (by rw [e4]; simp only [mm_mk]; rw [if_pos (by omega)]; rfl)) (by omega) (by omega) (Nat.le_of_ble_eq_true rfl) (aft_V fun p5 hq => ?_)
    obtain ⟨J5, m5, z5⟩ := hq
    have M5 : Sm (fun q => q = z ∨ q = z + 1) g0 p5 := (M3.tr m4 (fun _ _ f => f.elim)).tr m5 (fun q hq e => by omega)
    refine z_aast (n := 16) 120 (2 * i) e_6_3 dX2_init_120 ((M5.2 (z + 1) (by omega)).1.trans kz1) J5.1 ((M5.2 (z + 1) (by omega)).2.1.trans lz1) rfl (by omega) (by decide) ?_
    obtain ⟨p6, e6⟩ : ∃ h9, h9 = p5.put (z + 1) (2 * i) (.ref (z + 8 + 5 * i + 3)) := ⟨_, rfl⟩
    rw [← e6]
    have m6 : Sm (fun q => q = z ∨ q = z + 1) p5 p6 := by rw [e6]; exact Sm.put (Or.inr rfl)
    have M6 := M5.trans m6
    have z6 : p6.sz = z + 8 + 5 * i + 4 := by rw [e6]; show p5.sz = _; omega
    have q6 := M6.2 a (by omega)
    refine z_aload0 121 dX2_init_121 ?_
    refine z_get 122 gX2_19 dX2_init_122 (q6.1.trans ka0) (show p6.mm a 1 = .ref (z + 1) from by rw [q6.2.2 (by omega)]; exact a01) ?_
    refine z_iconst 125 (nI 2) dX2_init_125 kI2 ?_
    refine z_iload1 126 dX2_init_126 ?_
    refine z_imulN 127 dX2_init_127 ?_
    refine z_iconst 128 (nI 1) dX2_init_128 kI1 ?_
    refine z_iaddN 129 dX2_init_129 ?_
    refine z_new (k' := k - 22 - 10 * i - 10) 130 nX2_17 dX2_init_130 (by omega) (fun p7 e7 => ?_)
    rw [z6]
    have m7 : Sm (fun _ => False) p6 p7 := by rw [e7]; exact Sm.mk'
    have z7 : p7.sz = z + 8 + 5 * i + 5 := by rw [e7]; show p6.sz + 1 = _; omega
    refine z_dup 133 dX2_init_133 (rfl) ?_
    refine z_iload1 134 dX2_init_134 ?_
    refine z_iconst 135 (nI 1) dX2_init_135 kI1 ?_
    refine z_I2 (k' := k - 22 - 10 * (i + 1)) 136 iX2_49 dX2_init_136 (c_jobNew (j := z + 8 + 5 * i + 4) (r := nI 0) (y := nI 0) (d - 1) 0 (by omega) (by rw [e7, kd_mk, if_pos (by omega)]) (by rw [e7]; simp only [mm_mk]; rw [if_pos (by omega)]; rfl) (by rw [e7]; simp only [mm_mk]; rw [if_pos (by omega)]; rfl)) (by omega) (by omega) (Nat.le_of_ble_eq_true rfl) (aft_V fun p8 hq => ?_)
    obtain ⟨J8, m8, z8⟩ := hq
    have M8 : Sm (fun q => q = z ∨ q = z + 1) g0 p8 := (M6.tr m7 (fun _ _ f => f.elim)).tr m8 (fun q hq e => by omega)
    refine z_aast (n := 16) 139 (2 * i + 1) e_6_3 dX2_init_139 ((M8.2 (z + 1) (by omega)).1.trans kz1) J8.1 ((M8.2 (z + 1) (by omega)).2.1.trans lz1) rfl (by omega) (by decide) ?_
    obtain ⟨p9, e9⟩ : ∃ h9, h9 = p8.put (z + 1) (2 * i + 1) (.ref (z + 8 + 5 * i + 4)) := ⟨_, rfl⟩
    rw [← e9]
    have m9 : Sm (fun q => q = z ∨ q = z + 1) p8 p9 := by rw [e9]; exact Sm.put (Or.inr rfl)
    have M9 := M8.trans m9
    have z9 : p9.sz = z + 8 + 5 * (i + 1) := by rw [e9]; show p8.sz = _; omega
    refine z_iinc1 140 ((nI (i + 1))) dX2_init_140 (nI_add _ _) rfl ?_
    refine z_goto 143 85 dX2_init_143 (by decide) ?_
    have n9 : Sm (fun q => q = z ∨ q = z + 1) p5 p9 := ((m6.tr m7 (fun _ _ f => f.elim)).tr m8 (fun q hq e => by omega)).trans m9
    have n2 : Sm (fun q => q = z ∨ q = z + 1) p2 p9 := ((m3.tr m4 (fun _ _ f => f.elim)).tr m5 (fun q hq e => by omega)).trans n9
    refine ih p9 ⟨z9, g2.trans M9, fun j hj => ?_, fun j hj => ?_, fun j hj => ?_, fun j hj => ?_⟩
    · have t1 : p9.mm z = p3.mm z := by
        rw [e9, show (p8.put (z + 1) (2 * i + 1) (.ref (z + 8 + 5 * i + 4))).mm z = p8.mm z from by funext q; rw [mm_nea _ _ _ _ _ (by omega)]]
        rw [(m8.2 z (by omega)).2.2 (by omega), (m7.2 z (by omega)).2.2 (fun f => f), e6, show (p5.put (z + 1) (2 * i) (.ref (z + 8 + 5 * i + 3))).mm z = p5.mm z from by funext q; rw [mm_nea _ _ _ _ _ (by omega)]]
        rw [(m5.2 z (by omega)).2.2 (by omega), (m4.2 z (by omega)).2.2 (fun f => f)]
      rw [t1, e3]
      by_cases e : j = i
      · subst e; rw [mm_self]
      · rw [mm_nek _ _ _ _ _ e, (M2.2 z (by omega)).2.2 (fun f => f)]; exact g3 j (by omega)
    · have t1 : p8.mm (z + 1) = p6.mm (z + 1) := by rw [(m8.2 (z + 1) (by omega)).2.2 (by omega), (m7.2 (z + 1) (by omega)).2.2 (fun f => f)]
      have t2 : p5.mm (z + 1) = g0.mm (z + 1) := by
        rw [(m5.2 (z + 1) (by omega)).2.2 (by omega), (m4.2 (z + 1) (by omega)).2.2 (fun f => f), e3, show (p2.put z i (.ref (z + 8 + 5 * i))).mm (z + 1) = p2.mm (z + 1) from by funext q; rw [mm_nea _ _ _ _ _ (by omega)], (M2.2 (z + 1) (by omega)).2.2 (fun f => f)]
      rw [e9]
      by_cases e : j = 2 * i + 1
      · subst e; rw [mm_self, show (2 * i + 1) / 2 = i from by omega, show (2 * i + 1) % 2 = 1 from by omega]
      · rw [mm_nek _ _ _ _ _ e, t1, e6]
        by_cases e2 : j = 2 * i
        · subst e2; rw [mm_self, show 2 * i / 2 = i from by omega, show 2 * i % 2 = 0 from by omega]
        · rw [mm_nek _ _ _ _ _ e2, t2]; exact g4 j (by omega)
    · by_cases e : j = i
      · subst e; exact F2.keep n2 ⟨by omega, by omega⟩ ⟨by omega, by omega⟩ ⟨by omega, by omega⟩
      · exact (g5 j (by omega)).keep M9 ⟨by omega, by omega⟩ ⟨by omega, by omega⟩ ⟨by omega, by omega⟩
    · by_cases e : j = 2 * i + 1
      · subst e
        rw [show (2 * i + 1) / 2 = i from by omega, show (2 * i + 1) % 2 = 1 from by omega]
        have m := m9.2 (z + 8 + 5 * i + 4) (by omega)
        unfold JobAt at J8 ⊢
        rw [m.1, m.2.2 (by omega)]; exact J8
      · by_cases e2 : j = 2 * i
        · subst e2
          rw [show 2 * i / 2 = i from by omega, show 2 * i % 2 = 0 from by omega]
          have m := n9.2 (z + 8 + 5 * i + 3) (by omega)
          unfold JobAt at J5 ⊢
          rw [Nat.add_zero, m.1, m.2.2 (by omega)]; exact J5
        · have J := g6 j (by omega)
          have m := M9.2 (z + 8 + 5 * (j / 2) + 3 + j % 2) (by omega)
          unfold JobAt at J ⊢
          rw [m.1, m.2.2 (by omega)]; exact J
set_option maxHeartbeats 4000000 in
theorem c_pkNew {E : Ev} {h : HP} {a : Nat} (hk1 : h.kd a = 1) (hlt : a < h.sz) (hm0 : ∀ q, 6 ≤ q → q ≤ 13 → h.mm a q = .int (nI 0)) (d k : Nat) (hd : 5 ≤ d) (hk : 110 ≤ k) : Call E yX2_init d k [.ref a] h (rV fun h' => ∃ L tg, L 0 = a ∧ Pk h' L tg P00 (fun _ => 0) 0 false ∧ Sm (fun q => q = a) h h' ∧ ∀ b, tg b ≠ 100 → b = a ∨ h.sz ≤ b) := by
  obtain ⟨z, hz⟩ : ∃ z, z = h.sz := ⟨_, rfl⟩
  have ZC0 : h.sz = z + 0 := hz.symm
  have hlt : a < z := by omega
  have KA0 : h.kd a = 1 := hk1
  have FA0 : h.mm a = (h.mm a) := rfl
  clear hz
  refine Call.of [.ref a, dum] q153 (by decide) pn_X2 (Nat.le_of_ble_eq_true rfl) rfl ?_
  have Sh0 : Sm (fun q => q = a) h h := Sm.refl _ _
  have bh := ZC0
  refine z_aload0 0 dX2_init_0 ?_
  refine z_objInit 1 q154 q147 q148 dX2_init_1 (by omega) (Nat.le_of_ble_eq_true rfl) ?_
  refine z_aload0 4 dX2_init_4 ?_
  refine z_bipush 5 (nI 8) dX2_init_5 kB8 ?_
  refine z_anew (X := "FountainPark$Fountain") (i := 5) (n := 8) (k' := k - 3) 7 q156 q155 (by decide) (by decide) rfl dX2_init_7 rfl (by decide) (by omega) (fun h_1 e_h_1 => ?_)
  have m : Sm (fun q => q = a) h h_1 := by rw [e_h_1]; exact Sm.mk'
  have k_h_1 : h_1.kd (z + 0) = 105 := by rw [e_h_1, kd_mk, if_pos (by omega)]
  have l_h_1 : h_1.ln (z + 0) = 8 := by rw [e_h_1, ln_mk, if_pos (by omega)]
  rw [show h.sz = z + 0 from ZC0]
  have KA1 : h_1.kd a = 1 := (m.2 a (by omega)).1.trans KA0
  have Sh1 := Sh0.tr m (fun q hq e => by first | exact e | omega)
  have ZC1 : h_1.sz = z + 1 := by rw [e_h_1]; show h.sz + 1 = _; omega
  have FA1 : h_1.mm a = (h.mm a) := by rw [← FA0, e_h_1]; funext j; rw [mm_mk, if_neg (by omega)]
  clear KA0 ZC0 FA0 Sh0 m
  have XF := And.intro k_h_1 l_h_1
  clear e_h_1 k_h_1 l_h_1
  have Sf1 : Sm (fun q => q = a) h_1 h_1 := Sm.refl _ _
  have bf := ZC1
  refine z_put 10 pX2_11 (fun _ => rfl) dX2_init_10 KA1 (rfl) (rfl) ?_
  obtain ⟨h_2, e_h_2⟩ : ∃ h9, h9 = h_1.put a 0 (.ref (z + 0)) := ⟨_, rfl⟩
  rw [← e_h_2]
  have m : Sm (fun q => q = a) h_1 h_2 := by rw [e_h_2]; exact Sm.put rfl
  have KA2 : h_2.kd a = 1 := (m.2 a (by omega)).1.trans KA1
  have Sh2 := Sh1.tr m (fun q hq e => by first | exact e | omega)
  have Sf2 := Sf1.tr m (fun q hq e => by first | exact e | omega)
  have ZC2 : h_2.sz = z + 1 := by rw [e_h_2]; exact ZC1
  have FA2 : h_2.mm a = (upv (h.mm a) 0 (.ref (z + 0))) := by rw [e_h_2, mm_upv, FA1]
  clear KA1 ZC1 FA1 Sh1 Sf1 m e_h_2
  refine z_aload0 13 dX2_init_13 ?_
  refine z_bipush 14 (nI 16) dX2_init_14 kB16 ?_
  refine z_anew (X := "FountainPark$Job") (i := 6) (n := 16) (k' := k - 8) 16 q158 q157 (by decide) (by decide) rfl dX2_init_16 rfl (by decide) (by omega) (fun h_3 e_h_3 => ?_)
  have m : Sm (fun q => q = a) h_2 h_3 := by rw [e_h_3]; exact Sm.mk'
  have k_h_3 : h_3.kd (z + 1) = 106 := by rw [e_h_3, kd_mk, if_pos (by omega)]
  have l_h_3 : h_3.ln (z + 1) = 16 := by rw [e_h_3, ln_mk, if_pos (by omega)]
  rw [show h_2.sz = z + 1 from ZC2]
  have KA3 : h_3.kd a = 1 := (m.2 a (by omega)).1.trans KA2
  have Sh3 := Sh2.tr m (fun q hq e => by first | exact e | omega)
  have Sf3 := Sf2.tr m (fun q hq e => by first | exact e | omega)
  have ZC3 : h_3.sz = z + 2 := by rw [e_h_3]; show h_2.sz + 1 = _; omega
  have FA3 : h_3.mm a = (upv (h.mm a) 0 (.ref (z + 0))) := by rw [← FA2, e_h_3]; funext j; rw [mm_mk, if_neg (by omega)]
  clear KA2 ZC2 FA2 Sh2 Sf2 m
  have XJ := And.intro k_h_3 l_h_3
  clear e_h_3 k_h_3 l_h_3
  have Sj3 : Sm (fun q => q = a) h_3 h_3 := Sm.refl _ _
  have bj := ZC3
  refine z_put 19 pX2_19 (fun _ => rfl) dX2_init_19 KA3 (rfl) (rfl) ?_
  obtain ⟨h_4, e_h_4⟩ : ∃ h9, h9 = h_3.put a 1 (.ref (z + 1)) := ⟨_, rfl⟩
  rw [← e_h_4]
  have m : Sm (fun q => q = a) h_3 h_4 := by rw [e_h_4]; exact Sm.put rfl
  have KA4 : h_4.kd a = 1 := (m.2 a (by omega)).1.trans KA3
  have Sh4 := Sh3.tr m (fun q hq e => by first | exact e | omega)
  have Sf4 := Sf3.tr m (fun q hq e => by first | exact e | omega)
  have Sj4 := Sj3.tr m (fun q hq e => by first | exact e | omega)
  have ZC4 : h_4.sz = z + 2 := by rw [e_h_4]; exact ZC3
  have FA4 : h_4.mm a = (upv (upv (h.mm a) 0 (.ref (z + 0))) 1 (.ref (z + 1))) := by rw [e_h_4, mm_upv, FA3]
  clear KA3 ZC3 FA3 Sh3 Sf3 Sj3 m e_h_4
  refine z_aload0 22 dX2_init_22 ?_
  refine z_new (k' := k - 10) 23 nX2_23 dX2_init_23 (by omega) (fun h_5 e_h_5 => ?_)
  have m : Sm (fun q => q = a) h_4 h_5 := by rw [e_h_5]; exact Sm.mk'
  have k_h_5 : h_5.kd (z + 2) = 12 := by rw [e_h_5, kd_mk, if_pos (by omega)]
  rw [show h_4.sz = z + 2 from ZC4]
  have KA5 : h_5.kd a = 1 := (m.2 a (by omega)).1.trans KA4
  have Sh5 := Sh4.tr m (fun q hq e => by first | exact e | omega)
  have Sf5 := Sf4.tr m (fun q hq e => by first | exact e | omega)
  have Sj5 := Sj4.tr m (fun q hq e => by first | exact e | omega)
  have ZC5 : h_5.sz = z + 3 := by rw [e_h_5]; show h_4.sz + 1 = _; omega
  have FA5 : h_5.mm a = (upv (upv (h.mm a) 0 (.ref (z + 0))) 1 (.ref (z + 1))) := by rw [← FA4, e_h_5]; funext j; rw [mm_mk, if_neg (by omega)]
  clear KA4 ZC4 FA4 Sh4 Sf4 Sj4 m
  refine z_dup 26 dX2_init_26 (rfl) ?_
  have zo : h_4.sz = z + 2 := by have e := ZC5; rw [e_h_5, sz_mk] at e; omega
  refine z_I0 (k' := k - 13) 27 iX2_25 dX2_init_27 (c_pqNew (κ := id) (p := z + 2) (d - 1) 3 (by omega) (by omega) k_h_5 (by omega) (by rw [e_h_5]; simp only [mm_mk]; rw [if_pos (by omega)]; rfl) (by rw [e_h_5]; simp only [mm_mk]; rw [if_pos (by omega)]; rfl)) (by omega) (by omega) (Nat.le_of_ble_eq_true rfl) (aft_V fun h_6 hq => ?_)
  obtain ⟨XQ, m, z0⟩ := hq
  rw [show h_5.sz = z + 3 from by omega] at XQ
  have KA6 : h_6.kd a = 1 := (m.2 a (by omega)).1.trans KA5
  have Sh6 := Sh5.tr m (fun q hq e => by first | exact e | omega)
  have Sf6 := Sf5.tr m (fun q hq e => by first | exact e | omega)
  have Sj6 := Sj5.tr m (fun q hq e => by first | exact e | omega)
  have ZC6 : h_6.sz = z + 4 := by omega
  have FA6 : h_6.mm a = (upv (upv (h.mm a) 0 (.ref (z + 0))) 1 (.ref (z + 1))) := by rw [← FA5]; exact (m.2 a (by omega)).2.2 (by omega)
  clear KA5 ZC5 FA5 Sh5 Sf5 Sj5 m z0 zo e_h_5 k_h_5
  have Sq6 : Sm (fun q => q = a) h_6 h_6 := Sm.refl _ _
  have bq := ZC6
  refine z_put 30 pX2_26 (fun _ => rfl) dX2_init_30 KA6 (rfl) (rfl) ?_
  obtain ⟨h_7, e_h_7⟩ : ∃ h9, h9 = h_6.put a 2 (.ref (z + 2)) := ⟨_, rfl⟩
  rw [← e_h_7]
  have m : Sm (fun q => q = a) h_6 h_7 := by rw [e_h_7]; exact Sm.put rfl
  have KA7 : h_7.kd a = 1 := (m.2 a (by omega)).1.trans KA6
  have Sh7 := Sh6.tr m (fun q hq e => by first | exact e | omega)
  have Sf7 := Sf6.tr m (fun q hq e => by first | exact e | omega)
  have Sj7 := Sj6.tr m (fun q hq e => by first | exact e | omega)
  have Sq7 := Sq6.tr m (fun q hq e => by first | exact e | omega)
  have ZC7 : h_7.sz = z + 4 := by rw [e_h_7]; exact ZC6
  have FA7 : h_7.mm a = (upv (upv (upv (h.mm a) 0 (.ref (z + 0))) 1 (.ref (z + 1))) 2 (.ref (z + 2))) := by rw [e_h_7, mm_upv, FA6]
  clear KA6 ZC6 FA6 Sh6 Sf6 Sj6 Sq6 m e_h_7
  refine z_aload0 33 dX2_init_33 ?_
  refine z_new (k' := k - 16) 34 nX2_30 dX2_init_34 (by omega) (fun h_8 e_h_8 => ?_)
  have m : Sm (fun q => q = a) h_7 h_8 := by rw [e_h_8]; exact Sm.mk'
  have k_h_8 : h_8.kd (z + 4) = 7 := by rw [e_h_8, kd_mk, if_pos (by omega)]
  rw [show h_7.sz = z + 4 from ZC7]
  have KA8 : h_8.kd a = 1 := (m.2 a (by omega)).1.trans KA7
  have Sh8 := Sh7.tr m (fun q hq e => by first | exact e | omega)
  have Sf8 := Sf7.tr m (fun q hq e => by first | exact e | omega)
  have Sj8 := Sj7.tr m (fun q hq e => by first | exact e | omega)
  have Sq8 := Sq7.tr m (fun q hq e => by first | exact e | omega)
  have ZC8 : h_8.sz = z + 5 := by rw [e_h_8]; show h_7.sz + 1 = _; omega
  have FA8 : h_8.mm a = (upv (upv (upv (h.mm a) 0 (.ref (z + 0))) 1 (.ref (z + 1))) 2 (.ref (z + 2))) := by rw [← FA7, e_h_8]; funext j; rw [mm_mk, if_neg (by omega)]
  clear KA7 ZC7 FA7 Sh7 Sf7 Sj7 Sq7 m
  refine z_dup 37 dX2_init_37 (rfl) ?_
  have zo : h_7.sz = z + 4 := by have e := ZC8; rw [e_h_8, sz_mk] at e; omega
  refine z_I0 (k' := k - 16) 38 iX2_32 dX2_init_38 (c_tmNew (t := z + 4) (d - 1) 0 (by omega) k_h_8 (by rw [e_h_8]; simp only [mm_mk]; rw [if_pos (by omega)]; rfl) (by rw [e_h_8]; simp only [mm_mk]; rw [if_pos (by omega)]; rfl)) (by omega) (by omega) (Nat.le_of_ble_eq_true rfl) (aft_V fun h_9 hq => ?_)
  obtain ⟨XM, m, z0⟩ := hq
  have KA9 : h_9.kd a = 1 := (m.2 a (by omega)).1.trans KA8
  have Sh9 := Sh8.tr m (fun q hq e => by first | exact e | omega)
  have Sf9 := Sf8.tr m (fun q hq e => by first | exact e | omega)
  have Sj9 := Sj8.tr m (fun q hq e => by first | exact e | omega)
  have Sq9 := Sq8.tr m (fun q hq e => by first | exact e | omega)
  have ZC9 : h_9.sz = z + 5 := by omega
  have FA9 : h_9.mm a = (upv (upv (upv (h.mm a) 0 (.ref (z + 0))) 1 (.ref (z + 1))) 2 (.ref (z + 2))) := by rw [← FA8]; exact (m.2 a (by omega)).2.2 (by omega)
  clear KA8 ZC8 FA8 Sh8 Sf8 Sj8 Sq8 m z0 zo e_h_8 k_h_8
  have Sm9 : Sm (fun q => q = a) h_9 h_9 := Sm.refl _ _
  have bm := ZC9
  refine z_put 41 pX2_33 (fun _ => rfl) dX2_init_41 KA9 (rfl) (rfl) ?_
  obtain ⟨h_10, e_h_10⟩ : ∃ h9, h9 = h_9.put a 3 (.ref (z + 4)) := ⟨_, rfl⟩
  rw [← e_h_10]
  have m : Sm (fun q => q = a) h_9 h_10 := by rw [e_h_10]; exact Sm.put rfl
  have KA10 : h_10.kd a = 1 := (m.2 a (by omega)).1.trans KA9
  have Sh10 := Sh9.tr m (fun q hq e => by first | exact e | omega)
  have Sf10 := Sf9.tr m (fun q hq e => by first | exact e | omega)
  have Sj10 := Sj9.tr m (fun q hq e => by first | exact e | omega)
  have Sq10 := Sq9.tr m (fun q hq e => by first | exact e | omega)
  have Sm10 := Sm9.tr m (fun q hq e => by first | exact e | omega)
  have ZC10 : h_10.sz = z + 5 := by rw [e_h_10]; exact ZC9
  have FA10 : h_10.mm a = (upv (upv (upv (upv (h.mm a) 0 (.ref (z + 0))) 1 (.ref (z + 1))) 2 (.ref (z + 2))) 3 (.ref (z + 4))) := by rw [e_h_10, mm_upv, FA9]
  clear KA9 ZC9 FA9 Sh9 Sf9 Sj9 Sq9 Sm9 m e_h_10
  refine z_aload0 44 dX2_init_44 ?_
  refine z_new (k' := k - 17) 45 nX2_37 dX2_init_45 (by omega) (fun h_11 e_h_11 => ?_)
  have m : Sm (fun q => q = a) h_10 h_11 := by rw [e_h_11]; exact Sm.mk'
  have k_h_11 : h_11.kd (z + 5) = 11 := by rw [e_h_11, kd_mk, if_pos (by omega)]
  rw [show h_10.sz = z + 5 from ZC10]
  have KA11 : h_11.kd a = 1 := (m.2 a (by omega)).1.trans KA10
  have Sh11 := Sh10.tr m (fun q hq e => by first | exact e | omega)
  have Sf11 := Sf10.tr m (fun q hq e => by first | exact e | omega)
  have Sj11 := Sj10.tr m (fun q hq e => by first | exact e | omega)
  have Sq11 := Sq10.tr m (fun q hq e => by first | exact e | omega)
  have Sm11 := Sm10.tr m (fun q hq e => by first | exact e | omega)
  have ZC11 : h_11.sz = z + 6 := by rw [e_h_11]; show h_10.sz + 1 = _; omega
  have FA11 : h_11.mm a = (upv (upv (upv (upv (h.mm a) 0 (.ref (z + 0))) 1 (.ref (z + 1))) 2 (.ref (z + 2))) 3 (.ref (z + 4))) := by rw [← FA10, e_h_11]; funext j; rw [mm_mk, if_neg (by omega)]
  clear KA10 ZC10 FA10 Sh10 Sf10 Sj10 Sq10 Sm10 m
  refine z_dup 48 dX2_init_48 (rfl) ?_
  have zo : h_10.sz = z + 5 := by have e := ZC11; rw [e_h_11, sz_mk] at e; omega
  refine z_I0 (k' := k - 20) 49 iX2_39 dX2_init_49 (c_tsNew (s := z + 5) (d - 1) 3 (by omega) (by omega) k_h_11 (by omega)) (by omega) (by omega) (Nat.le_of_ble_eq_true rfl) (aft_V fun h_12 hq => ?_)
  obtain ⟨XT1, XT2, XT3, m, z0⟩ := hq
  rw [show h_11.sz = z + 6 from by omega] at XT2 XT3
  have KA12 : h_12.kd a = 1 := (m.2 a (by omega)).1.trans KA11
  have Sh12 := Sh11.tr m (fun q hq e => by first | exact e | omega)
  have Sf12 := Sf11.tr m (fun q hq e => by first | exact e | omega)
  have Sj12 := Sj11.tr m (fun q hq e => by first | exact e | omega)
  have Sq12 := Sq11.tr m (fun q hq e => by first | exact e | omega)
  have Sm12 := Sm11.tr m (fun q hq e => by first | exact e | omega)
  have ZC12 : h_12.sz = z + 7 := by omega
  have FA12 : h_12.mm a = (upv (upv (upv (upv (h.mm a) 0 (.ref (z + 0))) 1 (.ref (z + 1))) 2 (.ref (z + 2))) 3 (.ref (z + 4))) := by rw [← FA11]; exact (m.2 a (by omega)).2.2 (by omega)
  clear KA11 ZC11 FA11 Sh11 Sf11 Sj11 Sq11 Sm11 m z0 zo e_h_11 k_h_11
  have St12 : Sm (fun q => q = a) h_12 h_12 := Sm.refl _ _
  have bt := ZC12
  refine z_put 52 pX2_40 (fun _ => rfl) dX2_init_52 KA12 (rfl) (rfl) ?_
  obtain ⟨h_13, e_h_13⟩ : ∃ h9, h9 = h_12.put a 4 (.ref (z + 5)) := ⟨_, rfl⟩
  rw [← e_h_13]
  have m : Sm (fun q => q = a) h_12 h_13 := by rw [e_h_13]; exact Sm.put rfl
  have KA13 : h_13.kd a = 1 := (m.2 a (by omega)).1.trans KA12
  have Sh13 := Sh12.tr m (fun q hq e => by first | exact e | omega)
  have Sf13 := Sf12.tr m (fun q hq e => by first | exact e | omega)
  have Sj13 := Sj12.tr m (fun q hq e => by first | exact e | omega)
  have Sq13 := Sq12.tr m (fun q hq e => by first | exact e | omega)
  have Sm13 := Sm12.tr m (fun q hq e => by first | exact e | omega)
  have St13 := St12.tr m (fun q hq e => by first | exact e | omega)
  have ZC13 : h_13.sz = z + 7 := by rw [e_h_13]; exact ZC12
  have FA13 : h_13.mm a = (upv (upv (upv (upv (upv (h.mm a) 0 (.ref (z + 0))) 1 (.ref (z + 1))) 2 (.ref (z + 2))) 3 (.ref (z + 4))) 4 (.ref (z + 5))) := by rw [e_h_13, mm_upv, FA12]
  clear KA12 ZC12 FA12 Sh12 Sf12 Sj12 Sq12 Sm12 St12 m e_h_13
  refine z_aload0 55 dX2_init_55 ?_
  refine z_iconst 56 (nI 5) dX2_init_56 kI5 ?_
  refine z_newa (atype := .int) (i := 0) (n := 5) (k' := k - 22) 57 q371 (by decide) rfl dX2_init_57 rfl (by decide) (by omega) (fun h_14 e_h_14 => ?_)
  have m : Sm (fun q => q = a) h_13 h_14 := by rw [e_h_14]; exact Sm.mk'
  have k_h_14 : h_14.kd (z + 7) = 100 := by rw [e_h_14, kd_mk, if_pos (by omega)]
  have l_h_14 : h_14.ln (z + 7) = 5 := by rw [e_h_14, ln_mk, if_pos (by omega)]
  rw [show h_13.sz = z + 7 from ZC13]
  have KA14 : h_14.kd a = 1 := (m.2 a (by omega)).1.trans KA13
  have Sh14 := Sh13.tr m (fun q hq e => by first | exact e | omega)
  have Sf14 := Sf13.tr m (fun q hq e => by first | exact e | omega)
  have Sj14 := Sj13.tr m (fun q hq e => by first | exact e | omega)
  have Sq14 := Sq13.tr m (fun q hq e => by first | exact e | omega)
  have Sm14 := Sm13.tr m (fun q hq e => by first | exact e | omega)
  have St14 := St13.tr m (fun q hq e => by first | exact e | omega)
  have ZC14 : h_14.sz = z + 8 := by rw [e_h_14]; show h_13.sz + 1 = _; omega
  have FA14 : h_14.mm a = (upv (upv (upv (upv (upv (h.mm a) 0 (.ref (z + 0))) 1 (.ref (z + 1))) 2 (.ref (z + 2))) 3 (.ref (z + 4))) 4 (.ref (z + 5))) := by rw [← FA13, e_h_14]; funext j; rw [mm_mk, if_neg (by omega)]
  clear KA13 ZC13 FA13 Sh13 Sf13 Sj13 Sq13 Sm13 St13 m
  clear e_h_14
  have sE : h_14.mm (z + 7) = h_14.mm (z + 7) := rfl
  refine z_dup 59 dX2_init_59 (rfl) ?_
  refine z_iconst 60 (nI 0) dX2_init_60 kI0 ?_
  refine z_iconst 61 (nI 4) dX2_init_61 kI4 ?_
  refine z_iast (n := 5) 62 (0) dX2_init_62 k_h_14 l_h_14 rfl (by decide) (by decide) ?_
  obtain ⟨h_15, e_h_15⟩ : ∃ h9, h9 = h_14.put (z + 7) 0 (.int (nI 4)) := ⟨_, rfl⟩
  rw [← e_h_15]
  have m : Sm (fun q => q = z + 7) h_14 h_15 := by rw [e_h_15]; exact Sm.put rfl
  have sE0 : h_15.mm (z + 7) = (upv (h_14.mm (z + 7)) 0 (.int (nI 4))) := by rw [e_h_15, mm_upv, sE]
  clear sE
  have k_h_15 : h_15.kd (z + 7) = 100 := (m.2 (z + 7) (by omega)).1.trans k_h_14
  have l_h_15 : h_15.ln (z + 7) = 5 := (m.2 (z + 7) (by omega)).2.1.trans l_h_14
  clear k_h_14 l_h_14
  have KA15 : h_15.kd a = 1 := (m.2 a (by omega)).1.trans KA14
  have Sh15 := Sh14.tr m (fun q hq e => by first | exact e | omega)
  have Sf15 := Sf14.tr m (fun q hq e => by first | exact e | omega)
  have Sj15 := Sj14.tr m (fun q hq e => by first | exact e | omega)
  have Sq15 := Sq14.tr m (fun q hq e => by first | exact e | omega)
  have Sm15 := Sm14.tr m (fun q hq e => by first | exact e | omega)
  have St15 := St14.tr m (fun q hq e => by first | exact e | omega)
  have ZC15 : h_15.sz = z + 8 := by rw [e_h_15]; exact ZC14
  have FA15 : h_15.mm a = (upv (upv (upv (upv (upv (h.mm a) 0 (.ref (z + 0))) 1 (.ref (z + 1))) 2 (.ref (z + 2))) 3 (.ref (z + 4))) 4 (.ref (z + 5))) := by rw [← FA14]; exact (m.2 a (by omega)).2.2 (by omega)
  clear KA14 ZC14 FA14 Sh14 Sf14 Sj14 Sq14 Sm14 St14 m e_h_15
  refine z_dup 63 dX2_init_63 (rfl) ?_
  refine z_iconst 64 (nI 1) dX2_init_64 kI1 ?_
  refine z_iconst 65 (nI 0) dX2_init_65 kI0 ?_
  refine z_iast (n := 5) 66 (1) dX2_init_66 k_h_15 l_h_15 rfl (by decide) (by decide) ?_
  obtain ⟨h_16, e_h_16⟩ : ∃ h9, h9 = h_15.put (z + 7) 1 (.int (nI 0)) := ⟨_, rfl⟩
  rw [← e_h_16]
  have m : Sm (fun q => q = z + 7) h_15 h_16 := by rw [e_h_16]; exact Sm.put rfl
  have sE1 : h_16.mm (z + 7) = (upv (upv (h_14.mm (z + 7)) 0 (.int (nI 4))) 1 (.int (nI 0))) := by rw [e_h_16, mm_upv, sE0]
  clear sE0
  have k_h_16 : h_16.kd (z + 7) = 100 := (m.2 (z + 7) (by omega)).1.trans k_h_15
  have l_h_16 : h_16.ln (z + 7) = 5 := (m.2 (z + 7) (by omega)).2.1.trans l_h_15
  clear k_h_15 l_h_15
  have KA16 : h_16.kd a = 1 := (m.2 a (by omega)).1.trans KA15
  have Sh16 := Sh15.tr m (fun q hq e => by first | exact e | omega)
  have Sf16 := Sf15.tr m (fun q hq e => by first | exact e | omega)
  have Sj16 := Sj15.tr m (fun q hq e => by first | exact e | omega)
  have Sq16 := Sq15.tr m (fun q hq e => by first | exact e | omega)
  have Sm16 := Sm15.tr m (fun q hq e => by first | exact e | omega)
  have St16 := St15.tr m (fun q hq e => by first | exact e | omega)
  have ZC16 : h_16.sz = z + 8 := by rw [e_h_16]; exact ZC15
  have FA16 : h_16.mm a = (upv (upv (upv (upv (upv (h.mm a) 0 (.ref (z + 0))) 1 (.ref (z + 1))) 2 (.ref (z + 2))) 3 (.ref (z + 4))) 4 (.ref (z + 5))) := by rw [← FA15]; exact (m.2 a (by omega)).2.2 (by omega)
  clear KA15 ZC15 FA15 Sh15 Sf15 Sj15 Sq15 Sm15 St15 m e_h_16
  refine z_dup 67 dX2_init_67 (rfl) ?_
  refine z_iconst 68 (nI 2) dX2_init_68 kI2 ?_
  refine z_iconst 69 (nI 2) dX2_init_69 kI2 ?_
  refine z_iast (n := 5) 70 (2) dX2_init_70 k_h_16 l_h_16 rfl (by decide) (by decide) ?_
  obtain ⟨h_17, e_h_17⟩ : ∃ h9, h9 = h_16.put (z + 7) 2 (.int (nI 2)) := ⟨_, rfl⟩
  rw [← e_h_17]
  have m : Sm (fun q => q = z + 7) h_16 h_17 := by rw [e_h_17]; exact Sm.put rfl
  have sE2 : h_17.mm (z + 7) = (upv (upv (upv (h_14.mm (z + 7)) 0 (.int (nI 4))) 1 (.int (nI 0))) 2 (.int (nI 2))) := by rw [e_h_17, mm_upv, sE1]
  clear sE1
  have k_h_17 : h_17.kd (z + 7) = 100 := (m.2 (z + 7) (by omega)).1.trans k_h_16
  have l_h_17 : h_17.ln (z + 7) = 5 := (m.2 (z + 7) (by omega)).2.1.trans l_h_16
  clear k_h_16 l_h_16
  have KA17 : h_17.kd a = 1 := (m.2 a (by omega)).1.trans KA16
  have Sh17 := Sh16.tr m (fun q hq e => by first | exact e | omega)
  have Sf17 := Sf16.tr m (fun q hq e => by first | exact e | omega)
  have Sj17 := Sj16.tr m (fun q hq e => by first | exact e | omega)
  have Sq17 := Sq16.tr m (fun q hq e => by first | exact e | omega)
  have Sm17 := Sm16.tr m (fun q hq e => by first | exact e | omega)
  have St17 := St16.tr m (fun q hq e => by first | exact e | omega)
  have ZC17 : h_17.sz = z + 8 := by rw [e_h_17]; exact ZC16
  have FA17 : h_17.mm a = (upv (upv (upv (upv (upv (h.mm a) 0 (.ref (z + 0))) 1 (.ref (z + 1))) 2 (.ref (z + 2))) 3 (.ref (z + 4))) 4 (.ref (z + 5))) := by rw [← FA16]; exact (m.2 a (by omega)).2.2 (by omega)
  clear KA16 ZC16 FA16 Sh16 Sf16 Sj16 Sq16 Sm16 St16 m e_h_17
  refine z_dup 71 dX2_init_71 (rfl) ?_
  refine z_iconst 72 (nI 3) dX2_init_72 kI3 ?_
  refine z_iconst 73 (nI 5) dX2_init_73 kI5 ?_
  refine z_iast (n := 5) 74 (3) dX2_init_74 k_h_17 l_h_17 rfl (by decide) (by decide) ?_
  obtain ⟨h_18, e_h_18⟩ : ∃ h9, h9 = h_17.put (z + 7) 3 (.int (nI 5)) := ⟨_, rfl⟩
  rw [← e_h_18]
  have m : Sm (fun q => q = z + 7) h_17 h_18 := by rw [e_h_18]; exact Sm.put rfl
  have sE3 : h_18.mm (z + 7) = (upv (upv (upv (upv (h_14.mm (z + 7)) 0 (.int (nI 4))) 1 (.int (nI 0))) 2 (.int (nI 2))) 3 (.int (nI 5))) := by rw [e_h_18, mm_upv, sE2]
  clear sE2
  have k_h_18 : h_18.kd (z + 7) = 100 := (m.2 (z + 7) (by omega)).1.trans k_h_17
  have l_h_18 : h_18.ln (z + 7) = 5 := (m.2 (z + 7) (by omega)).2.1.trans l_h_17
  clear k_h_17 l_h_17
  have KA18 : h_18.kd a = 1 := (m.2 a (by omega)).1.trans KA17
  have Sh18 := Sh17.tr m (fun q hq e => by first | exact e | omega)
  have Sf18 := Sf17.tr m (fun q hq e => by first | exact e | omega)
  have Sj18 := Sj17.tr m (fun q hq e => by first | exact e | omega)
  have Sq18 := Sq17.tr m (fun q hq e => by first | exact e | omega)
  have Sm18 := Sm17.tr m (fun q hq e => by first | exact e | omega)
  have St18 := St17.tr m (fun q hq e => by first | exact e | omega)
  have ZC18 : h_18.sz = z + 8 := by rw [e_h_18]; exact ZC17
  have FA18 : h_18.mm a = (upv (upv (upv (upv (upv (h.mm a) 0 (.ref (z + 0))) 1 (.ref (z + 1))) 2 (.ref (z + 2))) 3 (.ref (z + 4))) 4 (.ref (z + 5))) := by rw [← FA17]; exact (m.2 a (by omega)).2.2 (by omega)
  clear KA17 ZC17 FA17 Sh17 Sf17 Sj17 Sq17 Sm17 St17 m e_h_18
  refine z_dup 75 dX2_init_75 (rfl) ?_
  refine z_iconst 76 (nI 4) dX2_init_76 kI4 ?_
  refine z_bipush 77 (nI 10) dX2_init_77 kB10 ?_
  refine z_iast (n := 5) 79 (4) dX2_init_79 k_h_18 l_h_18 rfl (by decide) (by decide) ?_
  obtain ⟨h_19, e_h_19⟩ : ∃ h9, h9 = h_18.put (z + 7) 4 (.int (nI 10)) := ⟨_, rfl⟩
  rw [← e_h_19]
  have m : Sm (fun q => q = z + 7) h_18 h_19 := by rw [e_h_19]; exact Sm.put rfl
  have sE4 : h_19.mm (z + 7) = (upv (upv (upv (upv (upv (h_14.mm (z + 7)) 0 (.int (nI 4))) 1 (.int (nI 0))) 2 (.int (nI 2))) 3 (.int (nI 5))) 4 (.int (nI 10))) := by rw [e_h_19, mm_upv, sE3]
  clear sE3
  have k_h_19 : h_19.kd (z + 7) = 100 := (m.2 (z + 7) (by omega)).1.trans k_h_18
  have l_h_19 : h_19.ln (z + 7) = 5 := (m.2 (z + 7) (by omega)).2.1.trans l_h_18
  clear k_h_18 l_h_18
  have KA19 : h_19.kd a = 1 := (m.2 a (by omega)).1.trans KA18
  have Sh19 := Sh18.tr m (fun q hq e => by first | exact e | omega)
  have Sf19 := Sf18.tr m (fun q hq e => by first | exact e | omega)
  have Sj19 := Sj18.tr m (fun q hq e => by first | exact e | omega)
  have Sq19 := Sq18.tr m (fun q hq e => by first | exact e | omega)
  have Sm19 := Sm18.tr m (fun q hq e => by first | exact e | omega)
  have St19 := St18.tr m (fun q hq e => by first | exact e | omega)
  have ZC19 : h_19.sz = z + 8 := by rw [e_h_19]; exact ZC18
  have FA19 : h_19.mm a = (upv (upv (upv (upv (upv (h.mm a) 0 (.ref (z + 0))) 1 (.ref (z + 1))) 2 (.ref (z + 2))) 3 (.ref (z + 4))) 4 (.ref (z + 5))) := by rw [← FA18]; exact (m.2 a (by omega)).2.2 (by omega)
  clear KA18 ZC18 FA18 Sh18 Sf18 Sj18 Sq18 Sm18 St18 m e_h_19
  have XS : ∀ i, i < 5 → h_19.mm (z + 7) i = .int (nI (P00 i)) := fun i hi => by
    obtain ⟨p0, p1, p2, p3, p4⟩ := P00_0
    rw [sE4]
    have : i = 0 ∨ i = 1 ∨ i = 2 ∨ i = 3 ∨ i = 4 := by omega
    rcases this with e | e | e | e | e <;> subst e
    · rw [p0]; rfl
    · rw [p1]; rfl
    · rw [p2]; rfl
    · rw [p3]; rfl
    · rw [p4]; rfl
  clear sE4
  have Ss19 : Sm (fun q => q = a) h_19 h_19 := Sm.refl _ _
  have bs := ZC19
  refine z_put 80 pX2_44 (fun _ => rfl) dX2_init_80 KA19 (rfl) (rfl) ?_
  obtain ⟨h_20, e_h_20⟩ : ∃ h9, h9 = h_19.put a 5 (.ref (z + 7)) := ⟨_, rfl⟩
  rw [← e_h_20]
  have m : Sm (fun q => q = a) h_19 h_20 := by rw [e_h_20]; exact Sm.put rfl
  have KA20 : h_20.kd a = 1 := (m.2 a (by omega)).1.trans KA19
  have Sh20 := Sh19.tr m (fun q hq e => by first | exact e | omega)
  have Sf20 := Sf19.tr m (fun q hq e => by first | exact e | omega)
  have Sj20 := Sj19.tr m (fun q hq e => by first | exact e | omega)
  have Sq20 := Sq19.tr m (fun q hq e => by first | exact e | omega)
  have Sm20 := Sm19.tr m (fun q hq e => by first | exact e | omega)
  have St20 := St19.tr m (fun q hq e => by first | exact e | omega)
  have Ss20 := Ss19.tr m (fun q hq e => by first | exact e | omega)
  have ZC20 : h_20.sz = z + 8 := by rw [e_h_20]; exact ZC19
  have FA20 : h_20.mm a = (upv (upv (upv (upv (upv (upv (h.mm a) 0 (.ref (z + 0))) 1 (.ref (z + 1))) 2 (.ref (z + 2))) 3 (.ref (z + 4))) 4 (.ref (z + 5))) 5 (.ref (z + 7))) := by rw [e_h_20, mm_upv, FA19]
  clear KA19 ZC19 FA19 Sh19 Sf19 Sj19 Sq19 Sm19 St19 Ss19 m e_h_20
  have PR : Pre h_20 a z := by
    refine ⟨ZC20, ⟨KA20, by rw [FA20]; exact ⟨rfl, rfl, rfl, rfl, rfl, rfl⟩, fun q q1 q2 => ?_⟩, ⟨(Sf20.2 (z + 0) (by omega)).1.trans XF.1, (Sf20.2 (z + 0) (by omega)).2.1.trans XF.2⟩, ⟨(Sj20.2 (z + 1) (by omega)).1.trans XJ.1, (Sj20.2 (z + 1) (by omega)).2.1.trans XJ.2⟩, XQ.keep Sq20 (by omega) (by omega), XM.keep Sm20 ⟨by omega, by omega⟩, ⟨(St20.2 (z + 5) (by omega)).1.trans XT1, by rw [(St20.2 (z + 5) (by omega)).2.2 (by omega)]; exact XT2, XT3.keep St20 ⟨by omega, by omega⟩⟩, ⟨(Ss20.2 (z + 7) (by omega)).1.trans k_h_19, (Ss20.2 (z + 7) (by omega)).2.1.trans l_h_19, fun j hj => ?_⟩⟩
    · rw [FA20]
      simp only [upv]
      rw [if_neg (by omega), if_neg (by omega), if_neg (by omega), if_neg (by omega), if_neg (by omega), if_neg (by omega)]
      exact hm0 q q1 q2
    · rw [(Ss20.2 (z + 7) (by omega)).2.2 (by omega)]; exact XS j hj
  refine z_iconst 83 (nI 0) dX2_init_83 kI0 ?_
  refine z_istore1 84 dX2_init_84 rfl ?_
  exact iniLoop hlt bh Sh20 PR (by omega) (by omega)
