/-! PARK: its queue; laying the jobs out -/
def pl9 (tb : Nat → Nat) (x : Nat) : Nat := (tb x - 40) / 2
def qu9 (tb : Nat → Nat) (x : Nat) : Nat := (tb x - 40) % 2
def rk9 (tb r : Nat → Nat) (x : Nat) : Nat := r (tb x - 40)
def kj9 (r y : Nat → Nat) (j : Nat) : Nat := kJ (r j) (y j) (j / 2) (j % 2)
/-- the queue holds the jobs D; their ranks r, days y -/
def QL (h : HP) (L tg tb r y : Nat → Nat) (D : Nat → Prop) (cap n : Nat) : Prop := ∃ (ar : Nat) (g : Nat → Nat) (mc : Int32), PqP h (L 3) ar n cap g (kA (pl9 tb) (qu9 tb) (rk9 tb r) (rk9 tb y)) mc ∧ tg ar = 62 ∧ (∀ x, el9 n g x ↔ ∃ j, j < 16 ∧ D j ∧ x = L (40 + j)) ∧ (∀ j, j < 16 → D j → JbA h (pl9 tb) (qu9 tb) (rk9 tb r) (rk9 tb y) (L (40 + j)))
def LB (L tb : Nat → Nat) : Prop := ∀ j, j < 16 → tb (L (40 + j)) = 40 + j
theorem PkO.LB {h : HP} {L tg : Nat → Nat} (O : PkO h L tg) : LB L tg := fun j hj => O.tg _ (lab40 j hj)
section
variable {h0 h h' : HP} {L tg0 tg tg' tb P P' td td' r y : Nat → Nat} {pn pn' : Nat} {fz fz' : Bool} {V : Nat → Prop} {D : Nat → Prop} {cap n : Nat}
theorem LB.kAq (B : LB L tb) {j : Nat} (hj : j < 16) : kA (pl9 tb) (qu9 tb) (rk9 tb r) (rk9 tb y) (L (40 + j)) = kj9 r y j := by
  unfold kA kj9 pl9 qu9 rk9; rw [B j hj]; simp
theorem LB.inj (B : LB L tb) {i j : Nat} (hi : i < 16) (hj : j < 16) (e : L (40 + i) = L (40 + j)) : i = j := by
  have := B i hi; have := B j hj; rw [e] at *; omega
theorem LB.JbAq (B : LB L tb) {j : Nat} (hj : j < 16) (X : JobAt h (L (40 + j)) (j / 2) (j % 2) (nI (r j)) (nI (y j))) (hr : r j < 2) (hy : y j < 4096) (hl : L (40 + j) < h.sz) : JbA h (pl9 tb) (qu9 tb) (rk9 tb r) (rk9 tb y) (L (40 + j)) := by
  unfold JbA pl9 qu9 rk9
  rw [B j hj, show 40 + j - 40 = j from by omega]
  exact ⟨X, hr, hy, by omega, by omega, hl⟩
theorem QL.q (X : QL h L tg tb r y D cap n) (hc : cap = 11 ∨ cap = 24) : PkQ h L tg := by
  obtain ⟨ar, g, mc, x1, x2, -⟩ := X
  exact ⟨ar, n, cap, g, _, mc, x1, x2, hc⟩
theorem QL.congr {D' : Nat → Prop} (X : QL h L tg tb r y D cap n) (e : ∀ j, j < 16 → (D j ↔ D' j)) : QL h L tg tb r y D' cap n := by
  obtain ⟨ar, g, mc, x1, x2, x3, x4⟩ := X
  exact ⟨ar, g, mc, x1, x2, fun x => (x3 x).trans ⟨fun ⟨j, j1, j2, j3⟩ => ⟨j, j1, (e j j1).mp j2, j3⟩, fun ⟨j, j1, j2, j3⟩ => ⟨j, j1, (e j j1).mpr j2, j3⟩⟩, fun j hj hD => x4 j hj ((e j hj).mpr hD)⟩
theorem QL.keep (X : QL h L tg tb r y D cap n) (M : Sm V h h') (h3 : ¬ V (L 3)) (ha : ∀ a, tg a = 62 → ¬ V a) (hj : ∀ j, j < 16 → D j → ¬ V (L (40 + j))) : QL h' L tg tb r y D cap n := by
  obtain ⟨ar, g, mc, x1, x2, x3, x4⟩ := X
  exact ⟨ar, g, mc, x1.keep M h3 (ha ar x2), x2, x3, fun j j1 hD => (x4 j j1 hD).keep M (hj j j1 hD)⟩
theorem QL.k3 (X : QL h L tg tb r y D cap n) : h.kd (L 3) = 12 := by
  obtain ⟨ar, g, mc, x1, -⟩ := X; exact x1.1
theorem QL.kj (X : QL h L tg tb r y D cap n) {j : Nat} (hj : j < 16) (hD : D j) : h.kd (L (40 + j)) = 3 := by
  obtain ⟨ar, g, mc, x1, x2, x3, x4⟩ := X
  exact (x4 j hj hD).1.1
theorem Pk.jd (X : Pk h L tg P td pn fz) {j : Nat} (hj : j < 16) : h.kd (L (40 + j)) = 3 := by obtain ⟨r, y, x⟩ := X.2.2.2.2.1 j hj; exact x.1
theorem Pk.jp (X : Pk h L tg P td pn fz) {j : Nat} (hj : j < 16) : h.mm (L (40 + j)) 0 = .int (nI (j / 2)) := by obtain ⟨r, y, x⟩ := X.2.2.2.2.1 j hj; exact x.2.1
theorem Pk.jk (X : Pk h L tg P td pn fz) {j : Nat} (hj : j < 16) : h.mm (L (40 + j)) 1 = .int (nI (j % 2)) := by obtain ⟨r, y, x⟩ := X.2.2.2.2.1 j hj; exact x.2.2.1
/-- the queue and its array were written -/
theorem PkTo.queue (T : PkTo h0 L tg0 tg P td pn fz h) {ar : Nat} (hr : tg ar = 62) (M : Sm (fun a => a = L 3 ∨ a = ar) h h') (G : TgX h tg tg' 62) (ow : ∀ a, h.sz ≤ a → tg' a = 62 → a < h'.sz ∧ h'.kd a ≠ 4 ∧ h'.kd a ≠ 9 ∧ h'.kd a ≠ 15) (Q' : PkQ h' L tg') (b6 : P 6 ≤ 6) : PkTo h0 L tg0 tg' P td pn fz h' := by
  obtain ⟨O, A, N, F, J, Q, Mm, Tt⟩ := T.1
  have vt : ∀ a, (a = L 3 ∨ a = ar) → tg a = 3 ∨ tg a = 62 := fun a ha => ha.elim (fun q => Or.inl (by rw [q]; exact O.tg 3 rfl)) (fun q => Or.inr (by rw [q]; exact hr))
  have lv : ∀ k, lab k = true → k ≠ 3 → k ≠ 62 → ¬ (L k = L 3 ∨ L k = ar) := fun k hk k1 k2 q => by have := vt _ q; rw [O.tg k hk] at this; omega
  have im : ∀ c, (c = 4 ∨ c = 9 ∨ c = 15) → ∀ a, h.kd a = c → ¬ (a = L 3 ∨ a = ar) := fun c hc a ha q => O.imm hc a ha (by have := vt _ q; omega)
  exact T.mk M (fun a _ q => by have := vt _ q; omega) G ⟨O.step M G (fun a ha e _ => ow a ha e), A.keep O M (lv 0 rfl (by decide) (by decide)) (lv 1 rfl (by decide) (by decide)) (lv 2 rfl (by decide) (by decide)), N.keep O M (lv 0 rfl (by decide) (by decide)) (lv 7 rfl (by decide) (by decide)), F.keep O M (fun i hi => ⟨lv _ (lab10 i hi).1 (by omega) (by omega), lv _ (lab10 i hi).2.1 (by omega) (by omega), lv _ (lab10 i hi).2.2 (by omega) (by omega)⟩), J.keep O M (fun j hj => lv _ (lab40 j hj) (by omega) (by omega)), Q', Mm.keepX O M (fun a ha q => by have := vt _ q; omega) (im 15 (by omega)) (im 9 (by omega)) G (by decide) rfl (fun _ _ _ => rfl) b6, Tt.keepX O M (lv 5 rfl (by decide) (by decide)) (fun a ha q => by have := vt _ q; omega) (im 4 (by omega)) (im 9 (by omega)) G (by decide) rfl (fun _ _ => rfl) (Nat.le_refl _)⟩
/-- a job was written -/
theorem PkTo.job (T : PkTo h0 L tg0 tg P td pn fz h) {j : Nat} (hj : j < 16) {r9 y9 : Int32} (M : Sm (fun a => a = L (40 + j)) h h') (X : JobAt h' (L (40 + j)) (j / 2) (j % 2) r9 y9) : PkTo h0 L tg0 tg P td pn fz h' := by
  obtain ⟨O, A, N, F, J, Q, Mm, Tt⟩ := T.1
  have vt : ∀ a, a = L (40 + j) → tg a = 40 + j := fun a ha => by rw [ha]; exact O.tg _ (lab40 j hj)
  have lv : ∀ k, lab k = true → k ≠ 40 + j → ¬ L k = L (40 + j) := fun k hk k1 q => by have := vt _ q; rw [O.tg k hk] at this; omega
  have im : ∀ c, (c = 4 ∨ c = 9 ∨ c = 15) → ∀ a, h.kd a = c → ¬ a = L (40 + j) := fun c hc a ha q => O.imm hc a ha (by have := vt _ q; omega)
  refine T.mk M (fun a _ q => by have := vt _ q; omega) (TgX.refl O 100) ⟨O.keep M, A.keep O M (lv 0 rfl (by omega)) (lv 1 rfl (by omega)) (lv 2 rfl (by omega)), N.keep O M (lv 0 rfl (by omega)) (lv 7 rfl (by omega)), F.keep O M (fun i hi => ⟨lv _ (lab10 i hi).1 (by omega), lv _ (lab10 i hi).2.1 (by omega), lv _ (lab10 i hi).2.2 (by omega)⟩), ?_, Q.keep M (lv 3 rfl (by omega)) (fun a ha q => by have := vt _ q; omega), Mm.keep M (fun a ha q => by have := vt _ q; omega) (im 15 (by omega)) (im 9 (by omega)), Tt.keep O M (lv 5 rfl (by omega)) (fun a ha q => by have := vt _ q; omega) (im 4 (by omega)) (im 9 (by omega))⟩
  intro i hi
  by_cases e : i = j
  · subst e; exact ⟨r9, y9, X⟩
  · obtain ⟨r1, y1, x1⟩ := J i hi
    have m := M.2 _ (O.lt _ (lab40 i hi))
    refine ⟨r1, y1, ?_⟩
    unfold JobAt at x1 ⊢
    rw [m.1, m.2.2 (lv _ (lab40 i hi) (by omega))]; exact x1
end
theorem c_pkClearQ {E : Ev} {h0 h : HP} {L tg0 tg P td : Nat → Nat} {pn : Nat} {fz : Bool} (T : PkTo h0 L tg0 tg P td pn fz h) (W : WF P) (r y : Nat → Nat) (d k : Nat) : Call E yJ2_clear d k [.ref (L 3)] h (rV fun h' => ∃ cap, (cap = 11 ∨ cap = 24) ∧ PkTo h0 L tg0 tg P td pn fz h' ∧ QL h' L tg tg r y (fun j => j < 0 ∧ jbP P j 0 = 1) cap 0) := by
  obtain ⟨ar, n, cap, g, κ, mc, x1, x2, x3⟩ := T.1.2.2.2.2.2.1
  have hne : ¬ L 3 = ar := fun q => by have := T.1.1.tg 3 rfl; rw [q, x2] at this; omega
  refine (c_pqClear d k x1 hne).mono (fun r9 h' q => ⟨q.1, cap, x3, ?_⟩)
  obtain ⟨-, q1, q2, q3⟩ := q
  have X : QL h' L tg tg r y (fun j => j < 0 ∧ jbP P j 0 = 1) cap 0 := by
    obtain ⟨p1, p2, p3, p4, p5, p6, p7, p8, p9, p10⟩ := q1
    refine ⟨ar, g, mc + nI 1, ⟨p1, p2, p3, p4, p5, p6, p7, fun i _ hi => absurd hi (Nat.not_lt_zero _), fun i j hi => absurd hi (Nat.not_lt_zero _), p10⟩, x2, fun x => ⟨fun ⟨i, hi, _⟩ => absurd hi (Nat.not_lt_zero _), fun ⟨j, _, hj, _⟩ => absurd hj.1 (Nat.not_lt_zero _)⟩, fun j _ hj => absurd hj.1 (Nat.not_lt_zero _)⟩
  exact ⟨T.queue x2 q2 (TgX.refl T.1.1 62) (fun a ha e => by rw [T.1.1.far ha] at e; cases e) (X.q x3) W.h6, X⟩
theorem c_pkAddQ {E : Ev} {h0 h : HP} {L tg0 tg tb P td r y : Nat → Nat} {pn cap n : Nat} {fz : Bool} {D : Nat → Prop} (T : PkTo h0 L tg0 tg P td pn fz h) (W : WF P) (B : LB L tb) (X : QL h L tg tb r y D cap n) (hc : cap = 11 ∨ cap = 24) {j : Nat} (hj : j < 16) (Y : JobAt h (L (40 + j)) (j / 2) (j % 2) (nI (r j)) (nI (y j))) (hr : r j < 2) (hy : y j < 4096) (hD : ¬ D j) (hN : n < 24) (d k : Nat) (hd : 5 ≤ d) (hk : n < cap ∨ 14 ≤ k) : Call E yJ2_add d k [.ref (L 3), .ref (L (40 + j))] h (rI fun _ h' => ∃ (cap' : Nat) (tg' : Nat → Nat), ((n < cap ∧ cap' = cap) ∨ (n = cap ∧ cap' = 24)) ∧ PkTo h0 L tg0 tg' P td pn fz h' ∧ QL h' L tg' tb r y (fun i => D i ∨ i = j) cap' (n + 1)) := by
  obtain ⟨ar, g, mc, x1, x2, x3, x4⟩ := X
  have O := T.1.1
  have hne : ¬ L 3 = ar := fun q => by have := O.tg 3 rfl; rw [q, x2] at this; omega
  have hnx : ¬ el9 n g (L (40 + j)) := fun q => by
    obtain ⟨i, i1, i2, i3⟩ := (x3 _).mp q
    exact hD (by rw [B.inj hj i1 i3]; exact i2)
  have JX := B.JbAq hj Y hr hy (O.lt _ (lab40 j hj))
  have hn : n ≤ cap := x1.2.2.2.2.2.2.1.2.2.1
  refine (c_pqAddR d k hd (by omega) (by omega) x1 (fun y9 hy9 => by obtain ⟨i, i1, i2, i3⟩ := (x3 y9).mp hy9; rw [i3]; exact x4 i i1 i2) hne JX hnx).mono (fun r9 h' q => ?_)
  obtain ⟨v, e, -, ar', cap', g', X', hel, M, z, ha, hcap⟩ := q
  have hn2 : n + 1 ≤ cap' := X'.2.2.2.2.2.2.1.2.2.1
  have hcap9 : (n < cap ∧ cap' = cap) ∨ (n = cap ∧ cap' = 24) := by omega
  have hc' : cap' = 11 ∨ cap' = 24 := by omega
  have nv : ∀ i, i < 16 → ¬ (L (40 + i) = L 3 ∨ L (40 + i) = ar) := fun i hi q => by
    have := O.tg _ (lab40 i hi)
    rcases q with q | q
    · rw [q, O.tg 3 rfl] at this; omega
    · rw [q, x2] at this; omega
  have fin : ∀ tg', tg' ar' = 62 → QL h' L tg' tb r y (fun i => D i ∨ i = j) cap' (n + 1) := fun tg' ht => by
    refine ⟨ar', g', mc + nI 1, X', ht, fun x => ?_, fun i hi hD2 => ?_⟩
    · rw [hel x, x3 x]
      constructor
      · rintro (⟨i, i1, i2, i3⟩ | q)
        · exact ⟨i, i1, Or.inl i2, i3⟩
        · exact ⟨j, hj, Or.inr rfl, q⟩
      · rintro ⟨i, i1, i2 | i2, i3⟩
        · exact Or.inl ⟨i, i1, i2, i3⟩
        · exact Or.inr (by rw [i3, i2])
    · rcases hD2 with hD2 | hD2
      · exact (x4 i hi hD2).keep M (nv i hi)
      · subst hD2; exact JX.keep M (nv i hi)
  rcases ha with ha | ha
  · have X9 := fin tg (by rw [ha]; exact x2)
    exact ⟨v, e, cap', tg, hcap9, T.queue x2 M (TgX.refl O 62) (fun a ha9 e9 => by rw [O.far ha9] at e9; cases e9) (X9.q hc') W.h6, X9⟩
  · have X9 := fin (tgn tg h.sz 62) (by rw [ha, tgn_s])
    refine ⟨v, e, cap', tgn tg h.sz 62, hcap9, T.queue x2 M (TgX.set O (Nat.le_refl _)) (fun a ha9 e9 => ?_) (X9.q hc') W.h6, X9⟩
    have ea : a = ar' := by
      by_cases q : a = h.sz
      · rw [q, ha]
      · rw [tgn_n _ _ q, O.far ha9] at e9; cases e9
    have xa := X'.2.2.2.2.2.2.1
    rw [ea, xa.1]
    exact ⟨xa.2.2.2.2.2.2, by decide, by decide, by decide⟩
theorem c_pkEmptyQ {E : Ev} {h : HP} {L tg tb r y : Nat → Nat} {cap n : Nat} {D : Nat → Prop} (X : QL h L tg tb r y D cap n) (B : LB L tb) (hN : n ≤ 16) (d k : Nat) (hd : 1 ≤ d) : Call E yJ0_isEmpty d k [.ref (L 3)] h (rI fun x h' => h' = h ∧ ((x = nI 1 ∧ ∀ j, j < 16 → ¬ D j) ∨ (x = nI 0 ∧ ∃ j, j < 16 ∧ D j))) := by
  obtain ⟨ar, g, mc, x1, x2, x3, x4⟩ := X
  refine (c_pqIsEmpty d k hd x1.1 x1.2.2.1 (by omega)).mono (fun r9 h' q => ?_)
  obtain ⟨v, e, e1, q⟩ := q
  refine ⟨v, e, e1, q.imp (fun q => ⟨q.1, fun j hj hD => ?_⟩) (fun q => ⟨q.1, ?_⟩)⟩
  · obtain ⟨i, hi, -⟩ := (x3 (L (40 + j))).mpr ⟨j, hj, hD, rfl⟩
    rw [q.2] at hi; exact absurd hi (Nat.not_lt_zero _)
  · obtain ⟨j, j1, j2, -⟩ := (x3 (g 0)).mp ⟨0, by omega, rfl⟩
    exact ⟨j, j1, j2⟩
theorem c_pkPollQ {E : Ev} {h0 h : HP} {L tg0 tg tb P td r y : Nat → Nat} {pn cap n : Nat} {fz : Bool} {D : Nat → Prop} (T : PkTo h0 L tg0 tg P td pn fz h) (W : WF P) (B : LB L tb) (X : QL h L tg tb r y D cap n) (hc : cap = 11 ∨ cap = 24) (hne : ∃ j, j < 16 ∧ D j) (d k : Nat) (hd : 3 ≤ d) : Call E yJ2_poll d k [.ref (L 3)] h (rR fun a h' => ∃ j, j < 16 ∧ D j ∧ a = L (40 + j) ∧ (∀ i, i < 16 → D i → kj9 r y j ≤ kj9 r y i) ∧ PkTo h0 L tg0 tg P td pn fz h' ∧ QL h' L tg tb r y (fun i => D i ∧ i ≠ j) cap (n - 1)) := by
  obtain ⟨ar, g, mc, x1, x2, x3, x4⟩ := X
  have O := T.1.1
  have hnar : ¬ L 3 = ar := fun q => by have := O.tg 3 rfl; rw [q, x2] at this; omega
  obtain ⟨j0, j01, j02⟩ := hne
  obtain ⟨i0, hi0, -⟩ := (x3 (L (40 + j0))).mpr ⟨j0, j01, j02, rfl⟩
  obtain ⟨m, rfl⟩ : ∃ m, n = m + 1 := ⟨n - 1, by omega⟩
  refine (c_poll d k hd x1 (fun y9 hy9 => by obtain ⟨i, i1, i2, i3⟩ := (x3 y9).mp hy9; rw [i3]; exact x4 i i1 i2) hnar).mono (fun r9 h' q => ?_)
  obtain ⟨a, e, ea, mn, g', X', hel, M, z⟩ := q
  obtain ⟨j, j1, j2, j3⟩ := (x3 (g 0)).mp ⟨0, by omega, rfl⟩
  have nv : ∀ i, i < 16 → ¬ (L (40 + i) = L 3 ∨ L (40 + i) = ar) := fun i hi q => by
    have := O.tg _ (lab40 i hi)
    rcases q with q | q
    · rw [q, O.tg 3 rfl] at this; omega
    · rw [q, x2] at this; omega
  have X9 : QL h' L tg tb r y (fun i => D i ∧ i ≠ j) cap (m + 1 - 1) := by
    refine ⟨ar, g', mc + nI 1, X', x2, fun x => ?_, fun i hi hD2 => (x4 i hi hD2.1).keep M (nv i hi)⟩
    refine (hel x).trans ?_
    rw [x3 x]
    constructor
    · rintro ⟨⟨i, i1, i2, i3⟩, q⟩
      exact ⟨i, i1, ⟨i2, fun q2 => q (by rw [i3, q2, j3])⟩, i3⟩
    · rintro ⟨i, i1, ⟨i2, i4⟩, i3⟩
      exact ⟨⟨i, i1, i2, i3⟩, fun q => i4 (B.inj i1 j1 (by rw [← i3, q, j3]))⟩
  refine ⟨a, e, j, j1, j2, by rw [ea, j3], fun i hi hD => ?_, T.queue x2 M (TgX.refl O 62) (fun b hb e9 => by rw [O.far hb] at e9; cases e9) (X9.q hc) W.h6, X9⟩
  have := mn (L (40 + i)) ((x3 _).mpr ⟨i, hi, hD, rfl⟩)
  rw [j3, B.kAq j1, B.kAq hi] at this
  exact this
/-- the ranks and days of the jobs -/
def rkP (P : Nat → Nat) (j : Nat) : Nat := rkJ (P 1) (j % 2)
def dyJ (P : Nat → Nat) (j : Nat) : Nat := jbP P j 1
theorem rkP_lt (P : Nat → Nat) (j : Nat) : rkP P j < 2 := by unfold rkP rkJ; split <;> omega
/-- one step of laying out -/
theorem QL.lay {h h' : HP} {L tg tb r y : Nat → Nat} {cap n j : Nat} {D : Nat → Prop} {h0 : HP} {tg0 P td : Nat → Nat} {pn : Nat} {fz : Bool} (X : QL h L tg tb r y D cap n) (T : PkTo h0 L tg0 tg P td pn fz h) (hj : j < 16) (hD : ¬ D j) (M : Sm (fun a => a = L (40 + j)) h h') : QL h' L tg tb r y D cap n :=
  X.keep M (T.1.1.ne rfl (lab40 j hj) (by omega)) (fun a ha q => by rw [q, T.1.1.tg _ (lab40 j hj)] at ha; omega) (fun i hi hDi q => by
    by_cases e : i = j
    · exact hD (e ▸ hDi)
    · exact T.1.1.ne (lab40 i hi) (lab40 j hj) (by omega) q)
set_option maxHeartbeats 4000000 in
theorem c_pkLay {E : Ev} {h : HP} {L tg P td : Nat → Nat} {pn : Nat} {fz : Bool} (T0 : Pk h L tg P td pn fz) (W : WF P)  (d k : Nat) (hd : 6 ≤ d) (hk : 14 ≤ k) : Call E yX2_layJobs d k [.ref (L 0)] h (rV fun h' => ∃ (tg' : Nat → Nat) (cap n : Nat), (cap = 11 ∨ cap = 24) ∧ n ≤ 16 ∧ PkTo h L tg tg' P td pn fz h' ∧ QL h' L tg' tg (rkP P) (dyJ P) (fun j => jbP P j 0 = 1) cap n) := by
  refine Call.of [.ref (L 0), dum, dum, dum, dum, dum] q1521 (by decide) pn_X2 (Nat.le_of_ble_eq_true rfl) rfl ?_
  refine z_aload0 0 dX2_layJobs_0 ?_
  refine z_get 1 gX2_26 dX2_layJobs_1 T0.v.k0 (T0.v.2.1.2.1.2.2.1) ?_
  refine z_V0 (k' := k) 4 vX2_161 dX2_layJobs_4 T0.kQ (c_pkClearQ T0.to W (rkP P) (dyJ P) (d - 1) 0) (by omega) (by omega) (Nat.le_of_ble_eq_true rfl) (aft_V fun h1 hq => ?_)
  obtain ⟨cap, hcap, T, X⟩ := hq
  refine z_aload0 7 dX2_layJobs_7 ?_
  refine z_get 8 gX2_19 dX2_layJobs_8 T.V.k0 (T.V.2.1.2.1.2.1) ?_
  refine z_astore1 11 dX2_layJobs_11 rfl ?_
  refine z_aload1 12 dX2_layJobs_12 ?_
  refine z_len (i := 6) 13 dX2_layJobs_13 (by decide) T.V.k2 T.V.l2 ?_
  refine z_istore2 14 dX2_layJobs_14 rfl ?_
  refine z_iconst 15 (nI 0) dX2_layJobs_15 kI0 ?_
  refine z_istore3 16 dX2_layJobs_16 rfl ?_
  refine z_less (k' := if cap = 24 then k - 14 else k) (by split <;> omega) ?_
  refine lpW 17 (fun (s : Nat × Nat × Nat) => [.ref (L 0), .ref (L 2), .int (nI 16), .int (nI s.1), dum, dum]) (fun (s : Nat × Nat × Nat) h9 => s.1 ≤ 16 ∧ s.2.2 ≤ s.1 ∧ (s.2.1 = 11 ∨ s.2.1 = 24) ∧ ∃ tg', PkTo h L tg tg' P td pn fz h9 ∧ QL h9 L tg' tg (rkP P) (dyJ P) (fun j => j < s.1 ∧ jbP P j 0 = 1) s.2.1 s.2.2) (fun (s : Nat × Nat × Nat) => if s.2.1 = 24 then k - 14 else k) (fun (s : Nat × Nat × Nat) => 16 - s.1) (0, cap, 0) ⟨Nat.zero_le _, Nat.zero_le _, hcap, tg, T, X⟩ (fun s h4 hI ih => ?_)
  obtain ⟨i, cap, n⟩ := s
  obtain ⟨hi, hn, hcap, tg', T, X⟩ := hI
  have hi : i ≤ 16 := hi
  have hn : n ≤ i := hn
  have hcap : cap = 11 ∨ cap = 24 := hcap
  have X : QL h4 L tg' tg (rkP P) (dyJ P) (fun j => j < i ∧ jbP P j 0 = 1) cap n := X
  obtain ⟨k1, ek1⟩ : ∃ k1, k1 = (if cap = 24 then k - 14 else k) := ⟨_, rfl⟩
  show Z E _ d _ (if cap = 24 then k - 14 else k) h4 17 [.ref (L 0), .ref (L 2), .int (nI 16), .int (nI i), dum, dum] []
  rw [← ek1]
  have ih : ∀ (cap' n' : Nat) (tg2 : Nat → Nat) (h9 : HP), i < 16 → n' ≤ i + 1 → (cap' = 11 ∨ cap' = 24) → PkTo h L tg tg2 P td pn fz h9 → QL h9 L tg2 tg (rkP P) (dyJ P) (fun j => j < i + 1 ∧ jbP P j 0 = 1) cap' n' → Z E _ d _ (if cap' = 24 then k - 14 else k) h9 17 [.ref (L 0), .ref (L 2), .int (nI 16), .int (nI (i + 1)), dum, dum] [] := fun cap' n' tg2 h9 hi16 hn9 hc' T9 X9 => ih (i + 1, cap', n') h9 (show 16 - (i + 1) < 16 - i by omega) ⟨by omega, hn9, hc', tg2, T9, X9⟩
  have B := T0.1.LB
  refine z_iload3 17 dX2_layJobs_17 ?_
  refine z_iload2 18 dX2_layJobs_18 ?_
  refine z_icgeN 19 81 dX2_layJobs_19 (by decide) (by omega) (by omega) (fun c_19 => ?_) (fun c_19 => ?_)
  · have e16 : i = 16 := by omega
    subst e16
    refine z_return 81 rfl dX2_layJobs_81 ?_
    exact ⟨rfl, tg', cap, n, hcap, by omega, T, X.congr (fun j hj => ⟨fun q => q.2, fun q => ⟨hj, q⟩⟩)⟩
  · have hi16 : i < 16 := c_19
    have hp : i / 2 < 8 := by omega
    obtain ⟨r0, y0, xj⟩ := T.1.2.2.2.2.1 i hi16
    obtain ⟨Wf, xf, xw⟩ := T.V.2.2.2 (i / 2) hp
    have b5 := W.B.jb (j := i) (w := 1) hi16 (by decide)
    refine z_aload1 22 dX2_layJobs_22 ?_
    refine z_iload3 23 dX2_layJobs_23 ?_
    refine z_aald (i := 6) (n := 16) 24 (i) dX2_layJobs_24 (by decide) (by decide) T.V.k2 T.V.l2 (rfl) (hi16) (by decide) (T.V.a2 hi16) ?_
    refine z_astore4 25 dX2_layJobs_25 rfl ?_
    refine z_aload0 27 dX2_layJobs_27 ?_
    refine z_get 28 gX2_11 dX2_layJobs_28 T.V.k0 (T.V.2.1.2.1.1) ?_
    refine z_aload4 31 dX2_layJobs_31 ?_
    refine z_get 33 gX2_162 dX2_layJobs_33 xj.1 xj.2.1 ?_
    refine z_aald (i := 5) (n := 8) 36 (i / 2) dX2_layJobs_36 (by decide) (by decide) T.V.k1 T.V.l1 (rfl) (hp) (by decide) (T.V.a1 hp) ?_
    refine z_get 37 gX2_165 dX2_layJobs_37 xf.1 xf.2.2.1 ?_
    refine z_aload4 40 dX2_layJobs_40 ?_
    refine z_get 42 gX2_168 dX2_layJobs_42 xj.1 xj.2.2.1 ?_
    have e45 : ftR P (i / 2) (i % 2) = if jbP P i 0 = 1 then nI (jbP P i 1) else -1 := by
      unfold ftR; rw [show 2 * (i / 2) + i % 2 = i from by omega]
    by_cases hj1 : jbP P i 0 = 1
    · rw [if_pos hj1] at e45
      refine z_iald (n := 2) 45 (i % 2) dX2_layJobs_45 xf.2.2.2.2.1 xf.2.2.2.2.2.1 rfl (by omega) (by decide) ((xf.2.2.2.2.2.2.1 (i % 2) (by omega)).trans (congrArg Value.int e45)) ?_
      refine z_istore5 46 dX2_layJobs_46 rfl ?_
      refine z_iload5 48 dX2_layJobs_48 ?_
      refine z_iconst 50 (-1) dX2_layJobs_50 kIm1 ?_
      refine z_iceq 51 75 dX2_layJobs_51 (by decide) (fun c_51 => absurd c_51 (nI_nm1 (by omega))) (fun c_51 => ?_)
      refine z_aload0 54 dX2_layJobs_54 ?_
      refine z_get 55 gX2_26 dX2_layJobs_55 T.V.k0 (T.V.2.1.2.1.2.2.1) ?_
      refine z_aload4 58 dX2_layJobs_58 ?_
      refine z_aload0 60 dX2_layJobs_60 ?_
      refine z_get 61 gX2_44 dX2_layJobs_61 T.V.k0 (T.V.2.1.2.1.2.2.2.2.2) ?_
      refine z_iconst 64 (nI 1) dX2_layJobs_64 kI1 ?_
      refine z_iald (n := 5) 65 (1) dX2_layJobs_65 T.V.k7 T.V.l7 (rfl) ((by decide)) (by decide) (T.V.a7 (i := 1) (by decide)) ?_
      refine z_iload5 66 dX2_layJobs_66 ?_
      refine z_V2 (k' := k1) 68 vX2_171 dX2_layJobs_68 xj.1 (c_jobLay (o := P 1) (v := nI (jbP P i 1)) (d - 1) 0 W.st.2.1 (by omega) xj) (by omega) (by omega) (Nat.le_of_ble_eq_true rfl) (aft_R fun a h5 hq => ?_)
      obtain ⟨rfl, Y, m5, z5⟩ := hq
      have nD : ¬ (i < i ∧ jbP P i 0 = 1) := fun q => Nat.lt_irrefl _ q.1
      have X := X.lay T hi16 nD m5
      have T := T.job hi16 m5 Y
      refine z_V1 (k' := (k1 - (if n < cap then 0 else 14))) 71 vX2_175 dX2_layJobs_71 X.k3 (c_pkAddQ (r := rkP P) (y := dyJ P) T W B X hcap hi16 Y (rkP_lt P i) b5 nD (by omega) (d - 1) (if n < cap then 0 else 14) (by omega) (by split <;> omega)) (by omega) (by rcases hcap with e | e <;> subst e <;> simp at ek1 <;> split <;> omega) (Nat.le_of_ble_eq_true rfl) (aft_I fun x h6 hq => ?_)
      obtain ⟨cap', tg2, hc2, T5, X5⟩ := hq
      refine z_pop 74 dX2_layJobs_74 (rfl) ?_
      refine z_iinc3 75 (nI (i + 1)) dX2_layJobs_75 (nI_add _ _) rfl ?_
      refine z_goto 78 17 dX2_layJobs_78 (by decide) ?_
      refine z_fog 4 ?_
      refine z_fog 5 ?_
      refine z_less (k' := if cap' = 24 then k - 14 else k) (by rcases hcap with e | e <;> subst e <;> rcases hc2 with ⟨a1, a2⟩ | ⟨a1, a2⟩ <;> subst a2 <;> simp at ek1 <;> subst ek1 <;> simp [a1] <;> omega) ?_
      exact ih cap' (n + 1) tg2 _ hi16 (by omega) (by omega) T5 (X5.congr (fun j hj => by grind))
    · rw [if_neg hj1] at e45
      refine z_iald (n := 2) 45 (i % 2) dX2_layJobs_45 xf.2.2.2.2.1 xf.2.2.2.2.2.1 rfl (by omega) (by decide) ((xf.2.2.2.2.2.2.1 (i % 2) (by omega)).trans (congrArg Value.int e45)) ?_
      refine z_istore5 46 dX2_layJobs_46 rfl ?_
      refine z_iload5 48 dX2_layJobs_48 ?_
      refine z_iconst 50 (-1) dX2_layJobs_50 kIm1 ?_
      refine z_iceq 51 75 dX2_layJobs_51 (by decide) (fun c_51 => ?_) (fun c_51 => absurd rfl c_51)
      refine z_iinc3 75 (nI (i + 1)) dX2_layJobs_75 (nI_add _ _) rfl ?_
      refine z_goto 78 17 dX2_layJobs_78 (by decide) ?_
      refine z_fog 4 ?_
      refine z_fog 5 ?_
      rw [ek1]
      exact ih cap n tg' _ hi16 (by omega) hcap T (X.congr (fun j hj => by grind))

