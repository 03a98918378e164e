/-! PARK: its outings one by one -/
/-- an outing less -/
def dlP (Q : Nat → Nat) (k : Nat) : Nat → Nat := fun i => if i = 7 then Q 7 - 1 else if 153 + 3 * k ≤ i then (if i < 201 then Q (i + 3) else 0) else Q i
def sk9 (k a : Nat) : Nat := if a < k then a else a + 1
theorem dlP_c (Q : Nat → Nat) (k i : Nat) (h : i < 153) (h7 : i ≠ 7) : dlP Q k i = Q i := by unfold dlP; rw [if_neg h7, if_neg (by omega)]
theorem dlP_7 (Q : Nat → Nat) (k : Nat) : dlP Q k 7 = Q 7 - 1 := rfl
theorem dlP_o (Q : Nat → Nat) (k a w : Nat) (hw : w < 3) (ha : a < 16) : ogP (dlP Q k) a w = ogP Q (sk9 k a) w := by
  unfold ogP dlP sk9
  rw [if_neg (by omega)]
  by_cases c : a < k
  · rw [if_neg (by omega), if_pos c]
  · rw [if_pos (by omega), if_pos (by omega), if_neg c]; congr 1; omega
theorem sk9_inv {k i : Nat} (h : i ≠ k) : sk9 k (if i < k then i else i - 1) = i := by
  unfold sk9
  by_cases c : i < k
  · rw [if_pos c, if_pos c]
  · rw [if_neg c, if_neg (by omega)]; omega
theorem WF.dl {Q : Nat → Nat} (W : WF Q) {k : Nat} (hk : k < Q 7) : WF (dlP Q k) := by
  obtain ⟨w1, w2, w3, w4, w5, w6⟩ := W
  have e : ∀ i, i < 153 → i ≠ 7 → dlP Q k i = Q i := fun i h h7 => dlP_c Q k i h h7
  refine ⟨fun j h1 h2 h3 => ?_, ?_, ?_, ?_, fun pl hp => ?_, fun j hj => ?_⟩
  · by_cases q : j < 153
    · by_cases q7 : j = 7
      · subst q7; rw [dlP_7]; have := w1 7 (by omega) (by omega) (by omega); omega
      · rw [e j q q7]; exact w1 j h1 h2 h3
    · unfold dlP
      rw [if_neg (by omega)]
      split
      · split
        · exact w1 (j + 3) (by omega) (by omega) (by omega)
        · omega
      · exact w1 j h1 h2 h3
  · rw [e 0 (by omega) (by omega), e 1 (by omega) (by omega), e 2 (by omega) (by omega), e 3 (by omega) (by omega), e 4 (by omega) (by omega)]; exact w2
  · rw [e 6 (by omega) (by omega)]
    refine ⟨w3.1, fun k hk => ?_, fun k hk => ?_⟩
    · have := w3.1
      rw [e (141 + 2 * k) (by omega) (by omega), e (141 + 2 * k + 1) (by omega) (by omega)]; exact w3.2.1 k hk
    · have := w3.1
      rw [e (141 + 2 * k + 1) (by omega) (by omega), e (141 + 2 * (k + 1)) (by omega) (by omega)]; exact w3.2.2 k hk
  · rw [dlP_7, e 5 (by omega) (by omega)]
    refine ⟨by omega, fun a ha => ?_⟩
    have := w4.1
    rw [dlP_o _ _ _ _ (by decide) (by omega), dlP_o _ _ _ _ (by decide) (by omega), dlP_o _ _ _ _ (by decide) (by omega)]
    exact w4.2 _ (by unfold sk9; split <;> omega)
  · simp only [ofP]
    rw [e (13 + 10 * pl + 3) (by omega) (by omega), e (13 + 10 * pl + 4) (by omega) (by omega), e (13 + 10 * pl + 5) (by omega) (by omega), e (13 + 10 * pl + 6) (by omega) (by omega), e (13 + 10 * pl + 0) (by omega) (by omega), e (13 + 10 * pl + 1) (by omega) (by omega), e (13 + 10 * pl + 2) (by omega) (by omega)]
    exact w5 pl hp
  · simp only [jbP]
    rw [e (93 + 3 * j + 0) (by omega) (by omega), e (93 + 3 * j + 1) (by omega) (by omega), e (93 + 3 * j + 2) (by omega) (by omega), e 5 (by omega) (by omega)]
    exact w6 j hj
/-- the outings of a park, opened -/
def Opn (h : HP) (L tg P : Nat → Nat) (pn : Nat) (K : Nat → Nat → Prop) (mc : Int32) (ks : Option Nat) (ν ad : Nat → Nat) : Prop := TsP h (L 5) (L 6) (fun a => tg a = 6 ∨ tg a = 61) K (P 7) mc ks ∧ (∀ q x, K q x ↔ ∃ i, i < P 7 ∧ q = kO (ogP P i 0) (ogP P i 1) (ν i) ∧ x = ad i) ∧ (∀ i, i < P 7 → OutAt h (ad i) (ogP P i 0) (ogP P i 1) (ogP P i 2) (ν i) ∧ ν i < pn ∧ ad i < h.sz) ∧ (∀ i j, i < j → j < P 7 → ν i < ν j) ∧ ∀ s, ks = some s → KsA h s (L 6)
/-- i is ahead of j, or the same -/
def oge (P : Nat → Nat) (i j : Nat) : Prop := ogP P i 0 < ogP P j 0 ∨ (ogP P i 0 = ogP P j 0 ∧ (ogP P j 1 < ogP P i 1 ∨ (ogP P i 1 = ogP P j 1 ∧ i ≤ j)))
section
variable {E : Ev} {h0 h h' : HP} {L tg0 tg tg' P P' td td' ν ad : Nat → Nat} {pn pn' : Nat} {fz fz' : Bool} {K : Nat → Nat → Prop} {mc : Int32} {ks : Option Nat}
theorem Opn.nu (X : Opn h L tg P pn K mc ks ν ad) {i j : Nat} (hi : i < P 7) (hj : j < P 7) : (ν i < ν j ↔ i < j) ∧ (ν i = ν j ↔ i = j) := by
  have x4 := X.2.2.2.1
  by_cases c : i < j
  · have := x4 i j c hj; omega
  · by_cases c2 : i = j
    · subst c2; omega
    · have := x4 j i (by omega) hi; omega
theorem Opn.key (X : Opn h L tg P pn K mc ks ν ad) (W : WF P) (hp : pn < 1048576) {i j : Nat} (hi : i < P 7) (hj : j < P 7) : kO (ogP P i 0) (ogP P i 1) (ν i) ≤ kO (ogP P j 0) (ogP P j 1) (ν j) ↔ oge P i j := by
  have a := X.nu hi hj
  have b := X.nu hj hi
  have w := W.og hi; have w2 := W.og hj
  have n1 := (X.2.2.1 i hi).2.1; have n2 := (X.2.2.1 j hj).2.1
  have e : i ≤ j ↔ ν i ≤ ν j := by omega
  unfold oge kO
  rw [e]
  omega
theorem Opn.ok9 (X : Opn h L tg P pn K mc ks ν ad) (W : WF P) (hp : pn < 1048576) : OK9 h K := PkT.ok9 W hp X.2.1 X.2.2.1
theorem c_first9 (X : Opn h L tg P pn K mc ks ν ad) (W : WF P) (hp : pn < 1048576) (hne : P 7 ≠ 0) (d k : Nat) (hd : 3 ≤ d) : Call E yJ10_first d k [.ref (L 5)] h (rR fun a h' => h' = h ∧ ∃ i, i < P 7 ∧ a = ad i ∧ ∀ j, j < P 7 → oge P i j) := by
  refine (c_tsFirst d k X.1 hd ⟨_, _, (X.2.1 _ _).mpr ⟨0, by omega, rfl, rfl⟩⟩).mono (fun r h' q => ?_)
  obtain ⟨a, e, e1, q, hq, mn⟩ := q
  obtain ⟨i, i1, i2, i3⟩ := (X.2.1 _ _).mp hq
  refine ⟨a, e, e1, i, i1, i3, fun j hj => ?_⟩
  have := mn _ _ ((X.2.1 _ _).mpr ⟨j, hj, rfl, rfl⟩)
  rw [i2] at this
  exact (X.key W hp i1 hj).mp this
/-- an outing less -/
theorem Opn.del (X : Opn h L tg P pn K mc ks ν ad) (W : WF P) (hp : pn < 1048576) {k : Nat} (hk : k < P 7) {mc' : Int32} {V : Nat → Prop} (M : Sm V h h') (h4 : ∀ a, h.kd a = 4 → ¬ V a) (h9 : ∀ a, h.kd a = 9 → ¬ V a) (Y : TsP h' (L 5) (L 6) (fun a => tg a = 6 ∨ tg a = 61) (fun q x9 => K q x9 ∧ ¬ q = kO (ogP P k 0) (ogP P k 1) (ν k)) (P 7 - 1) mc' ks) : Opn h' L tg (dlP P k) pn (fun q x9 => K q x9 ∧ ¬ q = kO (ogP P k 0) (ogP P k 1) (ν k)) mc' ks (fun a => ν (sk9 k a)) (fun a => ad (sk9 k a)) := by
  have h7 := W.h7
  obtain ⟨x1, x2, x3, x4, x5⟩ := id X
  have sl : ∀ a, a < P 7 - 1 → sk9 k a < P 7 := fun a ha => by unfold sk9; split <;> omega
  refine ⟨Y, fun q x => ?_, fun a ha => ?_, fun a b hab hb => ?_, fun s hs => (x5 s hs).keep9 M h9⟩
  · show (K q x ∧ ¬ q = kO (ogP P k 0) (ogP P k 1) (ν k)) ↔ ∃ i, i < dlP P k 7 ∧ q = kO (ogP (dlP P k) i 0) (ogP (dlP P k) i 1) (ν (sk9 k i)) ∧ x = ad (sk9 k i)
    rw [x2 q x, dlP_7]
    constructor
    · rintro ⟨⟨i, i1, i2, i3⟩, hn⟩
      have hik : i ≠ k := fun e => hn (by rw [i2, e])
      refine ⟨if i < k then i else i - 1, by split <;> omega, ?_, ?_⟩
      · rw [dlP_o _ _ _ _ (by decide) (by split <;> omega), dlP_o _ _ _ _ (by decide) (by split <;> omega)]
        have e : sk9 k (if i < k then i else i - 1) = i := sk9_inv hik
        rw [e]; exact i2
      · have e : sk9 k (if i < k then i else i - 1) = i := sk9_inv hik
        rw [e]; exact i3
    · rintro ⟨a, a1, a2, a3⟩
      rw [dlP_o _ _ _ _ (by decide) (by omega), dlP_o _ _ _ _ (by decide) (by omega)] at a2
      have s1 := sl a a1
      refine ⟨⟨sk9 k a, s1, a2, a3⟩, fun e => ?_⟩
      have w := W.og s1; have w2 := W.og hk
      have n1 := (x3 _ s1).2.1; have n2 := (x3 k hk).2.1
      have := kO_inj (by omega) (by omega) (by omega) (by omega) (a2.symm.trans e)
      have hs : sk9 k a ≠ k := by unfold sk9; split <;> omega
      exact hs ((X.nu s1 hk).2.mp this.2.2)
  · rw [dlP_7] at ha
    obtain ⟨g1, g2, g3⟩ := x3 _ (sl a ha)
    rw [dlP_o _ _ _ _ (by decide) (by omega), dlP_o _ _ _ _ (by decide) (by omega), dlP_o _ _ _ _ (by decide) (by omega)]
    have m := M.2 _ g3
    refine ⟨?_, g2, Nat.lt_of_lt_of_le g3 M.1⟩
    unfold OutAt at g1 ⊢
    rw [m.1, m.2.2 (h4 _ g1.1)]; exact g1
  · rw [dlP_7] at hb
    have hs : sk9 k a < sk9 k b := by unfold sk9; split <;> split <;> omega
    exact x4 _ _ hs (sl b hb)
theorem c_del9 (T : PkTo h0 L tg0 tg P td pn fz h) (X : Opn h L tg P pn K mc ks ν ad) (W : WF P) (hp : pn < 1048576) {i : Nat} (hi : i < P 7) (d k : Nat) (hd : 6 ≤ d) : Call E yJ10_remove d k [.ref (L 5), .ref (ad i)] h (rI fun _ h' => PkTo h0 L tg0 tg (dlP P i) td pn fz h' ∧ ∃ (mc' : Int32), Opn h' L tg (dlP P i) pn (fun q x9 => K q x9 ∧ ¬ q = kO (ogP P i 0) (ogP P i 1) (ν i)) mc' ks (fun a => ν (sk9 i a)) (fun a => ad (sk9 i a)) ∧ OutAt h' (ad i) (ogP P i 0) (ogP P i 1) (ogP P i 2) (ν i) ∧ ad i < h'.sz) := by
  obtain ⟨x1, x2, x3, x4, x5⟩ := id X
  obtain ⟨O, A, N, F, J, Q, Mm, Tt⟩ := id T.1
  have hsU : ¬ (tg (L 5) = 6 ∨ tg (L 5) = 61) := by rw [O.tg 5 rfl]; decide
  have h7 := W.h7
  have wi := W.og hi
  have bi := W.B.og (j := i) (w := 0) (by omega) (by decide)
  obtain ⟨o1, o2, o3⟩ := x3 i hi
  refine (c_tsRemove (kx := kO (ogP P i 0) (ogP P i 1) (ν i)) d k x1 fxJ8_107_4 o1.1 (fun q y0 hK => ?_) (O.lt 5 rfl) hsU hd ⟨_, (x2 _ _).mpr ⟨i, hi, rfl, rfl⟩⟩).mono (fun r h' q => ?_)
  · obtain ⟨y2, c2, g2, n2, o9, rfl, w1, w2, w3⟩ := X.ok9 W hp q y0 hK
    exact cmpO bi w1 (by omega) w2 (by omega) w3 o1 o9
  · obtain ⟨x, e, mc', Y, M, z⟩ := q
    have im : ∀ c, (c = 4 ∨ c = 9 ∨ c = 15) → ∀ a, h.kd a = c → ¬ (tg a = 6 ∨ tg a = 61) := fun c hc a ha q => O.imm hc a ha (by omega)
    have X9 := X.del W hp hi M (im 4 (by omega)) (im 9 (by omega)) Y
    have n0 : ¬ (tg (L 0) = 6 ∨ tg (L 0) = 61) := by rw [O.tg 0 rfl]; decide
    have n7 : ¬ (tg (L 7) = 6 ∨ tg (L 7) = 61) := by rw [O.tg 7 rfl]; decide
    refine ⟨x, e, T.outs (M.mono (fun a _ q => q.elim Or.inl (fun q => Or.inr (Or.inl q)))) (TgX.refl O 61) (fun a ha e9 => by rw [O.far ha] at e9; cases e9) (fun j hj => by rw [(M.2 _ (O.lt 0 rfl)).2.2 n0]) (N.keepP O M n0 n7 (fun c c1 c2 c3 => dlP_c _ _ _ (by omega) c3)) (fun c c1 c2 => dlP_c _ _ _ c2 (by omega)) (dlP_c _ _ _ (by decide) (by decide)) W.h6 ⟨_, _, _, _, _, X9⟩, mc', X9, ?_, Nat.lt_of_lt_of_le o3 M.1⟩
    have m := M.2 _ o3
    unfold OutAt at o1 ⊢
    rw [m.1, m.2.2 (im 4 (by omega) _ o1.1)]; exact o1
/-- the park's picture says nothing of the numbers behind its outings -/
theorem PkT.cong (X : PkT h L tg P pn) (e7 : P' 7 = P 7) (eo : ∀ i w, i < P 7 → w < 3 → ogP P' i w = ogP P i w) : PkT h L tg P' pn := by
  obtain ⟨K, mc, ks, ν, ad, x1, x2, x3, x4, x5⟩ := X
  refine ⟨K, mc, ks, ν, ad, by rw [e7]; exact x1, fun q x => ?_, fun i hi => ?_, fun i j hij hj => x4 i j hij (by rw [← e7]; exact hj), x5⟩
  · rw [x2 q x, e7]
    constructor
    · rintro ⟨i, i1, i2, i3⟩
      exact ⟨i, i1, by rw [eo i 0 i1 (by decide), eo i 1 i1 (by decide)]; exact i2, i3⟩
    · rintro ⟨i, i1, i2, i3⟩
      exact ⟨i, i1, by rw [eo i 0 i1 (by decide), eo i 1 i1 (by decide)] at i2; exact i2, i3⟩
  · rw [e7] at hi
    rw [eo i 0 hi (by decide), eo i 1 hi (by decide), eo i 2 hi (by decide)]
    exact x3 i hi
theorem PkTo.cong (T : PkTo h0 L tg0 tg P td pn fz h) (b6 : P 6 ≤ 6) (e : ∀ i, i < 153 → P' i = P i) (eo : ∀ i w, i < P 7 → w < 3 → ogP P' i w = ogP P i w) : PkTo h0 L tg0 tg P' td pn fz h := by
  obtain ⟨⟨O, A, N, F, J, Q, Mm, Tt⟩, S⟩ := T
  exact ⟨⟨O, A, N.keepP O (Sm.refl (fun _ => False) h) (fun f => f) (fun f => f) (fun c hc _ _ => e c (by omega)), F.keepP O (Sm.refl (fun _ => False) h) (fun _ _ => ⟨fun f => f, fun f => f, fun f => f⟩) (fun c _ hc => e c (by omega)), J, Q, Mm.keepX O (Sm.refl (fun _ => False) h) (fun _ _ f => f) (fun _ _ f => f) (fun _ _ f => f) (TgX.refl O 100) (by decide) (e 6 (by decide)) (fun c _ hc => e c hc) b6, Tt.cong (e 7 (by decide)) eo⟩, S⟩
end
