/-! PARK: walks over its frosts, its outings -/
section
variable {E : Ev} {h0 h h' : HP} {L tg0 tg tg' P P' td td' ν ad : Nat → Nat} {pn pn' : Nat} {fz fz' : Bool} {V : Nat → Prop}
theorem PkA.keepM (A : PkA h L) (O : PkO h L tg) (M : Sm V h h') (hV : ∀ k, k < 3 → ¬ V (L k)) : PkA h' L := A.keep O M (hV 0 (by decide)) (hV 1 (by decide)) (hV 2 (by decide))
/-- the frosts were written -/
theorem PkTo.fros (T : PkTo h0 L tg0 tg P td pn fz h) (M : Sm (fun a => tg a = 4 ∨ tg a = 60) h h') (G : TgX h tg tg' 60) (ow : ∀ a, h.sz ≤ a → tg' a = 60 → a < h'.sz ∧ h'.kd a ≠ 4 ∧ h'.kd a ≠ 9 ∧ h'.kd a ≠ 15) (hP : ∀ c, c ≠ 6 → c < 141 ∨ 153 ≤ c → P' c = P c) (M' : PkM h' L tg' P') : PkTo h0 L tg0 tg' P' td pn fz h' := by
  obtain ⟨O, A, N, F, J, Q, Mm, Tt⟩ := T.1
  have lv : ∀ k, lab k = true → k ≠ 4 → k ≠ 60 → ¬ (tg (L k) = 4 ∨ tg (L k) = 60) := fun k hk k1 k2 q => by rw [O.tg k hk] at q; omega
  have im : ∀ c, (c = 4 ∨ c = 9 ∨ c = 15) → ∀ a, h.kd a = c → ¬ (tg a = 4 ∨ tg a = 60) := fun c hc a ha q => O.imm hc a ha (by omega)
  exact T.mk M (fun a _ q => by omega) G ⟨O.step M G (fun a ha e _ => ow a ha e), A.keep O M (lv 0 rfl (by decide) (by decide)) (lv 1 rfl (by decide) (by decide)) (lv 2 rfl (by decide) (by decide)), N.keepP O M (lv 0 rfl (by decide) (by decide)) (lv 7 rfl (by decide) (by decide)) (fun c c1 c2 c3 => hP c c2 (by omega)), F.keepP O M (fun i hi => ⟨lv _ (lab10 i hi).1 (by omega) (by omega), lv _ (lab10 i hi).2.1 (by omega) (by omega), lv _ (lab10 i hi).2.2 (by omega) (by omega)⟩) (fun c c1 c2 => hP c (by omega) (by omega)), J.keep O M (fun j hj => lv _ (lab40 j hj) (by omega) (by omega)), Q.keepX M (lv 3 rfl (by decide) (by decide)) (fun a ha q => by omega) G, M', Tt.keepX O M (lv 5 rfl (by decide) (by decide)) (fun a ha q => by omega) (im 4 (by omega)) (im 9 (by omega)) G (by decide) (hP 7 (by decide) (by decide)) (fun c hc => hP c (by omega) (by omega)) (Nat.le_refl _)⟩
/-- an iterator that comes next to frost i -/
def ItM (h : HP) (L tg P : Nat → Nat) (it i : Nat) : Prop := tg it = 100 ∧ it < h.sz ∧ h.kd it = 10 ∧ ∃ (C : Nat → Nat → Nat → Prop) (mc : Int32) (ks : Option Nat) (b : Nat), MpIt h (L 4) (fun a => tg a = 4 ∨ tg a = 60) C (P 6) mc ks it b ∧ (∀ q x v, C q x v → ∃ k, k < P 6 ∧ q = P (141 + 2 * k) ∧ IntAt h x (nI q)) ∧ (∀ k, k < P 6 → ∃ x v, C (P (141 + 2 * k)) x v) ∧ ∀ j, j < P 6 → (j < i ↔ P (141 + 2 * j) < b)
theorem ItM.keep {it i : Nat} (I : ItM h L tg P it i) (M : Sm V h h') (hv : ∀ a, tg a = 4 ∨ tg a = 60 → ¬ V a) (hi : ¬ V it) (h15 : ∀ a, h.kd a = 15 → ¬ V a) : ItM h' L tg P it i := by
  obtain ⟨t, lt, kd, C, mc, ks, b, I, c1, c2, c3⟩ := I
  refine ⟨t, Nat.lt_of_lt_of_le lt M.1, (M.2 it lt).1.trans kd, C, mc, ks, b, I.keep M hv hi, fun q x v hC => ?_, c2, c3⟩
  obtain ⟨k, k1, k2, k3⟩ := c1 q x v hC
  exact ⟨k, k1, k2, k3.keep9 M (h15 _ k3.2.1)⟩
theorem ItM.kd {it i : Nat} (I : ItM h L tg P it i) : h.kd it = 10 := I.2.2.1
/-- a key set of its frosts -/
theorem c_pkKeys (T : PkTo h0 L tg0 tg P td pn fz h) (d k : Nat) (hd : 5 ≤ d) (hk : 1 ≤ k) : Call E yJ8_keySet d k [.ref (L 4)] h (rR fun s h' => PkTo h0 L tg0 tg P td pn fz h' ∧ KsA h' s (L 4) ∧ Sm (fun a => tg a = 4 ∨ tg a = 60) h h' ∧ h'.sz ≤ h.sz + 1) := by
  obtain ⟨C, mc, ks, M1, M2, M3, M4⟩ := T.1.2.2.2.2.2.2.1
  have O := T.1.1
  refine (c_keySet d k M1 hd hk M4).mono (fun r h' q => ?_)
  obtain ⟨s, e, M1', K, M, z, -⟩ := q
  have im : ∀ c, (c = 4 ∨ c = 9 ∨ c = 15) → ∀ a, h.kd a = c → ¬ (tg a = 4 ∨ tg a = 60) := fun c hc a ha q => O.imm hc a ha (by omega)
  refine ⟨s, e, T.fros M (TgX.refl O 60) (fun a ha e9 => by rw [O.far ha] at e9; cases e9) (fun _ _ _ => rfl) ⟨C, mc, some s, M1', fun q x v hC => ?_, M3, fun s' hs => by cases hs; exact K⟩, K, M, z⟩
  obtain ⟨j, j1, j2, j3, j4⟩ := M2 q x v hC
  exact ⟨j, j1, j2, j3.keep9 M (im 15 (by omega) _ j3.2.1), j4.keep9 M (im 15 (by omega) _ j4.2.1)⟩
theorem c_pkIterM (T : PkTo h0 L tg0 tg P td pn fz h) {s : Nat} (K : KsA h s (L 4)) (d k : Nat) (hd : 4 ≤ d) (hk : 2 ≤ k) : Call E yJ22_iterator d k [.ref s] h (rR fun it h' => it = h.sz ∧ PkTo h0 L tg0 tg P td pn fz h' ∧ ItM h' L tg P it 0 ∧ Sm (fun _ => False) h h' ∧ h'.sz = h.sz + 1) := by
  obtain ⟨C, mc, ks, M1, M2, M3, M4⟩ := T.1.2.2.2.2.2.2.1
  refine (c_ksIter d k M1 hd hk K).mono (fun r h' q => ?_)
  obtain ⟨it, e, eit, I, M, z⟩ := q
  have hk10 : h'.kd it = 10 := by
    obtain ⟨S, κ, ke, va, L9, R9, P9, rt, D, cl, xs, e9, B9, i1, -⟩ := I; exact i1
  refine ⟨it, e, eit, T.new M (fun _ _ f => f), ⟨by rw [eit]; exact T.1.1.far (Nat.le_refl _), by omega, hk10, C, mc, ks, 0, I, fun q x v hC => ?_, M3, fun j _ => by omega⟩, M, z⟩
  obtain ⟨j, j1, j2, j3, -⟩ := M2 q x v hC
  exact ⟨j, j1, j2, j3.keep9 M (fun f => f)⟩
theorem c_pkHasM {it i : Nat} (I : ItM h L tg P it i) (d k : Nat) : Call E yJ23_hasNext d k [.ref it] h (rP h (nI (bN (decide (i < P 6))))) := by
  obtain ⟨t, lt, kd, C, mc, ks, b, I, c1, c2, c3⟩ := I
  refine (c_hasNext d k I).mono (fun r h' q => ?_)
  obtain ⟨x, e, e1, q⟩ := q
  refine ⟨x, e, e1, ?_⟩
  rcases q with ⟨rfl, q, y, v, hC, hb⟩ | ⟨rfl, hq⟩
  · obtain ⟨j, j1, j2, -⟩ := c1 q y v hC
    have := c3 j j1
    rw [decide_eq_true (show i < P 6 by omega)]; rfl
  · have : ¬ i < P 6 := fun hi => by
      obtain ⟨x, v, hC⟩ := c2 i hi
      have := hq _ _ _ hC
      have := c3 i hi
      omega
    rw [decide_eq_false this]; rfl
theorem c_pkNextM {it i : Nat} (I : ItM h L tg P it i) (W : WF P) (hi : i < P 6) (d k : Nat) (hd : 2 ≤ d) : Call E yJ25_next d k [.ref it] h (rR fun x h' => IntAt h' x (nI (P (141 + 2 * i))) ∧ ItM h' L tg P it (i + 1) ∧ Sm (fun a => a = it) h h' ∧ h'.sz = h.sz) := by
  obtain ⟨t, lt, kd, C, mc, ks, b, I, c1, c2, c3⟩ := I
  obtain ⟨x0, v0, h0⟩ := c2 i hi
  have hb0 : b ≤ P (141 + 2 * i) := by have := c3 i hi; omega
  refine (c_next d k I hd ⟨_, _, _, h0, hb0⟩).mono (fun r h' q => ?_)
  obtain ⟨x, e, q, v, hC, hbq, mn, I', M, z⟩ := q
  have n15 : ∀ a, h.kd a = 15 → ¬ a = it := fun a ha q => by rw [q, kd] at ha; cases ha
  obtain ⟨j, j1, j2, j3⟩ := c1 q x v hC
  have ej : j = i := by
    have m := mn _ _ _ h0 hb0
    have := c3 j j1
    apply Classical.byContradiction
    intro q9
    by_cases q8 : j < i
    · omega
    · have := frs_lt W (i := i) j (by omega) j1
      have := W.2.2.1.2.1 i hi
      omega
  subst ej
  refine ⟨x, e, by rw [← j2]; exact j3.keep9 M (n15 _ j3.2.1), ⟨t, by omega, (M.2 it lt).1.trans kd, C, mc, ks, q + 1, I', fun q9 x9 v9 hC9 => ?_, c2, fun l hl => ?_⟩, M, z⟩
  · obtain ⟨l, l1, l2, l3⟩ := c1 q9 x9 v9 hC9
    exact ⟨l, l1, l2, l3.keep9 M (n15 _ l3.2.1)⟩
  · rw [j2]
    by_cases q8 : l < j
    · have := frs_lt W (i := l) j q8 hi
      have := W.2.2.1.2.1 l hl
      omega
    · by_cases q7 : l = j
      · subst q7; omega
      · have := frs_lt W (i := j) l (by omega) hl
        have := W.2.2.1.2.1 j hi
        omega
/-- an outing's key -/
def kyO (P ν : Nat → Nat) (i : Nat) : Nat := kO (ogP P i 0) (ogP P i 1) (ν i)
/-- the outings by addresses and numbers -/
def Adr (h : HP) (P ν ad : Nat → Nat) (pn : Nat) : Prop := (∀ i, i < P 7 → OutAt h (ad i) (ogP P i 0) (ogP P i 1) (ogP P i 2) (ν i) ∧ ν i < pn ∧ ad i < h.sz) ∧ ∀ i j, i < j → j < P 7 → ν i < ν j
theorem Adr.keep (X : Adr h P ν ad pn) (M : Sm V h h') (h4 : ∀ a, h.kd a = 4 → ¬ V a) : Adr h' P ν ad pn := by
  refine ⟨fun i hi => ?_, X.2⟩
  obtain ⟨y1, y2, y3⟩ := X.1 i hi
  have m := M.2 _ y3
  refine ⟨?_, y2, Nat.lt_of_lt_of_le y3 M.1⟩
  unfold OutAt at y1 ⊢
  rw [m.1, m.2.2 (h4 _ y1.1)]; exact y1
/-- an iterator over its outings that comes next to the least key from b on -/
def ItT (h : HP) (L tg P ν ad : Nat → Nat) (it b : Nat) : Prop := tg it = 100 ∧ it < h.sz ∧ h.kd it = 10 ∧ ∃ (C : Nat → Nat → Nat → Prop) (mc : Int32) (ks : Option Nat), MpIt h (L 6) (fun a => tg a = 6 ∨ tg a = 61) C (P 7) mc ks it b ∧ ∀ q x, (∃ v, C q x v) ↔ ∃ i, i < P 7 ∧ q = kyO P ν i ∧ x = ad i
theorem ItT.keep {it b : Nat} (I : ItT h L tg P ν ad it b) (M : Sm V h h') (hv : ∀ a, tg a = 6 ∨ tg a = 61 → ¬ V a) (hi : ¬ V it) : ItT h' L tg P ν ad it b := by
  obtain ⟨t, lt, kd, C, mc, ks, I, c1⟩ := I
  exact ⟨t, Nat.lt_of_lt_of_le lt M.1, (M.2 it lt).1.trans kd, C, mc, ks, I.keep M hv hi, c1⟩
theorem ItT.kd {it i : Nat} (I : ItT h L tg P ν ad it i) : h.kd it = 10 := I.2.2.1
theorem c_pkIterT (T : PkTo h0 L tg0 tg P td pn fz h) (b6 : P 6 ≤ 6) (d k : Nat) (hd : 5 ≤ d) (hk : 3 ≤ k) : Call E yJ10_iterator d k [.ref (L 5)] h (rR fun it h' => ∃ ν ad, h.sz ≤ it ∧ PkTo h0 L tg0 tg P td pn fz h' ∧ Adr h' P ν ad pn ∧ ItT h' L tg P ν ad it 0 ∧ Sm (fun a => tg a = 6 ∨ tg a = 61) h h' ∧ h'.sz ≤ h.sz + 2) := by
  obtain ⟨O, A, N, F, J, Q, Mm, K, mc, ks, ν, ad, x1, x2, x3, x4, x5⟩ := id T.1
  refine (c_tsIter d k x1 hd hk x5).mono (fun r h' q => ?_)
  obtain ⟨it, e, s2, C, hC, I, K2, M, z, hs2, hit, hne⟩ := q
  have im : ∀ c, (c = 4 ∨ c = 9 ∨ c = 15) → ∀ a, h.kd a = c → ¬ (tg a = 6 ∨ tg a = 61) := fun c hc a ha q => O.imm hc a ha (by omega)
  have hk10 : h'.kd it = 10 ∧ it < h'.sz := by
    obtain ⟨S, κ, ke, va, L9, R9, P9, rt, D, cl, xs, e9, B9, i1, i2, i3, i4, -⟩ := I; exact ⟨i1, i4⟩
  have X3 : Adr h' P ν ad pn := (show Adr h P ν ad pn from ⟨x3, x4⟩).keep M (im 4 (by omega))
  have n0 : ¬ (tg (L 0) = 6 ∨ tg (L 0) = 61) := by rw [O.tg 0 rfl]; decide
  have n5 : ¬ (tg (L 5) = 6 ∨ tg (L 5) = 61) := by rw [O.tg 5 rfl]; decide
  have n7 : ¬ (tg (L 7) = 6 ∨ tg (L 7) = 61) := by rw [O.tg 7 rfl]; decide
  have m5 := M.2 _ (O.lt 5 rfl)
  have TT : PkT h' L tg P pn := ⟨K, mc, some s2, ν, ad, ⟨m5.1.trans x1.1, by rw [m5.2.2 n5]; exact x1.2.1, C, I.mp, hC⟩, x2, X3.1, x4, fun s hs => by cases hs; exact K2⟩
  refine ⟨it, e, ν, ad, hit, T.outs (M.mono (fun a _ q => q.elim Or.inl (fun q => Or.inr (Or.inl q)))) (TgX.refl O 61) (fun a ha e9 => by rw [O.far ha] at e9; cases e9) (fun j hj => by rw [(M.2 _ (O.lt 0 rfl)).2.2 n0]) (N.keep O M n0 n7) (fun _ _ _ => rfl) rfl b6 TT, X3, ⟨O.far hit, hk10.2, hk10.1, C, mc, some s2, I, fun q x => (hC q x).symm.trans (x2 q x)⟩, M, z⟩
theorem c_pkHasT {it b : Nat} (I : ItT h L tg P ν ad it b) (d k : Nat) : Call E yJ23_hasNext d k [.ref it] h (rI fun x h' => h' = h ∧ ((x = nI 1 ∧ ∃ i, i < P 7 ∧ b ≤ kyO P ν i) ∨ (x = nI 0 ∧ ∀ i, i < P 7 → kyO P ν i < b))) := by
  obtain ⟨t, lt, kd, C, mc, ks, I, c1⟩ := I
  refine (c_hasNext d k I).mono (fun r h' q => ?_)
  obtain ⟨x, e, e1, q⟩ := q
  refine ⟨x, e, e1, q.imp (fun ⟨q, q9, y, v, hC, hb⟩ => ⟨q, ?_⟩) (fun ⟨q, hq⟩ => ⟨q, fun i hi => ?_⟩)⟩
  · obtain ⟨i, i1, i2, -⟩ := (c1 _ _).mp ⟨v, hC⟩
    exact ⟨i, i1, by rw [← i2]; exact hb⟩
  · obtain ⟨v, hC⟩ := (c1 _ _).mpr ⟨i, hi, rfl, rfl⟩
    exact hq _ _ _ hC
theorem c_pkNextT {it b : Nat} (I : ItT h L tg P ν ad it b) (hne : ∃ i, i < P 7 ∧ b ≤ kyO P ν i) (d k : Nat) (hd : 2 ≤ d) : Call E yJ25_next d k [.ref it] h (rR fun x h' => ∃ i, i < P 7 ∧ x = ad i ∧ b ≤ kyO P ν i ∧ (∀ j, j < P 7 → b ≤ kyO P ν j → kyO P ν i ≤ kyO P ν j) ∧ ItT h' L tg P ν ad it (kyO P ν i + 1) ∧ Sm (fun a => a = it) h h' ∧ h'.sz = h.sz) := by
  obtain ⟨t, lt, kd, C, mc, ks, I, c1⟩ := I
  obtain ⟨i0, i01, i02⟩ := hne
  obtain ⟨v0, h0⟩ := (c1 _ _).mpr ⟨i0, i01, rfl, rfl⟩
  refine (c_next d k I hd ⟨_, _, _, h0, i02⟩).mono (fun r h' q => ?_)
  obtain ⟨x, e, q, v, hC, hbq, mn, I', M, z⟩ := q
  obtain ⟨i, i1, i2, i3⟩ := (c1 _ _).mp ⟨v, hC⟩
  refine ⟨x, e, i, i1, i3, by rw [← i2]; exact hbq, fun j hj hb => ?_, ⟨t, by omega, (M.2 it lt).1.trans kd, C, mc, ks, by rw [← i2]; exact I', c1⟩, M, z⟩
  obtain ⟨w, hw⟩ := (c1 _ _).mpr ⟨j, hj, rfl, rfl⟩
  rw [← i2]; exact mn _ _ _ hw hb
end
