/-! PARK: its picture. Labels L: 0 park, 1 fountains, 2 jobs, 3 queue, 4 frosts, 5 outings, 6 the outings' map, 7 settings, 10 + i fountain i, 20 + i its reports, 30 + i its works, 40 + j job j. Tags tg: the label of a cell; 60 a cell of frosts, 61 of the outings' map, 62 the queue's array, 100 not the park's. -/
def lab (k : Nat) : Bool := decide (k < 8) || (decide (10 ≤ k) && decide (k < 18)) || (decide (20 ≤ k) && decide (k < 28)) || (decide (30 ≤ k) && decide (k < 38)) || (decide (40 ≤ k) && decide (k < 56))
def ftF (P : Nat → Nat) (td i : Nat) : Nat → Int32 := fun k => match k with
  | 0 => nI (ofP P i 6)
  | 1 => nI (ofP P i 0)
  | 2 => nI (ofP P i 1)
  | 3 => nI (ofP P i 2)
  | 4 => nI (ofP P i 3)
  | 5 => nI (ofP P i 4)
  | 6 => nI (ofP P i 5)
  | 7 => nI (ofP P i 7)
  | 8 => nI (ofP P i 8)
  | 9 => nI (ofP P i 9)
  | _ => nI td
def ftR (P : Nat → Nat) (i : Nat) : Nat → Int32 := fun k => if jbP P (2 * i + k) 0 = 1 then nI (jbP P (2 * i + k) 1) else -1
/-- whose cells, which labels -/
def PkO (h : HP) (L tg : Nat → Nat) : Prop := (∀ k, lab k = true → tg (L k) = k ∧ L k < h.sz) ∧ ∀ a, tg a ≠ 100 → a < h.sz ∧ h.kd a ≠ 4 ∧ h.kd a ≠ 9 ∧ h.kd a ≠ 15
/-- the park's references, its arrays -/
def PkA (h : HP) (L : Nat → Nat) : Prop := h.kd (L 0) = 1 ∧ (h.mm (L 0) 0 = .ref (L 1) ∧ h.mm (L 0) 1 = .ref (L 2) ∧ h.mm (L 0) 2 = .ref (L 3) ∧ h.mm (L 0) 3 = .ref (L 4) ∧ h.mm (L 0) 4 = .ref (L 5) ∧ h.mm (L 0) 5 = .ref (L 7)) ∧ (h.kd (L 1) = 105 ∧ h.ln (L 1) = 8 ∧ ∀ i, i < 8 → h.mm (L 1) i = .ref (L (10 + i))) ∧ (h.kd (L 2) = 106 ∧ h.ln (L 2) = 16 ∧ ∀ j, j < 16 → h.mm (L 2) j = .ref (L (40 + j))) ∧ h.kd (L 7) = 100 ∧ h.ln (L 7) = 5
/-- its numbers -/
def PkN (h : HP) (L P : Nat → Nat) (pn : Nat) (fz : Bool) : Prop := (∀ i, i < 5 → h.mm (L 7) i = .int (nI (P i))) ∧ h.mm (L 0) 6 = .int (nI (P 5)) ∧ h.mm (L 0) 7 = .int (nI pn) ∧ (∀ k, 8 ≤ k → k ≤ 12 → h.mm (L 0) k = .int (nI (P k))) ∧ h.mm (L 0) 13 = .int (nI (bN fz))
/-- its fountains -/
def PkF (h : HP) (L P td : Nat → Nat) : Prop := ∀ i, i < 8 → ∃ W : Nat → Int32, FtAt h (L (10 + i)) (L (20 + i)) (L (30 + i)) (ftF P (td i) i) (ftR P i) W ∧ ∀ k, k < 2 → jbP P (2 * i + k) 0 = 1 → W k = nI (jbP P (2 * i + k) 2)
def PkJ (h : HP) (L : Nat → Nat) : Prop := ∀ j, j < 16 → ∃ r y : Int32, JobAt h (L (40 + j)) (j / 2) (j % 2) r y
def PkQ (h : HP) (L tg : Nat → Nat) : Prop := ∃ (ar n cap : Nat) (g κ : Nat → Nat) (mc : Int32), PqP h (L 3) ar n cap g κ mc ∧ tg ar = 62 ∧ (cap = 11 ∨ cap = 24)
def PkM (h : HP) (L tg P : Nat → Nat) : Prop := ∃ (C : Nat → Nat → Nat → Prop) (mc : Int32) (ks : Option Nat), Mp h (L 4) (fun a => tg a = 4 ∨ tg a = 60) C (P 6) mc ks ∧ (∀ q x v, C q x v → ∃ k, k < P 6 ∧ q = P (141 + 2 * k) ∧ IntAt h x (nI q) ∧ IntAt h v (nI (P (141 + 2 * k + 1)))) ∧ (∀ k, k < P 6 → ∃ x v, C (P (141 + 2 * k)) x v) ∧ ∀ s, ks = some s → KsA h s (L 4)
def PkT (h : HP) (L tg P : Nat → Nat) (pn : Nat) : Prop := ∃ (K : Nat → Nat → Prop) (mc : Int32) (ks : Option Nat) (ν ad : Nat → Nat), TsP h (L 5) (L 6) (fun a => tg a = 6 ∨ tg a = 61) K (P 7) mc ks ∧ (∀ q x, K q x ↔ ∃ i, i < P 7 ∧ q = kO (ogP P i 0) (ogP P i 1) (ν i) ∧ x = ad i) ∧ (∀ i, i < P 7 → OutAt h (ad i) (ogP P i 0) (ogP P i 1) (ogP P i 2) (ν i) ∧ ν i < pn ∧ ad i < h.sz) ∧ (∀ i j, i < j → j < P 7 → ν i < ν j) ∧ ∀ s, ks = some s → KsA h s (L 6)
theorem PkO.lt {h : HP} {L tg : Nat → Nat} (O : PkO h L tg) (k : Nat) (hk : lab k = true) : L k < h.sz := (O.1 k hk).2
theorem PkO.tg {h : HP} {L tg : Nat → Nat} (O : PkO h L tg) (k : Nat) (hk : lab k = true) : tg (L k) = k := (O.1 k hk).1
theorem PkO.ne {h : HP} {L tg : Nat → Nat} (O : PkO h L tg) {k j : Nat} (hk : lab k = true) (hj : lab j = true) (e : k ≠ j) : L k ≠ L j := fun q => e (by rw [← O.tg k hk, ← O.tg j hj, q])
theorem PkO.keep {V : Nat → Prop} {h h' : HP} {L tg : Nat → Nat} (O : PkO h L tg) (M : Sm V h h') : PkO h' L tg :=
  ⟨fun k hk => ⟨(O.1 k hk).1, Nat.lt_of_lt_of_le (O.1 k hk).2 M.1⟩, fun a ha => by
    obtain ⟨g1, g2⟩ := O.2 a ha
    exact ⟨Nat.lt_of_lt_of_le g1 M.1, by rw [(M.2 a g1).1]; exact g2⟩⟩
theorem lab10 : ∀ i, i < 8 → lab (10 + i) = true ∧ lab (20 + i) = true ∧ lab (30 + i) = true := by decide
theorem lab40 : ∀ i, i < 16 → lab (40 + i) = true := by decide
theorem PkA.keep {V : Nat → Prop} {h h' : HP} {L tg : Nat → Nat} (X : PkA h L) (O : PkO h L tg) (M : Sm V h h') (h0 : ¬ V (L 0)) (h1 : ¬ V (L 1)) (h2 : ¬ V (L 2)) : PkA h' L := by
  obtain ⟨x1, x2, ⟨y1, y2, y3⟩, ⟨z1, z2, z3⟩, w1, w2⟩ := X
  have a0 := M.2 _ (O.lt 0 rfl); have a1 := M.2 _ (O.lt 1 rfl); have a2 := M.2 _ (O.lt 2 rfl); have a7 := M.2 _ (O.lt 7 rfl)
  refine ⟨a0.1.trans x1, ?_, ⟨a1.1.trans y1, a1.2.1.trans y2, ?_⟩, ⟨a2.1.trans z1, a2.2.1.trans z2, ?_⟩, a7.1.trans w1, a7.2.1.trans w2⟩
  · rw [a0.2.2 h0]; exact x2
  · rw [a1.2.2 h1]; exact y3
  · rw [a2.2.2 h2]; exact z3
theorem PkA.putS {h : HP} {L : Nat → Nat} {k : Nat} {v : Value} (X : PkA h L) (hk : 6 ≤ k) (e1 : L 1 ≠ L 0) (e2 : L 2 ≠ L 0) : PkA (h.put (L 0) k v) L := by
  obtain ⟨x1, ⟨u0, u1, u2, u3, u4, u5⟩, ⟨y1, y2, y3⟩, ⟨z1, z2, z3⟩, w1, w2⟩ := X
  have g : ∀ j, j < 6 → (h.put (L 0) k v).mm (L 0) j = h.mm (L 0) j := fun j hj => mm_nek _ _ _ _ _ (by omega)
  refine ⟨x1, ⟨(g 0 (by decide)).trans u0, (g 1 (by decide)).trans u1, (g 2 (by decide)).trans u2, (g 3 (by decide)).trans u3, (g 4 (by decide)).trans u4, (g 5 (by decide)).trans u5⟩, ⟨y1, y2, fun i hi => ?_⟩, ⟨z1, z2, fun i hi => ?_⟩, w1, w2⟩
  · rw [mm_nea _ _ _ _ _ e1]; exact y3 i hi
  · rw [mm_nea _ _ _ _ _ e2]; exact z3 i hi
theorem PkN.keep {V : Nat → Prop} {h h' : HP} {L tg P : Nat → Nat} {pn : Nat} {fz : Bool} (X : PkN h L P pn fz) (O : PkO h L tg) (M : Sm V h h') (h0 : ¬ V (L 0)) (h7 : ¬ V (L 7)) : PkN h' L P pn fz := by
  unfold PkN at X ⊢
  rw [(M.2 _ (O.lt 0 rfl)).2.2 h0, (M.2 _ (O.lt 7 rfl)).2.2 h7]
  exact X
theorem PkF.keep {V : Nat → Prop} {h h' : HP} {L tg P td : Nat → Nat} (X : PkF h L P td) (O : PkO h L tg) (M : Sm V h h') (hv : ∀ i, i < 8 → ¬ V (L (10 + i)) ∧ ¬ V (L (20 + i)) ∧ ¬ V (L (30 + i))) : PkF h' L P td := by
  intro i hi
  obtain ⟨W, x1, x2⟩ := X i hi
  obtain ⟨l1, l2, l3⟩ := lab10 i hi
  obtain ⟨v1, v2, v3⟩ := hv i hi
  exact ⟨W, x1.keep M ⟨O.lt _ l1, v1⟩ ⟨O.lt _ l2, v2⟩ ⟨O.lt _ l3, v3⟩, x2⟩
theorem PkJ.keep {V : Nat → Prop} {h h' : HP} {L tg : Nat → Nat} (X : PkJ h L) (O : PkO h L tg) (M : Sm V h h') (hv : ∀ j, j < 16 → ¬ V (L (40 + j))) : PkJ h' L := by
  intro j hj
  obtain ⟨r, y, x1⟩ := X j hj
  have m := M.2 _ (O.lt _ (lab40 j hj))
  refine ⟨r, y, ?_⟩
  unfold JobAt at x1 ⊢
  rw [m.1, m.2.2 (hv j hj)]; exact x1
theorem PqP.keep {V : Nat → Prop} {h h' : HP} {p ar n cap : Nat} {g κ : Nat → Nat} {mc : Int32} (X : PqP h p ar n cap g κ mc) (M : Sm V h h') (hv : ¬ V p) (ha : ¬ V ar) : PqP h' p ar n cap g κ mc := by
  obtain ⟨p1, p2, p3, p4, p5, p6, ⟨q1, q2, q3, q4, q5, q6, q7⟩, p8⟩ := X
  have m := M.2 _ p6; have n := M.2 _ q7
  refine ⟨m.1.trans p1, by rw [m.2.2 hv]; exact p2, by rw [m.2.2 hv]; exact p3, by rw [m.2.2 hv]; exact p4, by rw [m.2.2 hv]; exact p5, Nat.lt_of_lt_of_le p6 M.1, ⟨n.1.trans q1, n.2.1.trans q2, q3, q4, ?_, ?_, Nat.lt_of_lt_of_le q7 M.1⟩, p8⟩
  · rw [n.2.2 ha]; exact q5
  · rw [n.2.2 ha]; exact q6
theorem PkQ.keep {V : Nat → Prop} {h h' : HP} {L tg : Nat → Nat} (X : PkQ h L tg) (M : Sm V h h') (hv : ¬ V (L 3)) (ha : ∀ a, tg a = 62 → ¬ V a) : PkQ h' L tg := by
  obtain ⟨ar, n, cap, g, κ, mc, x1, x2, x3⟩ := X
  exact ⟨ar, n, cap, g, κ, mc, x1.keep M hv (ha ar x2), x2, x3⟩
theorem IntAt.keep9 {V : Nat → Prop} {h h' : HP} {a : Nat} {x : Int32} (X : IntAt h a x) (M : Sm V h h') (hv : ¬ V a) : IntAt h' a x := by
  obtain ⟨x1, x2, x3⟩ := X
  have m := M.2 _ x1
  exact ⟨Nat.lt_of_lt_of_le x1 M.1, m.1.trans x2, by rw [m.2.2 hv]; exact x3⟩
theorem KsA.keep9 {V : Nat → Prop} {h h' : HP} {s t : Nat} (X : KsA h s t) (M : Sm V h h') (h9 : ∀ a, h.kd a = 9 → ¬ V a) : KsA h' s t := by
  obtain ⟨x1, x2, x3⟩ := X
  have m := M.2 _ x1
  exact ⟨Nat.lt_of_lt_of_le x1 M.1, m.1.trans x2, by rw [m.2.2 (h9 _ x2)]; exact x3⟩
theorem PkM.keep {V : Nat → Prop} {h h' : HP} {L tg P : Nat → Nat} (X : PkM h L tg P) (M : Sm V h h') (hv : ∀ a, tg a = 4 ∨ tg a = 60 → ¬ V a) (h15 : ∀ a, h.kd a = 15 → ¬ V a) (h9 : ∀ a, h.kd a = 9 → ¬ V a) : PkM h' L tg P := by
  obtain ⟨C, mc, ks, x1, x2, x3, x4⟩ := X
  refine ⟨C, mc, ks, x1.keep M hv, fun q x v hC => ?_, x3, fun s hs => (x4 s hs).keep9 M h9⟩
  obtain ⟨k, k1, k2, k3, k4⟩ := x2 q x v hC
  exact ⟨k, k1, k2, k3.keep9 M (h15 _ k3.2.1), k4.keep9 M (h15 _ k4.2.1)⟩
theorem PkT.keep {V : Nat → Prop} {h h' : HP} {L tg P : Nat → Nat} {pn : Nat} (X : PkT h L tg P pn) (O : PkO h L tg) (M : Sm V h h') (h5 : ¬ V (L 5)) (hv : ∀ a, tg a = 6 ∨ tg a = 61 → ¬ V a) (h4 : ∀ a, h.kd a = 4 → ¬ V a) (h9 : ∀ a, h.kd a = 9 → ¬ V a) : PkT h' L tg P pn := by
  obtain ⟨K, mc, ks, ν, ad, x1, x2, x3, x4, x5⟩ := X
  refine ⟨K, mc, ks, ν, ad, x1.keep M (O.lt 5 rfl) hv h5, x2, fun i hi => ?_, x4, fun s hs => (x5 s hs).keep9 M h9⟩
  obtain ⟨y1, y2, y3⟩ := x3 i hi
  have m := M.2 _ y3
  refine ⟨?_, y2, Nat.lt_of_lt_of_le y3 M.1⟩
  unfold OutAt at y1 ⊢
  rw [m.1, m.2.2 (h4 _ y1.1)]; exact y1
/-- the park -/
def Pk (h : HP) (L tg P td : Nat → Nat) (pn : Nat) (fz : Bool) : Prop := PkO h L tg ∧ PkA h L ∧ PkN h L P pn fz ∧ PkF h L P td ∧ PkJ h L ∧ PkQ h L tg ∧ PkM h L tg P ∧ PkT h L tg P pn
/-- nothing of the park was written -/
theorem Pk.keep {V : Nat → Prop} {h h' : HP} {L tg P td : Nat → Nat} {pn : Nat} {fz : Bool} (X : Pk h L tg P td pn fz) (M : Sm V h h') (hv : ∀ a, tg a ≠ 100 → ¬ V a) (h15 : ∀ a, h.kd a = 15 → ¬ V a) (h4 : ∀ a, h.kd a = 4 → ¬ V a) (h9 : ∀ a, h.kd a = 9 → ¬ V a) : Pk h' L tg P td pn fz := by
  obtain ⟨O, A, N, F, J, Q, Mm, T⟩ := X
  have lv : ∀ k, lab k = true → ¬ V (L k) := fun k hk => hv _ (by rw [O.tg k hk]; intro e; subst e; cases hk)
  refine ⟨O.keep M, A.keep O M (lv 0 rfl) (lv 1 rfl) (lv 2 rfl), N.keep O M (lv 0 rfl) (lv 7 rfl), F.keep O M (fun i hi => ⟨lv _ (lab10 i hi).1, lv _ (lab10 i hi).2.1, lv _ (lab10 i hi).2.2⟩), J.keep O M (fun j hj => lv _ (lab40 j hj)), Q.keep M (lv 3 rfl) (fun a e => hv a (by omega)), Mm.keep M (fun a e => hv a (by omega)) h15 h9, T.keep O M (lv 5 rfl) (fun a e => hv a (by omega)) h4 h9⟩
/-- written cells that are the park's own are none of the immutable kinds -/
theorem PkO.imm {h : HP} {L tg : Nat → Nat} (O : PkO h L tg) {c : Nat} (hc : c = 4 ∨ c = 9 ∨ c = 15) (a : Nat) (ha : h.kd a = c) : ¬ tg a ≠ 100 := fun q => by
  obtain ⟨-, g1, g2, g3⟩ := O.2 a q
  omega
/-- new cells get a tag -/
def tgn (tg : Nat → Nat) (a v : Nat) : Nat → Nat := fun b => if b = a then v else tg b
theorem tgn_s (tg : Nat → Nat) (a v : Nat) : tgn tg a v a = v := by simp [tgn]
theorem tgn_n (tg : Nat → Nat) {a b : Nat} (v : Nat) (e : b ≠ a) : tgn tg a v b = tg b := by simp [tgn, e]
