/-! PARK: steps that write its maps, its queue; planning -/
section
variable {h0 h h' : HP} {L tg0 tg tg' P P' td td' : Nat → Nat} {pn pn' : Nat} {fz fz' : Bool} {V : Nat → Prop}
/-- new cells are tagged c -/
def TgX (h : HP) (tg tg' : Nat → Nat) (c : Nat) : Prop := (∀ a, a < h.sz → tg' a = tg a) ∧ ∀ a, h.sz ≤ a → tg' a = 100 ∨ tg' a = c
theorem PkO.far (O : PkO h L tg) {a : Nat} (ha : h.sz ≤ a) : tg a = 100 := Classical.byContradiction fun q => by have := (O.2 a q).1; omega
theorem TgX.refl (O : PkO h L tg) (c : Nat) : TgX h tg tg c := ⟨fun _ _ => rfl, fun _ ha => Or.inl (O.far ha)⟩
theorem TgX.set (O : PkO h L tg) {a c : Nat} (ha : h.sz ≤ a) : TgX h tg (tgn tg a c) c := ⟨fun b hb => tgn_n _ _ (by omega), fun b hb => by
  by_cases e : b = a
  · rw [e, tgn_s]; exact Or.inr rfl
  · rw [tgn_n _ _ e]; exact Or.inl (O.far hb)⟩
theorem PkO.step (O : PkO h L tg) {c : Nat} (M : Sm V h h') (X : TgX h tg tg' c) (hc : ∀ a, h.sz ≤ a → tg' a = c → tg' a ≠ 100 → a < h'.sz ∧ h'.kd a ≠ 4 ∧ h'.kd a ≠ 9 ∧ h'.kd a ≠ 15) : PkO h' L tg' := by
  refine ⟨fun k hk => ⟨(X.1 _ (O.lt k hk)).trans (O.tg k hk), Nat.lt_of_lt_of_le (O.lt k hk) M.1⟩, fun a ha => ?_⟩
  by_cases q : a < h.sz
  · obtain ⟨g1, g2⟩ := O.2 a (by rw [← X.1 a q]; exact ha)
    exact ⟨Nat.lt_of_lt_of_le g1 M.1, by rw [(M.2 a g1).1]; exact g2⟩
  · rcases X.2 a (by omega) with e | e
    · exact absurd e ha
    · exact hc a (by omega) e ha
theorem PkN.keepP (X : PkN h L P pn fz) (O : PkO h L tg) (M : Sm V h h') (h0 : ¬ V (L 0)) (h7 : ¬ V (L 7)) (hP : ∀ c, c < 13 → c ≠ 6 → c ≠ 7 → P' c = P c) : PkN h' L P' pn fz := by
  obtain ⟨n1, n2, n3, n4, n5⟩ := X.keep O M h0 h7
  exact ⟨fun i hi => by rw [hP i (by omega) (by omega) (by omega)]; exact n1 i hi, by rw [hP 5 (by omega) (by omega) (by omega)]; exact n2, n3, fun k k1 k2 => by rw [hP k (by omega) (by omega) (by omega)]; exact n4 k k1 k2, n5⟩
theorem PkF.keepP (X : PkF h L P td) (O : PkO h L tg) (M : Sm V h h') (hv : ∀ i, i < 8 → ¬ V (L (10 + i)) ∧ ¬ V (L (20 + i)) ∧ ¬ V (L (30 + i))) (hP : ∀ c, 13 ≤ c → c < 141 → P' c = P c) : PkF h' L P' td := by
  intro j hj
  obtain ⟨W2, y1, x2⟩ := X.keep O M hv j hj
  have eo : ∀ w, w < 10 → ofP P' j w = ofP P j w := fun w hw => hP _ (by omega) (by omega)
  have eb : ∀ k w, k < 2 → w < 3 → jbP P' (2 * j + k) w = jbP P (2 * j + k) w := fun k w hk hw => hP _ (by omega) (by omega)
  refine ⟨W2, y1.congr (fun k hk => ?_) (fun k hk => ?_) (fun _ _ => rfl), fun k hk q9 => ?_⟩
  · unfold ftF
    rw [eo 0 (by decide), eo 1 (by decide), eo 2 (by decide), eo 3 (by decide), eo 4 (by decide), eo 5 (by decide), eo 6 (by decide), eo 7 (by decide), eo 8 (by decide), eo 9 (by decide)]
  · unfold ftR; rw [eb k 0 hk (by decide), eb k 1 hk (by decide)]
  · rw [eb k 0 hk (by decide)] at q9
    rw [eb k 2 hk (by decide)]; exact x2 k hk q9
theorem PkQ.keepX (X : PkQ h L tg) {c : Nat} (M : Sm V h h') (hv : ¬ V (L 3)) (ha : ∀ a, tg a = 62 → ¬ V a) (G : TgX h tg tg' c) : PkQ h' L tg' := by
  obtain ⟨ar, n, cap, g, κ, mc, x1, x2, x3⟩ := X
  exact ⟨ar, n, cap, g, κ, mc, x1.keep M hv (ha ar x2), (G.1 ar x1.2.2.2.2.2.2.1.2.2.2.2.2.2).trans x2, x3⟩
theorem TgX.or (O : PkO h L tg) {c a b : Nat} (G : TgX h tg tg' c) (h1 : a ≠ 100) (h2 : b ≠ 100) (h3 : a ≠ c) (h4 : b ≠ c) : (fun x => tg' x = a ∨ tg' x = b) = (fun x => tg x = a ∨ tg x = b) := by
  funext x
  by_cases q : x < h.sz
  · rw [G.1 x q]
  · have e := O.far (a := x) (by omega)
    have e2 := G.2 x (by omega)
    apply propext
    rw [e]
    constructor
    · intro q2; rcases e2 with e2 | e2 <;> rw [e2] at q2 <;> omega
    · intro q2; omega
theorem PkM.keepX (X : PkM h L tg P) {c : Nat} (O : PkO h L tg) (M : Sm V h h') (hv : ∀ a, tg a = 4 ∨ tg a = 60 → ¬ V a) (h15 : ∀ a, h.kd a = 15 → ¬ V a) (h9 : ∀ a, h.kd a = 9 → ¬ V a) (G : TgX h tg tg' c) (hc : c ≠ 4 ∧ c ≠ 60) (e6 : P' 6 = P 6) (hP : ∀ c, 141 ≤ c → c < 153 → P' c = P c) (b6 : P 6 ≤ 6) : PkM h' L tg' P' := by
  obtain ⟨C, mc, ks, x1, x2, x3, x4⟩ := X.keep M hv h15 h9
  refine ⟨C, mc, ks, by rw [G.or O (by decide) (by decide) (Ne.symm hc.1) (Ne.symm hc.2), e6]; exact x1, fun q x v hC => ?_, fun k hk => ?_, x4⟩
  · obtain ⟨k, k1, k2, k3, k4⟩ := x2 q x v hC
    exact ⟨k, by rw [e6]; exact k1, by rw [hP _ (by omega) (by omega)]; exact k2, k3, by rw [hP _ (by omega) (by omega)]; exact k4⟩
  · rw [e6] at hk; rw [hP _ (by omega) (by omega)]; exact x3 k hk
theorem PkT.keepX (X : PkT h L tg P pn) {c : Nat} (O : PkO h L tg) (M : Sm V h h') (h5 : ¬ V (L 5)) (hv : ∀ a, tg a = 6 ∨ tg a = 61 → ¬ V a) (h4 : ∀ a, h.kd a = 4 → ¬ V a) (h9 : ∀ a, h.kd a = 9 → ¬ V a) (G : TgX h tg tg' c) (hc : c ≠ 6 ∧ c ≠ 61) (e7 : P' 7 = P 7) (hP : ∀ c, 153 ≤ c → P' c = P c) (hpn : pn ≤ pn') : PkT h' L tg' P' pn' := by
  obtain ⟨K, mc, ks, ν, ad, x1, x2, x3, x4, x5⟩ := X.keep O M h5 hv h4 h9
  have eg : ∀ k w, ogP P' k w = ogP P k w := fun k w => hP _ (by omega)
  refine ⟨K, mc, ks, ν, ad, by rw [G.or O (by decide) (by decide) (Ne.symm hc.1) (Ne.symm hc.2), e7]; exact x1, fun q x => ?_, fun k hk => ?_, fun a b ab hb => x4 a b ab (by rw [e7] at hb; exact hb), x5⟩
  · rw [x2 q x, e7]; simp only [eg]
  · rw [e7] at hk; simp only [eg]
    exact ⟨(x3 k hk).1, Nat.lt_of_lt_of_le (x3 k hk).2.1 hpn, (x3 k hk).2.2⟩
theorem PkTo.mk (T : PkTo h0 L tg0 tg P td pn fz h) {c : Nat} (M : Sm V h h') (hV : ∀ a, a < h.sz → V a → tg a ≠ 100) (G : TgX h tg tg' c) (X : Pk h' L tg' P' td' pn' fz') : PkTo h0 L tg0 tg' P' td' pn' fz' h' :=
  ⟨X, T.2.1.tr M (fun a ha v => by rw [← T.2.2 a ha]; exact hV a (Nat.lt_of_lt_of_le ha T.2.1.1) v), fun a ha => (G.1 a (Nat.lt_of_lt_of_le ha T.2.1.1)).trans (T.2.2 a ha)⟩
/-- the outings were written -/
theorem PkTo.outs (T : PkTo h0 L tg0 tg P td pn fz h) (M : Sm (fun a => tg a = 6 ∨ tg a = 61 ∨ a = L 0) h h') (G : TgX h tg tg' 61) (ow : ∀ a, h.sz ≤ a → tg' a = 61 → a < h'.sz ∧ h'.kd a ≠ 4 ∧ h'.kd a ≠ 9 ∧ h'.kd a ≠ 15) (hA : ∀ j, j < 6 → h'.mm (L 0) j = h.mm (L 0) j) (N' : PkN h' L P' pn' fz') (hP : ∀ c, 8 ≤ c → c < 153 → P' c = P c) (e6 : P' 6 = P 6) (b6 : P 6 ≤ 6) (T' : PkT h' L tg' P' pn') : PkTo h0 L tg0 tg' P' td pn' fz' h' := by
  obtain ⟨O, A, N, F, J, Q, Mm, Tt⟩ := T.1
  have vt : ∀ a, (tg a = 6 ∨ tg a = 61 ∨ a = L 0) → tg a = 6 ∨ tg a = 61 ∨ tg a = 0 := fun a ha => ha.elim Or.inl (fun q => q.elim (fun q => Or.inr (Or.inl q)) (fun q => Or.inr (Or.inr (by rw [q]; exact O.tg 0 rfl))))
  have lv : ∀ k, lab k = true → k ≠ 6 → k ≠ 61 → k ≠ 0 → ¬ (tg (L k) = 6 ∨ tg (L k) = 61 ∨ L k = L 0) := fun k hk k1 k2 k3 q => by have := vt _ q; rw [O.tg k hk] at this; omega
  have im : ∀ c, (c = 4 ∨ c = 9 ∨ c = 15) → ∀ a, h.kd a = c → ¬ (tg a = 6 ∨ tg a = 61 ∨ a = L 0) := fun c hc a ha q => O.imm hc a ha (by have := vt _ q; omega)
  refine T.mk M (fun a _ q => by have := vt _ q; omega) G ⟨O.step M G (fun a ha e _ => ow a ha e), ?_, N', F.keepP O M (fun i hi => ⟨lv _ (lab10 i hi).1 (by omega) (by omega) (by omega), lv _ (lab10 i hi).2.1 (by omega) (by omega) (by omega), lv _ (lab10 i hi).2.2 (by omega) (by omega) (by omega)⟩) (fun c c1 c2 => hP c (by omega) (by omega)), J.keep O M (fun j hj => lv _ (lab40 j hj) (by omega) (by omega) (by omega)), Q.keepX M (lv 3 rfl (by decide) (by decide) (by decide)) (fun a ha q => by have := vt _ q; omega) G, Mm.keepX O M (fun a ha q => by have := vt _ q; omega) (im 15 (by omega)) (im 9 (by omega)) G (by decide) e6 (fun c c1 c2 => hP c (by omega) c2) b6, T'⟩
  obtain ⟨x1, ⟨u0, u1, u2, u3, u4, u5⟩, ⟨y1, y2, y3⟩, ⟨z1, z2, z3⟩, w1, w2⟩ := A
  have a0 := M.2 _ (O.lt 0 rfl); have a1 := M.2 _ (O.lt 1 rfl); have a2 := M.2 _ (O.lt 2 rfl); have a7 := M.2 _ (O.lt 7 rfl)
  refine ⟨a0.1.trans x1, ⟨(hA 0 (by decide)).trans u0, (hA 1 (by decide)).trans u1, (hA 2 (by decide)).trans u2, (hA 3 (by decide)).trans u3, (hA 4 (by decide)).trans u4, (hA 5 (by decide)).trans u5⟩, ⟨a1.1.trans y1, a1.2.1.trans y2, ?_⟩, ⟨a2.1.trans z1, a2.2.1.trans z2, ?_⟩, a7.1.trans w1, a7.2.1.trans w2⟩
  · rw [a1.2.2 (lv 1 rfl (by decide) (by decide) (by decide))]; exact y3
  · rw [a2.2.2 (lv 2 rfl (by decide) (by decide) (by decide))]; exact z3
theorem kO_inj {y c n y2 c2 n2 : Nat} (hc : c < 128) (hc2 : c2 < 128) (hn : n < 1048576) (hn2 : n2 < 1048576) (e : kO y c n = kO y2 c2 n2) : y = y2 ∧ c = c2 ∧ n = n2 := by
  unfold kO at e; omega
theorem plP_c (P : Nat → Nat) (y c g i : Nat) (h : i < 153) (h7 : i ≠ 7) : plP P y c g i = P i := by
  unfold plP
  rw [upn_n _ _ h7, upn_n _ _ (by omega), upn_n _ _ (by omega), upn_n _ _ (by omega)]
theorem plP_o (P : Nat → Nat) (y c g k w : Nat) (hk : k < P 7) (hw : w < 3) : ogP (plP P y c g) k w = ogP P k w := by
  unfold plP ogP
  rw [upn_n _ _ (by omega), upn_n _ _ (by omega), upn_n _ _ (by omega), upn_n _ _ (by omega)]
theorem plP_n (P : Nat → Nat) (y c g : Nat) : ogP (plP P y c g) (P 7) 0 = y ∧ ogP (plP P y c g) (P 7) 1 = c ∧ ogP (plP P y c g) (P 7) 2 = g := by
  unfold plP ogP
  refine ⟨?_, ?_, ?_⟩
  · rw [upn_n _ _ (by omega), upn_n _ _ (by omega), upn_n _ _ (by omega), upn_s]
  · rw [upn_n _ _ (by omega), upn_n _ _ (by omega), upn_s]
  · rw [upn_n _ _ (by omega), upn_s]
end
/-- one more outing -/
theorem PkT.add {h' : HP} {L P : Nat → Nat} {pn s t o y c g : Nat} {K : Nat → Nat → Prop} {mc' : Int32} {ks : Option Nat} {ν ad tg' : Nat → Nat} (x2 : ∀ q x, K q x ↔ ∃ i, i < P 7 ∧ q = kO (ogP P i 0) (ogP P i 1) (ν i) ∧ x = ad i) (x3 : ∀ i, i < P 7 → OutAt h' (ad i) (ogP P i 0) (ogP P i 1) (ogP P i 2) (ν i) ∧ ν i < pn ∧ ad i < h'.sz) (x4 : ∀ i j, i < j → j < P 7 → ν i < ν j) (hs : s = L 5) (ht : t = L 6) (X : TsP h' s t (fun a => tg' a = 6 ∨ tg' a = 61) (fun q x9 => K q x9 ∨ (q = kO y c pn ∧ x9 = o)) (P 7 + 1) mc' ks) (Y : OutAt h' o y c g pn) (ho : o < h'.sz) (x5 : ∀ s, ks = some s → KsA h' s (L 6)) : PkT h' L tg' (plP P y c g) (pn + 1) := by
  subst hs ht
  have p7 := plP_7 P y c g
  obtain ⟨n0, n1, n2⟩ := plP_n P y c g
  refine ⟨_, mc', ks, upn ν (P 7) pn, upn ad (P 7) o, by rw [p7]; exact X, fun q x => ?_, fun i hi => ?_, fun i j hij hj => ?_, x5⟩
  · rw [p7]
    constructor
    · rintro (hK | ⟨rfl, rfl⟩)
      · obtain ⟨i, i1, i2, i3⟩ := (x2 q x).mp hK
        exact ⟨i, by omega, by rw [plP_o _ _ _ _ _ _ i1 (by decide), plP_o _ _ _ _ _ _ i1 (by decide), upn_n _ _ (by omega)]; exact i2, by rw [upn_n _ _ (by omega)]; exact i3⟩
      · exact ⟨P 7, by omega, by rw [n0, n1, upn_s], by rw [upn_s]⟩
    · rintro ⟨i, i1, i2, i3⟩
      by_cases e : i = P 7
      · subst e
        rw [n0, n1, upn_s] at i2
        rw [upn_s] at i3
        exact Or.inr ⟨i2, i3⟩
      · rw [plP_o _ _ _ _ _ _ (by omega) (by decide), plP_o _ _ _ _ _ _ (by omega) (by decide), upn_n _ _ e] at i2
        rw [upn_n _ _ e] at i3
        exact Or.inl ((x2 q x).mpr ⟨i, by omega, i2, i3⟩)
  · rw [p7] at hi
    by_cases e : i = P 7
    · subst e; rw [n0, n1, n2, upn_s, upn_s]; exact ⟨Y, by omega, ho⟩
    · have hi2 : i < P 7 := by omega
      obtain ⟨g1, g2, g3⟩ := x3 i hi2
      rw [plP_o _ _ _ _ _ _ hi2 (by decide), plP_o _ _ _ _ _ _ hi2 (by decide), plP_o _ _ _ _ _ _ hi2 (by decide), upn_n _ _ e, upn_n _ _ e]
      exact ⟨g1, by omega, g3⟩
  · rw [p7] at hj
    rw [upn_n _ _ (show i ≠ P 7 by omega)]
    by_cases e : j = P 7
    · rw [e, upn_s]; exact (x3 i (by omega)).2.1
    · rw [upn_n _ _ e]; exact x4 i j hij (by omega)
/-- a new cell of a map is an entry, or it is not the map's -/
theorem Mp.tag {h : HP} {t n n0 c1 c2 : Nat} {tg : Nat → Nat} {C : Nat → Nat → Nat → Prop} {mc : Int32} {ks : Option Nat} (X : Mp h t (fun a => (tg a = c1 ∨ tg a = c2) ∨ a = n0) C n mc ks) (ht : tg t = c1) (hn : t ≠ n0) (h0 : tg n0 = 100) (h1 : c1 ≠ 100) (h2 : c2 ≠ 100) : ∃ tg', (tg' = tg ∨ (tg' = tgn tg n0 c2 ∧ h.kd n0 = 8)) ∧ Mp h t (fun a => tg' a = c1 ∨ tg' a = c2) C n mc ks := by
  obtain ⟨S, κ, ke, va, L, R, P, rt, D, cl, xs, T, X, M, nd, hxs, hlen, hSU, hUt, hUz, hC⟩ := X
  by_cases e : h.kd n0 = 8
  · refine ⟨tgn tg n0 c2, Or.inr ⟨rfl, e⟩, S, κ, ke, va, L, R, P, rt, D, cl, xs, T, X, M, nd, hxs, hlen, fun a ha => ?_, ?_, fun a ha => ?_, hC⟩
    · by_cases q : a = n0
      · subst q; exact Or.inr (tgn_s _ _ _)
      · show tgn tg n0 c2 a = c1 ∨ tgn tg n0 c2 a = c2
        rw [tgn_n _ _ q]; exact (hSU a ha).elim id (fun w => absurd w q)
    · exact Or.inl ((tgn_n _ _ hn).trans ht)
    · by_cases q : a = n0
      · exact hUz a (Or.inr q)
      · have ha : tgn tg n0 c2 a = c1 ∨ tgn tg n0 c2 a = c2 := ha
        rw [tgn_n _ _ q] at ha; exact hUz a (Or.inl ha)
  · exact ⟨tg, Or.inl rfl, S, κ, ke, va, L, R, P, rt, D, cl, xs, T, X, M, nd, hxs, hlen, fun a ha => (hSU a ha).elim id (fun w => absurd (by rw [← w]; exact (X a ha).1) e), Or.inl ht, fun a ha => hUz a (Or.inl ha), hC⟩
/-- keys of outings -/
def OK9 (h : HP) (K : Nat → Nat → Prop) : Prop := ∀ q x, K q x → ∃ y c g n, OutAt h x y c g n ∧ q = kO y c n ∧ y < 4096 ∧ c < 128 ∧ n < 1048576
theorem TgX.of {h : HP} {L tg tg' : Nat → Nat} {c n0 : Nat} {Z9 : Prop} (O : PkO h L tg) (hn : h.sz ≤ n0) (e : tg' = tg ∨ (tg' = tgn tg n0 c ∧ Z9)) : TgX h tg tg' c := by
  rcases e with e | ⟨e, -⟩ <;> subst e
  · exact TgX.refl O c
  · exact TgX.set O hn
/-- an outing is added to a set -/
theorem c_setAdd {E : Ev} {h : HP} {s t o y c g nn n : Nat} {tg : Nat → Nat} {K : Nat → Nat → Prop} {mc : Int32} {ks : Option Nat} (X : TsP h s t (fun a => tg a = 6 ∨ tg a = 61) K n mc ks) (H : OK9 h K) (Y : OutAt h o y c g nn) (b1 : y < 4096) (b2 : c < 128) (b3 : nn < 1048576) (hs : s < h.sz) (hsU : ¬ (tg s = 6 ∨ tg s = 61)) (htt : tg t = 6) (h0 : tg h.sz = 100) (fr : ∀ x9, ¬ K (kO y c nn) x9) (d k : Nat) (hd : 7 ≤ d) (hk : 2 ≤ k) : Call E yJ10_add d k [.ref s, .ref o] h (rI fun _ h' => ∃ (mc' : Int32) (tg' : Nat → Nat), (tg' = tg ∨ (tg' = tgn tg h.sz 61 ∧ h'.kd h.sz = 8)) ∧ TsP h' s t (fun a => tg' a = 6 ∨ tg' a = 61) (fun q x9 => K q x9 ∨ (q = kO y c nn ∧ x9 = o)) (n + 1) mc' ks ∧ Sm (fun a => tg a = 6 ∨ tg a = 61) h h' ∧ h'.sz = h.sz + 1) := by
  have ht : t < h.sz := by
    obtain ⟨-, -, C, M, -⟩ := X
    exact M.lt.2.2.1 t M.lt.2.1
  refine (c_tsAdd (kx := kO y c nn) d k X fxJ8_107_4 Y.1 (fun q y0 hK => ?_) hs hsU hd hk (cmpO b1 b1 b2 b2 b3 b3 Y Y) fr).mono (fun r h' q => ?_)
  · obtain ⟨y2, c2, g2, n2, o1, rfl, w1, w2, w3⟩ := H q y0 hK
    exact cmpO b1 w1 b2 w2 b3 w3 Y o1
  · obtain ⟨x, e, -, mc', ⟨t1, t2, C, M, hK⟩, m3, z3⟩ := q
    obtain ⟨tg', e1, M'⟩ := M.tag htt (by omega) h0 (by decide) (by decide)
    exact ⟨x, e, mc', tg', e1, ⟨t1, t2, C, M', hK⟩, m3, z3⟩
theorem PkT.ok9 {h : HP} {P : Nat → Nat} {pn : Nat} {K : Nat → Nat → Prop} {ν ad : Nat → Nat} (W : WF P) (hp : pn < 1048576) (x2 : ∀ q x, K q x ↔ ∃ i, i < P 7 ∧ q = kO (ogP P i 0) (ogP P i 1) (ν i) ∧ x = ad i) (x3 : ∀ i, i < P 7 → OutAt h (ad i) (ogP P i 0) (ogP P i 1) (ogP P i 2) (ν i) ∧ ν i < pn ∧ ad i < h.sz) : OK9 h K := fun q x hK => by
  obtain ⟨i, i1, i2, i3⟩ := (x2 q x).mp hK
  obtain ⟨o1, o2, o3⟩ := x3 i i1
  have wo := W.og i1
  have := W.h7
  have wb := W.B.og (j := i) (w := 0) (by omega) (by decide)
  exact ⟨_, _, _, _, by rw [i3]; exact o1, i2, wb, by omega, by omega⟩

set_option maxHeartbeats 4000000 in
theorem c_pkPlan {E : Ev} {h : HP} {L tg P td : Nat → Nat} {pn : Nat} {fz : Bool} (T0 : Pk h L tg P td pn fz) (W : WF P) {y c g : Nat} (b1 : y < 4096) (b2 : c < 128) (b3 : pn < 1000000) (d k : Nat) (hd : 8 ≤ d) (hk : 4 ≤ k) : Call E yX2_plan d k [.ref (L 0), .int (nI y), .int (nI c), .int (nI g)] h (rV (fun h' => ∃ tg', PkTo h L tg tg' (plP P y c g) td (pn + 1) fz h')) := by
  refine Call.of [.ref (L 0), .int (nI y), .int (nI c), .int (nI g)] q1758 (by decide) pn_X2 (Nat.le_of_ble_eq_true rfl) rfl ?_
  refine z_aload0 0 dX2_plan_0 ?_
  refine z_get 1 gX2_40 dX2_plan_1 T0.v.k0 (T0.v.2.1.2.1.2.2.2.2.1) ?_
  refine z_new (k' := k - 2) 4 nX2_91 dX2_plan_4 (by omega) (fun h1 e1 => ?_)
  have m1 : Sm (fun _ => False) h h1 := by rw [e1]; exact Sm.mk'
  have ko : h1.kd h.sz = 4 := by rw [e1]; simp [kd_mk]
  have z1 : h1.sz = h.sz + 1 := by rw [e1]; rfl
  have T := T0.to.new m1 (fun _ _ f => f)
  refine z_dup 7 dX2_plan_7 (rfl) ?_
  refine z_iload1 8 dX2_plan_8 ?_
  refine z_iload2 9 dX2_plan_9 ?_
  refine z_iload3 10 dX2_plan_10 ?_
  refine z_aload0 11 dX2_plan_11 ?_
  refine z_get 12 gX2_107 dX2_plan_12 T.V.k0 T.1.2.2.1.2.2.1 ?_
  refine z_I4 (k' := (k - 2)) 15 iX2_241 dX2_plan_15 (c_outNew (y := y) (c := c) (g := g) (n := pn) (d - 1) 0 (by omega) ko) (by omega) (by omega) (Nat.le_of_ble_eq_true rfl) (aft_V fun h2 hq => ?_)
  obtain ⟨Y2, m2, z2⟩ := hq
  have M2 : Sm (fun _ => False) h h2 := m1.tr m2 (fun a ha q => by omega)
  have T := T0.to.new M2 (fun _ _ f => f)
  obtain ⟨O, A, N, F, J, Q, Mm, K, mc, ks, ν, ad, x1, x2, x3, x4, x5⟩ := id T.1
  have hsU : ¬ (tg (L 5) = 6 ∨ tg (L 5) = 61) := by rw [O.tg 5 rfl]; decide
  have hz2 : h2.sz = h.sz + 1 := by omega
  have OK := PkT.ok9 W (by omega) x2 x3
  refine z_V1 (k' := (k - 4)) 18 vX2_93 dX2_plan_18 T.1.kT (c_setAdd x1 OK Y2 b1 b2 (by omega) (O.lt 5 rfl) hsU (O.tg 6 rfl) (O.far (Nat.le_refl _)) (fun x9 hK => by
        obtain ⟨i, i1, i2, i3⟩ := (x2 _ x9).mp hK
        obtain ⟨o1, o2, o3⟩ := x3 i i1
        have wo := W.og i1
        have := kO_inj b2 (by omega) (by omega) (by omega) i2
        omega) (d - 1) 2 (by omega) (by omega)) (by omega) (by omega) (Nat.le_of_ble_eq_true rfl) (aft_I fun x h3 hq => ?_)
  obtain ⟨mc', tg', etg, X3, m3, z3⟩ := hq
  have l0 : L 0 < h2.sz := O.lt 0 rfl
  have n0 : ¬ (tg (L 0) = 6 ∨ tg (L 0) = 61) := by rw [O.tg 0 rfl]; decide
  have a0 := m3.2 _ l0
  have k0 : h3.kd (L 0) = 1 := a0.1.trans T.V.k0
  refine z_pop 21 dX2_plan_21 (rfl) ?_
  refine z_aload0 22 dX2_plan_22 ?_
  refine z_dup 23 dX2_plan_23 (rfl) ?_
  refine z_get 24 gX2_107 dX2_plan_24 k0 ((congrFun (a0.2.2 n0) 7).trans T.1.2.2.1.2.2.1) ?_
  refine z_iconst 27 (nI 1) dX2_plan_27 kI1 ?_
  refine z_iaddN 28 dX2_plan_28 ?_
  refine z_put 29 pX2_107 (fun h => by cases h) dX2_plan_29 k0 (rfl) (rfl) ?_
  refine z_return 32 rfl dX2_plan_32 ?_
  refine ⟨rfl, tg', ?_⟩
  obtain ⟨h4, e4⟩ : ∃ h4, h4 = h3.put (L 0) 7 (.int (nI (pn + 1))) := ⟨_, rfl⟩
  rw [← e4]
  have mp : Sm (fun a => a = L 0) h3 h4 := by rw [e4]; exact Sm.put rfl
  have z4 : h4.sz = h3.sz := by rw [e4]; rfl
  have kd4 : h4.kd = h3.kd := by rw [e4]; rfl
  have G : TgX h2 tg tg' 61 := TgX.of O (Nat.le_refl _) etg
  have M4 : Sm (fun a => tg a = 6 ∨ tg a = 61 ∨ a = L 0) h2 h4 := (m3.mono (fun a _ q => q.elim Or.inl (fun q => Or.inr (Or.inl q)))).trans (mp.mono (fun a _ q => Or.inr (Or.inr q)))
  have im : ∀ c, (c = 4 ∨ c = 9 ∨ c = 15) → ∀ a, h2.kd a = c → ¬ (tg a = 6 ∨ tg a = 61 ∨ a = L 0) := fun c hc a ha q => O.imm hc a ha (by rcases q with q | q | q <;> first | omega | (rw [q, O.tg 0 rfl]; decide))
  have ko3 : ∀ {o y c g n : Nat}, o < h2.sz → OutAt h2 o y c g n → OutAt h4 o y c g n := fun {o y c g n} ho X => by
    have m := M4.2 o ho
    unfold OutAt at X ⊢
    rw [m.1, m.2.2 (im 4 (Or.inl rfl) o X.1)]; exact X
  have sz3 : h2.sz ≤ h4.sz := M4.1
  have m0 : ∀ j, j ≠ 7 → h4.mm (L 0) j = h2.mm (L 0) j := fun j hj => by rw [e4, mm_nek _ _ _ _ _ hj, a0.2.2 n0]
  have ot : tg' (L 5) = 5 := (G.1 _ (O.lt 5 rfl)).trans (O.tg 5 rfl)
  have ot0 : tg' (L 0) = 0 := (G.1 _ l0).trans (O.tg 0 rfl)
  have l5 : L 5 < h3.sz := Nat.lt_of_lt_of_le (O.lt 5 rfl) m3.1
  have T' : PkT h4 L tg' (plP P y c g) (pn + 1) := PkT.add x2 (fun i hi => ⟨ko3 (x3 i hi).2.2 (x3 i hi).1, (x3 i hi).2.1, Nat.lt_of_lt_of_le (x3 i hi).2.2 sz3⟩) x4 rfl rfl (X3.keep mp l5 (fun a ha q => by rw [q, ot0] at ha; omega) (O.ne (k := 5) (j := 0) rfl rfl (by decide))) (ko3 (by omega) Y2) (by omega) (fun s hs => (x5 s hs).keep9 M4 (im 9 (Or.inr (Or.inl rfl))))
  have p9 : ∀ i, i < 153 → i ≠ 7 → plP P y c g i = P i := fun i h1 h2 => plP_c _ _ _ _ _ h1 h2
  refine T.outs (P' := plP P y c g) M4 G (fun a ha e => ?_) (fun j hj => m0 j (by omega)) ⟨fun i hi => ?_, ?_, by rw [e4]; exact mm_self _ _ _ _, fun k k1 k2 => ?_, ?_⟩ (fun c c1 c2 => p9 c c2 (by omega)) (p9 6 (by decide) (by decide)) W.h6 T'
  · rcases etg with q | ⟨q, q8⟩
    · rw [q, O.far ha] at e; cases e
    · by_cases ea : a = h2.sz
      · rw [ea, kd4, q8]; exact ⟨by omega, by decide, by decide, by decide⟩
      · rw [q, tgn_n _ _ ea, O.far ha] at e; cases e
  · rw [(M4.2 _ (O.lt 7 rfl)).2.2 (fun (q : tg (L 7) = 6 ∨ tg (L 7) = 61 ∨ L 7 = L 0) => by rw [O.tg 7 rfl] at q; have := O.ne (k := 7) (j := 0) rfl rfl (by decide); omega), p9 i (by omega) (by omega)]; exact N.1 i hi
  · rw [m0 6 (by decide), p9 5 (by decide) (by decide)]; exact N.2.1
  · rw [m0 k (by omega), p9 k (by omega) (by omega)]; exact N.2.2.2.1 k k1 k2
  · rw [m0 13 (by decide)]; exact N.2.2.2.2

