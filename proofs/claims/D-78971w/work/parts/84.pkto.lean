/-! PARK, its steps -/
/-- the park now; since h0 only its own cells changed; no tag of an old cell changed -/
def PkTo (h0 : HP) (L tg0 tg P td : Nat → Nat) (pn : Nat) (fz : Bool) (h : HP) : Prop := Pk h L tg P td pn fz ∧ Sm (fun a => tg0 a ≠ 100) h0 h ∧ ∀ a, a < h0.sz → tg a = tg0 a
section
variable {h0 h h' : HP} {L tg0 tg tg' P P' td td' : Nat → Nat} {pn pn' : Nat} {fz fz' : Bool}
theorem Pk.to (X : Pk h L tg P td pn fz) : PkTo h L tg tg P td pn fz h := ⟨X, Sm.refl _ h, fun _ _ => rfl⟩
theorem PkTo.trans (T : PkTo h0 L tg0 tg P td pn fz h) (T' : PkTo h L tg tg' P' td' pn' fz' h') : PkTo h0 L tg0 tg' P' td' pn' fz' h' :=
  ⟨T'.1, T.2.1.tr T'.2.1 (fun q hq e => by rw [← T.2.2 q hq]; exact e), fun a ha => (T'.2.2 a (Nat.lt_of_lt_of_le ha T.2.1.1)).trans (T.2.2 a ha)⟩
theorem PkTo.V (T : PkTo h0 L tg0 tg P td pn fz h) : PkV h L tg P td pn fz := T.1.v
/-- cells that are none of the fountain i's -/
def far (i c : Nat) : Prop := (∀ w, w < 10 → c ≠ 13 + 10 * i + w) ∧ ∀ w, w < 6 → c ≠ 93 + 6 * i + w
theorem lab_ne (i : Nat) (hi : i < 8) (k : Nat) (hk : lab k = true) (O : PkO h L tg) : ¬ k = 10 + i → ¬ k = 20 + i → ¬ k = 30 + i → ¬ FtS (L (10 + i)) (L (20 + i)) (L (30 + i)) (L k) := by
  obtain ⟨l1, l2, l3⟩ := lab10 i hi
  intro g1 g2 g3 q
  rcases q with q | q | q
  · exact O.ne hk l1 g1 q
  · exact O.ne hk l2 g2 q
  · exact O.ne hk l3 g3 q
theorem FtS_tg (O : PkO h L tg) {i : Nat} (hi : i < 8) {a : Nat} (q : FtS (L (10 + i)) (L (20 + i)) (L (30 + i)) a) : tg a = 10 + i ∨ tg a = 20 + i ∨ tg a = 30 + i := by
  obtain ⟨l1, l2, l3⟩ := lab10 i hi
  rcases q with q | q | q
  · rw [q, O.tg _ l1]; exact Or.inl rfl
  · rw [q, O.tg _ l2]; exact Or.inr (Or.inl rfl)
  · rw [q, O.tg _ l3]; exact Or.inr (Or.inr rfl)
/-- a fountain was written -/
theorem PkTo.ft (T : PkTo h0 L tg0 tg P td pn fz h) {i : Nat} (hi : i < 8) {F R W : Nat → Int32} (q : FtTo h (L (10 + i)) (L (20 + i)) (L (30 + i)) F R W h') (hF : ∀ k, k ≤ 10 → F k = ftF P' (td' i) i k) (hR : ∀ k, k < 2 → R k = ftR P' i k) (hW : ∀ k, k < 2 → jbP P' (2 * i + k) 0 = 1 → W k = nI (jbP P' (2 * i + k) 2)) (hP : ∀ c, far i c → P' c = P c) (htd : ∀ j, j ≠ i → td' j = td j) (h6 : P 6 ≤ 6) : PkTo h0 L tg0 tg P' td' pn fz h' := by
  obtain ⟨⟨O, A, N, Fo, J, Q, Mm, Tt⟩, S, tt⟩ := T
  obtain ⟨q1, M, qz⟩ := q
  have own : ∀ a, FtS (L (10 + i)) (L (20 + i)) (L (30 + i)) a → tg a ≠ 100 := fun a ha => by have := FtS_tg O hi ha; omega
  have im : ∀ c, (c = 4 ∨ c = 9 ∨ c = 15) → ∀ a, h.kd a = c → ¬ FtS (L (10 + i)) (L (20 + i)) (L (30 + i)) a := fun c hc a ha qq => O.imm hc a ha (own a qq)
  have e : ∀ c, (c < 13 ∨ 141 ≤ c) → P' c = P c := fun c hc => hP c ⟨fun w hw => by omega, fun w hw => by omega⟩
  refine ⟨⟨O.keep M, A.keep O M (lab_ne i hi 0 rfl O (by omega) (by omega) (by omega)) (lab_ne i hi 1 rfl O (by omega) (by omega) (by omega)) (lab_ne i hi 2 rfl O (by omega) (by omega) (by omega)), ?_, ?_, J.keep O M (fun j hj => lab_ne i hi _ (lab40 j hj) O (by omega) (by omega) (by omega)), Q.keep M (lab_ne i hi 3 rfl O (by omega) (by omega) (by omega)) (fun a ha qq => by have := FtS_tg O hi qq; omega), ?_, ?_⟩, S.tr M (fun a ha qq => by rw [← tt a ha]; exact own a qq), tt⟩
  · have N' := N.keep O M (lab_ne i hi 0 rfl O (by omega) (by omega) (by omega)) (lab_ne i hi 7 rfl O (by omega) (by omega) (by omega))
    obtain ⟨n1, n2, n3, n4, n5⟩ := N'
    exact ⟨fun k hk => by rw [e k (by omega)]; exact n1 k hk, by rw [e 5 (by omega)]; exact n2, n3, fun k k1 k2 => by rw [e k (by omega)]; exact n4 k k1 k2, n5⟩
  · intro j hj
    by_cases ej : j = i
    · subst ej; exact ⟨W, q1.congr hF hR (fun _ _ => rfl), hW⟩
    · obtain ⟨W2, x1, x2⟩ := Fo j hj
      obtain ⟨l1, l2, l3⟩ := lab10 j hj
      have y1 := x1.keep M ⟨O.lt _ l1, lab_ne i hi _ l1 O (by omega) (by omega) (by omega)⟩ ⟨O.lt _ l2, lab_ne i hi _ l2 O (by omega) (by omega) (by omega)⟩ ⟨O.lt _ l3, lab_ne i hi _ l3 O (by omega) (by omega) (by omega)⟩
      have eo : ∀ w, w < 10 → ofP P' j w = ofP P j w := fun w hw => hP _ ⟨fun w2 hw2 => by omega, fun w2 hw2 => by omega⟩
      have eb : ∀ k w, k < 2 → w < 3 → jbP P' (2 * j + k) w = jbP P (2 * j + k) w := fun k w hk hw => hP _ ⟨fun w2 hw2 => by omega, fun w2 hw2 => by omega⟩
      refine ⟨W2, y1.congr (fun k hk => ?_) (fun k hk => ?_) (fun _ _ => rfl), fun k hk q9 => ?_⟩
      · unfold ftF
        rw [htd j ej, eo 0 (by decide), eo 1 (by decide), eo 2 (by decide), eo 3 (by decide), eo 4 (by decide), eo 5 (by decide), eo 6 (by decide), eo 7 (by decide), eo 8 (by decide), eo 9 (by decide)]
      · unfold ftR
        rw [eb k 0 hk (by decide), eb k 1 hk (by decide)]
      · rw [eb k 0 hk (by decide)] at q9
        rw [eb k 2 hk (by decide)]; exact x2 k hk q9
  · obtain ⟨C, mc, ks, x1, x2, x3, x4⟩ := Mm.keep M (fun a ha qq => by have := FtS_tg O hi qq; omega) (im 15 (by omega)) (im 9 (by omega))
    refine ⟨C, mc, ks, by rw [e 6 (by omega)]; exact x1, fun q x v hC => ?_, fun k hk => ?_, x4⟩
    · obtain ⟨k, k1, k2, k3, k4⟩ := x2 q x v hC
      exact ⟨k, by rw [e 6 (by omega)]; exact k1, by rw [e _ (by omega)]; exact k2, k3, by rw [e _ (by omega)]; exact k4⟩
    · rw [e _ (by omega)]; rw [e 6 (by omega)] at hk; exact x3 k hk
  · obtain ⟨K, mc, ks, ν, ad, x1, x2, x3, x4, x5⟩ := Tt.keep O M (lab_ne i hi 5 rfl O (by omega) (by omega) (by omega)) (fun a ha qq => by have := FtS_tg O hi qq; omega) (im 4 (by omega)) (im 9 (by omega))
    have eg : ∀ k w, ogP P' k w = ogP P k w := fun k w => e _ (by omega)
    refine ⟨K, mc, ks, ν, ad, by rw [e 7 (by omega)]; exact x1, fun q x => ?_, fun k hk => ?_, fun a b ab hb => x4 a b ab (by rw [e 7 (by omega)] at hb; exact hb), x5⟩
    · rw [x2 q x, e 7 (by omega)]; simp only [eg]
    · rw [e 7 (by omega)] at hk; simp only [eg]; exact x3 k hk
/-- a number of the park's own cell was written -/
theorem PkTo.putN (T : PkTo h0 L tg0 tg P td pn fz h) {k : Nat} {v : Value} (hk : 6 ≤ k) (N' : PkN (h.put (L 0) k v) L P' pn' fz') (hP : ∀ c, ¬ c = 5 → ¬ (8 ≤ c ∧ c ≤ 12) → P' c = P c) (hpn : pn ≤ pn') (h6 : P 6 ≤ 6) : PkTo h0 L tg0 tg P' td pn' fz' (h.put (L 0) k v) := by
  obtain ⟨⟨O, A, N, Fo, J, Q, Mm, Tt⟩, S, tt⟩ := T
  have M : Sm (fun a => a = L 0) h (h.put (L 0) k v) := Sm.put rfl
  have l0 : tg (L 0) = 0 := O.tg 0 rfl
  have own : tg (L 0) ≠ 100 := by omega
  have im : ∀ c, (c = 4 ∨ c = 9 ∨ c = 15) → ∀ a, h.kd a = c → ¬ a = L 0 := fun c hc a ha qq => O.imm hc a ha (by rw [qq]; exact own)
  have nt : ∀ a c, tg a = c → c ≠ 0 → ¬ a = L 0 := fun a c ha hc qq => hc (by rw [← ha, qq, l0])
  refine ⟨⟨O.keep M, A.putS hk (O.ne rfl rfl (by decide)) (O.ne rfl rfl (by decide)), N', ?_, J.keep O M (fun j hj => O.ne (lab40 j hj) rfl (by omega)), Q.keep M (O.ne rfl rfl (by decide)) (fun a ha => nt a 62 ha (by decide)), ?_, ?_⟩, S.tr M (fun a ha qq => by rw [← tt a ha, qq]; exact own), tt⟩
  · intro j hj
    obtain ⟨W2, x1, x2⟩ := Fo j hj
    obtain ⟨l1, l2, l3⟩ := lab10 j hj
    have y1 := x1.keep M ⟨O.lt _ l1, O.ne l1 rfl (by omega)⟩ ⟨O.lt _ l2, O.ne l2 rfl (by omega)⟩ ⟨O.lt _ l3, O.ne l3 rfl (by omega)⟩
    have eo : ∀ w, ofP P' j w = ofP P j w := fun w => hP _ (by omega) (by omega)
    have eb : ∀ k w, jbP P' (2 * j + k) w = jbP P (2 * j + k) w := fun k w => hP _ (by omega) (by omega)
    refine ⟨W2, y1.congr (fun k hk => ?_) (fun k hk => ?_) (fun _ _ => rfl), fun k hk q9 => ?_⟩
    · unfold ftF; simp only [eo]
    · unfold ftR; simp only [eb]
    · rw [eb k 0] at q9
      rw [eb k 2]; exact x2 k hk q9
  · obtain ⟨C, mc, ks, x1, x2, x3, x4⟩ := Mm.keep M (fun a ha => ha.elim (fun q => nt a 4 q (by decide)) (fun q => nt a 60 q (by decide))) (im 15 (by omega)) (im 9 (by omega))
    have e6 : P' 6 = P 6 := hP 6 (by omega) (by omega)
    have ef : ∀ k, P' (141 + k) = P (141 + k) := fun k => hP _ (by omega) (by omega)
    have ef1 : ∀ k, P' (141 + 2 * k + 1) = P (141 + 2 * k + 1) := fun k => hP _ (by omega) (by omega)
    refine ⟨C, mc, ks, by rw [e6]; exact x1, fun q x v hC => ?_, fun k hk => ?_, x4⟩
    · rw [e6]; simp only [ef, ef1]; exact x2 q x v hC
    · rw [e6] at hk; simp only [ef]; exact x3 k hk
  · obtain ⟨K, mc, ks, ν, ad, x1, x2, x3, x4, x5⟩ := Tt.keep O M (O.ne rfl rfl (by decide)) (fun a ha => ha.elim (fun q => nt a 6 q (by decide)) (fun q => nt a 61 q (by decide))) (im 4 (by omega)) (im 9 (by omega))
    have e7 : P' 7 = P 7 := hP 7 (by omega) (by omega)
    have eg : ∀ k w, ogP P' k w = ogP P k w := fun k w => hP _ (by omega) (by omega)
    refine ⟨K, mc, ks, ν, ad, by rw [e7]; exact x1, fun q x => ?_, fun k hk => ?_, fun a b ab hb => x4 a b ab (by rw [e7] at hb; exact hb), x5⟩
    · rw [x2 q x, e7]; simp only [eg]
    · rw [e7] at hk; simp only [eg]
      exact ⟨(x3 k hk).1, Nat.lt_of_lt_of_le (x3 k hk).2.1 hpn, (x3 k hk).2.2⟩
theorem PkTo.h7n (T : PkTo h0 L tg0 tg P td pn fz h) : L 7 ≠ L 0 := T.1.1.ne rfl rfl (by decide)
/-- one of the sums -/
theorem PkTo.sum (T : PkTo h0 L tg0 tg P td pn fz h) {k : Nat} (h1 : 8 ≤ k) (h2 : k ≤ 12) (v : Nat) (h6 : P 6 ≤ 6) : PkTo h0 L tg0 tg (upn P k v) td pn fz (h.put (L 0) k (.int (nI v))) := by
  obtain ⟨n1, n2, n3, n4, n5⟩ := T.1.2.2.1
  refine T.putN (by omega) ⟨fun i hi => ?_, ?_, ?_, fun j j1 j2 => ?_, ?_⟩ (fun c _ hc => upn_n _ _ (by omega)) (Nat.le_refl _) h6
  · rw [mm_nea _ _ _ _ _ T.h7n, upn_n _ _ (by omega)]; exact n1 i hi
  · rw [mm_nek _ _ _ _ _ (by omega), upn_n _ _ (by omega)]; exact n2
  · rw [mm_nek _ _ _ _ _ (by omega)]; exact n3
  · by_cases e : j = k
    · rw [e, mm_self, upn_s]
    · rw [mm_nek _ _ _ _ _ e, upn_n _ _ e]; exact n4 j j1 j2
  · rw [mm_nek _ _ _ _ _ (by omega)]; exact n5
/-- the day -/
theorem PkTo.daS (T : PkTo h0 L tg0 tg P td pn fz h) (v : Nat) (h6 : P 6 ≤ 6) : PkTo h0 L tg0 tg (upn P 5 v) td pn fz (h.put (L 0) 6 (.int (nI v))) := by
  obtain ⟨n1, n2, n3, n4, n5⟩ := T.1.2.2.1
  refine T.putN (by omega) ⟨fun i hi => ?_, ?_, ?_, fun j j1 j2 => ?_, ?_⟩ (fun c hc _ => upn_n _ _ hc) (Nat.le_refl _) h6
  · rw [mm_nea _ _ _ _ _ T.h7n, upn_n _ _ (by omega)]; exact n1 i hi
  · rw [mm_self, upn_s]
  · rw [mm_nek _ _ _ _ _ (by omega)]; exact n3
  · rw [mm_nek _ _ _ _ _ (by omega), upn_n _ _ (by omega)]; exact n4 j j1 j2
  · rw [mm_nek _ _ _ _ _ (by omega)]; exact n5
/-- the number of the next outing -/
theorem PkTo.pnS (T : PkTo h0 L tg0 tg P td pn fz h) (v : Nat) (hv : pn ≤ v) (h6 : P 6 ≤ 6) : PkTo h0 L tg0 tg P td v fz (h.put (L 0) 7 (.int (nI v))) := by
  obtain ⟨n1, n2, n3, n4, n5⟩ := T.1.2.2.1
  refine T.putN (by omega) ⟨fun i hi => ?_, ?_, ?_, fun j j1 j2 => ?_, ?_⟩ (fun c _ _ => rfl) hv h6
  · rw [mm_nea _ _ _ _ _ T.h7n]; exact n1 i hi
  · rw [mm_nek _ _ _ _ _ (by omega)]; exact n2
  · rw [mm_self]
  · rw [mm_nek _ _ _ _ _ (by omega)]; exact n4 j j1 j2
  · rw [mm_nek _ _ _ _ _ (by omega)]; exact n5
/-- frost now -/
theorem PkTo.fzS (T : PkTo h0 L tg0 tg P td pn fz h) (v : Bool) (h6 : P 6 ≤ 6) : PkTo h0 L tg0 tg P td pn v (h.put (L 0) 13 (.int (nI (bN v)))) := by
  obtain ⟨n1, n2, n3, n4, n5⟩ := T.1.2.2.1
  refine T.putN (by omega) ⟨fun i hi => ?_, ?_, ?_, fun j j1 j2 => ?_, ?_⟩ (fun c _ _ => rfl) (Nat.le_refl _) h6
  · rw [mm_nea _ _ _ _ _ T.h7n]; exact n1 i hi
  · rw [mm_nek _ _ _ _ _ (by omega)]; exact n2
  · rw [mm_nek _ _ _ _ _ (by omega)]; exact n3
  · rw [mm_nek _ _ _ _ _ (by omega)]; exact n4 j j1 j2
  · rw [mm_self]
end
