/-! PARK: working -/
theorem kj9_eq (P : Nat → Nat) (j : Nat) : kj9 (rkP P) (dyJ P) j = (rkJ (P 1) (j % 2) * 4096 + jbP P j 1) * 16 + j := by
  unfold kj9 kJ rkP dyJ; omega
theorem ah_key {P : Nat → Nat} (W : WF P) {a b : Nat} (ha : a < 16) (hb : b < 16) : ahP P a b = decide (kj9 (rkP P) (dyJ P) a < kj9 (rkP P) (dyJ P) b) := by
  rw [kj9_eq, kj9_eq]
  have b1 := W.B.jb ha (w := 1) (by decide)
  have b2 := W.B.jb hb (w := 1) (by decide)
  have o := W.st.2.1
  unfold ahP rkJ
  split
  · apply decide_eq_decide.mpr
    split <;> split <;> omega
  · apply decide_eq_decide.mpr
    split <;> split <;> omega
theorem kj9_inj {P : Nat → Nat} {a b : Nat} (ha : a < 16) (hb : b < 16) (e : kj9 (rkP P) (dyJ P) a = kj9 (rkP P) (dyJ P) b) : a = b := by
  rw [kj9_eq, kj9_eq] at e; omega
theorem njP_min {P D κ : Nat → Nat} {j : Nat} (hκ : ∀ a b, a < 16 → b < 16 → (jbP P a 0 = 1 ∧ D a = 0) → (jbP P b 0 = 1 ∧ D b = 0) → ahP P a b = decide (κ a < κ b)) (inj : ∀ a b, a < 16 → b < 16 → κ a = κ b → a = b) (hj : j < 16) (hc : jbP P j 0 = 1 ∧ D j = 0) (mn : ∀ i, i < 16 → (jbP P i 0 = 1 ∧ D i = 0) → κ j ≤ κ i) : njP P D = some j := by
  have key : (njP P D = none → ∀ i, i < 16 → ¬ (jbP P i 0 = 1 ∧ D i = 0)) ∧ ∀ b, njP P D = some b → b < 16 ∧ (jbP P b 0 = 1 ∧ D b = 0) ∧ ∀ i, i < 16 → (jbP P i 0 = 1 ∧ D i = 0) → κ b ≤ κ i := by
    unfold njP
    refine itN_ind (n := 16) (fun m (o : Option Nat) => (o = none → ∀ i, i < m → ¬ (jbP P i 0 = 1 ∧ D i = 0)) ∧ ∀ b, o = some b → b < m ∧ (jbP P b 0 = 1 ∧ D b = 0) ∧ ∀ i, i < m → (jbP P i 0 = 1 ∧ D i = 0) → κ b ≤ κ i) ⟨fun _ i hi => absurd hi (Nat.not_lt_zero _), fun b hb => by cases hb⟩ (fun i a hi ih => ?_)
    cases a with
    | none =>
      simp only [njS]
      split
      · rename_i c
        refine ⟨fun q => (by cases q), fun b hb => ?_⟩
        cases hb
        refine ⟨by omega, c, fun l hl cl => ?_⟩
        by_cases e : l = i
        · rw [e]; exact Nat.le_refl _
        · exact absurd cl (ih.1 rfl l (by omega))
      · rename_i c
        refine ⟨fun _ l hl cl => ?_, fun b hb => (by cases hb)⟩
        by_cases e : l = i
        · subst e; exact c cl
        · exact ih.1 rfl l (by omega) cl
    | some b =>
      obtain ⟨b1, b2, b3⟩ := ih.2 b rfl
      simp only [njS]
      split
      · rename_i c
        refine ⟨fun q => (by cases q), fun b' hb => ?_⟩
        cases hb
        have c2 := c.2.2
        rw [hκ i b hi (by omega) ⟨c.1, c.2.1⟩ b2, decide_eq_true_eq] at c2
        refine ⟨by omega, ⟨c.1, c.2.1⟩, fun l hl cl => ?_⟩
        by_cases e : l = i
        · rw [e]; exact Nat.le_refl _
        · have := b3 l (by omega) cl; omega
      · rename_i c
        refine ⟨fun q => (by cases q), fun b' hb => ?_⟩
        cases hb
        refine ⟨by omega, b2, fun l hl cl => ?_⟩
        by_cases e : l = i
        · subst e
          have h9 : ¬ ahP P l b = true := fun q => c ⟨cl.1, cl.2, q⟩
          rw [hκ l b hi (by omega) cl b2, decide_eq_true_eq] at h9
          omega
        · exact b3 l (by omega) cl
  rcases h : njP P D with _ | b
  · exact absurd hc (key.1 h j hj)
  · obtain ⟨b1, b2, b3⟩ := key.2 b h
    have := b3 j hj hc
    have := mn b b1 b2
    rw [inj b j b1 hj (by omega)]
theorem njP_none {P D : Nat → Nat} (h : ∀ i, i < 16 → ¬ (jbP P i 0 = 1 ∧ D i = 0)) : njP P D = none := by
  rcases e : njP P D with _ | b
  · rfl
  · exact absurd (njP_some e) (h b (njP_lt e))
theorem wkF_n {fz : Bool} {n left : Nat} {P D : Nat → Nat} (h : njP P D = none) : wkF fz n P left D = P := by
  cases n with
  | zero => rfl
  | succ n => unfold wkF; rw [h]
theorem wkF_s {fz : Bool} {n left j : Nat} {P D : Nat → Nat} (h : njP P D = some j) : wkF fz (n + 1) P left D = wkF fz n (wkS fz P left j) (left - haP fz P left j) (upn D j 1) := by
  have e : wkF fz (n + 1) P left D = (match njP P D with | none => P | some j => wkF fz n (wkS fz P left j) (left - haP fz P left j) (upn D j 1)) := rfl
  rw [e, h]
theorem wk1_jn (P : Nat → Nat) {a j i w : Nat} (e : i ≠ j) (hw : w < 3) : jbP (wk1 P a j) i w = jbP P i w := by
  unfold wk1 jbP
  simp only []
  rw [upn_n _ _ (by omega), upn_n _ _ (by omega), upn_n _ _ (by omega)]
theorem wk1_js (P : Nat → Nat) (a j : Nat) : jbP (wk1 P a j) j 0 = jbP P j 0 ∧ jbP (wk1 P a j) j 1 = jbP P j 1 ∧ jbP (wk1 P a j) j 2 = jbP P j 2 + a := by
  unfold wk1 jbP
  simp only []
  refine ⟨?_, ?_, ?_⟩
  · rw [upn_n _ _ (by omega), upn_n _ _ (by omega), upn_n _ _ (by omega)]
  · rw [upn_n _ _ (by omega), upn_n _ _ (by omega), upn_n _ _ (by omega)]
  · rw [upn_s, upn_n _ _ (by omega), upn_n _ _ (by omega)]
theorem fiP_jn (P : Nat → Nat) {j i w : Nat} (hj : j < 16) (e : i ≠ j) (hw : w < 3) : jbP (fiP P j) i w = jbP P i w := by
  have hp : j / 2 < 8 := by omega
  unfold fiP
  split
  · rw [enP_jn _ e hw, lyP_jb _ _ _ _ _ _ hp (by decide)]
  · rw [enP_jn _ e hw, lyP_jb _ _ _ _ _ _ hp (by decide), lyP_jb _ _ _ _ _ _ hp (by decide)]
theorem wkS_jn {fz : Bool} (P : Nat → Nat) {left j i w : Nat} (hj : j < 16) (e : i ≠ j) (hw : w < 3) : jbP (wkS fz P left j) i w = jbP P i w := by
  unfold wkS
  split
  · rw [fiP_jn _ hj e hw, wk1_jn _ e hw]
  · rw [wk1_jn _ e hw]
theorem wk1_eq (P : Nat → Nat) (a j : Nat) : upn (upn (upn P (93 + 3 * j + 2) (jbP P j 2 + a)) 11 (P 11 + a)) 10 (P 10 + a * P 4) = wk1 P a j := by
  funext c
  unfold wk1
  simp only [upn]
  by_cases c1 : c = 93 + 3 * j + 2
  · have n1 : ¬ (93 + 3 * j + 2 = 10) := by omega
    have n2 : ¬ (93 + 3 * j + 2 = 11) := by omega
    simp [c1, n1, n2, jbP]
  · simp [c1]
section
variable {h0 h h' : HP} {L tg0 tg tg' P P' td td' : Nat → Nat} {pn pn' : Nat} {fz fz' : Bool}
theorem PkV.wk (X : PkV h L tg P td pn fz) {j : Nat} (hj : j < 16) : h.mm (L (10 + j / 2)) 12 = .ref (L (30 + j / 2)) ∧ h.kd (L (30 + j / 2)) = 100 ∧ h.ln (L (30 + j / 2)) = 2 ∧ (jbP P j 0 = 1 → h.mm (L (30 + j / 2)) (j % 2) = .int (nI (jbP P j 2))) := by
  obtain ⟨W, x, xw⟩ := X.2.2.2 (j / 2) (by omega)
  refine ⟨x.2.2.2.1, x.2.2.2.2.2.2.2.1, x.2.2.2.2.2.2.2.2.1, fun h1 => ?_⟩
  have e : 2 * (j / 2) + j % 2 = j := by omega
  have := xw (j % 2) (by omega) (by rw [e]; exact h1)
  rw [x.2.2.2.2.2.2.2.2.2.1 (j % 2) (by omega), this, e]
/-- hands are put to a job -/
theorem PkTo.wrk (T : PkTo h0 L tg0 tg P td pn fz h) {j v : Nat} (hj : j < 16) (h6 : P 6 ≤ 6) : PkTo h0 L tg0 tg (upn P (93 + 3 * j + 2) v) td pn fz (h.put (L (30 + j / 2)) (j % 2) (.int (nI v))) := by
  have hp : j / 2 < 8 := by omega
  obtain ⟨W, x, xw⟩ := T.V.2.2.2 (j / 2) hp
  have ej : 2 * (j / 2) + j % 2 = j := by omega
  have ho : ∀ w, w < 10 → ofP (upn P (93 + 3 * j + 2) v) (j / 2) w = ofP P (j / 2) w := fun w hw => upn_n _ _ (by omega)
  refine T.ft hp ⟨x.putW (j % 2) (nI v), Sm.put (Or.inr (Or.inr rfl)), rfl⟩ (ftF_all ?_ ?_ ?_ ?_ ?_ ?_ ?_ ?_ ?_ ?_ rfl) (fun k hk => ?_) (fun k hk q => ?_) (fun c hc => upn_n _ _ (by have := hc.2 (3 * (j % 2) + 2) (by omega); omega)) (fun _ _ => rfl) h6
  · rw [ho 6 (by decide)]; rfl
  · rw [ho 0 (by decide)]; rfl
  · rw [ho 1 (by decide)]; rfl
  · rw [ho 2 (by decide)]; rfl
  · rw [ho 3 (by decide)]; rfl
  · rw [ho 4 (by decide)]; rfl
  · rw [ho 5 (by decide)]; rfl
  · rw [ho 7 (by decide)]; rfl
  · rw [ho 8 (by decide)]; rfl
  · rw [ho 9 (by decide)]; rfl
  · have e0 : jbP (upn P (93 + 3 * j + 2) v) (2 * (j / 2) + k) 0 = jbP P (2 * (j / 2) + k) 0 := upn_n _ _ (by omega)
    have e1 : jbP (upn P (93 + 3 * j + 2) v) (2 * (j / 2) + k) 1 = jbP P (2 * (j / 2) + k) 1 := upn_n _ _ (by omega)
    unfold ftR; rw [e0, e1]
  · have e0 : jbP (upn P (93 + 3 * j + 2) v) (2 * (j / 2) + k) 0 = jbP P (2 * (j / 2) + k) 0 := upn_n _ _ (by omega)
    rw [e0] at q
    by_cases e : k = j % 2
    · subst e
      have e2 : jbP (upn P (93 + 3 * j + 2) v) (2 * (j / 2) + j % 2) 2 = v := by unfold jbP; rw [ej]; exact upn_s _ _ _
      rw [e2]; simp [upd]
    · have e2 : jbP (upn P (93 + 3 * j + 2) v) (2 * (j / 2) + k) 2 = jbP P (2 * (j / 2) + k) 2 := upn_n _ _ (by omega)
      rw [e2, ← xw k hk q]; simp [upd, e]
theorem c_pkDone {E : Ev} (T : PkTo h0 L tg0 tg P td pn fz h) (h6 : P 6 ≤ 6) {j : Nat} (hj : j < 16) (d k : Nat) : Call E yX3_done d k [.ref (L (10 + j / 2)), .int (nI (j % 2))] h (rV (fun h' => PkTo h0 L tg0 tg (fiP P j) td pn fz h' ∧ Sm (FtS (L (10 + j / 2)) (L (20 + j / 2)) (L (30 + j / 2))) h h')) := by
  have e : j = 2 * (j / 2) ∨ j = 2 * (j / 2) + 1 := by omega
  rcases e with e | e
  · have e2 : j % 2 = 0 := by omega
    have := c_pkDone0 (E := E) T h6 (i := j / 2) (by omega) d k
    rw [← e] at this; rw [e2]; exact this
  · have e2 : j % 2 = 1 := by omega
    have := c_pkDone1 (E := E) T h6 (i := j / 2) (by omega) d k
    rw [← e] at this; rw [e2]; exact this
end
theorem QL.far {h h' : HP} {L tg tb r y : Nat → Nat} {cap n : Nat} {D : Nat → Prop} {V : Nat → Prop} (X : QL h L tg tb r y D cap n) (M : Sm V h h') (hV : ∀ a, V a → tg a ≠ 3 ∧ tg a ≠ 62 ∧ tg a < 40) (O : PkO h L tg) : QL h' L tg tb r y D cap n :=
  X.keep M (fun q => (hV _ q).1 (O.tg 3 rfl)) (fun a ha q => (hV _ q).2.1 ha) (fun j hj _ q => by have := (hV _ q).2.2; rw [O.tg _ (lab40 j hj)] at this; omega)
set_option maxHeartbeats 4000000 in
theorem c_pkWork {E : Ev} {h : HP} {L tg P td : Nat → Nat} {pn : Nat} {fz : Bool} (T0 : Pk h L tg P td pn fz) (W : WF P)  (d k : Nat) (hd : 7 ≤ d) (hk : 14 ≤ k) : Call E yX2_work d k [.ref (L 0)] h (rV fun h' => ∃ tg', PkTo h L tg tg' (wkP fz P) td pn fz h') := by
  refine Call.of [.ref (L 0), dum, dum, dum, dum] q1517 (by decide) pn_X2 (Nat.le_of_ble_eq_true rfl) rfl ?_
  refine z_aload0 0 dX2_work_0 ?_
  refine z_get 1 gX2_44 dX2_work_1 T0.v.k0 (T0.v.2.1.2.1.2.2.2.2.2) ?_
  refine z_iconst 4 (nI 0) dX2_work_4 kI0 ?_
  refine z_iald (n := 5) 5 (0) dX2_work_5 T0.v.k7 T0.v.l7 (rfl) ((by decide)) (by decide) (T0.v.a7 (i := 0) (by decide)) ?_
  refine z_istore1 6 dX2_work_6 rfl ?_
  refine z_aload0 7 dX2_work_7 ?_
  refine z_V0 (k' := (k - 14)) 8 vX2_180 dX2_work_8 T0.v.k0 (c_pkLay T0 W (d - 1) 14 (by omega) (by omega)) (by omega) (by omega) (Nat.le_of_ble_eq_true rfl) (aft_V fun h1 hq => ?_)
  obtain ⟨tg', cap, n0, hcap, hn0, T, X⟩ := hq
  obtain ⟨Rr, hRr⟩ : ∃ Rr, Rr = wkF fz 17 P (P 0) (fun _ => 0) := ⟨_, rfl⟩
  have B9 : LB L tg := T0.1.LB
  refine lpW 11 (fun (s : (Nat → Nat) × Nat × (Nat → Nat) × Nat × Nat) => [.ref (L 0), .int (nI s.2.1), dum, dum, dum]) (fun (s : (Nat → Nat) × Nat × (Nat → Nat) × Nat × Nat) h9 => wkF fz s.2.2.2.1 s.1 s.2.1 s.2.2.1 = Rr ∧ cuD 16 s.2.2.1 < s.2.2.2.1 ∧ WF s.1 ∧ s.2.1 ≤ 20 ∧ s.1 1 = P 1 ∧ (∀ j, j < 16 → s.2.2.1 j = 0 → jbP s.1 j 1 = jbP P j 1) ∧ s.2.2.2.2 ≤ 16 ∧ PkTo h L tg tg' s.1 td pn fz h9 ∧ QL h9 L tg' tg (rkP P) (dyJ P) (fun j => jbP s.1 j 0 = 1 ∧ s.2.2.1 j = 0) cap s.2.2.2.2) (fun _ => k - 14) (fun (s : (Nat → Nat) × Nat × (Nat → Nat) × Nat × Nat) => s.2.2.2.1) (P, P 0, (fun _ => 0), 17, n0) ⟨hRr.symm, by show cuD 16 (fun _ => 0) < 17; rw [cuD_0]; decide, W, W.st.1, rfl, fun _ _ _ => rfl, hn0, T, X.congr (fun j hj => ⟨fun q => ⟨q, rfl⟩, fun q => q.1⟩)⟩ (fun s h4 hI ih => ?_)
  obtain ⟨A, left, D, f, n⟩ := s
  obtain ⟨hR, hcu, WA, hl20, hA1, hdy, hn, T, X⟩ := hI
  have hR : wkF fz f A left D = Rr := hR
  have hcu : cuD 16 D < f := hcu
  have WA : WF A := WA
  have hl20 : left ≤ 20 := hl20
  have hA1 : A 1 = P 1 := hA1
  have hdy : ∀ j, j < 16 → D j = 0 → jbP A j 1 = jbP P j 1 := hdy
  have hn : n ≤ 16 := hn
  have T : PkTo h L tg tg' A td pn fz h4 := T
  have X : QL h4 L tg' tg (rkP P) (dyJ P) (fun j => jbP A j 0 = 1 ∧ D j = 0) cap n := X
  show Z E _ d _ (k - 14) h4 11 [.ref (L 0), .int (nI left), dum, dum, dum] []
  refine z_aload0 11 dX2_work_11 ?_
  refine z_get 12 gX2_26 dX2_work_12 T.V.k0 (T.V.2.1.2.1.2.2.1) ?_
  refine z_U0 (k' := (k - 14)) 15 wX2_183_12 dX2_work_15 X.k3 (c_pkEmptyQ X B9 hn (d - 1) 0 (by omega)) (by omega) (by omega) (Nat.le_of_ble_eq_true rfl) (aft_I fun x h5 hq => ?_)
  obtain ⟨rfl, hx⟩ := hq
  rcases hx with ⟨rfl, hx⟩ | ⟨rfl, hx⟩
  · refine z_ifneN 18 163 dX2_work_18 (by decide) (by omega) (fun c_18 => ?_) (fun c_18 => absurd c_18 (by decide))
    refine z_return 163 rfl dX2_work_163 ?_
    have e0 := wkF_n (fz := fz) (n := f) (left := left) (njP_none hx)
    rw [hR] at e0
    refine ⟨rfl, tg', ?_⟩
    show PkTo h L tg tg' (wkF fz 17 P (P 0) (fun _ => 0)) td pn fz _
    rw [← hRr, e0]
    exact T
  · refine z_ifneN 18 163 dX2_work_18 (by decide) (by omega) (fun c_18 => absurd c_18 (by decide)) (fun c_18 => ?_)
    refine z_aload0 21 dX2_work_21 ?_
    refine z_get 22 gX2_26 dX2_work_22 T.V.k0 (T.V.2.1.2.1.2.2.1) ?_
    refine z_V0 (k' := (k - 14)) 25 vX2_186 dX2_work_25 X.k3 (c_pkPollQ T WA B9 X hcap hx (d - 1) 0 (by omega)) (by omega) (by omega) (Nat.le_of_ble_eq_true rfl) (aft_R fun b h6 hq => ?_)
    obtain ⟨j, hj, hDj, rfl, hmin, T6, X6⟩ := hq
    have hDj : jbP A j 0 = 1 ∧ D j = 0 := hDj
    have hp : j / 2 < 8 := by omega
    have xj := And.intro (T6.1.jd hj) (And.intro (T6.1.jp hj) (And.intro (T6.1.jk hj) True.intro))
    have bj := WA.jb hj
    have bn := neM_le j
    have hnj : njP A D = some j := by
      refine njP_min (κ := kj9 (rkP P) (dyJ P)) (fun a b ha hb ca cb => ?_) (fun a b ha hb e => kj9_inj ha hb e) hj hDj (fun i hi ci => hmin i hi ci)
      rw [ah_key WA ha hb]
      have e1 : ∀ i, i < 16 → D i = 0 → kj9 (rkP A) (dyJ A) i = kj9 (rkP P) (dyJ P) i := fun i hi hDi => by rw [kj9_eq, kj9_eq, hA1, hdy i hi hDi]
      rw [e1 a ha ca.2, e1 b hb cb.2]
    obtain ⟨f', rfl⟩ : ∃ f', f = f' + 1 := ⟨f - 1, by omega⟩
    have hR' : wkF fz f' (wkS fz A left j) (left - haP fz A left j) (upn D j 1) = Rr := by rw [← hR, wkF_s hnj]
    have ha := haP_le fz A left j
    have eN : tb_NEEDS (j % 2) = .int (nI (neM j)) := by
      have q : j % 2 = 0 ∨ j % 2 = 1 := by omega
      unfold neM
      rcases q with q | q <;> rw [q] <;> rfl
    have hdy' : ∀ i, i < 16 → upn D j 1 i = 0 → jbP (wkS fz A left j) i 1 = jbP P i 1 := fun i hi hD => by
      by_cases e : i = j
      · subst e; rw [upn_s] at hD; cases hD
      · rw [upn_n _ _ e] at hD; rw [wkS_jn _ hj e (by decide)]; exact hdy i hi hD
    have hD' : ∀ i, i < 16 → (((jbP A i 0 = 1 ∧ D i = 0) ∧ i ≠ j) ↔ (jbP (wkS fz A left j) i 0 = 1 ∧ upn D j 1 i = 0)) := fun i hi => by
      by_cases e : i = j
      · subst e; rw [upn_s]; simp
      · rw [upn_n _ _ e, wkS_jn _ hj e (by decide)]; simp [e]
    obtain ⟨a, ea⟩ : ∃ a, a = haP fz A left j := ⟨_, rfl⟩
    rw [← ea] at ha
    refine z_castY 28 (ci := 3) ok_3.1 q157 (Or.inl rfl) dX2_work_28 xj.1 ?_
    refine z_astore2 31 dX2_work_31 rfl ?_
    refine z_aload0 32 dX2_work_32 ?_
    refine z_get 33 gX2_11 dX2_work_33 T6.V.k0 (T6.V.2.1.2.1.1) ?_
    refine z_aload2 36 dX2_work_36 ?_
    refine z_get 37 gX2_162 dX2_work_37 xj.1 xj.2.1 ?_
    refine z_aald (i := 5) (n := 8) 40 (j / 2) dX2_work_40 (by decide) (by decide) T6.V.k1 T6.V.l1 (rfl) (hp) (by decide) (T6.V.a1 hp) ?_
    refine z_astore3 41 dX2_work_41 rfl ?_
    refine joinZ 82 (fun v9 => [.ref (L 0), .int (nI left), .ref (L (40 + j)), .ref (L (10 + j / 2)), dum]) (fun v9 => [.int v9]) ((nI a)) ?_ (fun J => ?_)
    · refine z_istore4 82 dX2_work_82 rfl ?_
      refine z_aload3 84 dX2_work_84 ?_
      refine z_get 85 gX2_192 dX2_work_85 (T6.V.kf hp) (T6.V.wk hj).1 ?_
      refine z_aload2 88 dX2_work_88 ?_
      refine z_get 89 gX2_168 dX2_work_89 xj.1 xj.2.2.1 ?_
      refine z_dup2 92 dX2_work_92 rfl rfl ?_
      refine z_iald (n := 2) 93 (j % 2) dX2_work_93 (T6.V.wk hj).2.1 (T6.V.wk hj).2.2.1 (rfl) ((by omega)) (by decide) ((T6.V.wk hj).2.2.2 hDj.1) ?_
      refine z_iload4 94 dX2_work_94 ?_
      refine z_iaddN 96 dX2_work_96 ?_
      refine z_iast (n := 2) 97 (j % 2) dX2_work_97 (T6.V.wk hj).2.1 (T6.V.wk hj).2.2.1 (rfl) ((by omega)) (by decide) ?_
      have T1 := T6.wrk (v := jbP A j 2 + a) hj WA.h6
      refine z_iload1 98 dX2_work_98 ?_
      refine z_iload4 99 dX2_work_99 ?_
      refine z_isubN 101 dX2_work_101 (ha.2) ?_
      refine z_istore1 102 dX2_work_102 rfl ?_
      refine z_aload0 103 dX2_work_103 ?_
      refine z_dup 104 dX2_work_104 (rfl) ?_
      refine z_get 105 gX2_119 dX2_work_105 T1.V.k0 ((T1.V.sm (k := 11) (by decide) (by decide)).trans (by rw [upn_n _ _ (by omega)])) ?_
      refine z_iload4 108 dX2_work_108 ?_
      refine z_iaddN 110 dX2_work_110 ?_
      refine z_put 111 pX2_119 (fun h => by cases h) dX2_work_111 T1.V.k0 (rfl) (rfl) ?_
      have T2 := T1.sum (k := 11) (by decide) (by decide) (A 11 + a) (by rw [upn_n _ _ (by omega)]; exact WA.h6)
      refine z_aload0 114 dX2_work_114 ?_
      refine z_dup 115 dX2_work_115 (rfl) ?_
      refine z_get 116 gX2_116 dX2_work_116 T2.V.k0 ((T2.V.sm (k := 10) (by decide) (by decide)).trans (by rw [upn_n _ _ (by omega), upn_n _ _ (by omega)])) ?_
      refine z_iload4 119 dX2_work_119 ?_
      refine z_aload0 121 dX2_work_121 ?_
      refine z_get 122 gX2_44 dX2_work_122 T2.V.k0 (T2.V.2.1.2.1.2.2.2.2.2) ?_
      refine z_iconst 125 (nI 4) dX2_work_125 kI4 ?_
      refine z_iald (n := 5) 126 (4) dX2_work_126 T2.V.k7 T2.V.l7 (rfl) ((by decide)) (by decide) ((T2.V.a7 (i := 4) (by decide)).trans (by rw [upn_n _ _ (by omega), upn_n _ _ (by omega)])) ?_
      refine z_imulN 127 dX2_work_127 ?_
      refine z_iaddN 128 dX2_work_128 ?_
      refine z_put 129 pX2_116 (fun h => by cases h) dX2_work_129 T2.V.k0 (rfl) (rfl) ?_
      have T3 := T2.sum (k := 10) (by decide) (by decide) (A 10 + a * A 4) (by rw [upn_n _ _ (by omega), upn_n _ _ (by omega)]; exact WA.h6)
      rw [wk1_eq] at T3
      have M3 := (Sm.put (S := fun q => q = L (30 + j / 2) ∨ q = L 0) (h := h6) (a := L (30 + j / 2)) (k := j % 2) (v := .int (nI (jbP A j 2 + a))) (Or.inl rfl)).trans ((Sm.put (k := 11) (v := .int (nI (A 11 + a))) (Or.inr rfl)).trans (Sm.put (a := L 0) (k := 10) (v := .int (nI (A 10 + a * A 4))) (Or.inr rfl)))
      have X3 := X6.far M3 (fun q hq => by rcases hq with hq | hq <;> rw [hq] <;> first | (rw [T6.1.1.tg _ (lab10 _ hp).2.2]; omega) | (rw [T6.1.1.tg 0 rfl]; omega)) T6.1.1
      have e3 : jbP (wk1 A a j) j 0 = 1 := (wk1_js A a j).1.trans hDj.1
      refine z_aload3 132 dX2_work_132 ?_
      refine z_get 133 gX2_192 dX2_work_133 (T3.V.kf hp) (T3.V.wk hj).1 ?_
      refine z_aload2 136 dX2_work_136 ?_
      refine z_get 137 gX2_168 dX2_work_137 (T3.1.jd hj) (T3.1.jk hj) ?_
      refine z_iald (n := 2) 140 (j % 2) dX2_work_140 (T3.V.wk hj).2.1 (T3.V.wk hj).2.2.1 (rfl) ((by omega)) (by decide) (((T3.V.wk hj).2.2.2 e3).trans (by rw [(wk1_js A a j).2.2])) ?_
      refine z_base 141 (fun B => ?_)
      obtain ⟨t, hz, hT⟩ := st_NEEDS B
      refine z_getsN 141 hz q1627 dX2_work_141 ?_
      refine z_aload2 144 dX2_work_144 ?_
      refine z_get 145 gX2_168 dX2_work_145 (T3.1.jd hj) (T3.1.jk hj) ?_
      refine z_ti 148 (j % 2) hT rfl (by omega) (by decide) (show tb_NEEDS (j % 2) = .int (nI (neM j)) from eN) dX2_work_148 ?_
      refine z_icneN 149 160 dX2_work_149 (by decide) (by omega) (by omega) (fun c_149 => ?_) (fun c_149 => ?_)
      · have e9 : ¬ haP fz A left j = neP A j := by rw [← ea]; unfold neP; omega
        subst ea
        refine z_goto 160 11 dX2_work_160 (by decide) ?_
        refine z_fog 2 ?_
        refine z_fog 3 ?_
        refine z_fog 4 ?_
        exact ih (wkS fz A left j, left - haP fz A left j, upn D j 1, f', n - 1) _ (Nat.lt_succ_self f') ⟨hR', by show cuD 16 (upn D j 1) < f'; have := cuD_s hj hDj.2; omega, WA.wkSt hj, by show left - _ ≤ 20; omega, by show wkS fz A left j 1 = P 1; rw [wkS_at fz A left j 1 (by omega) hj]; exact hA1, hdy', by show n - 1 ≤ 16; omega, by show PkTo h L tg tg' (wkS fz A left j) td pn fz _; rw [show wkS fz A left j = wk1 A (haP fz A left j) j from if_neg e9]; exact T3, X3.congr (fun i hi => hD' i hi)⟩
      · have e9 : haP fz A left j = neP A j := by rw [← ea]; unfold neP; omega
        refine z_aload3 152 dX2_work_152 ?_
        refine z_aload2 153 dX2_work_153 ?_
        refine z_get 154 gX2_168 dX2_work_154 (T3.1.jd hj) (T3.1.jk hj) ?_
        refine z_V1 (k' := (k - 14)) 157 vX2_200 dX2_work_157 (T3.V.kf hp) (c_pkDone T3 (by rw [wk1_at _ _ _ _ (by omega) hj]; exact WA.h6) hj (d - 1) 0) (by omega) (by omega) (Nat.le_of_ble_eq_true rfl) (aft_V fun h7 hq => ?_)
        obtain ⟨T4, M4⟩ := hq
        have X4 := X3.far M4 (fun q hq => by have := FtS_tg T3.1.1 hp hq; omega) T3.1.1
        subst ea
        refine z_goto 160 11 dX2_work_160 (by decide) ?_
        refine z_fog 2 ?_
        refine z_fog 3 ?_
        refine z_fog 4 ?_
        exact ih (wkS fz A left j, left - haP fz A left j, upn D j 1, f', n - 1) _ (Nat.lt_succ_self f') ⟨hR', by show cuD 16 (upn D j 1) < f'; have := cuD_s hj hDj.2; omega, WA.wkSt hj, by show left - _ ≤ 20; omega, by show wkS fz A left j 1 = P 1; rw [wkS_at fz A left j 1 (by omega) hj]; exact hA1, hdy', by show n - 1 ≤ 16; omega, by show PkTo h L tg tg' (wkS fz A left j) td pn fz _; rw [show wkS fz A left j = fiP (wk1 A (haP fz A left j) j) j from if_pos e9]; exact T4, X4.congr (fun i hi => hD' i hi)⟩
    · refine z_aload0 42 dX2_work_42 ?_
      refine z_get 43 gX2_125 dX2_work_43 T6.V.k0 T6.V.fro ?_
      refine z_ifeqB 46 60 dX2_work_46 (by decide) (fun c_46 => ?_) (fun c_46 => ?_)
      · refine z_iload1 60 dX2_work_60 ?_
        refine z_base 61 (fun B => ?_)
        obtain ⟨t, hz, hT⟩ := st_NEEDS B
        refine z_getsN 61 hz q1627 dX2_work_61 ?_
        refine z_aload2 64 dX2_work_64 ?_
        refine z_get 65 gX2_168 dX2_work_65 xj.1 xj.2.2.1 ?_
        refine z_ti 68 (j % 2) hT rfl (by omega) (by decide) (show tb_NEEDS (j % 2) = .int (nI (neM j)) from eN) dX2_work_68 ?_
        refine z_aload3 69 dX2_work_69 ?_
        refine z_get 70 gX2_192 dX2_work_70 (T6.V.kf hp) (T6.V.wk hj).1 ?_
        refine z_aload2 73 dX2_work_73 ?_
        refine z_get 74 gX2_168 dX2_work_74 xj.1 xj.2.2.1 ?_
        refine z_iald (n := 2) 77 (j % 2) dX2_work_77 (T6.V.wk hj).2.1 (T6.V.wk hj).2.2.1 (rfl) ((by omega)) (by decide) ((T6.V.wk hj).2.2.2 hDj.1) ?_
        refine z_isubN 78 dX2_work_78 (by omega) ?_
        refine z_mmin 79 q1629 q592 q128 q593 dX2_work_79 (by omega) (Nat.le_of_ble_eq_true rfl) ?_
        exact J _ (by
          rw [ea]; unfold haP neP
          rw [if_neg (show ¬ (fz = true ∧ j % 2 = 0) from fun q => by first | exact c_53 q.2 | (rw [c_46] at q; exact absurd q.1 (by decide)))]
          by_cases q : neM j - jbP A j 2 < left
          · rw [if_pos (nI_lt q (by omega)), if_pos q]
          · rw [if_neg (nI_nlt (by omega) (by omega)), if_neg q])
      · refine z_aload2 49 dX2_work_49 ?_
        refine z_get 50 gX2_168 dX2_work_50 xj.1 xj.2.2.1 ?_
        refine z_ifneN 53 60 dX2_work_53 (by decide) (by omega) (fun c_53 => ?_) (fun c_53 => ?_)
        · refine z_iload1 60 dX2_work_60 ?_
          refine z_base 61 (fun B => ?_)
          obtain ⟨t, hz, hT⟩ := st_NEEDS B
          refine z_getsN 61 hz q1627 dX2_work_61 ?_
          refine z_aload2 64 dX2_work_64 ?_
          refine z_get 65 gX2_168 dX2_work_65 xj.1 xj.2.2.1 ?_
          refine z_ti 68 (j % 2) hT rfl (by omega) (by decide) (show tb_NEEDS (j % 2) = .int (nI (neM j)) from eN) dX2_work_68 ?_
          refine z_aload3 69 dX2_work_69 ?_
          refine z_get 70 gX2_192 dX2_work_70 (T6.V.kf hp) (T6.V.wk hj).1 ?_
          refine z_aload2 73 dX2_work_73 ?_
          refine z_get 74 gX2_168 dX2_work_74 xj.1 xj.2.2.1 ?_
          refine z_iald (n := 2) 77 (j % 2) dX2_work_77 (T6.V.wk hj).2.1 (T6.V.wk hj).2.2.1 (rfl) ((by omega)) (by decide) ((T6.V.wk hj).2.2.2 hDj.1) ?_
          refine z_isubN 78 dX2_work_78 (by omega) ?_
          refine z_mmin 79 q1629 q592 q128 q593 dX2_work_79 (by omega) (Nat.le_of_ble_eq_true rfl) ?_
          exact J _ (by
            rw [ea]; unfold haP neP
            rw [if_neg (show ¬ (fz = true ∧ j % 2 = 0) from fun q => by first | exact c_53 q.2 | (rw [c_46] at q; exact absurd q.1 (by decide)))]
            by_cases q : neM j - jbP A j 2 < left
            · rw [if_pos (nI_lt q (by omega)), if_pos q]
            · rw [if_neg (nI_nlt (by omega) (by omega)), if_neg q])
        · refine z_iconst 56 (nI 0) dX2_work_56 kI0 ?_
          refine z_goto 57 82 dX2_work_57 (by decide) ?_
          exact J _ (by rw [ea]; unfold haP; rw [if_pos ⟨c_46, by omega⟩])

