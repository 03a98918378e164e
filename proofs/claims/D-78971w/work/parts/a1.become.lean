/-! PARK: becoming another one -/
section
variable {E : Ev} {h0 h h' : HP} {L tg0 tg tg' P P' td td' ν ad : Nat → Nat} {pn pn' : Nat} {fz fz' : Bool} {V : Nat → Prop}
theorem PkO.stepN (O : PkO h L tg) (M : Sm V h h') (X : TgX h tg tg' 60 ∨ TgX h tg tg' 61) (ow : ∀ a, h.sz ≤ a → tg' a ≠ 100 → a < h'.sz ∧ h'.kd a ≠ 4 ∧ h'.kd a ≠ 9 ∧ h'.kd a ≠ 15) : PkO h' L tg' := by
  rcases X with X | X
  · exact O.step M X (fun a ha _ e => ow a ha e)
  · exact O.step M X (fun a ha _ e => ow a ha e)
/-- all but its numbers, its maps -/
def B7 (h : HP) (L tg P td : Nat → Nat) : Prop := PkO h L tg ∧ PkA h L ∧ PkF h L P td ∧ PkJ h L ∧ PkQ h L tg
theorem B7.step (X : B7 h L tg P td) (M : Sm V h h') (hV : ∀ a, a < h.sz → V a → tg a = 4 ∨ tg a = 60 ∨ tg a = 6 ∨ tg a = 61 ∨ tg a = 100) {c : Nat} (G : TgX h tg tg' c) (ow : ∀ a, h.sz ≤ a → tg' a = c → tg' a ≠ 100 → a < h'.sz ∧ h'.kd a ≠ 4 ∧ h'.kd a ≠ 9 ∧ h'.kd a ≠ 15) : B7 h' L tg' P td := by
  obtain ⟨O, A, F, J, Q⟩ := X
  have lv : ∀ k, lab k = true → k ≠ 4 → k ≠ 6 → ¬ V (L k) := fun k hk k1 k2 v => by
    have := hV _ (O.lt k hk) v
    rw [O.tg k hk] at this
    have h3 : k ≠ 60 := fun e => by subst e; cases hk
    have h4 : k ≠ 61 := fun e => by subst e; cases hk
    have h5 : k ≠ 100 := fun e => by subst e; cases hk
    omega
  refine ⟨O.step M G ow, A.keep O M (lv 0 rfl (by decide) (by decide)) (lv 1 rfl (by decide) (by decide)) (lv 2 rfl (by decide) (by decide)), F.keep O M (fun i hi => ⟨lv _ (lab10 i hi).1 (by omega) (by omega), lv _ (lab10 i hi).2.1 (by omega) (by omega), lv _ (lab10 i hi).2.2 (by omega) (by omega)⟩), J.keep O M (fun j hj => lv _ (lab40 j hj) (by omega) (by omega)), ?_⟩
  obtain ⟨ar, n, cap, g, κ, mc, x1, x2, x3⟩ := Q
  have ha : ar < h.sz := x1.2.2.2.2.2.2.1.2.2.2.2.2.2
  exact ⟨ar, n, cap, g, κ, mc, x1.keep M (lv 3 rfl (by decide) (by decide)) (fun v => by have := hV _ ha v; rw [x2] at this; omega), (G.1 ar ha).trans x2, x3⟩
def mixF (P P2 : Nat → Nat) (i : Nat) : Nat → Nat := fun c => if (13 ≤ c ∧ c < 13 + 10 * i) ∨ (93 ≤ c ∧ c < 93 + 6 * i) then P2 c else P c
def mixT (t t2 : Nat → Nat) (i : Nat) : Nat → Nat := fun j => if j < i then t2 j else t j
theorem bt01_n {n : Nat} (h : n ≤ 1) : bt01 (nI n) := by
  have : n = 0 ∨ n = 1 := by omega
  rcases this with e | e <;> subst e
  · exact bt01_0
  · exact bt01_1
theorem PkM.k4 (X : PkM h L tg P) : h.kd (L 4) = 7 := by obtain ⟨C, mc, ks, x, -⟩ := X; exact x.lt.1
theorem PkT.k5 (X : PkT h L tg P pn) : h.kd (L 5) = 11 := by obtain ⟨K, mc, ks, ν, ad, x, -⟩ := X; exact x.1
/-- the maps' contents on the way -/
def SetK (h : HP) (L tg : Nat → Nat) (K : Nat → Nat → Prop) (n : Nat) : Prop := ∃ (mc : Int32) (ks : Option Nat), TsP h (L 5) (L 6) (fun a => tg a = 6 ∨ tg a = 61) K n mc ks ∧ ∀ s, ks = some s → KsA h s (L 6)
theorem SetK.k5 {K : Nat → Nat → Prop} {n : Nat} (X : SetK h L tg K n) : h.kd (L 5) = 11 := by obtain ⟨mc, ks, x, -⟩ := X; exact x.1
theorem c_bkClearM {P3 : Nat → Nat} (X : B7 h L tg P td) (Mm : PkM h L tg P') (Tt : PkT h L tg P3 pn) (P2 : Nat → Nat) (d k : Nat) : Call E yJ8_clear d k [.ref (L 4)] h (rV fun h' => B7 h' L tg P td ∧ PkM h' L tg (upn P2 6 0) ∧ PkT h' L tg P3 pn ∧ Sm (fun a => tg a = 4 ∨ tg a = 60) h h' ∧ h'.sz = h.sz) := by
  obtain ⟨C, mc, ks, M1, M2, M3, M4⟩ := Mm
  have O := X.1
  refine (c_mpClear d k M1).mono (fun r h' q => ?_)
  obtain ⟨e, M1', M, z⟩ := q
  have im : ∀ c, (c = 4 ∨ c = 9 ∨ c = 15) → ∀ a, h.kd a = c → ¬ (tg a = 4 ∨ tg a = 60) := fun c hc a ha q => O.imm hc a ha (by omega)
  refine ⟨e, X.step M (fun a _ q => by omega) (TgX.refl O 60) (fun a ha e9 n9 => absurd (O.far ha) n9), ⟨fun _ _ _ => False, _, ks, by rw [upn_s]; exact M1', fun q x v hC => hC.elim, fun k hk => by rw [upn_s] at hk; exact absurd hk (Nat.not_lt_zero _), fun s hs => (M4 s hs).keep9 M (im 9 (by omega))⟩, Tt.keepX O M (fun q => by rw [O.tg 5 rfl] at q; omega) (fun a ha q => by omega) (im 4 (by omega)) (im 9 (by omega)) (TgX.refl O 60) (by decide) rfl (fun _ _ => rfl) (Nat.le_refl _), M, z⟩
theorem c_bkPutM {P2 : Nat → Nat} (W2 : WF P2) (X : B7 h L tg P td) {i : Nat} (hi : i < P2 6) (Mm : PkM h L tg (upn P2 6 i)) {x v : Nat} (ix : IntAt h x (nI (P2 (141 + 2 * i)))) (iv : IntAt h v (nI (P2 (141 + 2 * i + 1)))) (d k : Nat) (hd : 6 ≤ d) (hk : 2 ≤ k) : Call E yJ8_put d k [.ref (L 4), .ref x, .ref v] h (rA fun _ h' => ∃ tg', TgX h tg tg' 60 ∧ B7 h' L tg' P td ∧ PkM h' L tg' (upn P2 6 (i + 1)) ∧ Sm (fun a => tg a = 4 ∨ tg a = 60) h h' ∧ h'.sz = h.sz + 1) := by
  obtain ⟨C, mc, ks, M1, M2, M3, M4⟩ := Mm
  have O := X.1
  have b0 := W2.f0 hi
  have e6 : ∀ j, upn P2 6 j 6 = j := fun j => upn_s _ _ _
  have ef : ∀ j k, upn P2 6 j (141 + 2 * k) = P2 (141 + 2 * k) := fun j k => upn_n _ _ (by omega)
  have ef1 : ∀ j k, upn P2 6 j (141 + 2 * k + 1) = P2 (141 + 2 * k + 1) := fun j k => upn_n _ _ (by omega)
  simp only [e6, ef, ef1] at M1 M2 M3
  refine (c_mpPut (kx := P2 (141 + 2 * i)) d k M1 hd hk fxJ8_107_15 ix.2.1 (fun q y0 v hC => ?_) (cmpI (by omega) (by omega) ix ix) (fun x9 v9 hC => ?_)).mono (fun r h' q => ?_)
  · obtain ⟨j, j1, j2, j3, -⟩ := M2 q y0 v hC
    have := W2.f0 (k := j) (by omega)
    exact cmpI (by omega) (by omega) ix (by rw [← j2] at *; exact j3)
  · obtain ⟨j, j1, j2, -⟩ := M2 _ _ _ hC
    have := frs_inj W2 hi (by omega) j2
    omega
  · obtain ⟨r9, e, -, mc', M1', M, z⟩ := q
    have im : ∀ c, (c = 4 ∨ c = 9 ∨ c = 15) → ∀ a, h.kd a = c → ¬ (tg a = 4 ∨ tg a = 60) := fun c hc a ha q => O.imm hc a ha (by omega)
    have l4 : L 4 < h.sz := O.lt 4 rfl
    obtain ⟨tg', et, M9⟩ := M1'.tag (O.tg 4 rfl) (by omega) (O.far (Nat.le_refl _)) (by decide) (by decide)
    have G : TgX h tg tg' 60 := TgX.of O (Nat.le_refl _) et
    refine ⟨r9, e, tg', G, X.step M (fun a _ q => by omega) G (fun a ha e9 n9 => ?_), ⟨_, mc', ks, by rw [e6]; exact M9, fun q x9 v9 hC => ?_, fun j hj => ?_, fun s hs => (M4 s hs).keep9 M (im 9 (by omega))⟩, M, z⟩
    · rcases et with q | ⟨q, q8⟩
      · rw [q, O.far ha] at e9; cases e9
      · by_cases ea : a = h.sz
        · rw [ea, q8]; exact ⟨by omega, by decide, by decide, by decide⟩
        · rw [q, tgn_n _ _ ea, O.far ha] at e9; cases e9
    · rw [e6]
      simp only [ef, ef1]
      rcases hC with hC | ⟨rfl, rfl, rfl⟩
      · obtain ⟨j, j1, j2, j3, j4⟩ := M2 q x9 v9 hC
        exact ⟨j, by omega, j2, j3.keep9 M (im 15 (by omega) _ j3.2.1), j4.keep9 M (im 15 (by omega) _ j4.2.1)⟩
      · exact ⟨i, by omega, rfl, ix.keep9 M (im 15 (by omega) _ ix.2.1), iv.keep9 M (im 15 (by omega) _ iv.2.1)⟩
    · rw [e6] at hj
      rw [ef]
      by_cases q : j = i
      · subst q; exact ⟨x, v, Or.inr ⟨rfl, rfl, rfl⟩⟩
      · obtain ⟨x9, v9, h9⟩ := M3 j (by omega)
        exact ⟨x9, v9, Or.inl h9⟩
theorem c_bkClearT {P3 : Nat → Nat} (X : B7 h L tg P td) (Mm : PkM h L tg P') (b6 : P' 6 ≤ 6) (Tt : PkT h L tg P3 pn) (d k : Nat) (hd : 1 ≤ d) : Call E yJ10_clear d k [.ref (L 5)] h (rV fun h' => B7 h' L tg P td ∧ PkM h' L tg P' ∧ SetK h' L tg (fun _ _ => False) 0 ∧ Sm (fun a => tg a = 6 ∨ tg a = 61) h h' ∧ h'.sz = h.sz) := by
  obtain ⟨K, mc, ks, ν, ad, x1, x2, x3, x4, x5⟩ := Tt
  have O := X.1
  refine (c_tsClear d k x1 hd (O.lt 5 rfl) (fun q => by rw [O.tg 5 rfl] at q; omega)).mono (fun r h' q => ?_)
  obtain ⟨e, M1', M, z⟩ := q
  have im : ∀ c, (c = 4 ∨ c = 9 ∨ c = 15) → ∀ a, h.kd a = c → ¬ (tg a = 6 ∨ tg a = 61) := fun c hc a ha q => O.imm hc a ha (by omega)
  exact ⟨e, X.step M (fun a _ q => by omega) (TgX.refl O 61) (fun a ha e9 n9 => absurd (O.far ha) n9), Mm.keepX O M (fun a ha q => by omega) (im 15 (by omega)) (im 9 (by omega)) (TgX.refl O 61) (by decide) rfl (fun _ _ _ => rfl) b6, ⟨_, ks, M1', fun s hs => (x5 s hs).keep9 M (im 9 (by omega))⟩, M, z⟩
/-- how many have a key below b -/
def cntK (P ν : Nat → Nat) (b : Nat) : Nat := smN (P 7) fun i => if i < P 7 ∧ kyO P ν i < b then 1 else 0
theorem smN_c (n c : Nat) (f : Nat → Nat) (h : ∀ i, i < n → f i = c) : smN n f = n * c := by
  induction n with
  | zero => simp [smN, itN]
  | succ n ih =>
    have e : smN (n + 1) f = smN n f + f n := rfl
    rw [e, ih (fun i hi => h i (by omega)), h n (by omega), Nat.succ_mul]
theorem cntK_0 (P ν : Nat → Nat) : cntK P ν 0 = 0 := by unfold cntK; rw [smN_c _ 0 _ (fun i _ => if_neg (by omega))]; rfl
theorem cntK_all {P ν : Nat → Nat} {b : Nat} (h : ∀ i, i < P 7 → kyO P ν i < b) : cntK P ν b = P 7 := by
  unfold cntK; rw [smN_c _ 1 _ (fun i hi => if_pos ⟨hi, h i hi⟩)]; omega
theorem cntK_le (P ν : Nat → Nat) (b : Nat) : cntK P ν b ≤ P 7 := by
  have := smN_le (fun i => if i < P 7 ∧ kyO P ν i < b then 1 else 0) (P 7) 1 (fun i _ => by show (if _ then 1 else 0) ≤ 1; split <;> omega)
  unfold cntK; omega
theorem Adr.nu (X : Adr h P ν ad pn) {i j : Nat} (hi : i < P 7) (hj : j < P 7) : (ν i < ν j ↔ i < j) ∧ (ν i = ν j ↔ i = j) := by
  have x4 := X.2
  by_cases c : i < j
  · have := x4 i j c hj; omega
  · by_cases c2 : i = j
    · subst c2; omega
    · have := x4 j i (by omega) hi; omega
theorem Adr.key (X : Adr h P ν ad pn) (W : WF P) (hp : pn < 1048576) {i j : Nat} (hi : i < P 7) (hj : j < P 7) : kyO P ν i ≤ kyO P ν j ↔ oge P i j := by
  have a := X.nu hi hj
  have b := X.nu hj hi
  have w := W.og hi; have w2 := W.og hj
  have n1 := (X.1 i hi).2.1; have n2 := (X.1 j hj).2.1
  have e : i ≤ j ↔ ν i ≤ ν j := by omega
  unfold oge kyO kO
  rw [e]
  omega
theorem Adr.inj (X : Adr h P ν ad pn) (W : WF P) (hp : pn < 1048576) {i j : Nat} (hi : i < P 7) (hj : j < P 7) (e : kyO P ν i = kyO P ν j) : i = j := by
  have a := (X.key W hp hi hj).mp (by omega)
  have b := (X.key W hp hj hi).mp (by omega)
  unfold oge at a b; omega
theorem cntK_s (X : Adr h P ν ad pn) (W : WF P) (hp : pn < 1048576) {i b : Nat} (hi : i < P 7) (hb : b ≤ kyO P ν i) (mn : ∀ j, j < P 7 → b ≤ kyO P ν j → kyO P ν i ≤ kyO P ν j) : cntK P ν (kyO P ν i + 1) = cntK P ν b + 1 := by
  have := (smN_dec (j := i) (fun j => if j < P 7 ∧ kyO P ν j < kyO P ν i + 1 then 1 else 0) (fun j => if j < P 7 ∧ kyO P ν j < b then 1 else 0) (fun j hj => ?_) ?_ (P 7)).1 hi
  · unfold cntK; omega
  · by_cases c : j < P 7
    · have m := mn j c
      have ne : kyO P ν j ≠ kyO P ν i := fun e => hj (X.inj W hp c hi e)
      by_cases q : kyO P ν j < b
      · rw [if_pos ⟨c, q⟩, if_pos ⟨c, by omega⟩]
      · rw [if_neg (fun r => q r.2), if_neg (fun r => by have := m (by omega); omega)]
    · rw [if_neg (fun r => c r.1), if_neg (fun r => c r.1)]
  · rw [if_pos ⟨hi, by omega⟩, if_neg (fun r => by omega)]
/-- those with a key below b -/
def KB (P ν ad : Nat → Nat) (b : Nat) : Nat → Nat → Prop := fun q x => ∃ i, i < P 7 ∧ q = kyO P ν i ∧ x = ad i ∧ kyO P ν i < b
theorem SetK.congr {K K' : Nat → Nat → Prop} {n : Nat} (X : SetK h L tg K n) (e : ∀ q x, K q x ↔ K' q x) : SetK h L tg K' n := by
  have : K = K' := by funext q x; exact propext (e q x)
  rw [← this]; exact X
theorem c_bkAddT {P2 : Nat → Nat} (W2 : WF P2) (X : B7 h L tg P td) (Mm : PkM h L tg P') (b6 : P' 6 ≤ 6) (AD : Adr h P2 ν ad pn) (hp : pn < 1048576) {i b : Nat} (S : SetK h L tg (KB P2 ν ad b) (cntK P2 ν b)) (hi : i < P2 7) (hb : b ≤ kyO P2 ν i) (mn : ∀ j, j < P2 7 → b ≤ kyO P2 ν j → kyO P2 ν i ≤ kyO P2 ν j) (d k : Nat) (hd : 7 ≤ d) (hk : 2 ≤ k) : Call E yJ10_add d k [.ref (L 5), .ref (ad i)] h (rI fun _ h' => ∃ tg', TgX h tg tg' 61 ∧ B7 h' L tg' P td ∧ PkM h' L tg' P' ∧ SetK h' L tg' (KB P2 ν ad (kyO P2 ν i + 1)) (cntK P2 ν (kyO P2 ν i + 1)) ∧ Sm (fun a => tg a = 6 ∨ tg a = 61) h h' ∧ h'.sz = h.sz + 1) := by
  obtain ⟨mc, ks, x1, x5⟩ := S
  have O := X.1
  obtain ⟨o1, o2, o3⟩ := AD.1 i hi
  have w := W2.og hi
  have h7 := W2.h7
  have wb := W2.B.og (j := i) (w := 0) (by omega) (by decide)
  refine (c_setAdd x1 (fun q x hK => ?_) o1 wb (by omega) (by omega) (O.lt 5 rfl) (fun q => by rw [O.tg 5 rfl] at q; omega) (O.tg 6 rfl) (O.far (Nat.le_refl _)) (fun x9 hK => ?_) d k hd hk).mono (fun r h' q => ?_)
  · obtain ⟨j, j1, j2, j3, j4⟩ := hK
    obtain ⟨p1, p2, p3⟩ := AD.1 j j1
    have w2 := W2.og j1
    have wb2 := W2.B.og (j := j) (w := 0) (by omega) (by decide)
    exact ⟨_, _, _, _, by rw [j3]; exact p1, j2, wb2, by omega, by omega⟩
  · obtain ⟨j, j1, j2, j3, j4⟩ := hK
    have e : kyO P2 ν i = kyO P2 ν j := j2
    omega
  · obtain ⟨x, e, mc', tg', et, Y, M, z⟩ := q
    have im : ∀ c, (c = 4 ∨ c = 9 ∨ c = 15) → ∀ a, h.kd a = c → ¬ (tg a = 6 ∨ tg a = 61) := fun c hc a ha q => O.imm hc a ha (by omega)
    have G : TgX h tg tg' 61 := TgX.of O (Nat.le_refl _) et
    have eK : (fun q x9 => KB P2 ν ad b q x9 ∨ (q = kO (ogP P2 i 0) (ogP P2 i 1) (ν i) ∧ x9 = ad i)) = KB P2 ν ad (kyO P2 ν i + 1) := by
      funext q x9
      apply propext
      constructor
      · rintro (⟨j, j1, j2, j3, j4⟩ | ⟨rfl, rfl⟩)
        · exact ⟨j, j1, j2, j3, by omega⟩
        · exact ⟨i, hi, rfl, rfl, Nat.lt_succ_self _⟩
      · rintro ⟨j, j1, j2, j3, j4⟩
        by_cases q9 : kyO P2 ν j < b
        · exact Or.inl ⟨j, j1, j2, j3, q9⟩
        · have m := mn j j1 (by omega)
          have ej := AD.inj W2 hp hi j1 (by omega)
          subst ej
          exact Or.inr ⟨j2, j3⟩
    rw [eK, ← cntK_s AD W2 hp hi hb mn] at Y
    refine ⟨x, e, tg', G, X.step M (fun a _ q => by omega) G (fun a ha e9 n9 => ?_), Mm.keepX O M (fun a ha q => by omega) (im 15 (by omega)) (im 9 (by omega)) G (by decide) rfl (fun _ _ _ => rfl) b6, ⟨mc', ks, Y, fun s hs => (x5 s hs).keep9 M (im 9 (by omega))⟩, M, z⟩
    rcases et with q | ⟨q, q8⟩
    · rw [q, O.far ha] at e9; cases e9
    · by_cases ea : a = h.sz
      · rw [ea, q8]; exact ⟨by omega, by decide, by decide, by decide⟩
      · rw [q, tgn_n _ _ ea, O.far ha] at e9; cases e9
theorem bk_T {P2 : Nat → Nat} (AD : Adr h P2 ν ad pn) {b : Nat} (hb : ∀ i, i < P2 7 → kyO P2 ν i < b) (S : SetK h L tg (KB P2 ν ad b) (cntK P2 ν b)) : PkT h L tg P2 pn := by
  obtain ⟨mc, ks, x1, x5⟩ := S
  rw [cntK_all hb] at x1
  refine ⟨_, mc, ks, ν, ad, x1, fun q x => ?_, AD.1, AD.2, x5⟩
  constructor
  · rintro ⟨i, i1, i2, i3, -⟩; exact ⟨i, i1, i2, i3⟩
  · rintro ⟨i, i1, i2, i3⟩; exact ⟨i, i1, i2, i3, hb i i1⟩
/-- two parks have no cell in common -/
def Dj (tg tg2 : Nat → Nat) : Prop := ∀ a, tg a = 100 ∨ tg2 a = 100
theorem Dj.grow {L2 tg2 : Nat → Nat} {c : Nat} (D : Dj tg tg2) (G : TgX h tg tg' c) (O2 : PkO h L2 tg2) : Dj tg' tg2 := fun a => by
  by_cases q : a < h.sz
  · rw [G.1 a q]; exact D a
  · exact Or.inr (O2.far (by omega))
theorem SetK.keep {K : Nat → Nat → Prop} {n : Nat} (X : SetK h L tg K n) (O : PkO h L tg) (M : Sm V h h') (h5 : ¬ V (L 5)) (hv : ∀ a, tg a = 6 ∨ tg a = 61 → ¬ V a) (h9 : ∀ a, h.kd a = 9 → ¬ V a) : SetK h' L tg K n := by
  obtain ⟨mc, ks, x1, x5⟩ := X
  exact ⟨mc, ks, x1.keep M (O.lt 5 rfl) hv h5, fun s hs => (x5 s hs).keep9 M h9⟩
end
/-- both parks on the way: this one (all but numbers and maps), the other one whole -/
def Bk (h0 h : HP) (L tg0 tg P2 td2 L2 tg2 : Nat → Nat) (pn2 : Nat) (fz2 : Bool) : Prop := B7 h L tg P2 td2 ∧ Pk h L2 tg2 P2 td2 pn2 fz2 ∧ Dj tg tg2 ∧ Sm (fun a => tg0 a ≠ 100 ∨ tg2 a ≠ 100) h0 h ∧ (∀ a, a < h0.sz → tg a = tg0 a)
section
variable {E : Ev} {h0 h h' : HP} {L tg0 tg tg' P2 td2 L2 tg2 : Nat → Nat} {pn2 : Nat} {fz2 : Bool} {V : Nat → Prop}
theorem Bk.k0 (X : Bk h0 h L tg0 tg P2 td2 L2 tg2 pn2 fz2) : h.kd (L 0) = 1 := X.1.2.1.1
/-- this park's maps were written -/
theorem Bk.own (X : Bk h0 h L tg0 tg P2 td2 L2 tg2 pn2 fz2) (M : Sm V h h') (hV : ∀ a, V a → tg a ≠ 100) {c : Nat} (G : TgX h tg tg' c) (B' : B7 h' L tg' P2 td2) : Bk h0 h' L tg0 tg' P2 td2 L2 tg2 pn2 fz2 := by
  obtain ⟨B, Y, D, S, tt⟩ := X
  have O := B.1
  have im : ∀ c, (c = 4 ∨ c = 9 ∨ c = 15) → ∀ a, h.kd a = c → ¬ V a := fun c hc a ha q => O.imm hc a ha (hV a q)
  exact ⟨B', Y.keep M (fun a ha q => by have := hV a q; have := D a; omega) (im 15 (by omega)) (im 4 (by omega)) (im 9 (by omega)), D.grow G Y.1, S.tr M (fun a ha q => Or.inl (by rw [← tt a ha]; exact hV a q)), fun a ha => (G.1 a (Nat.lt_of_lt_of_le ha S.1)).trans (tt a ha)⟩
/-- the other one was written -/
theorem Bk.oth (X : Bk h0 h L tg0 tg P2 td2 L2 tg2 pn2 fz2) (M : Sm V h h') (hV : ∀ a, a < h.sz → V a → tg2 a ≠ 100 ∨ (tg2 a = 100 ∧ tg a = 100 ∧ h0.sz ≤ a)) (Y' : Pk h' L2 tg2 P2 td2 pn2 fz2) : Bk h0 h' L tg0 tg P2 td2 L2 tg2 pn2 fz2 := by
  obtain ⟨B, Y, D, S, tt⟩ := X
  exact ⟨B.step M (fun a ha q => by have := hV a ha q; have := D a; omega) (TgX.refl B.1 60) (fun a ha _ n => absurd (B.1.far ha) n), Y', D, S.tr M (fun a ha q => by have := hV a (Nat.lt_of_lt_of_le ha S.1) q; omega), tt⟩
end
set_option maxHeartbeats 4000000 in
theorem c_pkBecome {E : Ev} {h : HP} {L tg P td L2 tg2 P2 td2 : Nat → Nat} {pn pn2 : Nat} {fz fz2 : Bool} (T0 : Pk h L tg P td pn fz) (Y0 : Pk h L2 tg2 P2 td2 pn2 fz2) (b6 : P 6 ≤ 6) (W2 : WF P2) (dj : Dj tg tg2) (hp : pn2 < 1048576)  (d k : Nat) (hd : 8 ≤ d) (hk : 60 ≤ k) : Call E yX2_become d k [.ref (L 0), .ref (L2 0)] h (rV fun h' => ∃ tg', Pk h' L tg' P2 td2 pn2 fz2 ∧ Pk h' L2 tg2 P2 td2 pn2 fz2 ∧ Sm (fun a => tg a ≠ 100 ∨ tg2 a ≠ 100) h h' ∧ (∀ a, a < h.sz → tg' a = tg a) ∧ Dj tg' tg2) := by
  refine Call.of [.ref (L 0), .ref (L2 0), dum, dum] q963 (by decide) pn_X2 (Nat.le_of_ble_eq_true rfl) rfl ?_
  refine z_iconst 0 (nI 0) dX2_become_0 kI0 ?_
  refine z_istore2 1 dX2_become_1 rfl ?_
  refine lpH 2 8 (fun i => [.ref (L 0), .ref (L2 0), .int (nI i), dum]) (fun i h9 => PkTo h L tg tg (mixF P P2 i) (mixT td td2 i) pn fz h9 ∧ Pk h9 L2 tg2 P2 td2 pn2 fz2) (fun _ => k) ⟨by rw [show mixF P P2 0 = P from by funext c; exact if_neg (by omega), show mixT td td2 0 = td from by funext c; exact if_neg (by omega)]; exact T0.to, Y0⟩ (fun h1 hI => ?_) (fun i h1 hi hI ih => ?_)
  · obtain ⟨T, Y⟩ := hI
    have TF : PkF h1 L P2 td2 := fun j hj => by
      obtain ⟨Wf, x, xw⟩ := T.1.2.2.2.1 j hj
      have eo : ∀ w, w < 10 → ofP (mixF P P2 8) j w = ofP P2 j w := fun w hw => if_pos (by omega)
      have eb : ∀ k w, k < 2 → w < 3 → jbP (mixF P P2 8) (2 * j + k) w = jbP P2 (2 * j + k) w := fun k w hk hw => if_pos (by omega)
      have et : mixT td td2 8 j = td2 j := if_pos hj
      refine ⟨Wf, x.congr (fun k hk => ?_) (fun k hk => ?_) (fun _ _ => rfl), fun k hk q9 => ?_⟩
      · unfold ftF
        rw [et, eo 0 (by decide), eo 1 (by decide), eo 2 (by decide), eo 3 (by decide), eo 4 (by decide), eo 5 (by decide), eo 6 (by decide), eo 7 (by decide), eo 8 (by decide), eo 9 (by decide)]
      · unfold ftR; rw [eb k 0 hk (by decide), eb k 1 hk (by decide)]
      · rw [← eb k 2 hk (by decide)]; exact xw k hk (by rw [eb k 0 hk (by decide)]; exact q9)
    have X : Bk h h1 L tg tg P2 td2 L2 tg2 pn2 fz2 := ⟨⟨T.1.1, T.1.2.1, TF, T.1.2.2.2.2.1, T.1.2.2.2.2.2.1⟩, Y, dj, T.2.1.mono (fun a _ q => Or.inl q), fun _ _ => rfl⟩
    have Mm := T.1.2.2.2.2.2.2.1
    have Tt : PkT h1 L tg P pn := T.1.2.2.2.2.2.2.2.cong (P' := P) (if_neg (by omega)).symm (fun i w hi hw => (if_neg (by omega)).symm)
    have N1 := T.1.2.2.1
    clear T
    refine z_iload2 2 dX2_become_2 ?_
    refine z_bipush 3 (nI 8) dX2_become_3 kB8 ?_
    refine z_icgeN 5 29 dX2_become_5 (by decide) (by omega) (by omega) (fun c_5 => ?_) (fun c_5 => absurd c_5 (by omega))
    refine z_aload0 29 dX2_become_29 ?_
    refine z_get 30 gX2_33 dX2_become_30 X.k0 X.1.2.1.2.1.2.2.2.1 ?_
    refine z_V0 (k' := k) 33 vX2_56 dX2_become_33 Mm.k4 (c_bkClearM X.1 Mm Tt P2 (d - 1) 0) (by omega) (by omega) (Nat.le_of_ble_eq_true rfl) (aft_V fun h2 hq => ?_)
    obtain ⟨B2, Mm, Tt, M2, z2⟩ := hq
    have X := X.own M2 (fun a q => by omega) (TgX.refl X.1.1 60) B2
    have Y := X.2.1
    refine z_aload1 36 dX2_become_36 ?_
    refine z_get 37 gX2_33 dX2_become_37 Y.v.k0 (Y.v.2.1.2.1.2.2.2.1) ?_
    refine z_V0 (k' := (k - 1)) 40 vX2_59 dX2_become_40 Y.kM (c_pkKeys Y.to (d - 1) 1 (by omega) (by omega)) (by omega) (by omega) (Nat.le_of_ble_eq_true rfl) (aft_R fun s h3 hq => ?_)
    obtain ⟨TY, Ks, M3, z3⟩ := hq
    have O1 := X.1.1
    have D1 := X.2.2.1
    have tV : ∀ a, (tg2 a = 4 ∨ tg2 a = 60) → tg a = 100 := fun a q => by have := D1 a; omega
    have im3 : ∀ c, (c = 4 ∨ c = 9 ∨ c = 15) → ∀ a, h2.kd a = c → ¬ (tg2 a = 4 ∨ tg2 a = 60) := fun c hc a ha q => Y.1.imm hc a ha (by omega)
    have Mm := Mm.keepX O1 M3 (fun a ha q => by have := tV a q; omega) (im3 15 (by omega)) (im3 9 (by omega)) (TgX.refl O1 61) (by decide) rfl (fun _ _ _ => rfl) (by rw [upn_s]; omega)
    have Tt := Tt.keepX O1 M3 (fun q => by have := tV _ q; rw [O1.tg 5 rfl] at this; omega) (fun a ha q => by have := tV a q; omega) (im3 4 (by omega)) (im3 9 (by omega)) (TgX.refl O1 60) (by decide) rfl (fun _ _ => rfl) (Nat.le_refl _)
    have X := X.oth M3 (fun a _ q => Or.inl (by omega)) TY.1
    have Y := X.2.1
    refine z_F0 (k' := (k - 3)) 43 fxX2_63_9 dX2_become_43 Ks.2.1 (c_pkIterM Y.to Ks (d - 1) 2 (by omega) (by omega)) (by omega) (by omega) (Nat.le_of_ble_eq_true rfl) (aft_R fun it h4 hq => ?_)
    obtain ⟨eit, TY, I, M4, z4⟩ := hq
    have O1 := X.1.1
    have Mm := Mm.keepX O1 M4 (fun _ _ f => f) (fun _ _ f => f) (fun _ _ f => f) (TgX.refl O1 61) (by decide) rfl (fun _ _ _ => rfl) (by rw [upn_s]; omega)
    have Tt := Tt.keepX O1 M4 (fun f => f) (fun _ _ f => f) (fun _ _ f => f) (fun _ _ f => f) (TgX.refl O1 60) (by decide) rfl (fun _ _ => rfl) (Nat.le_refl _)
    have hs3 := X.2.2.2.1.1
    have ti0 : tg it = 100 := by rw [eit]; exact O1.far (Nat.le_refl _)
    have hit0 : h.sz ≤ it := by rw [eit]; exact hs3
    have X := X.oth M4 (fun a _ f => f.elim) TY.1
    have Y := X.2.1
    refine z_astore2 48 dX2_become_48 rfl ?_
    refine lpH 49 (P2 6) (fun _ => [.ref (L 0), .ref (L2 0), .ref it, dum]) (fun i h9 => ∃ tg', Bk h h9 L tg tg' P2 td2 L2 tg2 pn2 fz2 ∧ PkM h9 L tg' (upn P2 6 i) ∧ PkT h9 L tg' P pn ∧ ItM h9 L2 tg2 P2 it i ∧ tg' it = 100 ∧ h.sz ≤ it) (fun i => k - 3 - 2 * i) ⟨tg, X, Mm, Tt, I, ti0, hit0⟩ (fun h4 hI => ?_) (fun i h4 hi hI ih => ?_)
    rotate_left
    · obtain ⟨tg', X, Mm, Tt, I, ti, hit⟩ := hI
      have Y := X.2.1
      refine z_aload2 49 dX2_become_49 ?_
      refine z_F0 (k' := (k - 3 - 2 * i)) 50 fxX2_69_10 dX2_become_50 I.kd (c_pkHasM I (d - 1) 0) (by omega) (by omega) (Nat.le_of_ble_eq_true rfl) (aft_P ?_)
      refine z_ifeqB 55 91 dX2_become_55 (by decide) (fun c_55 => absurd c_55 (by simp [hi])) (fun c_55 => ?_)
      refine z_aload2 58 dX2_become_58 ?_
      refine z_F0 (k' := (k - 3 - 2 * i)) 59 fxX2_75_10 dX2_become_59 I.kd (c_pkNextM I W2 hi (d - 1) 0 (by omega)) (by omega) (by omega) (Nat.le_of_ble_eq_true rfl) (aft_R fun x h5 hq => ?_)
      obtain ⟨ix, I, M5, z5⟩ := hq
      have O1 := X.1.1
      have t2 : tg2 it = 100 := I.1
      have nit : ∀ a, tg' a ≠ 100 → ¬ a = it := fun a ha q => ha (by rw [q]; exact ti)
      have n15 : ∀ c, c ≠ 10 → ∀ a, h4.kd a = c → ¬ a = it := fun c hc a ha q => by
        have := (M5.2 it (by have := I.2.1; omega)).1
        rw [q, ← this, I.kd] at ha; omega
      have Y5 := Y.keep M5 (fun a ha q => ha (by rw [q]; exact t2)) (n15 15 (by decide)) (n15 4 (by decide)) (n15 9 (by decide))
      have Mm := Mm.keepX O1 M5 (fun a ha => nit a (by omega)) (n15 15 (by decide)) (n15 9 (by decide)) (TgX.refl O1 61) (by decide) rfl (fun _ _ _ => rfl) (by rw [upn_s]; have := W2.h6; omega)
      have Tt := Tt.keepX O1 M5 (nit _ (by rw [O1.tg 5 rfl]; decide)) (fun a ha => nit a (by omega)) (n15 4 (by decide)) (n15 9 (by decide)) (TgX.refl O1 60) (by decide) rfl (fun _ _ => rfl) (Nat.le_refl _)
      have X := X.oth M5 (fun a _ q => Or.inr (by rw [q]; exact ⟨t2, ti, hit⟩)) Y5
      have Y := X.2.1
      refine z_castY 64 (ci := 15) ok_15.1 q1117 (Or.inl rfl) dX2_become_64 ix.2.1 ?_
      refine z_astore3 67 dX2_become_67 rfl ?_
      refine z_aload0 68 dX2_become_68 ?_
      refine z_get 69 gX2_33 dX2_become_69 X.k0 X.1.2.1.2.1.2.2.2.1 ?_
      refine z_aload3 72 dX2_become_72 ?_
      refine z_aload1 73 dX2_become_73 ?_
      refine z_get 74 gX2_33 dX2_become_74 Y.v.k0 (Y.v.2.1.2.1.2.2.2.1) ?_
      refine z_aload3 77 dX2_become_77 ?_
      refine z_V1 (k' := (k - 3 - 2 * i)) 78 vX2_81 dX2_become_78 Y.kM (c_pkGet Y.2.2.2.2.2.2.1 W2 hi ix (d - 1) 0 (by omega)) (by omega) (by omega) (Nat.le_of_ble_eq_true rfl) (aft_R fun v h6 hq => ?_)
      obtain ⟨rfl, iv⟩ := hq
      refine z_castY 81 (ci := 15) ok_15.1 q1117 (Or.inl rfl) dX2_become_81 iv.2.1 ?_
      refine z_V2 (k' := (k - 3 - 2 * (i + 1))) 84 vX2_85 dX2_become_84 Mm.k4 (c_bkPutM W2 X.1 hi Mm ix iv (d - 1) 2 (by omega) (by omega)) (by omega) (by have := W2.h6; omega) (Nat.le_of_ble_eq_true rfl) (aft_A fun r h9 hq => ?_)
      obtain ⟨tg9, G9, B9, Mm9, M9, z9⟩ := hq
      have O1 := X.1.1
      have im9 : ∀ c, (c = 4 ∨ c = 9 ∨ c = 15) → ∀ a, h6.kd a = c → ¬ (tg' a = 4 ∨ tg' a = 60) := fun c hc a ha q => O1.imm hc a ha (by omega)
      have tV : ∀ a, (tg' a = 4 ∨ tg' a = 60) → tg2 a = 100 := fun a q => by have := X.2.2.1 a; omega
      have Tt9 := Tt.keepX O1 M9 (fun q => by rw [O1.tg 5 rfl] at q; omega) (fun a ha q => by omega) (im9 4 (by omega)) (im9 9 (by omega)) G9 (by decide) rfl (fun _ _ => rfl) (Nat.le_refl _)
      have I9 := I.keep M9 (fun a ha q => by have := tV a q; omega) (fun q => by omega) (im9 15 (by omega))
      have ti9 : tg9 it = 100 := (G9.1 it I.2.1).trans ti
      have X9 := X.own M9 (fun a q => by omega) G9 B9
      refine z_pop 87 dX2_become_87 (va_rf_cat _) ?_
      refine z_goto 88 49 dX2_become_88 (by decide) ?_
      refine z_fog 3 ?_
      exact ih h9 ⟨tg9, X9, Mm9, Tt9, I9, ti9, hit⟩
    · obtain ⟨tg', X, Mm, Tt, I, ti, hit⟩ := hI
      have Y := X.2.1
      rw [show upn P2 6 (P2 6) = P2 from by funext c; by_cases q : c = 6 <;> simp [upn, q]] at Mm
      have W6 := W2.h6
      refine z_aload2 49 dX2_become_49 ?_
      refine z_F0 (k' := (k - 3 - 2 * P2 6)) 50 fxX2_69_10 dX2_become_50 I.kd (c_pkHasM I (d - 1) 0) (by omega) (by omega) (Nat.le_of_ble_eq_true rfl) (aft_P ?_)
      refine z_ifeqB 55 91 dX2_become_55 (by decide) (fun c_55 => ?_) (fun c_55 => absurd c_55 (by simp))
      refine z_aload0 91 dX2_become_91 ?_
      refine z_get 92 gX2_40 dX2_become_92 X.k0 X.1.2.1.2.1.2.2.2.2.1 ?_
      refine z_V0 (k' := (k - 15)) 95 vX2_89 dX2_become_95 Tt.k5 (c_bkClearT X.1 Mm W6 Tt (d - 1) 0 (by omega)) (by omega) (by omega) (Nat.le_of_ble_eq_true rfl) (aft_V fun h5 hq => ?_)
      obtain ⟨B5, Mm, St, M5, z5⟩ := hq
      have X := X.own M5 (fun a q => by omega) (TgX.refl X.1.1 61) B5
      have Y := X.2.1
      clear I ti hit Tt
      refine z_aload1 98 dX2_become_98 ?_
      refine z_get 99 gX2_40 dX2_become_99 Y.v.k0 (Y.v.2.1.2.1.2.2.2.2.1) ?_
      refine z_V0 (k' := (k - 18)) 102 vX2_90 dX2_become_102 Y.kT (c_pkIterT Y.to W2.h6 (d - 1) 3 (by omega) (by omega)) (by omega) (by omega) (Nat.le_of_ble_eq_true rfl) (aft_R fun it2 h6 hq => ?_)
      obtain ⟨ν, ad, eit, TY, AD, I, M6, z6⟩ := hq
      have O1 := X.1.1
      have tV : ∀ a, (tg2 a = 6 ∨ tg2 a = 61) → tg' a = 100 := fun a q => by have := X.2.2.1 a; omega
      have im6 : ∀ c, (c = 4 ∨ c = 9 ∨ c = 15) → ∀ a, h5.kd a = c → ¬ (tg2 a = 6 ∨ tg2 a = 61) := fun c hc a ha q => Y.1.imm hc a ha (by omega)
      have Mm := Mm.keepX O1 M6 (fun a ha q => by have := tV a q; omega) (im6 15 (by omega)) (im6 9 (by omega)) (TgX.refl O1 61) (by decide) rfl (fun _ _ _ => rfl) W6
      have St := St.keep O1 M6 (fun q => by have := tV _ q; rw [O1.tg 5 rfl] at this; omega) (fun a ha q => by have := tV a q; omega) (im6 9 (by omega))
      have hs5 := X.2.2.2.1.1
      have ti : tg' it2 = 100 := O1.far eit
      have hit : h.sz ≤ it2 := Nat.le_trans hs5 eit
      have X := X.oth M6 (fun a _ q => Or.inl (by omega)) TY.1
      have Y := X.2.1
      refine z_less (k' := k - 20 - 2 * cntK P2 ν 0) (by omega) ?_
      refine z_astore2 105 dX2_become_105 rfl ?_
      refine lpW 106 (fun (s : Nat × (Nat → Nat)) => [.ref (L 0), .ref (L2 0), .ref it2, dum]) (fun (s : Nat × (Nat → Nat)) h9 => Bk h h9 L tg s.2 P2 td2 L2 tg2 pn2 fz2 ∧ PkM h9 L s.2 P2 ∧ SetK h9 L s.2 (KB P2 ν ad s.1) (cntK P2 ν s.1) ∧ Adr h9 P2 ν ad pn2 ∧ ItT h9 L2 tg2 P2 ν ad it2 s.1 ∧ s.2 it2 = 100 ∧ h.sz ≤ it2) (fun (s : Nat × (Nat → Nat)) => k - 20 - 2 * cntK P2 ν s.1) (fun (s : Nat × (Nat → Nat)) => P2 7 - cntK P2 ν s.1) (0, tg') ⟨X, Mm, by rw [cntK_0]; exact St.congr (fun q x => ⟨fun f => f.elim, fun ⟨i, _, _, _, q⟩ => absurd q (Nat.not_lt_zero _)⟩), AD, I, ti, hit⟩ (fun s h4 hI ih => ?_)
      obtain ⟨b, tg'⟩ := s
      obtain ⟨X, Mm, St, AD, I, ti, hit⟩ := hI
      have X : Bk h h4 L tg tg' P2 td2 L2 tg2 pn2 fz2 := X
      have Mm : PkM h4 L tg' P2 := Mm
      have St : SetK h4 L tg' (KB P2 ν ad b) (cntK P2 ν b) := St
      have I : ItT h4 L2 tg2 P2 ν ad it2 b := I
      have ti : tg' it2 = 100 := ti
      have Y := X.2.1
      have cb := cntK_le P2 ν b
      have h7 := W2.h7
      show Z E _ d _ (k - 20 - 2 * cntK P2 ν b) h4 106 [.ref (L 0), .ref (L2 0), .ref it2, dum] []
      refine z_aload2 106 dX2_become_106 ?_
      refine z_F0 (k' := (k - 20 - 2 * cntK P2 ν b)) 107 fxX2_69_10 dX2_become_107 I.kd (c_pkHasT I (d - 1) 0) (by omega) (by omega) (Nat.le_of_ble_eq_true rfl) (aft_I fun x h5 hq => ?_)
      obtain ⟨rfl, hx⟩ := hq
      rcases hx with ⟨rfl, hx⟩ | ⟨rfl, hx⟩
      · refine z_ifeqN 112 137 dX2_become_112 (by decide) (by omega) (fun c_112 => absurd c_112 (by decide)) (fun c_112 => ?_)
        refine z_aload2 115 dX2_become_115 ?_
        refine z_F0 (k' := (k - 20 - 2 * cntK P2 ν b)) 116 fxX2_75_10 dX2_become_116 I.kd (c_pkNextT I hx (d - 1) 0 (by omega)) (by omega) (by omega) (Nat.le_of_ble_eq_true rfl) (aft_R fun x h6 hq => ?_)
        obtain ⟨i, hi, rfl, hbi, mni, I, M6, z6⟩ := hq
        have O1 := X.1.1
        have t2 : tg2 it2 = 100 := I.1
        have nit : ∀ a, tg' a ≠ 100 → ¬ a = it2 := fun a ha q => ha (by rw [q]; exact ti)
        have n15 : ∀ c, c ≠ 10 → ∀ a, h5.kd a = c → ¬ a = it2 := fun c hc a ha q => by
          have := (M6.2 it2 (by have := I.2.1; omega)).1
          rw [q, ← this, I.kd] at ha; omega
        have Y6 := Y.keep M6 (fun a ha q => ha (by rw [q]; exact t2)) (n15 15 (by decide)) (n15 4 (by decide)) (n15 9 (by decide))
        have Mm := Mm.keepX O1 M6 (fun a ha => nit a (by omega)) (n15 15 (by decide)) (n15 9 (by decide)) (TgX.refl O1 61) (by decide) rfl (fun _ _ _ => rfl) W2.h6
        have St := St.keep O1 M6 (nit _ (by rw [O1.tg 5 rfl]; decide)) (fun a ha => nit a (by omega)) (n15 9 (by decide))
        have AD := AD.keep M6 (n15 4 (by decide))
        have X := X.oth M6 (fun a _ q => Or.inr (by rw [q]; exact ⟨t2, ti, hit⟩)) Y6
        have Y := X.2.1
        have o1 := (AD.1 i hi).1
        have cs := cntK_s AD W2 hp hi hbi mni
        have cb2 := cntK_le P2 ν (kyO P2 ν i + 1)
        refine z_castY 121 (ci := 4) ok_4.1 q1445 (Or.inl rfl) dX2_become_121 o1.1 ?_
        refine z_astore3 124 dX2_become_124 rfl ?_
        refine z_aload0 125 dX2_become_125 ?_
        refine z_get 126 gX2_40 dX2_become_126 X.k0 X.1.2.1.2.1.2.2.2.2.1 ?_
        refine z_aload3 129 dX2_become_129 ?_
        refine z_V1 (k' := (k - 20 - 2 * cntK P2 ν (kyO P2 ν i + 1))) 130 vX2_93 dX2_become_130 St.k5 (c_bkAddT W2 X.1 Mm W2.h6 AD hp St hi hbi mni (d - 1) 2 (by omega) (by omega)) (by omega) (by omega) (Nat.le_of_ble_eq_true rfl) (aft_I fun r h9 hq => ?_)
        obtain ⟨tg9, G9, B9, Mm9, St9, M9, z9⟩ := hq
        have O2 := X.1.1
        have im9 : ∀ c, (c = 4 ∨ c = 9 ∨ c = 15) → ∀ a, h6.kd a = c → ¬ (tg' a = 6 ∨ tg' a = 61) := fun c hc a ha q => O2.imm hc a ha (by omega)
        have tV : ∀ a, (tg' a = 6 ∨ tg' a = 61) → tg2 a = 100 := fun a q => by have := X.2.2.1 a; omega
        have AD9 := AD.keep M9 (im9 4 (by omega))
        have I9 := I.keep M9 (fun a ha q => by have := tV a q; omega) (fun q => by omega)
        have ti9 : tg9 it2 = 100 := (G9.1 it2 I.2.1).trans ti
        have X9 := X.own M9 (fun a q => by omega) G9 B9
        refine z_pop 133 dX2_become_133 (rfl) ?_
        refine z_goto 134 106 dX2_become_134 (by decide) ?_
        refine z_fog 3 ?_
        exact ih (kyO P2 ν i + 1, tg9) h9 (by show P2 7 - cntK P2 ν (kyO P2 ν i + 1) < P2 7 - cntK P2 ν b; omega) ⟨X9, Mm9, St9, AD9, I9, ti9, hit⟩
      · refine z_ifeqN 112 137 dX2_become_112 (by decide) (by omega) (fun c_112 => ?_) (fun c_112 => absurd c_112 (by decide))
        refine z_aload1 137 dX2_become_137 ?_
        refine z_get 138 gX2_44 dX2_become_138 Y.v.k0 (Y.v.2.1.2.1.2.2.2.2.2) ?_
        refine z_iconst 141 (nI 0) dX2_become_141 kI0 ?_
        refine z_aload0 142 dX2_become_142 ?_
        refine z_get 143 gX2_44 dX2_become_143 X.k0 X.1.2.1.2.1.2.2.2.2.2 ?_
        refine z_iconst 146 (nI 0) dX2_become_146 kI0 ?_
        refine z_iconst 147 (nI 5) dX2_become_147 kI5 ?_
        have hvi : ∀ i, i < 5 → ∃ x : Int32, h5.mm (L2 7) (0 + i) = .int x := fun i hi => ⟨_, by rw [Nat.zero_add]; exact Y.v.a7 hi⟩
        refine z_copyI 148 q1458 dX2_become_148 Y.v.k7 X.1.2.1.2.2.2.2.1 Y.v.l7 X.1.2.1.2.2.2.2.2 (by decide) (by decide) (by decide) (by omega) hvi (Nat.le_of_ble_eq_true rfl) ?_
        have O1 := X.1.1
        have D1 := X.2.2.1
        have k0 : h5.kd (L 0) = 1 := X.k0
        have t0 : tg2 (L 0) = 100 := by have := D1 (L 0); rw [O1.tg 0 rfl] at this; omega
        have t7 : tg2 (L 7) = 100 := by have := D1 (L 7); rw [O1.tg 7 rfl] at this; omega
        have k7 : h5.kd (L 7) = 100 := X.1.2.1.2.2.2.2.1
        have nY : ∀ a, tg2 a ≠ 100 → ¬ a = L 0 := fun a ha q => ha (by rw [q]; exact t0)
        have n15 : ∀ a, h5.kd a = 15 → ¬ a = L 0 := fun a ha q => by rw [q, k0] at ha; cases ha
        have n4 : ∀ a, h5.kd a = 4 → ¬ a = L 0 := fun a ha q => by rw [q, k0] at ha; cases ha
        have n9 : ∀ a, h5.kd a = 9 → ¬ a = L 0 := fun a ha q => by rw [q, k0] at ha; cases ha
        have Y := Y.keep (Sm.cpy (S := fun a => a = L 7) (a0 := L2 7) (sp := 0) (dp := 0) (n := 5) rfl) (fun a ha q => ha (by rw [q]; exact t7)) (fun a ha q => by rw [q, k7] at ha; cases ha) (fun a ha q => by rw [q, k7] at ha; cases ha) (fun a ha q => by rw [q, k7] at ha; cases ha)
        refine z_aload0 151 dX2_become_151 ?_
        refine z_aload1 152 dX2_become_152 ?_
        refine z_get 153 gX2_103 dX2_become_153 Y.v.k0 Y.v.day ?_
        refine z_put 156 pX2_103 (fun h => by cases h) dX2_become_156 k0 (rfl) (rfl) ?_
        have Y := Y.keep (Sm.put (S := fun a => a = L 0) (k := 6) (v := .int (nI (P2 5))) rfl) nY n15 n4 n9
        refine z_aload0 159 dX2_become_159 ?_
        refine z_aload1 160 dX2_become_160 ?_
        refine z_get 161 gX2_107 dX2_become_161 Y.v.k0 Y.2.2.1.2.2.1 ?_
        refine z_put 164 pX2_107 (fun h => by cases h) dX2_become_164 k0 (rfl) (rfl) ?_
        have Y := Y.keep (Sm.put (S := fun a => a = L 0) (k := 7) (v := .int (nI pn2)) rfl) nY n15 n4 n9
        refine z_aload0 167 dX2_become_167 ?_
        refine z_aload1 168 dX2_become_168 ?_
        refine z_get 169 gX2_110 dX2_become_169 Y.v.k0 (Y.v.sm (k := 8) (by decide) (by decide)) ?_
        refine z_put 172 pX2_110 (fun h => by cases h) dX2_become_172 k0 (rfl) (rfl) ?_
        have Y := Y.keep (Sm.put (S := fun a => a = L 0) (k := 8) (v := .int (nI (P2 8))) rfl) nY n15 n4 n9
        refine z_aload0 175 dX2_become_175 ?_
        refine z_aload1 176 dX2_become_176 ?_
        refine z_get 177 gX2_113 dX2_become_177 Y.v.k0 (Y.v.sm (k := 9) (by decide) (by decide)) ?_
        refine z_put 180 pX2_113 (fun h => by cases h) dX2_become_180 k0 (rfl) (rfl) ?_
        have Y := Y.keep (Sm.put (S := fun a => a = L 0) (k := 9) (v := .int (nI (P2 9))) rfl) nY n15 n4 n9
        refine z_aload0 183 dX2_become_183 ?_
        refine z_aload1 184 dX2_become_184 ?_
        refine z_get 185 gX2_116 dX2_become_185 Y.v.k0 (Y.v.sm (k := 10) (by decide) (by decide)) ?_
        refine z_put 188 pX2_116 (fun h => by cases h) dX2_become_188 k0 (rfl) (rfl) ?_
        have Y := Y.keep (Sm.put (S := fun a => a = L 0) (k := 10) (v := .int (nI (P2 10))) rfl) nY n15 n4 n9
        refine z_aload0 191 dX2_become_191 ?_
        refine z_aload1 192 dX2_become_192 ?_
        refine z_get 193 gX2_119 dX2_become_193 Y.v.k0 (Y.v.sm (k := 11) (by decide) (by decide)) ?_
        refine z_put 196 pX2_119 (fun h => by cases h) dX2_become_196 k0 (rfl) (rfl) ?_
        have Y := Y.keep (Sm.put (S := fun a => a = L 0) (k := 11) (v := .int (nI (P2 11))) rfl) nY n15 n4 n9
        refine z_aload0 199 dX2_become_199 ?_
        refine z_aload1 200 dX2_become_200 ?_
        refine z_get 201 gX2_122 dX2_become_201 Y.v.k0 (Y.v.sm (k := 12) (by decide) (by decide)) ?_
        refine z_put 204 pX2_122 (fun h => by cases h) dX2_become_204 k0 (rfl) (rfl) ?_
        have Y := Y.keep (Sm.put (S := fun a => a = L 0) (k := 12) (v := .int (nI (P2 12))) rfl) nY n15 n4 n9
        refine z_aload0 207 dX2_become_207 ?_
        refine z_aload1 208 dX2_become_208 ?_
        refine z_get 209 gX2_125 dX2_become_209 Y.v.k0 Y.v.fro ?_
        refine z_put 212 pX2_125 (fun h => by cases h) dX2_become_212 k0 (bN_nb _) (bN_fb _) ?_
        have Y := Y.keep (Sm.put (S := fun a => a = L 0) (k := 13) (v := .int (nI (bN fz2))) rfl) nY n15 n4 n9
        refine z_return 215 rfl dX2_become_215 ?_
        refine ⟨rfl, tg', ?_⟩
        obtain ⟨B, Y1, D, S, tt⟩ := X
        obtain ⟨O, A, F, J, Q⟩ := B
        obtain ⟨he, ehe⟩ : ∃ he, he = (((((((((h5.cpy (L2 7) (L 7) 0 0 5).put (L 0) 6 (.int (nI (P2 5)))).put (L 0) 7 (.int (nI pn2))).put (L 0) 8 (.int (nI (P2 8)))).put (L 0) 9 (.int (nI (P2 9)))).put (L 0) 10 (.int (nI (P2 10)))).put (L 0) 11 (.int (nI (P2 11)))).put (L 0) 12 (.int (nI (P2 12)))).put (L 0) 13 (.int (nI (bN fz2)))) := ⟨_, rfl⟩
        have Me : Sm (fun a => a = L 0 ∨ a = L 7) h5 he := by
          rw [ehe]
          exact (((((((((Sm.cpy (Or.inr rfl)).putS (Or.inl rfl)).putS (Or.inl rfl)).putS (Or.inl rfl)).putS (Or.inl rfl)).putS (Or.inl rfl)).putS (Or.inl rfl)).putS (Or.inl rfl)).putS (Or.inl rfl))
        have n70 : L 7 ≠ L 0 := O.ne (k := 7) (j := 0) rfl rfl (by decide)
        have m0 : ∀ j, j < 6 → he.mm (L 0) j = h5.mm (L 0) j := fun j hj => by
          rw [ehe]
          simp only [mm_put, mm_cpy]
          rw [if_neg (by omega), if_neg (by omega), if_neg (by omega), if_neg (by omega), if_neg (by omega), if_neg (by omega), if_neg (by omega), if_neg (by omega), if_neg (Ne.symm n70)]
        have m7 : ∀ j, j < 5 → he.mm (L 7) j = h5.mm (L2 7) j := fun j hj => by
          rw [ehe]
          simp only [mm_put, mm_cpy]
          rw [if_neg (fun q => n70 q.1), if_neg (fun q => n70 q.1), if_neg (fun q => n70 q.1), if_neg (fun q => n70 q.1), if_neg (fun q => n70 q.1), if_neg (fun q => n70 q.1), if_neg (fun q => n70 q.1), if_neg (fun q => n70 q.1), if_pos trivial]
          unfold va_cpy
          rw [if_pos (by omega)]
          congr 1; omega
        have vt : ∀ a, (a = L 0 ∨ a = L 7) → tg' a = 0 ∨ tg' a = 7 := fun a ha => ha.imp (fun q => by rw [q]; exact O.tg 0 rfl) (fun q => by rw [q]; exact O.tg 7 rfl)
        have lv : ∀ k, lab k = true → k ≠ 0 → k ≠ 7 → ¬ (L k = L 0 ∨ L k = L 7) := fun k hk k1 k2 q => by have := vt _ q; rw [O.tg k hk] at this; omega
        have im : ∀ c, (c = 4 ∨ c = 9 ∨ c = 15) → ∀ a, h5.kd a = c → ¬ (a = L 0 ∨ a = L 7) := fun c hc a ha q => O.imm hc a ha (by have := vt _ q; omega)
        have PT := (bk_T AD hx St).keepX O Me (lv 5 rfl (by decide) (by decide)) (fun a ha q => by have := vt _ q; omega) (im 4 (by omega)) (im 9 (by omega)) (TgX.refl O 60) (by decide) rfl (fun _ _ => rfl) (Nat.le_refl _)
        have NN : PkN he L P2 pn2 fz2 := by
          refine ⟨fun i hi => by rw [m7 i hi]; exact Y1.2.2.1.1 i hi, by rw [ehe]; simp [mm_put], by rw [ehe]; simp [mm_put], fun q q1 q2 => ?_, by rw [ehe]; simp [mm_put]⟩
          have q3 : q = 8 ∨ q = 9 ∨ q = 10 ∨ q = 11 ∨ q = 12 := by omega
          rcases q3 with e | e | e | e | e <;> subst e <;> rw [ehe] <;> simp [mm_put]
        have AA : PkA he L := by
          obtain ⟨x1, ⟨u0, u1, u2, u3, u4, u5⟩, ⟨y1, y2, y3⟩, ⟨z1, z2, z3⟩, w1, w2⟩ := A
          have a0 := Me.2 _ (O.lt 0 rfl); have a1 := Me.2 _ (O.lt 1 rfl); have a2 := Me.2 _ (O.lt 2 rfl); have a7 := Me.2 _ (O.lt 7 rfl)
          refine ⟨a0.1.trans x1, ⟨(m0 0 (by decide)).trans u0, (m0 1 (by decide)).trans u1, (m0 2 (by decide)).trans u2, (m0 3 (by decide)).trans u3, (m0 4 (by decide)).trans u4, (m0 5 (by decide)).trans u5⟩, ⟨a1.1.trans y1, a1.2.1.trans y2, ?_⟩, ⟨a2.1.trans z1, a2.2.1.trans z2, ?_⟩, a7.1.trans w1, a7.2.1.trans w2⟩
          · rw [a1.2.2 (lv 1 rfl (by decide) (by decide))]; exact y3
          · rw [a2.2.2 (lv 2 rfl (by decide) (by decide))]; exact z3
        rw [← ehe]
        have Ye : Pk he L2 tg2 P2 td2 pn2 fz2 := by rw [ehe]; exact Y
        exact ⟨⟨O.keep Me, AA, NN, F.keep O Me (fun i hi => ⟨lv _ (lab10 i hi).1 (by omega) (by omega), lv _ (lab10 i hi).2.1 (by omega) (by omega), lv _ (lab10 i hi).2.2 (by omega) (by omega)⟩), J.keep O Me (fun j hj => lv _ (lab40 j hj) (by omega) (by omega)), Q.keep Me (lv 3 rfl (by decide) (by decide)) (fun a ha q => by have := vt _ q; omega), Mm.keepX O Me (fun a ha q => by have := vt _ q; omega) (im 15 (by omega)) (im 9 (by omega)) (TgX.refl O 61) (by decide) rfl (fun _ _ _ => rfl) W2.h6, PT⟩, Ye, S.tr Me (fun a ha q => Or.inl (by rw [← tt a ha]; have := vt _ q; omega)), tt, D⟩
  · obtain ⟨T, Y⟩ := hI
    have wp := W2.pl hi
    obtain ⟨W1, x1, -⟩ := T.V.2.2.2 i hi
    obtain ⟨W9, x2, xw2⟩ := Y.v.2.2.2 i hi
    obtain ⟨l1, l2, l3⟩ := lab10 i hi
    have ft2 : ∀ q, lab q = true → L2 q < h1.sz ∧ ¬ FtS (L (10 + i)) (L (20 + i)) (L (30 + i)) (L2 q) := fun q hq => ⟨Y.1.lt q hq, fun v => by
      have v1 := FtS_tg T.1.1 hi v
      have v2 := Y.1.tg q hq
      have v3 := dj (L2 q)
      have : q ≠ 100 := fun e => by subst e; cases hq
      omega⟩
    refine z_iload2 2 dX2_become_2 ?_
    refine z_bipush 3 (nI 8) dX2_become_3 kB8 ?_
    refine z_icgeN 5 29 dX2_become_5 (by decide) (by omega) (by omega) (fun c_5 => absurd c_5 (by omega)) (fun c_5 => ?_)
    refine z_aload0 8 dX2_become_8 ?_
    refine z_get 9 gX2_11 dX2_become_9 T.V.k0 (T.V.2.1.2.1.1) ?_
    refine z_iload2 12 dX2_become_12 ?_
    refine z_aald (i := 5) (n := 8) 13 (i) dX2_become_13 (by decide) (by decide) T.V.k1 T.V.l1 (rfl) (hi) (by decide) (T.V.a1 hi) ?_
    refine z_aload1 14 dX2_become_14 ?_
    refine z_get 15 gX2_11 dX2_become_15 Y.v.k0 (Y.v.2.1.2.1.1) ?_
    refine z_iload2 18 dX2_become_18 ?_
    refine z_aald (i := 5) (n := 8) 19 (i) dX2_become_19 (by decide) (by decide) Y.v.k1 Y.v.l1 (rfl) (hi) (by decide) (Y.v.a1 hi) ?_
    refine z_V1 (k' := k) 20 vX2_52 dX2_become_20 (T.V.kf hi) (c_become (d - 1) 0 (fun j hj => by
          rcases hj with e | e | e | e <;> subst e
          · exact bt01_n (n := ofP P2 i 6) (by omega)
          · exact bt01_n (n := ofP P2 i 3) (by omega)
          · exact bt01_n (n := ofP P2 i 4) (by omega)
          · exact bt01_n (n := ofP P2 i 5) (by omega)) (ft2 _ l1) (ft2 _ l2) (ft2 _ l3) x1 x2) (by omega) (by omega) (Nat.le_of_ble_eq_true rfl) (aft_V fun h3 hq => ?_)
    have T3 : PkTo h L tg tg (mixF P P2 (i + 1)) (mixT td td2 (i + 1)) pn fz h3 := by
      have eo : ∀ w, w < 10 → ofP (mixF P P2 (i + 1)) i w = ofP P2 i w := fun w hw => if_pos (by omega)
      have eb : ∀ k w, k < 2 → w < 3 → jbP (mixF P P2 (i + 1)) (2 * i + k) w = jbP P2 (2 * i + k) w := fun k w hk hw => if_pos (by omega)
      have et : mixT td td2 (i + 1) i = td2 i := if_pos (by omega)
      refine T.ft hi hq (fun k hk => ?_) (fun k hk => ?_) (fun k hk q => ?_) (fun c hc => ?_) (fun j hj => ?_) (by show mixF P P2 i 6 ≤ 6; rw [show mixF P P2 i 6 = P 6 from if_neg (by omega)]; exact b6)
      · unfold ftF
        rw [et, eo 0 (by decide), eo 1 (by decide), eo 2 (by decide), eo 3 (by decide), eo 4 (by decide), eo 5 (by decide), eo 6 (by decide), eo 7 (by decide), eo 8 (by decide), eo 9 (by decide)]
      · unfold ftR; rw [eb k 0 hk (by decide), eb k 1 hk (by decide)]
      · rw [eb k 0 hk (by decide)] at q; rw [eb k 2 hk (by decide)]; exact xw2 k hk q
      · unfold mixF
        have h1 : ∀ w, w < 10 → c ≠ 13 + 10 * i + w := hc.1
        have h2 : ∀ w, w < 6 → c ≠ 93 + 6 * i + w := hc.2
        have e1 : (13 ≤ c ∧ c < 13 + 10 * (i + 1)) ↔ (13 ≤ c ∧ c < 13 + 10 * i) := ⟨fun q => ⟨q.1, Classical.byContradiction fun q2 => h1 (c - (13 + 10 * i)) (by omega) (by omega)⟩, fun q => by omega⟩
        have e2 : (93 ≤ c ∧ c < 93 + 6 * (i + 1)) ↔ (93 ≤ c ∧ c < 93 + 6 * i) := ⟨fun q => ⟨q.1, Classical.byContradiction fun q2 => h2 (c - (93 + 6 * i)) (by omega) (by omega)⟩, fun q => by omega⟩
        simp only [e1, e2]
      · unfold mixT
        by_cases c : j < i
        · rw [if_pos (by omega), if_pos c]
        · rw [if_neg (by omega), if_neg c]
    have own : ∀ a, FtS (L (10 + i)) (L (20 + i)) (L (30 + i)) a → tg a ≠ 100 := fun a v => by have := FtS_tg T.1.1 hi v; omega
    have Y3 := Y.keep hq.2.1 (fun a ha v => by have := own a v; have := dj a; omega) (fun a ha v => T.1.1.imm (by omega : (15 : Nat) = 4 ∨ (15 : Nat) = 9 ∨ (15 : Nat) = 15) a ha (own a v)) (fun a ha v => T.1.1.imm (by omega : (4 : Nat) = 4 ∨ (4 : Nat) = 9 ∨ (4 : Nat) = 15) a ha (own a v)) (fun a ha v => T.1.1.imm (by omega : (9 : Nat) = 4 ∨ (9 : Nat) = 9 ∨ (9 : Nat) = 15) a ha (own a v))
    refine z_iinc2 23 ((nI (i + 1))) dX2_become_23 (nI_add _ _) rfl ?_
    refine z_goto 26 2 dX2_become_26 (by decide) ?_
    exact ih h3 ⟨T3, Y3⟩

