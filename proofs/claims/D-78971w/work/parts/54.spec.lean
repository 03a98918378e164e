/-! WHAT IS COMPUTED, over natural numbers (the park's numbers P: 204 places) -/
def smN (n : Nat) (f : Nat → Nat) : Nat := itN n (fun i s => s + f i) 0
def anN (n : Nat) (f : Nat → Bool) : Bool := itN n (fun i b => b || f i) false
def inN (v a b : Nat) : Bool := decide (a ≤ v) && decide (v ≤ b)
def inI (v a b : Int32) : Bool := decide (a ≤ v) && decide (v ≤ b)
def ofP (P : Nat → Nat) (pl w : Nat) : Nat := P (13 + 10 * pl + w)
def jbP (P : Nat → Nat) (j w : Nat) : Nat := P (93 + 3 * j + w)
def ogP (P : Nat → Nat) (k w : Nat) : Nat := P (153 + 3 * k + w)
def lyP (P : Nat → Nat) (pl w v : Nat) : Nat → Nat := upn P (13 + 10 * pl + w) v
def frP (P : Nat → Nat) (y : Nat) : Bool := anN (P 6) fun k => inN y (P (141 + 2 * k)) (P (141 + 2 * k + 1))
def clP (P : Nat → Nat) (pl : Nat) : Nat := if ofP P pl 6 = 0 then 1 else if ofP P pl 5 = 1 then 2 else if ofP P pl 4 = 1 then 3 else if frP P (P 5) = true ∧ ofP P pl 3 = 0 then 4 else if ofP P pl 2 = 4 * ofP P pl 1 then 5 else 0
def opP (P : Nat → Nat) : Nat := smN 8 fun pl => if clP P pl = 0 then 1 else 0
def rpP (P : Nat → Nat) (j : Nat) : Nat → Nat := upn (upn (upn P (93 + 3 * j + 0) 1) (93 + 3 * j + 1) (upn P (93 + 3 * j + 0) 1 5)) (93 + 3 * j + 2) 0
def enP (P : Nat → Nat) (j : Nat) : Nat → Nat := itN 3 (fun i Q => upn Q (93 + 3 * j + i) 0) P
def neM (j : Nat) : Nat := if j % 2 = 0 then 6 else 2
def neP (P : Nat → Nat) (j : Nat) : Nat := neM j - jbP P j 2
def jsP (P : Nat → Nat) : Nat := smN 16 fun j => jbP P j 0
def ahP (P : Nat → Nat) (a b : Nat) : Bool := if P 1 < 2 ∧ ¬ a % 2 = b % 2 then decide (a % 2 = P 1) else decide (jbP P a 1 < jbP P b 1 ∨ (jbP P a 1 = jbP P b 1 ∧ a < b))
def njS (P D : Nat → Nat) (j : Nat) (o : Option Nat) : Option Nat := match o with
  | none => if jbP P j 0 = 1 ∧ D j = 0 then some j else none
  | some b => if jbP P j 0 = 1 ∧ D j = 0 ∧ ahP P j b = true then some j else some b
def njP (P D : Nat → Nat) : Option Nat := itN 16 (njS P D) none
def fzS (pl : Nat) (Q : Nat → Nat) : Nat → Nat := if ofP Q pl 6 = 1 ∧ ofP Q pl 3 + ofP Q pl 4 + ofP Q pl 5 = 0 then rpP (lyP (lyP Q pl 5 1) pl 9 (ofP (lyP Q pl 5 1) pl 9 + 1)) (2 * pl) else Q
def fzP (P : Nat → Nat) : Nat → Nat := itN 8 fzS P
def fiP (P : Nat → Nat) (j : Nat) : Nat → Nat := if j % 2 = 0 then enP (lyP P (j / 2) 5 0) j else enP (lyP (lyP P (j / 2) 2 0) (j / 2) 8 (ofP (lyP P (j / 2) 2 0) (j / 2) 8 + 1)) j
/-- how many hands -/
def haP (fz : Bool) (P : Nat → Nat) (left j : Nat) : Nat := if fz = true ∧ j % 2 = 0 then 0 else if neP P j < left then neP P j else left
def wk1 (P : Nat → Nat) (a j : Nat) : Nat → Nat :=
  let P1 := upn P 11 (P 11 + a)
  let P2 := upn P1 10 (P1 10 + a * P1 4)
  upn P2 (93 + 3 * j + 2) (P2 (93 + 3 * j + 2) + a)
def wkS (fz : Bool) (P : Nat → Nat) (left j : Nat) : Nat → Nat := if haP fz P left j = neP P j then fiP (wk1 P (haP fz P left j) j) j else wk1 P (haP fz P left j) j
def wkF (fz : Bool) : Nat → (Nat → Nat) → Nat → (Nat → Nat) → Nat → Nat
  | 0, P, _, _ => P
  | n + 1, P, left, D => match njP P D with
    | none => P
    | some j => wkF fz n (wkS fz P left j) (left - haP fz P left j) (upn D j 1)
def wkP (fz : Bool) (P : Nat → Nat) : Nat → Nat := wkF fz 17 P (P 0) (fun _ => 0)
def g9 (a b : Nat) : Nat := if a < b then a else b
/-- how much a fountain gives; what it leaves -/
def gvA (P FL : Nat → Nat) (pl wn : Nat) : Nat := g9 (g9 wn (FL pl)) (4 * ofP P pl 1 - ofP P pl 2)
def gvQ (P : Nat → Nat) (pl its : Nat) : Nat → Nat :=
  let P1 := lyP P pl 2 (ofP P pl 2 + its)
  let P2 := lyP P1 pl 7 (ofP P1 pl 7 + its)
  upn P2 12 (P2 12 + its)
def gvP (P FL : Nat → Nat) (pl wn : Nat) : Nat → Nat := if gvA P FL pl wn = 4 * ofP P pl 1 - ofP P pl 2 then rpP (gvQ P pl (gvA P FL pl wn)) (2 * pl + 1) else gvQ P pl (gvA P FL pl wn)
def gwF (P FL : Nat → Nat) (pl wn : Nat) : Nat → Nat := upn FL pl (FL pl - gvA P FL pl wn)
def apN (a b : Nat) : Nat := if a < b then b - a else a - b
def ngS (D : Nat → Nat) (g pl : Nat) (o : Option Nat) : Option Nat := match o with
  | none => if D pl = 0 then some pl else none
  | some b => if D pl = 0 ∧ apN pl g < apN b g then some pl else some b
def ngP (D : Nat → Nat) (g : Nat) : Option Nat := itN 8 (ngS D g) none
/-- the places in the order of their distance from a gate; which were asked -/
def ngT : List (List Nat) := [[0, 1, 2, 3, 4, 5, 6, 7], [1, 0, 2, 3, 4, 5, 6, 7], [2, 1, 3, 0, 4, 5, 6, 7], [3, 2, 4, 1, 5, 0, 6, 7], [4, 3, 5, 2, 6, 1, 7, 0], [5, 4, 6, 3, 7, 2, 1, 0], [6, 5, 7, 4, 3, 2, 1, 0], [7, 6, 5, 4, 3, 2, 1, 0]]
def ngO (g k : Nat) : Nat := (ngT.getD g []).getD k 0
def ngD (g k : Nat) : Nat → Nat := fun pl => bN (anN k fun i => ngO g i == pl)
theorem ngP_O : ∀ g, g < 8 → ∀ k, k < 8 → ngP (ngD g k) g = some (ngO g k) := by decide +kernel
theorem ngO_lt : ∀ g, g < 8 → ∀ k, k < 8 → ngO g k < 8 := by decide +kernel
theorem ngD_0 (g : Nat) : ngD g 0 = fun _ => 0 := rfl
theorem ngD_s (g k : Nat) : upn (ngD g k) (ngO g k) 1 = ngD g (k + 1) := by
  funext pl
  show (if pl = ngO g k then 1 else ngD g k pl) = bN (anN k (fun i => ngO g i == pl) || ngO g k == pl)
  by_cases e : pl = ngO g k
  · rw [if_pos e, e]; simp [bN]
  · rw [if_neg e]
    have e2 : (ngO g k == pl) = false := by simp; exact fun q => e q.symm
    rw [e2, Bool.or_false]; rfl
theorem ngD_le (g k pl : Nat) : ngD g k pl ≤ 1 := bN_lt _
abbrev Gv : Type := (Nat → Nat) × (Nat → Nat) × Nat
def drS (g k : Nat) (s : Gv) : Gv := if clP s.1 (ngO g k) = 0 ∧ apN (ngO g k) g < 3 then (gvP s.1 s.2.1 (ngO g k) s.2.2, gwF s.1 s.2.1 (ngO g k) s.2.2, s.2.2 - gvA s.1 s.2.1 (ngO g k) s.2.2) else s
def drL (P FL : Nat → Nat) (ch g : Nat) : Gv := itN 8 (drS g) (P, FL, ch * P 2)
def drE (P : Nat → Nat) (ch ne : Nat) : Nat → Nat :=
  let P1 := upn P 8 (P 8 + (ne + P 2 - 1) / P 2)
  upn P1 9 (P1 9 + ch)
def drP (P FL : Nat → Nat) (ch g : Nat) : Nat → Nat := drE (drL P FL ch g).1 ch (drL P FL ch g).2.2
def drF (P FL : Nat → Nat) (ch g : Nat) : Nat → Nat := (drL P FL ch g).2.1
def noS (P D : Nat → Nat) (y k : Nat) (o : Option Nat) : Option Nat := match o with
  | none => if ogP P k 0 = y ∧ D k = 0 then some k else none
  | some b => if (ogP P k 0 = y ∧ D k = 0) ∧ ogP P b 1 < ogP P k 1 then some k else some b
def noP (P D : Nat → Nat) (y : Nat) : Option Nat := itN (P 7) (noS P D y) none
def svF : Nat → (Nat → Nat) → (Nat → Nat) → (Nat → Nat) → (Nat → Nat) × (Nat → Nat)
  | 0, P, FL, _ => (P, FL)
  | n + 1, P, FL, D => match noP P D (P 5) with
    | none => (P, FL)
    | some k => svF n (drP P FL (ogP P k 1) (ogP P k 2)) (drF P FL (ogP P k 1) (ogP P k 2)) (upn D k 1)
/-- outings of a day are gone -/
abbrev Dp : Type := (Nat → Nat) × Nat × Nat
def dpS (y k : Nat) (s : Dp) : Dp := if ogP s.1 k 0 = y then (s.1, s.2.1, s.2.2 + ogP s.1 k 1) else (itN 3 (fun i Q => upn Q (153 + 3 * s.2.1 + i) (Q (153 + 3 * k + i))) s.1, s.2.1 + 1, s.2.2)
def dpL (P : Nat → Nat) (y : Nat) : Dp := itN (P 7) (dpS y) (P, 0, 0)
def dpZ (P : Nat → Nat) (n m : Nat) : Nat → Nat := itN m (fun i Q => upn Q (153 + (3 * n + i)) 0) P
def dpP (P : Nat → Nat) (y : Nat) : Nat → Nat := upn (dpZ (dpL P y).1 (dpL P y).2.1 (3 * P 7 - 3 * (dpL P y).2.1)) 7 (dpL P y).2.1
def vsS (pl : Nat) (s : (Nat → Nat) × (Nat → Nat)) : (Nat → Nat) × (Nat → Nat) := if clP s.1 pl = 0 then (gvP s.1 s.2 pl (4 * s.1 3), gwF s.1 s.2 pl (4 * s.1 3)) else s
def dy0 (P : Nat → Nat) : Nat → Nat := if frP P (P 5) = true then fzP P else P
def dy1 (P : Nat → Nat) : Nat → Nat := wkP (frP P (P 5)) (dy0 P)
def dy2 (P : Nat → Nat) : (Nat → Nat) × (Nat → Nat) := svF 18 (dy1 P) (fun pl => 4 * ofP (dy1 P) pl 0) (fun _ => 0)
def dy3 (P : Nat → Nat) : (Nat → Nat) × (Nat → Nat) := itN 8 vsS (dpP (dy2 P).1 ((dy2 P).1 5), (dy2 P).2)
def dyP (P : Nat → Nat) : Nat → Nat := upn (dy3 P).1 5 ((dy3 P).1 5 + 1)
def dsP (n : Nat) (P : Nat → Nat) : Nat → Nat := itN n (fun _ Q => dyP Q) P
def fnP (P : Nat → Nat) : Nat := smN 8 fun pl => ofP P pl 6
def plP (P : Nat → Nat) (y c g : Nat) : Nat → Nat :=
  let P1 := upn P (153 + 3 * P 7 + 0) y
  let P2 := upn P1 (153 + 3 * P 7 + 1) c
  let P3 := upn P2 (153 + 3 * P 7 + 2) g
  upn P3 7 (P3 7 + 1)
/-! bounds: all but the sums are small -/
def Bd (P : Nat → Nat) : Prop := ∀ j, j < 204 → ¬ (8 ≤ j ∧ j ≤ 12) → ¬ (13 ≤ j ∧ j < 93 ∧ 7 ≤ (j - 13) % 10) → P j < 4096
theorem Bd.of {P : Nat → Nat} (B : Bd P) {pl w : Nat} (hp : pl < 8) (hw : w < 7) : ofP P pl w < 4096 := B (13 + 10 * pl + w) (by omega) (by omega) (by omega)
theorem Bd.jb {P : Nat → Nat} (B : Bd P) {j w : Nat} (hp : j < 16) (hw : w < 3) : jbP P j w < 4096 := B (93 + 3 * j + w) (by omega) (by omega) (by omega)
theorem Bd.og {P : Nat → Nat} (B : Bd P) {j w : Nat} (hp : j < 17) (hw : w < 3) : ogP P j w < 4096 := B (153 + 3 * j + w) (by omega) (by omega) (by omega)
theorem Bd.f0 {P : Nat → Nat} (B : Bd P) {j : Nat} (hp : j < 6) : P (141 + 2 * j) < 4096 := B (141 + 2 * j) (by omega) (by omega) (by omega)
theorem Bd.f1 {P : Nat → Nat} (B : Bd P) {j : Nat} (hp : j < 6) : P (141 + 2 * j + 1) < 4096 := B (141 + 2 * j + 1) (by omega) (by omega) (by omega)
theorem Bd.s {P : Nat → Nat} (B : Bd P) (j : Nat) (hj : j < 8) : P j < 4096 := B j (by omega) (by omega) (by omega)
theorem njS_lt {P D : Nat → Nat} {i : Nat} {a : Option Nat} (h : ∀ b, a = some b → b < i) : ∀ b, njS P D i a = some b → b < i + 1 := by
  intro b hb
  cases a with
  | none =>
    simp only [njS] at hb
    split at hb
    · cases hb; omega
    · cases hb
  | some c =>
    have := h c rfl
    simp only [njS] at hb
    split at hb
    · cases hb; omega
    · cases hb; omega
theorem ngS_lt {D : Nat → Nat} {g i : Nat} {a : Option Nat} (h : ∀ b, a = some b → b < i) : ∀ b, ngS D g i a = some b → b < i + 1 := by
  intro b hb
  cases a with
  | none =>
    simp only [ngS] at hb
    split at hb
    · cases hb; omega
    · cases hb
  | some c =>
    have := h c rfl
    simp only [ngS] at hb
    split at hb
    · cases hb; omega
    · cases hb; omega
theorem noS_lt {P D : Nat → Nat} {y i : Nat} {a : Option Nat} (h : ∀ b, a = some b → b < i) : ∀ b, noS P D y i a = some b → b < i + 1 := by
  intro b hb
  cases a with
  | none =>
    simp only [noS] at hb
    split at hb
    · cases hb; omega
    · cases hb
  | some c =>
    have := h c rfl
    simp only [noS] at hb
    split at hb
    · cases hb; omega
    · cases hb; omega
theorem njP_lt {P D : Nat → Nat} {b : Nat} (h : njP P D = some b) : b < 16 :=
  itN_ind (fun i a => ∀ b, a = some b → b < i) (by intro b h; cases h) (fun _ _ _ => njS_lt) b h
theorem ngP_lt {D : Nat → Nat} {g b : Nat} (h : ngP D g = some b) : b < 8 :=
  itN_ind (fun i a => ∀ b, a = some b → b < i) (by intro b h; cases h) (fun _ _ _ => ngS_lt) b h
theorem noP_lt {P D : Nat → Nat} {y b : Nat} (h : noP P D y = some b) : b < P 7 :=
  itN_ind (fun i a => ∀ b, a = some b → b < i) (by intro b h; cases h) (fun _ _ _ => noS_lt) b h
theorem njP_some {P D : Nat → Nat} {b : Nat} (h : njP P D = some b) : jbP P b 0 = 1 ∧ D b = 0 := by
  refine itN_ind (fun i a => ∀ b, a = some b → jbP P b 0 = 1 ∧ D b = 0) (by intro b h; cases h) (fun i a _ ih b hb => ?_) b h
  cases a with
  | none =>
    simp only [njS] at hb
    split at hb
    · rename_i q; cases hb; exact q
    · cases hb
  | some c =>
    simp only [njS] at hb
    split at hb
    · rename_i q; cases hb; exact ⟨q.1, q.2.1⟩
    · exact ih b hb
theorem ngP_some {D : Nat → Nat} {g b : Nat} (h : ngP D g = some b) : D b = 0 := by
  refine itN_ind (fun i a => ∀ b, a = some b → D b = 0) (by intro b h; cases h) (fun i a _ ih b hb => ?_) b h
  cases a with
  | none =>
    simp only [ngS] at hb
    split at hb
    · rename_i q; cases hb; exact q
    · cases hb
  | some c =>
    simp only [ngS] at hb
    split at hb
    · rename_i q; cases hb; exact q.1
    · exact ih b hb
theorem noP_some {P D : Nat → Nat} {y b : Nat} (h : noP P D y = some b) : ogP P b 0 = y ∧ D b = 0 := by
  refine itN_ind (fun i a => ∀ b, a = some b → ogP P b 0 = y ∧ D b = 0) (by intro b h; cases h) (fun i a _ ih b hb => ?_) b h
  cases a with
  | none =>
    simp only [noS] at hb
    split at hb
    · rename_i q; cases hb; exact q
    · cases hb
  | some c =>
    simp only [noS] at hb
    split at hb
    · rename_i q; cases hb; exact q.1
    · exact ih b hb
theorem itN_fill (n f : Nat) (v : Nat → Nat) (X : Nat → Nat → Nat) : itN n (fun i Y => upx Y f i (v i)) X = stx X f (fun j => if j < n then v j else X f j) := by
  induction n with
  | zero => funext g; by_cases e : g = f <;> simp [itN, stx, e]
  | succ n ih =>
    rw [itN_s, ih]
    funext g
    by_cases e : g = f
    · subst e
      rw [upx_s, stx_s, stx_s]
      funext j
      by_cases ej : j = n
      · subst ej; rw [upn_s, if_pos (by omega)]
      · rw [upn_n _ _ ej]
        by_cases q : j < n
        · rw [if_pos q, if_pos (by omega)]
        · rw [if_neg q, if_neg (by omega)]
    · rw [upx_n _ _ _ e, stx_n _ _ e, stx_n _ _ e]
theorem itN_fil1 (n : Nat) (v : Nat → Nat) (P : Nat → Nat) : itN n (fun i Y => upn Y i (v i)) P = fun j => if j < n then v j else P j := by
  induction n with
  | zero => funext j; simp [itN]
  | succ n ih =>
    rw [itN_s, ih]
    funext j
    by_cases ej : j = n
    · subst ej; rw [upn_s, if_pos (by omega)]
    · rw [upn_n _ _ ej]
      by_cases q : j < n
      · rw [if_pos q, if_pos (by omega)]
      · rw [if_neg q, if_neg (by omega)]
theorem g9_l (a b : Nat) : g9 a b ≤ a := by unfold g9; split <;> omega
theorem g9_r (a b : Nat) : g9 a b ≤ b := by unfold g9; split <;> omega
theorem gvA_w (P FL : Nat → Nat) (pl wn : Nat) : gvA P FL pl wn ≤ wn := Nat.le_trans (g9_l _ _) (g9_l _ _)
theorem gvA_f (P FL : Nat → Nat) (pl wn : Nat) : gvA P FL pl wn ≤ FL pl := Nat.le_trans (g9_l _ _) (g9_r _ _)
theorem gvA_t (P FL : Nat → Nat) (pl wn : Nat) : gvA P FL pl wn ≤ 4 * ofP P pl 1 - ofP P pl 2 := g9_r _ _
theorem smN_dec {j : Nat} (f f' : Nat → Nat) (h : ∀ i, i ≠ j → f' i = f i) (h1 : f j = f' j + 1) : ∀ n, (j < n → smN n f' + 1 = smN n f) ∧ (n ≤ j → smN n f' = smN n f) := by
  intro n
  induction n with
  | zero => exact ⟨fun q => absurd q (Nat.not_lt_zero _), fun _ => rfl⟩
  | succ n ih =>
    have e1 : smN (n + 1) f' = smN n f' + f' n := rfl
    have e2 : smN (n + 1) f = smN n f + f n := rfl
    rw [e1, e2]
    refine ⟨fun hj => ?_, fun hj => ?_⟩
    · by_cases q : j = n
      · subst q; have := ih.2 (Nat.le_refl _); omega
      · have := ih.1 (by omega); have := h n (fun e => q e.symm); omega
    · have := ih.2 (by omega); have := h n (by omega); omega
/-- how many were not gone through -/
def cuD (n : Nat) (D : Nat → Nat) : Nat := smN n fun j => if D j = 0 then 1 else 0
theorem cuD_s {n j : Nat} {D : Nat → Nat} (hj : j < n) (h0 : D j = 0) : cuD n (upn D j 1) + 1 = cuD n D :=
  (smN_dec (j := j) (fun i => if D i = 0 then 1 else 0) (fun i => if upn D j 1 i = 0 then 1 else 0) (fun i hi => by rw [upn_n _ _ hi]) (by simp [h0, upn_s]) n).1 hj
theorem cuD_0 (n : Nat) : cuD n (fun _ => 0) = n := by
  unfold cuD
  induction n with
  | zero => rfl
  | succ n ih => show smN n _ + 1 = n + 1; rw [ih]
