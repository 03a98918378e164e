/-! WHAT IS COMPUTED, second part: looks, what would be -/
/-- the fields outside L are the same -/
def Scr (L : List Nat) (X X' : Nat → Nat → Nat) : Prop := ∀ f, f ∉ L → X' f = X f
theorem Scr.refl (L : List Nat) (X : Nat → Nat → Nat) : Scr L X X := fun _ _ => rfl
theorem Scr.trans {L : List Nat} {X X' X'' : Nat → Nat → Nat} (a : Scr L X X') (b : Scr L X' X'') : Scr L X X'' := fun f hf => (b f hf).trans (a f hf)
theorem Scr.mono {L L' : List Nat} {X X' : Nat → Nat → Nat} (a : Scr L X X') (h : ∀ f, f ∈ L → f ∈ L') : Scr L' X X' := fun f hf => a f (fun q => hf (h f q))
theorem Scr.stx {L : List Nat} {X X' : Nat → Nat → Nat} (a : Scr L X X') {f : Nat} (p : Nat → Nat) (hf : f ∈ L) : Scr L X (stx X' f p) := fun g hg => by
  have e : g ≠ f := fun e => hg (e ▸ hf)
  rw [stx_n _ _ e]; exact a g hg
theorem Scr.upx {L : List Nat} {X X' : Nat → Nat → Nat} (a : Scr L X X') {f : Nat} (i v : Nat) (hf : f ∈ L) : Scr L X (upx X' f i v) := a.stx (f := f) (upn (X' f) i v) hf
def MdS (L : List Nat) (h0 : HP) (m : Nat) (A : Nat → Nat) (P : Nat → Nat) (X : Nat → Nat → Nat) (hs : Int64) (h : HP) : Prop := ∃ X', Scr L X X' ∧ MdTo h0 m A P X' hs h
theorem MdTo.S {L : List Nat} {h0 h : HP} {m : Nat} {A P : Nat → Nat} {X : Nat → Nat → Nat} {hs : Int64} (T : MdTo h0 m A P X hs h) : MdS L h0 m A P X hs h := ⟨X, Scr.refl L X, T⟩
def isU (P : Nat → Nat) (pl : Nat) : Bool := decide (ofP P pl 6 = 1) && decide (ofP P pl 2 = 4 * ofP P pl 1)
def pdV (P : Nat → Nat) (n w : Nat) : Int32 := if w = 0 then nI (dsP n P 8) - nI (P 8) else if w = 1 then nI (dsP n P 10) - nI (P 10) else if w = 2 then nI (jsP (dsP n P)) else nI (opP (dsP n P))
def mtQ (P : Nat → Nat) (c g : Nat) : Nat → Nat := plP P (P 5) c g
def mtV (P : Nat → Nat) (c g : Nat) : Int32 := (nI (dsP 1 (mtQ P c g) 8) - nI (mtQ P c g 8)) - (nI (dsP 1 P 8) - nI (P 8))
def gtS (P : Nat → Nat) (c i : Nat) (s : Nat × Int32) : Nat × Int32 := (if mtV P c (1 + i) < s.2 then 1 + i else s.1, if mtV P c (1 + i) < s.2 then mtV P c (1 + i) else s.2)
def gtP (P : Nat → Nat) (c : Nat) : Nat := (itN 7 (gtS P c) (0, mtV P c 0)).1
def utN : Nat → (Nat → Nat) → Nat → Nat → Nat
  | 0, _, _, n => n
  | f + 1, P, pl, n => if isU P pl = true then n else utN f (dyP P) pl (n + 1)
def uuV (P : Nat → Nat) (pl : Nat) : Option Nat := if utN 61 P pl 0 < 61 ∧ ofP P pl 6 = 1 then some (utN 61 P pl 0) else none
abbrev Od : Type := (Nat → Nat) × Option Nat × Int32 × Int32
def odS (n i : Nat) (s : Od) : Od := if s.2.1 = none ∨ pdV (upn s.1 1 i) n 0 < s.2.2.1 ∨ (pdV (upn s.1 1 i) n 0 = s.2.2.1 ∧ s.2.2.2 < pdV (upn s.1 1 i) n 3) then (upn s.1 1 i, some i, pdV (upn s.1 1 i) n 0, pdV (upn s.1 1 i) n 3) else (upn s.1 1 i, s.2)
def odP (P : Nat → Nat) (n : Nat) : Od := itN 3 (odS n) (P, none, nI 0, nI 0)
def rkN (P : Nat → Nat) (j : Nat) : Nat := smN 16 fun o => if ¬ o = j ∧ jbP P o 0 = 1 ∧ ahP P o j = true then 1 else 0
/-- the first below n of which c holds -/
def ffN (c : Nat → Bool) : Nat → Option Nat
  | 0 => none
  | n + 1 => match ffN c n with
    | some i => some i
    | none => if c n = true then some n else none
theorem ffN_none {c : Nat → Bool} {n : Nat} (h : ∀ j, j < n → c j = false) : ffN c n = none := by
  induction n with
  | zero => rfl
  | succ n ih => unfold ffN; rw [ih (fun j hj => h j (by omega))]; simp [h n (by omega)]
theorem ffN_some {c : Nat → Bool} {n i : Nat} (hi : i < n) (h : ∀ j, j < i → c j = false) (hc : c i = true) : ffN c n = some i := by
  induction n with
  | zero => omega
  | succ n ih =>
    by_cases e : i = n
    · subst e; unfold ffN; rw [ffN_none h]; simp [hc]
    · unfold ffN; rw [ih (by omega)]
def tjF (P : Nat → Nat) (r : Int32) : Option Nat := ffN (fun j => decide (jbP P j 0 = 1) && decide (nI (rkN P j) = r)) 16
def tjV (P : Nat → Nat) (r w : Int32) : Int32 := match tjF P r with
  | none => -1
  | some j => if w = nI 0 then nI (j / 2) else if w = nI 1 then nI (j % 2) else if w = nI 2 then nI (jbP P j 1) else nI (neP P j)
def roN (P : Nat → Nat) (k : Nat) : Nat := smN (P 7) fun e => if ogP P e 0 < ogP P k 0 ∨ (ogP P e 0 = ogP P k 0 ∧ (ogP P k 1 < ogP P e 1 ∨ (ogP P k 1 = ogP P e 1 ∧ e < k))) then 1 else 0
def toF (P : Nat → Nat) (r : Int32) : Option Nat := ffN (fun k => decide (nI (roN P k) = r)) (P 7)
def toV (P : Nat → Nat) (r : Int32) (w : Nat) : Int32 := match toF P r with
  | none => -1
  | some k => nI (ogP P k w)
def tpV (P : Nat → Nat) (pl w : Nat) : Int32 := if w = 6 then nI (clP P pl) else if ofP P pl 6 = 1 then nI (ofP P pl w) else -1
section
variable {E : Ev} {mt : Mth} {d k : Nat} {Q : Res → HP → Prop} {h : HP} {ls st : List Value}
/-- a counting loop that may end its method on the way -/
theorem lpE (pc n : Nat) (lf : Nat → List Value) (J : Nat → Prop) (J0 : J 0) (fin : J n → Z E mt d Q k h pc (lf n) st) (step : ∀ i, i < n → J i → (J (i + 1) → Z E mt d Q k h pc (lf (i + 1)) st) → Z E mt d Q k h pc (lf i) st) : Z E mt d Q k h pc (lf 0) st := by
  have hall : ∀ m i, n - i = m → i ≤ n → J i → Z E mt d Q k h pc (lf i) st := by
    intro m
    induction m with
    | zero => intro i e hi hJ; have e9 : i = n := by omega
              subst e9; exact fin hJ
    | succ m ih => intro i e hi hJ; exact step i (by omega) hJ (fun hJ' => ih (i + 1) (by omega) (by omega) hJ')
  exact hall n 0 rfl (Nat.zero_le _) J0
end
theorem odS_1 (n i : Nat) (s : Od) : (odS n i s).1 = upn s.1 1 i := by unfold odS; split <;> rfl
theorem odS_none (n i : Nat) (Q : Nat → Nat) (l o : Int32) : odS n i (Q, none, l, o) = (upn Q 1 i, some i, pdV (upn Q 1 i) n 0, pdV (upn Q 1 i) n 3) := by
  unfold odS; rw [if_pos (Or.inl rfl)]
theorem odS_lt {n i : Nat} {Q : Nat → Nat} {l o : Int32} {b : Option Nat} (h : pdV (upn Q 1 i) n 0 < l) : odS n i (Q, b, l, o) = (upn Q 1 i, some i, pdV (upn Q 1 i) n 0, pdV (upn Q 1 i) n 3) := by
  unfold odS; rw [if_pos (Or.inr (Or.inl h))]
theorem odS_eq {n i : Nat} {Q : Nat → Nat} {l o : Int32} {b : Option Nat} (h : pdV (upn Q 1 i) n 0 = l) (h2 : o < pdV (upn Q 1 i) n 3) : odS n i (Q, b, l, o) = (upn Q 1 i, some i, pdV (upn Q 1 i) n 0, pdV (upn Q 1 i) n 3) := by
  unfold odS; rw [if_pos (Or.inr (Or.inr ⟨h, h2⟩))]
theorem odS_no {n i b : Nat} {Q : Nat → Nat} {l o : Int32} (h : ¬ pdV (upn Q 1 i) n 0 < l) (h2 : ¬ pdV (upn Q 1 i) n 0 = l ∨ ¬ o < pdV (upn Q 1 i) n 3) : odS n i (Q, some b, l, o) = (upn Q 1 i, some b, l, o) := by
  unfold odS
  rw [if_neg]
  intro q
  rcases q with q | q | q
  · cases q
  · exact h q
  · rcases h2 with h2 | h2
    · exact h2 q.1
    · exact h2 q.2
theorem odS_J {P : Nat → Nat} {n i : Nat} {s : Od} (hi : i < 3) (hJ : (WF s.1 ∧ s.1 5 = P 5 ∧ ∀ j, j ≠ 1 → s.1 j = P j) ∧ ∀ b, s.2.1 = some b → b < 3) : (WF (odS n i s).1 ∧ (odS n i s).1 5 = P 5 ∧ ∀ j, j ≠ 1 → (odS n i s).1 j = P j) ∧ ∀ b, (odS n i s).2.1 = some b → b < 3 := by
  refine ⟨?_, ?_⟩
  · rw [odS_1]
    exact ⟨hJ.1.1.ord hi, (upn_n _ _ (by omega)).trans hJ.1.2.1, fun j hj => (upn_n _ _ hj).trans (hJ.1.2.2 j hj)⟩
  · unfold odS; split
    · intro b hb; cases hb; exact hi
    · exact hJ.2
