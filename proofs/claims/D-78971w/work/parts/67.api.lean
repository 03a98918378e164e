/-! THE PUBLIC METHODS as functions: code (0: no exception), answer, state -/
/-- the park's numbers, the saved ones (six times 204), how many are saved, the buffer, its length -/
abbrev Sx : Type := (Nat → Nat) × (Nat → Nat) × Nat × (Nat → Nat) × Nat
abbrev AO : Type := Nat × Int32 × Sx
def tn (x : Int32) : Nat := x.toNatClampNeg
theorem tn_nI {n : Nat} (h : n < 2 ^ 31) : tn (nI n) = n := nI_clamp h
theorem inI_nat {x : Int32} {a b : Nat} (ha : a < 2 ^ 31) (hb : b < 2 ^ 31) (h : inI x (nI a) (nI b) = true) : ∃ j, a ≤ j ∧ j ≤ b ∧ x = nI j := by
  unfold inI at h
  rw [Bool.and_eq_true, decide_eq_true_eq, decide_eq_true_eq] at h
  have h0 : ¬ x < 0 := fun q => by
    have q1 := Int32.lt_iff_toInt_lt.mp q
    have h1 := Int32.le_iff_toInt_le.mp h.1
    rw [nI_toInt ha] at h1
    have h2 : (0 : Int32).toInt = 0 := by decide
    omega
  obtain ⟨j, hj, e⟩ := nI_of h0
  subst e
  exact ⟨j, (nI_leI ha hj).mp h.1, (nI_leI hj hb).mp h.2, rfl⟩
/-- what is saved, after one more -/
def svX (SV : Nat → Nat) (n : Nat) (P : Nat → Nat) : Nat → Nat := fun k => if n = 6 then (if k < 1020 then SV (k + 204) else if k < 1224 then P (k - 1020) else SV k) else if 204 * n ≤ k ∧ k < 204 * n + 204 then P (k - 204 * n) else SV k
def svN (n : Nat) : Nat := if n = 6 then 6 else n + 1
def sv9 (S : Sx) (P : Nat → Nat) : Sx := (P, svX S.2.1 S.2.2.1 S.1, svN S.2.2.1, S.2.2.2)
def bdP (P : Nat → Nat) (pl fl fi : Nat) (he : Bool) : Nat → Nat := lyP (lyP (lyP (lyP P pl 6 1) pl 0 fl) pl 1 fi) pl 3 (bN he)
def a_build (S : Sx) (x fl fi : Int32) (he : Bool) : AO := if inI x (nI 0) (nI 7) = false then (1, nI 0, S) else if (inI fl (nI 1) (nI 90) && inI fi (nI 10) (nI 900)) = false then (2, nI 0, S) else if ofP S.1 (tn x) 6 = 1 then (3, nI 0, S) else (0, nI (fnP (bdP S.1 (tn x) (tn fl) (tn fi) he)), sv9 S (bdP S.1 (tn x) (tn fl) (tn fi) he))
def rmP (P : Nat → Nat) (pl : Nat) : Nat → Nat := enP (enP (itN 10 (fun k Q => lyP Q pl k 0) P) (2 * pl)) (2 * pl + 1)
def a_remove (S : Sx) (x : Int32) : AO := if inI x (nI 0) (nI 7) = false then (1, nI 0, S) else if ofP S.1 (tn x) 6 = 0 then (2, nI 0, S) else (0, nI (jbP S.1 (2 * tn x) 0 + jbP S.1 (2 * tn x + 1) 0), sv9 S (rmP S.1 (tn x)))
def a_turn (S : Sx) (x : Int32) (w : Nat) (b : Bool) : AO := if inI x (nI 0) (nI 7) = false then (1, nI 0, S) else if ofP S.1 (tn x) 6 = 0 then (2, nI 0, S) else (0, nI (ofP S.1 (tn x) w), sv9 S (lyP S.1 (tn x) w (bN b)))
def frM (P : Nat → Nat) (f l : Nat) : Bool := itN (P 6) (fun k b => b || (decide (f ≤ P (141 + 2 * k + 1)) && decide (P (141 + 2 * k) ≤ l))) (decide (P 6 = 6))
def frA (P : Nat → Nat) (f : Nat) : Nat := smN (P 6) fun k => if P (141 + 2 * k) < f then 1 else 0
def frS (P : Nat → Nat) (a : Nat) : Nat → Nat := itN (2 * P 6 - 2 * a) (fun t Q => upn Q (141 + (2 * P 6 - t - 1) + 2) (Q (141 + (2 * P 6 - t - 1)))) P
def frI (P : Nat → Nat) (f l : Nat) : Nat → Nat :=
  let Q := upn (upn (frS P (frA P f)) (141 + 2 * frA P f) f) (141 + 2 * frA P f + 1) l
  upn Q 6 (Q 6 + 1)
def a_frost (S : Sx) (f l : Int32) : AO := if (inI f (nI (S.1 5)) (nI 999) && inI l f (nI 999)) = false then (1, nI 0, S) else if frM S.1 (tn f) (tn l) = true then (2, nI 0, S) else (0, nI (S.1 6 + 1), sv9 S (frI S.1 (tn f) (tn l)))
def thF (P : Nat → Nat) (f : Int32) : Option Nat := itN (P 6) (fun k o => if nI (P (141 + 2 * k)) = f then some k else o) none
def thL (P : Nat → Nat) (k : Nat) : Nat → Nat := itN (2 * (P 6 - 1) - 2 * k) (fun t Q => upn Q (141 + (2 * k + t)) (Q (141 + (2 * k + t) + 2))) (upn P 6 (P 6 - 1))
def thS (P : Nat → Nat) (k : Nat) : Nat → Nat := upn (upn (thL P k) (141 + 2 * (P 6 - 1)) 0) (141 + 2 * (P 6 - 1) + 1) 0
def a_thaw (S : Sx) (f : Int32) : AO := match thF S.1 f with
  | none => (1, nI 0, S)
  | some k => (0, nI (S.1 (141 + 2 * k + 1)) - f + nI 1, sv9 S (thS S.1 k))
def a_plan (S : Sx) (y c g : Int32) : AO := if (inI y (nI (S.1 5)) (nI 999) && (inI c (nI 1) (nI 99) && inI g (nI 0) (nI 7))) = false then (1, nI 0, S) else if S.1 7 = 16 then (2, nI 0, S) else (0, nI (S.1 7 + 1), sv9 S (plP S.1 (tn y) (tn c) (tn g)))
def a_callOff (S : Sx) (y : Int32) : AO := if inI y (nI 0) (nI 999) = false then (1, nI 0, S) else (0, nI (dpL S.1 (tn y)).2.2, sv9 S (dpP S.1 (tn y)))
def lsM : Nat → Nat
  | 2 => 1
  | _ => 0
def mxM : Nat → Nat
  | 0 => 20
  | 1 => 2
  | 2 => 9
  | 3 => 90
  | _ => 50
def a_set (S : Sx) (i v : Int32) : AO := if inI i (nI 0) (nI 4) = false then (1, nI 0, S) else if inI v (nI (lsM (tn i))) (nI (mxM (tn i))) = false then (2, nI 0, S) else (0, nI (S.1 (tn i)), sv9 S (upn S.1 (tn i) (tn v)))
def a_pass (S : Sx) (n : Int32) : AO := if inI n (nI 1) (nI 60) = false then (1, nI 0, S) else if 999 < S.1 5 + tn n then (2, nI 0, S) else (0, nI (dsP (tn n) S.1 8) - nI (S.1 8), sv9 S (dsP (tn n) S.1))
def a_append (S : Sx) (c : Int32) : AO := if inI c (nI 33) (nI 126) = false then (1, nI 0, S) else if S.2.2.2.2 = 60 then (2, nI 0, S) else (0, nI (S.2.2.2.2 + 1), (S.1, S.2.1, S.2.2.1, upn S.2.2.2.1 S.2.2.2.2 (tn c), S.2.2.2.2 + 1))
def a_clear (S : Sx) : AO := (0, nI S.2.2.2.2, (S.1, S.2.1, S.2.2.1, S.2.2.2.1, 0))
def a_undo (S : Sx) : AO := if S.2.2.1 = 0 then (1, nI 0, S) else (0, nI (S.2.2.1 - 1), ((fun k => if k < 204 then S.2.1 (204 * (S.2.2.1 - 1) + k) else S.1 k), S.2.1, S.2.2.1 - 1, S.2.2.2))
def a_fountain (S : Sx) (x w : Int32) : AO := if inI x (nI 0) (nI 7) = false then (1, nI 0, S) else if inI w (nI 0) (nI 9) = false then (2, nI 0, S) else (0, tpV S.1 (tn x) (tn w), S)
def a_job (S : Sx) (j w : Int32) : AO := if j < 0 ∨ inI w (nI 0) (nI 3) = false then (1, nI 0, S) else (0, tjV S.1 j w, S)
def foV (P : Nat → Nat) (j w : Nat) : Int32 := if j < P 6 then nI (P (141 + 2 * j + w)) else -1
def a_frostOf (S : Sx) (j w : Int32) : AO := if j < 0 ∨ inI w (nI 0) (nI 1) = false then (1, nI 0, S) else (0, foV S.1 (tn j) (tn w), S)
def a_outing (S : Sx) (j w : Int32) : AO := if j < 0 ∨ inI w (nI 0) (nI 2) = false then (1, nI 0, S) else (0, toV S.1 j (tn w), S)
def ctV (P : Nat → Nat) (n w : Nat) : Nat := if w = 0 then P 5 else if w = 1 then fnP P else if w = 2 then opP P else if w = 3 then jsP P else if w = 4 then P 7 else if w = 10 then bN (frP P (P 5)) else if w = 11 then n else P (8 + w - 5)
def a_count (S : Sx) (w : Int32) : AO := if inI w (nI 0) (nI 11) = false then (1, nI 0, S) else (0, nI (ctV S.1 S.2.2.1 (tn w)), S)
def a_setting (S : Sx) (i : Int32) : AO := if inI i (nI 0) (nI 4) = false then (1, nI 0, S) else (0, nI (S.1 (tn i)), S)
def a_ifPassed (S : Sx) (n w : Int32) : AO := if (inI n (nI 1) (nI 60) && inI w (nI 0) (nI 3)) = false then (1, nI 0, S) else (0, pdV S.1 (tn n) (tn w), S)
def a_ifOuting (S : Sx) (c g : Int32) : AO := if (inI c (nI 1) (nI 99) && inI g (nI 0) (nI 7)) = false then (1, nI 0, S) else (0, mtV S.1 (tn c) (tn g), S)
def a_bestGate (S : Sx) (c : Int32) : AO := if inI c (nI 1) (nI 99) = false then (1, nI 0, S) else (0, nI (gtP S.1 (tn c)), S)
def a_days (S : Sx) (x : Int32) : AO := if inI x (nI 0) (nI 7) = false then (1, nI 0, S) else (0, oI (uuV S.1 (tn x)), S)
def a_bestOrder (S : Sx) (n : Int32) : AO := if inI n (nI 1) (nI 30) = false then (1, nI 0, S) else (0, oI (odP S.1 (tn n)).2.1, S)
/-- what always holds of a state -/
def WFm (P : Nat → Nat) : Prop := WF P ∧ P 5 ≤ 999 ∧ P 7 ≤ 16
def WFS (S : Sx) : Prop := WFm S.1 ∧ S.2.2.1 ≤ 6 ∧ S.2.2.2.2 ≤ 60 ∧ (∀ j, j < S.2.2.2.2 → 33 ≤ S.2.2.2.1 j ∧ S.2.2.2.1 j ≤ 126) ∧ ∀ i, i < S.2.2.1 → WFm fun k => if k < 204 then S.2.1 (204 * i + k) else 0
/-- the reference's picture of a state -/
def MdL (h : HP) (m : Nat) (A : Nat → Nat) (S : Sx) (hs : Int64) (c : Nat) : Prop := ∃ X, MdAt h m A S.1 X hs ∧ X 0 0 = c ∧ X 3 = S.2.1 ∧ X 4 0 = S.2.2.1 ∧ X 5 = S.2.2.2.1 ∧ X 6 0 = S.2.2.2.2
def MdApi (h : HP) (m : Nat) (A : Nat → Nat) (hs : Int64) (o : AO) : Res → HP → Prop := rI fun x h' => (o.1 = 0 → x = o.2.1) ∧ Sm (MdC m A) h h' ∧ h'.sz = h.sz ∧ MdL h' m A o.2.2 hs o.1
theorem mdApi_of {h h' : HP} {m : Nat} {A : Nat → Nat} {hs : Int64} {o : AO} {c : Nat} {v x : Int32} {P' SV' BF' : Nat → Nat} {n' L' : Nat} {X' : Nat → Nat → Nat} (ho : o = (c, v, (P', SV', n', BF', L'))) (hx : c = 0 → x = v) (T : MdTo h m A P' X' hs h') (e0 : X' 0 0 = c) (e3 : X' 3 = SV') (e4 : X' 4 0 = n') (e5 : X' 5 = BF') (e6 : X' 6 0 = L') : MdApi h m A hs o (.inl (some (.int x))) h' := by
  subst ho
  exact ⟨x, rfl, hx, T.2.1, T.2.2, X', T.1, e0, e3, e4, e5, e6⟩
theorem mdApi_tr {h h1 h' : HP} {m : Nat} {A : Nat → Nat} {hs : Int64} {o : AO} {x : Int32} {P : Nat → Nat} {X : Nat → Nat → Nat} (T : MdTo h m A P X hs h1) (q : (o.1 = 0 → x = o.2.1) ∧ Sm (MdC m A) h1 h' ∧ h'.sz = h1.sz ∧ MdL h' m A o.2.2 hs o.1) : MdApi h m A hs o (.inl (some (.int x))) h' :=
  ⟨x, rfl, q.1, T.2.1.trans q.2.1, q.2.2.1.trans T.2.2, q.2.2.2⟩
/-- a look behind which only scratch fields differ -/
theorem mdApi_look {h h' : HP} {m : Nat} {A : Nat → Nat} {hs : Int64} {o : AO} {v x : Int32} {P SV BF : Nat → Nat} {n L : Nat} {X2 X' : Nat → Nat → Nat} (ho : o = (0, v, (P, SV, n, BF, L))) (hx : x = v) (s : Scr [2, 7, 8, 9] X2 X') (T : MdTo h m A P X' hs h') (e0 : X2 0 0 = 0) (e3 : X2 3 = SV) (e4 : X2 4 0 = n) (e5 : X2 5 = BF) (e6 : X2 6 0 = L) : MdApi h m A hs o (.inl (some (.int x))) h' :=
  mdApi_of ho (fun _ => hx) T (by rw [s 0 (by decide)]; exact e0) ((s 3 (by decide)).trans e3) (by rw [s 4 (by decide)]; exact e4) ((s 5 (by decide)).trans e5) (by rw [s 6 (by decide)]; exact e6)
def frL (P : Nat → Nat) (f l k : Nat) (s : Bool × Nat) : Bool × Nat := (s.1 || (decide (f ≤ P (141 + 2 * k + 1)) && decide (P (141 + 2 * k) ≤ l)), s.2 + (if P (141 + 2 * k) < f then 1 else 0))
theorem itN_pair {α β : Type} (n : Nat) (f : Nat → α → α) (g : Nat → β → β) (a : α) (b : β) : itN n (fun k (s : α × β) => (f k s.1, g k s.2)) (a, b) = (itN n f a, itN n g b) := by
  induction n with
  | zero => rfl
  | succ n ih => rw [itN_s, ih, itN_s, itN_s]
theorem frL_pair (P : Nat → Nat) (f l : Nat) : itN (P 6) (frL P f l) (decide (P 6 = 6), 0) = (frM P f l, frA P f) :=
  itN_pair (P 6) (fun k b => b || (decide (f ≤ P (141 + 2 * k + 1)) && decide (P (141 + 2 * k) ≤ l))) (fun k s => s + (if P (141 + 2 * k) < f then 1 else 0)) (decide (P 6 = 6)) 0
theorem frA_le (P : Nat → Nat) (f : Nat) : frA P f ≤ P 6 := by
  unfold frA smN
  refine itN_ind (fun i (s : Nat) => s ≤ i) (Nat.le_refl 0) (fun i s _ h => ?_)
  show s + (if P (141 + 2 * i) < f then 1 else 0) ≤ i + 1
  split <;> omega
theorem frS_at (P : Nat → Nat) (a i : Nat) (h : i < 141 ∨ 153 ≤ i) (h6 : P 6 ≤ 5) : frS P a i = P i := by
  unfold frS
  refine itN_ind (fun _ (Q : Nat → Nat) => Q i = P i) rfl (fun t Q ht ih => ?_)
  rw [upn_n _ _ (by omega)]; exact ih
theorem frI_6 (P : Nat → Nat) (f l : Nat) (h6 : P 6 ≤ 5) : frI P f l 6 = P 6 + 1 := by
  unfold frI
  show upn (upn (upn (frS P (frA P f)) (141 + 2 * frA P f) f) (141 + 2 * frA P f + 1) l) 6 _ 6 = _
  rw [upn_s, upn_n _ _ (by omega), upn_n _ _ (by omega), frS_at _ _ _ (by omega) h6]
theorem thL_6 (P : Nat → Nat) (k : Nat) : thL P k 6 = P 6 - 1 := by
  unfold thL
  exact itN_ind (fun _ (Q : Nat → Nat) => Q 6 = P 6 - 1) (upn_s _ _ _) (fun t Q ht ih => by rw [upn_n _ _ (by omega)]; exact ih)
theorem thF_lt {P : Nat → Nat} {x : Int32} {k : Nat} (h : thF P x = some k) : k < P 6 ∧ nI (P (141 + 2 * k)) = x := by
  unfold thF at h
  refine itN_ind (fun i (o : Option Nat) => ∀ k, o = some k → k < i ∧ nI (P (141 + 2 * k)) = x) (by intro b h; cases h) (fun i o _ ih k hk => ?_) k h
  split at hk
  · cases hk; exact ⟨Nat.lt_succ_self _, by assumption⟩
  · have := ih k hk; exact ⟨by omega, this.2⟩
theorem dec9 (a b : Nat) (h : a = b) : nI a + Int32.ofInt (-1) = nI b - nI 1 := by
  subst h
  rw [Int32.sub_eq_add_neg]
  rfl
section
variable {E : Ev} {mt : Mth} {d k : Nat} {Q : Res → HP → Prop} {h : HP} {ls st : List Value}
theorem z_icltD1 {a b : Nat} {off : Int} (pc tgt : Nat) (hd : decode mt.2.1 pc = .ok (.if_icmp .lt off, 3)) (ht : (pc : Int) + off = (tgt : Int)) (ha : a < 2 ^ 30) (hb : b < 2 ^ 30) (kt : a ≤ b → Z E mt d Q k h tgt ls st) (kf : b < a → Z E mt d Q k h (pc + 3) ls st) : Z E mt d Q k h pc ls (.int (nI b) :: .int (nI a - nI 1) :: st) := by
  have e : nI a - nI 1 < nI b ↔ a ≤ b := by
    rw [Int32.lt_iff_toInt_lt, pk_sub_toInt ha (by decide), nI_toInt (by omega)]
    omega
  exact z_iclt pc tgt hd ht (fun c => kt (e.mp c)) (fun c => kf (Classical.byContradiction fun q => c (e.mpr (by omega))))
end
theorem frM_six {P : Nat → Nat} {f l : Nat} (h : P 6 = 6) : frM P f l = true := by
  unfold frM
  exact itN_ind (fun _ (b : Bool) => b = true) (by simp [h]) (fun i b _ hb => by rw [hb]; rfl)
