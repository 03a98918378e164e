/-! ROWS over natural numbers: what is computed is nI of a natural number; loops, joins, pure calls -/
set_option maxRecDepth 100000
theorem nI_nm1 {n : Nat} (h : n < 2 ^ 31) : ¬ nI n = -1 := by
  intro e
  have h1 := congrArg Int32.toInt e
  rw [nI_toInt h] at h1
  have h2 : (-1 : Int32).toInt = -1 := by decide
  omega
/-- a number or none (-1) -/
def oI : Option Nat → Int32
  | none => -1
  | some j => nI j
theorem oI_none : oI none = -1 := rfl
theorem oI_some (j : Nat) : oI (some j) = nI j := rfl
/-- a flag -/
def bN (b : Bool) : Nat := if b = true then 1 else 0
theorem bN_t : bN true = 1 := rfl
theorem bN_f : bN false = 0 := rfl
theorem bN_lt (b : Bool) : bN b ≤ 1 := by cases b <;> decide
theorem bN_nb (b : Bool) : narrow .boolean (.int (nI (bN b))) = .int (nI (bN b)) := by cases b <;> decide
theorem bN_fb (b : Bool) : fits .boolean (.int (nI (bN b))) = true := by cases b <;> decide
theorem nI_dlt {a b : Nat} (ha : a < 2 ^ 30) (hb : b < 2 ^ 30) : nI a - nI b < 0 ↔ a < b := (sub_sg ha hb).1
theorem nI_deq {a b : Nat} (ha : a < 2 ^ 30) (hb : b < 2 ^ 30) : nI a - nI b = 0 ↔ a = b := (sub_sg ha hb).2
theorem nI_dcm {a b : Nat} (ha : a < 2 ^ 30) (hb : b < 2 ^ 30) : Cm (nI a - nI b) a b := sub_sg ha hb
section
variable {E : Ev} {mt : Mth} {d k : Nat} {Q : Res → HP → Prop} {h : HP} {ls st : List Value}
theorem z_iaddN {a b : Nat} (pc : Nat) (hd : decode mt.2.1 pc = .ok (.iadd, 1)) (kk : Z E mt d Q k h (pc + 1) ls (.int (nI (a + b)) :: st)) : Z E mt d Q k h pc ls (.int (nI b) :: .int (nI a) :: st) :=
  z_iadd pc hd (by rw [nI_add]; exact kk)
theorem z_imulN {a b : Nat} (pc : Nat) (hd : decode mt.2.1 pc = .ok (.imul, 1)) (kk : Z E mt d Q k h (pc + 1) ls (.int (nI (a * b)) :: st)) : Z E mt d Q k h pc ls (.int (nI b) :: .int (nI a) :: st) :=
  z_imul pc hd (by rw [pk_mul]; exact kk)
theorem z_isubN {a b : Nat} (pc : Nat) (hd : decode mt.2.1 pc = .ok (.isub, 1)) (hb : b ≤ a) (kk : Z E mt d Q k h (pc + 1) ls (.int (nI (a - b)) :: st)) : Z E mt d Q k h pc ls (.int (nI b) :: .int (nI a) :: st) :=
  z_isub pc hd (by rw [pk_sub hb]; exact kk)
theorem z_idivN {a b : Nat} (pc : Nat) (hd : decode mt.2.1 pc = .ok (.idiv, 1)) (ha : a < 2 ^ 31) (h0 : 0 < b) (hb : b < 2 ^ 31) (kk : Z E mt d Q k h (pc + 1) ls (.int (nI (a / b)) :: st)) : Z E mt d Q k h pc ls (.int (nI b) :: .int (nI a) :: st) :=
  z_idiv pc hd (nI_ne0 h0 hb) (by rw [pk_div ha h0 hb]; exact kk)
theorem z_iremN {a b : Nat} (pc : Nat) (hd : decode mt.2.1 pc = .ok (.irem, 1)) (ha : a < 2 ^ 31) (h0 : 0 < b) (hb : b < 2 ^ 31) (kk : Z E mt d Q k h (pc + 1) ls (.int (nI (a % b)) :: st)) : Z E mt d Q k h pc ls (.int (nI b) :: .int (nI a) :: st) :=
  z_irem pc hd (nI_ne0 h0 hb) (by rw [pk_rem ha h0 hb]; exact kk)
theorem z_ifeqN {a : Nat} {off : Int} (pc tgt : Nat) (hd : decode mt.2.1 pc = .ok (.ifCond .eq off, 3)) (ht : (pc : Int) + off = (tgt : Int)) (ha : a < 2 ^ 31) (kt : a = 0 → Z E mt d Q k h tgt ls st) (kf : ¬ a = 0 → Z E mt d Q k h (pc + 3) ls st) : Z E mt d Q k h pc ls (.int (nI a) :: st) :=
  z_ifeq pc tgt hd ht (fun c => kt ((nI_eq ha (by decide)).mp c)) (fun c => kf (fun e => c (by rw [e]; rfl)))
theorem z_ifneN {a : Nat} {off : Int} (pc tgt : Nat) (hd : decode mt.2.1 pc = .ok (.ifCond .ne off, 3)) (ht : (pc : Int) + off = (tgt : Int)) (ha : a < 2 ^ 31) (kt : ¬ a = 0 → Z E mt d Q k h tgt ls st) (kf : a = 0 → Z E mt d Q k h (pc + 3) ls st) : Z E mt d Q k h pc ls (.int (nI a) :: st) :=
  z_ifne pc tgt hd ht (fun c => kt (fun e => c (by rw [e]; rfl))) (fun c => kf ((nI_eq ha (by decide)).mp c))
theorem z_ifgtN {a : Nat} {off : Int} (pc tgt : Nat) (hd : decode mt.2.1 pc = .ok (.ifCond .gt off, 3)) (ht : (pc : Int) + off = (tgt : Int)) (ha : a < 2 ^ 31) (kt : 0 < a → Z E mt d Q k h tgt ls st) (kf : a = 0 → Z E mt d Q k h (pc + 3) ls st) : Z E mt d Q k h pc ls (.int (nI a) :: st) :=
  z_ifgt pc tgt hd ht (fun c => kt ((nI_ltI (by decide) ha).mp c)) (fun c => kf (Classical.byContradiction fun q => c ((nI_ltI (a := 0) (by decide) ha).mpr (by omega))))
theorem z_ifleN {a : Nat} {off : Int} (pc tgt : Nat) (hd : decode mt.2.1 pc = .ok (.ifCond .le off, 3)) (ht : (pc : Int) + off = (tgt : Int)) (ha : a < 2 ^ 31) (kt : a = 0 → Z E mt d Q k h tgt ls st) (kf : 0 < a → Z E mt d Q k h (pc + 3) ls st) : Z E mt d Q k h pc ls (.int (nI a) :: st) :=
  z_ifle pc tgt hd ht (fun c => kt (by have := (nI_leI (b := 0) ha (by decide)).mp c; omega)) (fun c => kf (Classical.byContradiction fun q => c ((nI_leI (b := 0) ha (by decide)).mpr (by omega))))
theorem z_ifltN {a : Nat} {off : Int} (pc : Nat) (hd : decode mt.2.1 pc = .ok (.ifCond .lt off, 3)) (tgt : Nat) (ht : (pc : Int) + off = (tgt : Int)) (ha : a < 2 ^ 31) (kf : Z E mt d Q k h (pc + 3) ls st) : Z E mt d Q k h pc ls (.int (nI a) :: st) :=
  z_iflt pc tgt hd ht (fun c => absurd c (nI_pos ha)) (fun _ => kf)
theorem z_ifgeN {a : Nat} {off : Int} (pc tgt : Nat) (hd : decode mt.2.1 pc = .ok (.ifCond .ge off, 3)) (ht : (pc : Int) + off = (tgt : Int)) (ha : a < 2 ^ 31) (kt : Z E mt d Q k h tgt ls st) : Z E mt d Q k h pc ls (.int (nI a) :: st) :=
  z_ifge pc tgt hd ht (fun _ => kt) (fun c => absurd (nI_pos' ha) c)
theorem z_ifeqB {b : Bool} {off : Int} (pc tgt : Nat) (hd : decode mt.2.1 pc = .ok (.ifCond .eq off, 3)) (ht : (pc : Int) + off = (tgt : Int)) (kt : b = false → Z E mt d Q k h tgt ls st) (kf : b = true → Z E mt d Q k h (pc + 3) ls st) : Z E mt d Q k h pc ls (.int (nI (bN b)) :: st) :=
  z_ifeq pc tgt hd ht (fun c => kt (by cases b with | true => exact absurd c (by decide) | false => rfl)) (fun c => kf (by cases b with | true => rfl | false => exact absurd rfl c))
theorem z_ifneB {b : Bool} {off : Int} (pc tgt : Nat) (hd : decode mt.2.1 pc = .ok (.ifCond .ne off, 3)) (ht : (pc : Int) + off = (tgt : Int)) (kt : b = true → Z E mt d Q k h tgt ls st) (kf : b = false → Z E mt d Q k h (pc + 3) ls st) : Z E mt d Q k h pc ls (.int (nI (bN b)) :: st) :=
  z_ifne pc tgt hd ht (fun c => kt (by cases b with | true => rfl | false => exact absurd rfl c)) (fun c => kf (by cases b with | true => exact absurd c (by decide) | false => rfl))
theorem z_ifeqD {a b : Nat} {off : Int} (pc tgt : Nat) (hd : decode mt.2.1 pc = .ok (.ifCond .eq off, 3)) (ht : (pc : Int) + off = (tgt : Int)) (ha : a < 2 ^ 30) (hb : b < 2 ^ 30) (kt : a = b → Z E mt d Q k h tgt ls st) (kf : ¬ a = b → Z E mt d Q k h (pc + 3) ls st) : Z E mt d Q k h pc ls (.int (nI a - nI b) :: st) :=
  z_ifeq pc tgt hd ht (fun c => kt ((nI_dcm ha hb).2.mp c)) (fun c => kf (fun e => c ((nI_dcm ha hb).2.mpr e)))
theorem z_ifneD {a b : Nat} {off : Int} (pc tgt : Nat) (hd : decode mt.2.1 pc = .ok (.ifCond .ne off, 3)) (ht : (pc : Int) + off = (tgt : Int)) (ha : a < 2 ^ 30) (hb : b < 2 ^ 30) (kt : ¬ a = b → Z E mt d Q k h tgt ls st) (kf : a = b → Z E mt d Q k h (pc + 3) ls st) : Z E mt d Q k h pc ls (.int (nI a - nI b) :: st) :=
  z_ifne pc tgt hd ht (fun c => kt (fun e => c ((nI_dcm ha hb).2.mpr e))) (fun c => kf ((nI_dcm ha hb).2.mp c))
theorem z_ifgtD {a b : Nat} {off : Int} (pc tgt : Nat) (hd : decode mt.2.1 pc = .ok (.ifCond .gt off, 3)) (ht : (pc : Int) + off = (tgt : Int)) (ha : a < 2 ^ 30) (hb : b < 2 ^ 30) (kt : b < a → Z E mt d Q k h tgt ls st) (kf : a ≤ b → Z E mt d Q k h (pc + 3) ls st) : Z E mt d Q k h pc ls (.int (nI a - nI b) :: st) :=
  z_ifgt pc tgt hd ht (fun c => kt ((nI_dcm ha hb).gt.mp c)) (fun c => kf (Classical.byContradiction fun q => c ((nI_dcm ha hb).gt.mpr (by omega))))
theorem z_ifleD {a b : Nat} {off : Int} (pc tgt : Nat) (hd : decode mt.2.1 pc = .ok (.ifCond .le off, 3)) (ht : (pc : Int) + off = (tgt : Int)) (ha : a < 2 ^ 30) (hb : b < 2 ^ 30) (kt : a ≤ b → Z E mt d Q k h tgt ls st) (kf : b < a → Z E mt d Q k h (pc + 3) ls st) : Z E mt d Q k h pc ls (.int (nI a - nI b) :: st) :=
  z_ifle pc tgt hd ht (fun c => kt ((nI_dcm ha hb).le.mp c)) (fun c => kf (Classical.byContradiction fun q => c ((nI_dcm ha hb).le.mpr (by omega))))
theorem z_ifltD {a b : Nat} {off : Int} (pc tgt : Nat) (hd : decode mt.2.1 pc = .ok (.ifCond .lt off, 3)) (ht : (pc : Int) + off = (tgt : Int)) (ha : a < 2 ^ 30) (hb : b < 2 ^ 30) (kt : a < b → Z E mt d Q k h tgt ls st) (kf : b ≤ a → Z E mt d Q k h (pc + 3) ls st) : Z E mt d Q k h pc ls (.int (nI a - nI b) :: st) :=
  z_iflt pc tgt hd ht (fun c => kt ((nI_dcm ha hb).1.mp c)) (fun c => kf (Classical.byContradiction fun q => c ((nI_dcm ha hb).1.mpr (by omega))))
theorem z_ifgeD {a b : Nat} {off : Int} (pc tgt : Nat) (hd : decode mt.2.1 pc = .ok (.ifCond .ge off, 3)) (ht : (pc : Int) + off = (tgt : Int)) (ha : a < 2 ^ 30) (hb : b < 2 ^ 30) (kt : b ≤ a → Z E mt d Q k h tgt ls st) (kf : a < b → Z E mt d Q k h (pc + 3) ls st) : Z E mt d Q k h pc ls (.int (nI a - nI b) :: st) :=
  z_ifge pc tgt hd ht (fun c => kt ((nI_dcm ha hb).ge.mp c)) (fun c => kf (Classical.byContradiction fun q => c ((nI_dcm ha hb).ge.mpr (by omega))))
theorem z_iceqN {a b : Nat} {off : Int} (pc tgt : Nat) (hd : decode mt.2.1 pc = .ok (.if_icmp .eq off, 3)) (ht : (pc : Int) + off = (tgt : Int)) (ha : a < 2 ^ 31) (hb : b < 2 ^ 31) (kt : a = b → Z E mt d Q k h tgt ls st) (kf : ¬ a = b → Z E mt d Q k h (pc + 3) ls st) : Z E mt d Q k h pc ls (.int (nI b) :: .int (nI a) :: st) :=
  z_iceq pc tgt hd ht (fun c => kt ((nI_eq ha hb).mp c)) (fun c => kf (fun e => c (by rw [e])))
theorem z_icneN {a b : Nat} {off : Int} (pc tgt : Nat) (hd : decode mt.2.1 pc = .ok (.if_icmp .ne off, 3)) (ht : (pc : Int) + off = (tgt : Int)) (ha : a < 2 ^ 31) (hb : b < 2 ^ 31) (kt : ¬ a = b → Z E mt d Q k h tgt ls st) (kf : a = b → Z E mt d Q k h (pc + 3) ls st) : Z E mt d Q k h pc ls (.int (nI b) :: .int (nI a) :: st) :=
  z_icne pc tgt hd ht (fun c => kt (fun e => c (by rw [e]))) (fun c => kf ((nI_eq ha hb).mp c))
theorem z_icltN {a b : Nat} {off : Int} (pc tgt : Nat) (hd : decode mt.2.1 pc = .ok (.if_icmp .lt off, 3)) (ht : (pc : Int) + off = (tgt : Int)) (ha : a < 2 ^ 31) (hb : b < 2 ^ 31) (kt : a < b → Z E mt d Q k h tgt ls st) (kf : b ≤ a → Z E mt d Q k h (pc + 3) ls st) : Z E mt d Q k h pc ls (.int (nI b) :: .int (nI a) :: st) :=
  z_iclt pc tgt hd ht (fun c => kt ((nI_ltI ha hb).mp c)) (fun c => kf (Classical.byContradiction fun q => c ((nI_ltI ha hb).mpr (by omega))))
theorem z_icgeN {a b : Nat} {off : Int} (pc tgt : Nat) (hd : decode mt.2.1 pc = .ok (.if_icmp .ge off, 3)) (ht : (pc : Int) + off = (tgt : Int)) (ha : a < 2 ^ 31) (hb : b < 2 ^ 31) (kt : b ≤ a → Z E mt d Q k h tgt ls st) (kf : a < b → Z E mt d Q k h (pc + 3) ls st) : Z E mt d Q k h pc ls (.int (nI b) :: .int (nI a) :: st) :=
  z_icge pc tgt hd ht (fun c => kt ((nI_leI hb ha).mp c)) (fun c => kf (Classical.byContradiction fun q => c ((nI_leI hb ha).mpr (by omega))))
theorem z_icgtN {a b : Nat} {off : Int} (pc tgt : Nat) (hd : decode mt.2.1 pc = .ok (.if_icmp .gt off, 3)) (ht : (pc : Int) + off = (tgt : Int)) (ha : a < 2 ^ 31) (hb : b < 2 ^ 31) (kt : b < a → Z E mt d Q k h tgt ls st) (kf : a ≤ b → Z E mt d Q k h (pc + 3) ls st) : Z E mt d Q k h pc ls (.int (nI b) :: .int (nI a) :: st) :=
  z_icgt pc tgt hd ht (fun c => kt ((nI_ltI hb ha).mp c)) (fun c => kf (Classical.byContradiction fun q => c ((nI_ltI hb ha).mpr (by omega))))
theorem z_icleN {a b : Nat} {off : Int} (pc tgt : Nat) (hd : decode mt.2.1 pc = .ok (.if_icmp .le off, 3)) (ht : (pc : Int) + off = (tgt : Int)) (ha : a < 2 ^ 31) (hb : b < 2 ^ 31) (kt : a ≤ b → Z E mt d Q k h tgt ls st) (kf : b < a → Z E mt d Q k h (pc + 3) ls st) : Z E mt d Q k h pc ls (.int (nI b) :: .int (nI a) :: st) :=
  z_icle pc tgt hd ht (fun c => kt ((nI_leI ha hb).mp c)) (fun c => kf (Classical.byContradiction fun q => c ((nI_leI ha hb).mpr (by omega))))
/-- a counting loop that writes nothing -/
theorem lpP (pc n : Nat) (lf : Nat → List Value) (fin : Z E mt d Q k h pc (lf n) st) (step : ∀ i, i < n → Z E mt d Q k h pc (lf (i + 1)) st → Z E mt d Q k h pc (lf i) st) : Z E mt d Q k h pc (lf 0) st := by
  have hall : ∀ m i, n - i = m → i ≤ n → Z E mt d Q k h pc (lf i) st := by
    intro m
    induction m with
    | zero => intro i e hi; rw [show i = n by omega]; exact fin
    | succ m ih => intro i e hi; exact step i (by omega) (ih (i + 1) (by omega) (by omega))
  exact hall n 0 rfl (Nat.zero_le _)
/-- a counting loop with what holds of the cells -/
theorem lpH (pc n : Nat) (lf : Nat → List Value) (I : Nat → HP → Prop) (kf : Nat → Nat) (h0 : I 0 h) (fin : ∀ h', I n h' → Z E mt d Q (kf n) h' pc (lf n) st) (step : ∀ i h', i < n → I i h' → (∀ h'', I (i + 1) h'' → Z E mt d Q (kf (i + 1)) h'' pc (lf (i + 1)) st) → Z E mt d Q (kf i) h' pc (lf i) st) : Z E mt d Q (kf 0) h pc (lf 0) st := by
  have hall : ∀ m i, n - i = m → i ≤ n → ∀ h', I i h' → Z E mt d Q (kf i) h' pc (lf i) st := by
    intro m
    induction m with
    | zero => intro i e hi h' hI; have e9 : i = n := by omega
              subst e9; exact fin h' hI
    | succ m ih => intro i e hi h' hI; exact step i h' (by omega) hI (fun h'' hI' => ih (i + 1) (by omega) (by omega) h'' hI')
  exact hall n 0 rfl (Nat.zero_le _) h h0
/-- a loop by a measure -/
theorem lpW {σ : Type} (pc : Nat) (lf : σ → List Value) (I : σ → HP → Prop) (kf : σ → Nat) (ms : σ → Nat) (s0 : σ) (h0 : I s0 h) (step : ∀ s h', I s h' → (∀ s' h'', ms s' < ms s → I s' h'' → Z E mt d Q (kf s') h'' pc (lf s') st) → Z E mt d Q (kf s) h' pc (lf s) st) : Z E mt d Q (kf s0) h pc (lf s0) st := by
  have hall : ∀ m s, ms s < m → ∀ h', I s h' → Z E mt d Q (kf s) h' pc (lf s) st := by
    intro m
    induction m with
    | zero => intro s hs; omega
    | succ m ih => intro s hs h' hI; exact step s h' hI (fun s' h'' hlt hI' => ih s' (by omega) h'' hI')
  exact hall _ s0 (Nat.lt_succ_self _) h h0
/-- ways that come together with one number -/
theorem joinZ {pc : Nat} {ls st : List Value} (pcj : Nat) (lf sf : Int32 → List Value) (x : Int32) (rest : Z E mt d Q k h pcj (lf x) (sf x)) (paths : (∀ v, v = x → Z E mt d Q k h pcj (lf v) (sf v)) → Z E mt d Q k h pc ls st) : Z E mt d Q k h pc ls st :=
  paths (fun _ hv => hv ▸ rest)
/-- ways that come together with what holds of the cells -/
theorem joinH {pc : Nat} {ls st : List Value} (pcj : Nat) (ls' st' : List Value) (I : HP → Prop) (rest : ∀ h', I h' → Z E mt d Q k h' pcj ls' st') (paths : (∀ h', I h' → Z E mt d Q k h' pcj ls' st') → Z E mt d Q k h pc ls st) : Z E mt d Q k h pc ls st :=
  paths rest
/-- a local that is forgotten -/
theorem z_fog {pc : Nat} {ls : List Value} (i : Nat) (kk : Z E mt d Q k h pc (ls.set i dum) st) : Z E mt d Q k h pc ls st := by
  intro p e s m args below meth c K H locs cells slots la hc h1 h2 hP hS hl
  refine kk p e s m args below meth c K H locs cells slots la hc h1 h2 hP hS ⟨hl.1, hl.2.1, by rw [List.length_set]; exact hl.2.2.1, fun j v hj hv => ?_⟩
  rw [List.getElem?_set] at hj
  split at hj
  · split at hj
    · exact absurd (Option.some.inj hj).symm hv
    · cases hj
  · exact hl.2.2.2 j v hj hv
/-- less room is enough -/
theorem z_less {pc : Nat} {ls : List Value} {k' : Nat} (hk : k' ≤ k) (kk : Z E mt d Q k' h pc ls st) : Z E mt d Q k h pc ls st := by
  intro p e s m args below meth c K H locs cells slots la hc h1 h2 hP hS hl
  exact kk p e s m args below meth c K H locs cells slots la hc (by omega) (by omega) hP hS hl
/-- the end of a method that writes nothing -/
def rP (h : HP) (x : Int32) : Res → HP → Prop := rI fun y h' => h' = h ∧ y = x
theorem aft_P {pc : Nat} {x : Int32} (kk : Z E mt d Q k h pc ls (.int x :: st)) : Aft E mt d Q k (rP h x) pc ls st :=
  aft_I fun y h' hq => by obtain ⟨rfl, rfl⟩ := hq; exact kk
theorem rP_of {x y : Int32} (e : y = x) : rP h x (.inl (some (.int y))) h := ⟨y, rfl, rfl, e⟩
end
