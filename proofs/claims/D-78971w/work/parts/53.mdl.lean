/-! FOUNTAINPARKMODEL: its picture. P: the array s; X: its other fields and arrays (a scalar field f as X f 0) -/
set_option maxRecDepth 100000
def upn (P : Nat → Nat) (i v : Nat) : Nat → Nat := fun j => if j = i then v else P j
def upx (X : Nat → Nat → Nat) (f i v : Nat) : Nat → Nat → Nat := fun g => if g = f then upn (X f) i v else X g
def stx (X : Nat → Nat → Nat) (f : Nat) (p : Nat → Nat) : Nat → Nat → Nat := fun g => if g = f then p else X g
theorem upn_s (P : Nat → Nat) (i v : Nat) : upn P i v i = v := by simp [upn]
theorem upn_n (P : Nat → Nat) {i j : Nat} (v : Nat) (h : j ≠ i) : upn P i v j = P j := by simp [upn, h]
theorem upx_s (X : Nat → Nat → Nat) (f i v : Nat) : upx X f i v f = upn (X f) i v := by simp [upx]
theorem upx_n (X : Nat → Nat → Nat) {f g : Nat} (i v : Nat) (h : g ≠ f) : upx X f i v g = X g := by simp [upx, h]
theorem stx_s (X : Nat → Nat → Nat) (f : Nat) (p : Nat → Nat) : stx X f p f = p := by simp [stx]
theorem stx_n (X : Nat → Nat → Nat) {f g : Nat} (p : Nat → Nat) (h : g ≠ f) : stx X f p g = X g := by simp [stx, h]
theorem stx_stx (X : Nat → Nat → Nat) (f : Nat) (p q : Nat → Nat) : stx (stx X f p) f q = stx X f q := by
  funext g; by_cases e : g = f <;> simp [stx, e]
theorem stx_comm (X : Nat → Nat → Nat) {f g : Nat} (p q : Nat → Nat) (h : f ≠ g) : stx (stx X f p) g q = stx (stx X g q) f p := by
  funext i
  by_cases e : i = f
  · subst e; rw [stx_n _ _ h, stx_s, stx_s]
  · by_cases e2 : i = g
    · subst e2; rw [stx_s, stx_n _ _ e, stx_s]
    · rw [stx_n _ _ e2, stx_n _ _ e, stx_n _ _ e, stx_n _ _ e2]
theorem stx_id (X : Nat → Nat → Nat) (f : Nat) : stx X f (X f) = X := by
  funext i; by_cases e : i = f <;> simp [stx, e]
def scF : Nat → Bool
  | 0 => true
  | 4 => true
  | 6 => true
  | 10 => true
  | 11 => true
  | 13 => true
  | _ => false
def arF : Nat → Bool
  | 1 => true
  | 2 => true
  | 3 => true
  | 5 => true
  | 7 => true
  | 8 => true
  | 9 => true
  | 12 => true
  | _ => false
def akd : Nat → Nat
  | 8 => 101
  | 9 => 101
  | _ => 100
def aln : Nat → Nat
  | 1 => 204
  | 2 => 204
  | 3 => 1224
  | 5 => 60
  | 7 => 8
  | 8 => 17
  | 9 => 8
  | _ => 96
theorem sc_ar (f : Nat) (h1 : scF f = true) (h2 : arF f = true) : False := by
  unfold scF at h1
  split at h1 <;> first | (exact absurd h2 (by decide)) | (exact absurd h1 (by decide))
theorem akd_ne (f : Nat) : akd f ≠ 6 := by
  unfold akd; split <;> decide
def MdAt (h : HP) (m : Nat) (A : Nat → Nat) (P : Nat → Nat) (X : Nat → Nat → Nat) (hs : Int64) : Prop :=
  h.kd m = 6 ∧ m < h.sz ∧ (∀ f, scF f = true → h.mm m f = .int (nI (X f 0))) ∧ (∀ f, arF f = true → h.mm m f = .ref (A f) ∧ h.kd (A f) = akd f ∧ h.ln (A f) = aln f ∧ A f < h.sz) ∧ h.mm m 14 = .long hs ∧ (∀ j, j < 204 → h.mm (A 1) j = .int (nI (P j))) ∧ (∀ f, arF f = true → f ≠ 1 → ∀ j, j < aln f → h.mm (A f) j = .int (nI (X f j))) ∧ ∀ f g, arF f = true → arF g = true → A f = A g → f = g
def MdC (m : Nat) (A : Nat → Nat) : Nat → Prop := fun a => a = m ∨ ∃ f, arF f = true ∧ a = A f
def MdTo (h0 : HP) (m : Nat) (A : Nat → Nat) (P : Nat → Nat) (X : Nat → Nat → Nat) (hs : Int64) (h : HP) : Prop := MdAt h m A P X hs ∧ Sm (MdC m A) h0 h ∧ h.sz = h0.sz
section
variable {h0 h h' : HP} {m : Nat} {A : Nat → Nat} {P P' : Nat → Nat} {X X' : Nat → Nat → Nat} {hs hs' : Int64}
theorem MdAt.to (T : MdAt h m A P X hs) : MdTo h m A P X hs h := ⟨T, Sm.refl _ h, rfl⟩
theorem MdTo.trans (T : MdTo h0 m A P X hs h) (T' : MdTo h m A P' X' hs' h') : MdTo h0 m A P' X' hs' h' := ⟨T'.1, T.2.1.trans T'.2.1, T'.2.2.trans T.2.2⟩
theorem MdTo.kd (T : MdTo h0 m A P X hs h) : h.kd m = 6 := T.1.1
theorem MdTo.sc (T : MdTo h0 m A P X hs h) (f : Nat) (hf : scF f = true) : h.mm m f = .int (nI (X f 0)) := T.1.2.2.1 f hf
theorem MdTo.rf (T : MdTo h0 m A P X hs h) (f : Nat) (hf : arF f = true) : h.mm m f = .ref (A f) := (T.1.2.2.2.1 f hf).1
theorem MdTo.ak (T : MdTo h0 m A P X hs h) (f : Nat) (hf : arF f = true) {c : Nat} (hc : akd f = c) : h.kd (A f) = c := (T.1.2.2.2.1 f hf).2.1.trans hc
theorem MdTo.al (T : MdTo h0 m A P X hs h) (f : Nat) (hf : arF f = true) {c : Nat} (hc : aln f = c) : h.ln (A f) = c := (T.1.2.2.2.1 f hf).2.2.1.trans hc
theorem MdTo.lg (T : MdTo h0 m A P X hs h) : h.mm m 14 = .long hs := T.1.2.2.2.2.1
theorem MdTo.at1 (T : MdTo h0 m A P X hs h) {j : Nat} (hj : j < 204) : h.mm (A 1) j = .int (nI (P j)) := T.1.2.2.2.2.2.1 j hj
theorem MdTo.at (T : MdTo h0 m A P X hs h) (f : Nat) (hf : arF f = true) (h1 : f ≠ 1) {j c : Nat} (hc : aln f = c) (hj : j < c) : h.mm (A f) j = .int (nI (X f j)) := T.1.2.2.2.2.2.2.1 f hf h1 j (by rw [hc]; exact hj)
theorem MdAt.ne (T : MdAt h m A P X hs) (f : Nat) (hf : arF f = true) : A f ≠ m := fun e => akd_ne f (by rw [← (T.2.2.2.1 f hf).2.1, e]; exact T.1)
theorem MdTo.putS (T : MdTo h0 m A P X hs h) (f v : Nat) (hf : scF f = true) : MdTo h0 m A P (upx X f 0 v) hs (h.put m f (.int (nI v))) := by
  obtain ⟨M, S, z⟩ := T
  obtain ⟨k1, k2, k3, k4, k5, k6, k7, k8⟩ := id M
  refine ⟨⟨k1, k2, fun g hg => ?_, fun g hg => ?_, ?_, fun j hj => ?_, fun g hg h1 j hj => ?_, k8⟩, S.putS (Or.inl rfl), z⟩
  · by_cases e : g = f
    · subst e; rw [mm_self, upx_s, upn_s]
    · rw [mm_nek _ _ _ _ _ e, upx_n _ _ _ e]; exact k3 g hg
  · have e : g ≠ f := fun e => sc_ar f hf (e ▸ hg)
    rw [mm_nek _ _ _ _ _ e]; exact k4 g hg
  · have e : 14 ≠ f := fun e => by subst e; exact absurd hf (by decide)
    rw [mm_nek _ _ _ _ _ e]; exact k5
  · rw [mm_nea _ _ _ _ _ (M.ne 1 rfl)]; exact k6 j hj
  · have e : g ≠ f := fun e => sc_ar f hf (e ▸ hg)
    rw [mm_nea _ _ _ _ _ (M.ne g hg), upx_n _ _ _ e]; exact k7 g hg h1 j hj
theorem MdTo.put1 (T : MdTo h0 m A P X hs h) (j v : Nat) : MdTo h0 m A (upn P j v) X hs (h.put (A 1) j (.int (nI v))) := by
  obtain ⟨M, S, z⟩ := T
  obtain ⟨k1, k2, k3, k4, k5, k6, k7, k8⟩ := id M
  have n1 := M.ne 1 rfl
  refine ⟨⟨k1, k2, fun g hg => ?_, fun g hg => ?_, ?_, fun i hi => ?_, fun g hg h1 i hi => ?_, k8⟩, S.putS (Or.inr ⟨1, rfl, rfl⟩), z⟩
  · rw [mm_nea _ _ _ _ _ (Ne.symm n1)]; exact k3 g hg
  · rw [mm_nea _ _ _ _ _ (Ne.symm n1)]; exact k4 g hg
  · rw [mm_nea _ _ _ _ _ (Ne.symm n1)]; exact k5
  · by_cases e : i = j
    · subst e; rw [mm_self, upn_s]
    · rw [mm_nek _ _ _ _ _ e, upn_n _ _ e]; exact k6 i hi
  · rw [mm_nea _ _ _ _ _ (fun e => h1 (k8 g 1 hg rfl e))]; exact k7 g hg h1 i hi
theorem MdTo.putX (T : MdTo h0 m A P X hs h) (f j v : Nat) (hf : arF f = true) (hn : f ≠ 1) : MdTo h0 m A P (upx X f j v) hs (h.put (A f) j (.int (nI v))) := by
  obtain ⟨M, S, z⟩ := T
  obtain ⟨k1, k2, k3, k4, k5, k6, k7, k8⟩ := id M
  have n1 := M.ne f hf
  refine ⟨⟨k1, k2, fun g hg => ?_, fun g hg => ?_, ?_, fun i hi => ?_, fun g hg h1 i hi => ?_, k8⟩, S.putS (Or.inr ⟨f, hf, rfl⟩), z⟩
  · have e : g ≠ f := fun e => sc_ar f (e ▸ hg) hf
    rw [mm_nea _ _ _ _ _ (Ne.symm n1), upx_n _ _ _ e]; exact k3 g hg
  · rw [mm_nea _ _ _ _ _ (Ne.symm n1)]; exact k4 g hg
  · rw [mm_nea _ _ _ _ _ (Ne.symm n1)]; exact k5
  · rw [mm_nea _ _ _ _ _ (fun e => hn (k8 1 f rfl hf e).symm)]; exact k6 i hi
  · by_cases eg : g = f
    · subst eg
      rw [upx_s]
      by_cases e : i = j
      · subst e; rw [mm_self, upn_s]
      · rw [mm_nek _ _ _ _ _ e, upn_n _ _ e]; exact k7 g hg h1 i hi
    · rw [mm_nea _ _ _ _ _ (fun e => eg (k8 g f hg hf e)), upx_n _ _ _ eg]; exact k7 g hg h1 i hi
theorem MdTo.putH (T : MdTo h0 m A P X hs h) (v : Int64) : MdTo h0 m A P X v (h.put m 14 (.long v)) := by
  obtain ⟨M, S, z⟩ := T
  obtain ⟨k1, k2, k3, k4, k5, k6, k7, k8⟩ := id M
  refine ⟨⟨k1, k2, fun g hg => ?_, fun g hg => ?_, ?_, fun j hj => ?_, fun g hg h1 j hj => ?_, k8⟩, S.putS (Or.inl rfl), z⟩
  · have e : g ≠ 14 := fun e => by subst e; exact absurd hg (by decide)
    rw [mm_nek _ _ _ _ _ e]; exact k3 g hg
  · have e : g ≠ 14 := fun e => by subst e; exact absurd hg (by decide)
    rw [mm_nek _ _ _ _ _ e]; exact k4 g hg
  · rw [mm_self]
  · rw [mm_nea _ _ _ _ _ (M.ne 1 rfl)]; exact k6 j hj
  · rw [mm_nea _ _ _ _ _ (M.ne g hg)]; exact k7 g hg h1 j hj
theorem MdAt.congr (T : MdAt h m A P X hs) (hP : ∀ j, j < 204 → P j = P' j) (hX : ∀ f, scF f = true → X f 0 = X' f 0) (hX2 : ∀ f, arF f = true → f ≠ 1 → ∀ j, j < aln f → X f j = X' f j) : MdAt h m A P' X' hs := by
  obtain ⟨k1, k2, k3, k4, k5, k6, k7, k8⟩ := T
  exact ⟨k1, k2, fun f hf => by rw [k3 f hf, hX f hf], k4, k5, fun j hj => by rw [k6 j hj, hP j hj], fun f hf h1 j hj => by rw [k7 f hf h1 j hj, hX2 f hf h1 j hj], k8⟩
theorem MdTo.congr (T : MdTo h0 m A P X hs h) (hP : ∀ j, j < 204 → P j = P' j) (hX : ∀ f, scF f = true → X f 0 = X' f 0) (hX2 : ∀ f, arF f = true → f ≠ 1 → ∀ j, j < aln f → X f j = X' f j) : MdTo h0 m A P' X' hs h := ⟨T.1.congr hP hX hX2, T.2⟩
/-- one array's contents under another name -/
theorem MdTo.asX (T : MdTo h0 m A P X hs h) (f : Nat) (p : Nat → Nat) {c : Nat} (hf : arF f = true) (hc : aln f = c) (hp : ∀ j, j < c → X f j = p j) : MdTo h0 m A P (stx X f p) hs h := by
  refine T.congr (fun _ _ => rfl) (fun g hg => ?_) (fun g hg h1 j hj => ?_)
  · have e : g ≠ f := fun e => sc_ar f (e ▸ hg) hf
    rw [stx_n _ _ e]
  · by_cases e : g = f
    · subst e; rw [stx_s]; exact hp j (by omega)
    · rw [stx_n _ _ e]
theorem MdTo.reX {f : Nat} {p : Nat → Nat} (T : MdTo h0 m A P (stx X f p) hs h) (q : Nat → Nat) {c : Nat} (hf : arF f = true) (hc : aln f = c) (hp : ∀ j, j < c → p j = q j) : MdTo h0 m A P (stx X f q) hs h := by
  have := T.asX f q hf hc (fun j hj => by rw [stx_s]; exact hp j hj)
  rw [stx_stx] at this
  exact this
theorem MdTo.asP (T : MdTo h0 m A P X hs h) (hp : ∀ j, j < 204 → P j = P' j) : MdTo h0 m A P' X hs h := T.congr hp (fun _ _ => rfl) (fun _ _ _ _ _ => rfl)
theorem MdAt.keep {S : Nat → Prop} (T : MdAt h m A P X hs) (M : Sm S h h') (hm : ¬ S m) (hA : ∀ f, arF f = true → ¬ S (A f)) : MdAt h' m A P X hs := by
  obtain ⟨k1, k2, k3, k4, k5, k6, k7, k8⟩ := T
  obtain ⟨a1, a2, a3⟩ := M.2 m k2
  have a3 := a3 hm
  refine ⟨a1.trans k1, Nat.lt_of_lt_of_le k2 M.1, fun f hf => by rw [a3]; exact k3 f hf, fun f hf => ?_, by rw [a3]; exact k5, fun j hj => ?_, fun f hf h1 j hj => ?_, k8⟩
  · obtain ⟨b1, b2, b3, b4⟩ := k4 f hf
    obtain ⟨c1, c2, c3⟩ := M.2 _ b4
    exact ⟨by rw [a3]; exact b1, c1.trans b2, c2.trans b3, Nat.lt_of_lt_of_le b4 M.1⟩
  · obtain ⟨c1, c2, c3⟩ := M.2 _ (k4 1 rfl).2.2.2
    rw [c3 (hA 1 rfl)]; exact k6 j hj
  · obtain ⟨c1, c2, c3⟩ := M.2 _ (k4 f hf).2.2.2
    rw [c3 (hA f hf)]; exact k7 f hf h1 j hj
end
/-! LOOPS with what is gathered; what the reference computes, over natural numbers -/
def itN {α : Type} : Nat → (Nat → α → α) → α → α
  | 0, _, a => a
  | n + 1, f, a => f n (itN n f a)
theorem itN_0 {α : Type} (f : Nat → α → α) (a : α) : itN 0 f a = a := rfl
theorem itN_s {α : Type} (n : Nat) (f : Nat → α → α) (a : α) : itN (n + 1) f a = f n (itN n f a) := rfl
/-- what holds from step to step -/
theorem itN_ind {α : Type} (J : Nat → α → Prop) {n : Nat} {f : Nat → α → α} {a : α} (h0 : J 0 a) (hs : ∀ i x, i < n → J i x → J (i + 1) (f i x)) : J n (itN n f a) := by
  have hall : ∀ m, m ≤ n → J m (itN m f a) := by
    intro m
    induction m with
    | zero => intro _; exact h0
    | succ m ih => intro hm; exact hs m _ (by omega) (ih (by omega))
  exact hall n (Nat.le_refl n)
section
variable {E : Ev} {mt : Mth} {d k : Nat} {Q : Res → HP → Prop} {h : HP} {ls st : List Value}
theorem lpA {α : Type} (pc n : Nat) (F : Nat → α → α) (a0 : α) (an : α) (han : itN n F a0 = an) (lf : Nat → α → List Value) (J : Nat → α → Prop) (J0 : J 0 a0) (hJ : ∀ i a, i < n → J i a → J (i + 1) (F i a)) (fin : J n an → Z E mt d Q k h pc (lf n an) st) (step : ∀ i a, i < n → J i a → (∀ a', a' = F i a → Z E mt d Q k h pc (lf (i + 1) a') st) → Z E mt d Q k h pc (lf i a) st) : Z E mt d Q k h pc (lf 0 a0) st := by
  have hall : ∀ m i, n - i = m → i ≤ n → ∀ a, J i a → (∀ q, q = itN i F a0 → a = q) → Z E mt d Q k h pc (lf i a) st := by
    intro m
    induction m with
    | zero =>
      intro i e hi a hJa ha
      have e9 : i = n := by omega
      subst e9
      have e8 := (ha _ rfl).trans han
      rw [e8] at hJa ⊢
      exact fin hJa
    | succ m ih =>
      intro i e hi a hJa ha
      have e2 := ha _ rfl
      exact step i a (by omega) hJa (fun a' e' => ih (i + 1) (by omega) (by omega) a' (by rw [e']; exact hJ i a (by omega) hJa) (fun q hq => by rw [hq, e', e2]; rfl))
  exact hall n 0 rfl (Nat.zero_le _) a0 J0 (fun q hq => by rw [hq]; rfl)
theorem lpA0 {α : Type} (pc n : Nat) (F : Nat → α → α) (a0 : α) (an : α) (han : itN n F a0 = an) (lf : Nat → α → List Value) (fin : Z E mt d Q k h pc (lf n an) st) (step : ∀ i a, i < n → (∀ a', a' = F i a → Z E mt d Q k h pc (lf (i + 1) a') st) → Z E mt d Q k h pc (lf i a) st) : Z E mt d Q k h pc (lf 0 a0) st :=
  lpA pc n F a0 an han lf (fun _ _ => True) trivial (fun _ _ _ _ => trivial) (fun _ => fin) (fun i a hi _ ih => step i a hi ih)
theorem lpB {α : Type} (pc n : Nat) (F : Nat → α → α) (a0 : α) (an : α) (han : itN n F a0 = an) (lf : Nat → α → List Value) (I : Nat → α → HP → Prop) (J : Nat → α → Prop) (kf : Nat → Nat) (h0 : I 0 a0 h) (J0 : J 0 a0) (hJ : ∀ i a, i < n → J i a → J (i + 1) (F i a)) (fin : ∀ h', I n an h' → J n an → Z E mt d Q (kf n) h' pc (lf n an) st) (step : ∀ i a h', i < n → J i a → I i a h' → (∀ a' h'', a' = F i a → I (i + 1) a' h'' → Z E mt d Q (kf (i + 1)) h'' pc (lf (i + 1) a') st) → Z E mt d Q (kf i) h' pc (lf i a) st) : Z E mt d Q (kf 0) h pc (lf 0 a0) st := by
  have hall : ∀ m i, n - i = m → i ≤ n → ∀ a h', J i a → I i a h' → a = itN i F a0 → Z E mt d Q (kf i) h' pc (lf i a) st := by
    intro m
    induction m with
    | zero =>
      intro i e hi a h' hJa hI ha
      have e9 : i = n := by omega
      subst e9
      have e8 := ha.trans han
      rw [e8] at hJa hI ⊢
      exact fin h' hI hJa
    | succ m ih =>
      intro i e hi a h' hJa hI ha
      exact step i a h' (by omega) hJa hI (fun a' h'' e' hI' => ih (i + 1) (by omega) (by omega) a' h'' (by rw [e']; exact hJ i a (by omega) hJa) hI' (by rw [e', ha]; rfl))
  exact hall n 0 rfl (Nat.zero_le _) a0 h J0 h0 rfl
end
