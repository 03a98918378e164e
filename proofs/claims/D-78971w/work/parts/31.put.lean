/-! TREEMAP: put -/
def u9 (f : Nat → Nat) (e v : Nat) : Nat → Nat := fun a => if a = e then v else f a
theorem u9_e {f : Nat → Nat} {e v : Nat} : u9 f e v e = v := by simp [u9]
theorem u9_o {f : Nat → Nat} {e v a : Nat} (h : ¬ a = e) : u9 f e v a = f a := by simp [u9, h]
abbrev KO (κ : Nat → Nat) : Nat → Nat → Prop := fun a b => κ a < κ b
theorem TW.one {S : Nat → Prop} {lt : Nat → Nat → Prop} {e : Nat} (hS : ∀ a, ¬ S a) (hi : ¬ lt e e) : TW (fun a => S a ∨ a = e) lt (fun _ => none) (fun _ => none) (fun _ => none) (some e) (fun a c => a = e ∧ c = e) := by
  refine ⟨?_, ?_, ?_, ?_, ?_, ?_, ?_, ?_, ?_, ?_, ?_, ?_, ?_, ?_, ?_⟩ <;> grind
theorem TW.insK {S : Nat → Prop} {κ : Nat → Nat} {L R P : Nat → Option Nat} {rt : Option Nat} {D : Nat → Nat → Prop} (T : TW S (KO κ) L R P rt D) {p e kx : Nat} (hp : S p) (he : ¬ S e) (fr : ∀ a, S a → ¬ κ a = kx) (hs : ∀ a, D a p → a ≠ p → (kx < κ a ↔ κ p < κ a)) :
    (L p = none → kx < κ p → TW (fun a => S a ∨ a = e) (KO (u9 κ e kx)) (iL L p e) (iN R e) (iP P p e) rt (iD D p e)) ∧
    (R p = none → κ p < kx → TW (fun a => S a ∨ a = e) (KO (u9 κ e kx)) (iN L e) (iL R p e) (iP P p e) rt (iD D p e)) := by
  have hne : ∀ a, S a → ¬ a = e := fun a ha e1 => he (e1 ▸ ha)
  have T2 : TW S (KO (u9 κ e kx)) L R P rt D := T.congr (fun a b ha hb => by simp only [KO]; rw [u9_o (hne a ha), u9_o (hne b hb)])
  have g1 := T.1
  constructor
  · intro hl hk
    refine T2.ins hp he hl ?_ (Nat.lt_irrefl _) ⟨?_, ?_, ?_⟩ ?_ ?_ ?_
    · simp only [KO]; rw [u9_e, u9_o (hne p hp)]; exact hk
    · intro a b ha hb; simp only [KO]; omega
    · intro a b ha hb; simp only [KO]; omega
    · intro a b ha hb; simp only [KO]; omega
    · intro a ha; simp only [KO]; omega
    · intro a ha; simp only [KO]; rw [u9_e, u9_o (hne a ha)]; have := fr a ha; omega
    · intro a ha hn; simp only [KO]; rw [u9_e, u9_o (hne a (g1 _ _ ha).1), u9_o (hne p hp)]; exact hs a ha hn
  · intro hl hk
    refine (T2.mirror.ins (lt := fun a b => KO (u9 κ e kx) b a) hp he hl ?_ (Nat.lt_irrefl _) ⟨?_, ?_, ?_⟩ ?_ ?_ ?_).mirror
    · simp only [KO]; rw [u9_e, u9_o (hne p hp)]; exact hk
    · intro a b ha hb; simp only [KO]; omega
    · intro a b ha hb; simp only [KO]; omega
    · intro a b ha hb; simp only [KO]; omega
    · intro a ha; simp only [KO]; omega
    · intro a ha; simp only [KO]; rw [u9_e, u9_o (hne a ha)]; have := fr a ha; omega
    · intro a ha hn; simp only [KO]; rw [u9_e, u9_o (hne a (g1 _ _ ha).1), u9_o (hne p hp)]
      have := hs a ha hn
      have := fr a (g1 _ _ ha).1
      have := T.2.2.2.2.2.2.2.2.2.2.2.2.1 a p (g1 _ _ ha).1 hp hn
      simp only [KO] at this
      omega
/-- what a new entry holds -/
def NewE (h : HP) (e x v : Nat) (p : Option Nat) : Prop := h.kd e = 8 ∧ h.mm e 0 = .ref x ∧ h.mm e 1 = .ref v ∧ h.mm e 2 = .null ∧ h.mm e 3 = .null ∧ h.mm e 4 = va_rf p ∧ h.mm e 5 = .int (nI 1)
set_option maxHeartbeats 4000000 in
theorem c_entNew {E : Ev} {h : HP} {e x v : Nat} {p : Option Nat} (d k : Nat) (hd1 : 1 ≤ d) (he : h.kd e = 8) (h2 : h.mm e 2 = .null) (h3 : h.mm e 3 = .null) : Call E yJ33_init d k [.ref e, .ref x, .ref v, va_rf p] h (rV (fun h' => NewE h' e x v p ∧ Sm (fun a => a = e) h h' ∧ h'.sz = h.sz)) := by
  rcases p with _ | p
  · refine Call.of [.ref e, .ref x, .ref v, .null] q1377 (by decide) pn_J33 (Nat.le_of_ble_eq_true rfl) rfl ?_
    first | refine z_aload0 0 dJ33_init_0 ?_ | refine z_aload0N 0 dJ33_init_0 ?_ | refine z_aload0o 0 dJ33_init_0 ?_
    refine z_objInit 1 q1378 q147 q148 dJ33_init_1 (by omega) (Nat.le_of_ble_eq_true rfl) ?_
    first | refine z_aload0 4 dJ33_init_4 ?_ | refine z_aload0N 4 dJ33_init_4 ?_ | refine z_aload0o 4 dJ33_init_4 ?_
    refine z_iconst 5 (nI 1) dJ33_init_5 kI1 ?_
    refine z_put 6 pJ33_9 (fun h => by cases h) dJ33_init_6 he (nb1) (fb1) ?_
    first | refine z_aload0 9 dJ33_init_9 ?_ | refine z_aload0N 9 dJ33_init_9 ?_ | refine z_aload0o 9 dJ33_init_9 ?_
    first | refine z_aload1 10 dJ33_init_10 ?_ | refine z_aload1N 10 dJ33_init_10 ?_ | refine z_aload1o 10 dJ33_init_10 ?_
    refine z_put 11 pJ33_15 (fun h => by cases h) dJ33_init_11 he (rfl) (rfl) ?_
    first | refine z_aload0 14 dJ33_init_14 ?_ | refine z_aload0N 14 dJ33_init_14 ?_ | refine z_aload0o 14 dJ33_init_14 ?_
    first | refine z_aload2 15 dJ33_init_15 ?_ | refine z_aload2N 15 dJ33_init_15 ?_ | refine z_aload2o 15 dJ33_init_15 ?_
    refine z_put 16 pJ33_19 (fun h => by cases h) dJ33_init_16 he (rfl) (rfl) ?_
    first | refine z_aload0 19 dJ33_init_19 ?_ | refine z_aload0N 19 dJ33_init_19 ?_ | refine z_aload0o 19 dJ33_init_19 ?_
    first | refine z_aload3 20 dJ33_init_20 ?_ | refine z_aload3N 20 dJ33_init_20 ?_ | refine z_aload3o 20 dJ33_init_20 ?_
    refine z_put 21 pJ33_22 (fun h => by cases h) dJ33_init_21 he (rfl) (rfl) ?_
    refine z_return 24 rfl dJ33_init_24 ?_
    exact ⟨rfl, ⟨he, by simp [mm_put], by simp [mm_put], by simp [mm_put, h2], by simp [mm_put, h3], by simp [mm_put, va_rf], by simp [mm_put]⟩, ((((Sm.refl (fun a => a = e) h).putS rfl).putS rfl).putS rfl).putS rfl, rfl⟩
  · refine Call.of [.ref e, .ref x, .ref v, .ref p] q1377 (by decide) pn_J33 (Nat.le_of_ble_eq_true rfl) rfl ?_
    first | refine z_aload0 0 dJ33_init_0 ?_ | refine z_aload0N 0 dJ33_init_0 ?_ | refine z_aload0o 0 dJ33_init_0 ?_
    refine z_objInit 1 q1378 q147 q148 dJ33_init_1 (by omega) (Nat.le_of_ble_eq_true rfl) ?_
    first | refine z_aload0 4 dJ33_init_4 ?_ | refine z_aload0N 4 dJ33_init_4 ?_ | refine z_aload0o 4 dJ33_init_4 ?_
    refine z_iconst 5 (nI 1) dJ33_init_5 kI1 ?_
    refine z_put 6 pJ33_9 (fun h => by cases h) dJ33_init_6 he (nb1) (fb1) ?_
    first | refine z_aload0 9 dJ33_init_9 ?_ | refine z_aload0N 9 dJ33_init_9 ?_ | refine z_aload0o 9 dJ33_init_9 ?_
    first | refine z_aload1 10 dJ33_init_10 ?_ | refine z_aload1N 10 dJ33_init_10 ?_ | refine z_aload1o 10 dJ33_init_10 ?_
    refine z_put 11 pJ33_15 (fun h => by cases h) dJ33_init_11 he (rfl) (rfl) ?_
    first | refine z_aload0 14 dJ33_init_14 ?_ | refine z_aload0N 14 dJ33_init_14 ?_ | refine z_aload0o 14 dJ33_init_14 ?_
    first | refine z_aload2 15 dJ33_init_15 ?_ | refine z_aload2N 15 dJ33_init_15 ?_ | refine z_aload2o 15 dJ33_init_15 ?_
    refine z_put 16 pJ33_19 (fun h => by cases h) dJ33_init_16 he (rfl) (rfl) ?_
    first | refine z_aload0 19 dJ33_init_19 ?_ | refine z_aload0N 19 dJ33_init_19 ?_ | refine z_aload0o 19 dJ33_init_19 ?_
    first | refine z_aload3 20 dJ33_init_20 ?_ | refine z_aload3N 20 dJ33_init_20 ?_ | refine z_aload3o 20 dJ33_init_20 ?_
    refine z_put 21 pJ33_22 (fun h => by cases h) dJ33_init_21 he (rfl) (rfl) ?_
    refine z_return 24 rfl dJ33_init_24 ?_
    exact ⟨rfl, ⟨he, by simp [mm_put], by simp [mm_put], by simp [mm_put, h2], by simp [mm_put, h3], by simp [mm_put, va_rf], by simp [mm_put]⟩, ((((Sm.refl (fun a => a = e) h).putS rfl).putS rfl).putS rfl).putS rfl, rfl⟩

def PutQ (h : HP) (t : Nat) (S : Nat → Prop) (κ ke va : Nat → Nat) (n mc : Int32) (ks : Option Nat) (x v kx : Nat) (h' : HP) : Prop :=
  (∃ (L R P : Nat → Option Nat) (rt : Option Nat) (D : Nat → Nat → Prop) (cl : Nat → Int32), TW (fun a => S a ∨ a = h.sz) (KO (u9 κ h.sz kx)) L R P rt D ∧ EnS h' (fun a => S a ∨ a = h.sz) L R P (u9 ke h.sz x) (u9 va h.sz v) cl ∧ MapO h' t rt (n + nI 1) (mc + nI 1) ks) ∧ Sm (fun a => S a ∨ a = t) h h' ∧ h'.sz = h.sz + 1
theorem MapO.size {h : HP} {t : Nat} {rt ks : Option Nat} {n mc n' : Int32} (M : MapO h t rt n mc ks) : MapO (h.put t 4 (.int n')) t rt n' mc ks := by
  obtain ⟨m1, m2, m3, m4, m5, m7⟩ := M
  exact ⟨m1, by simp [mm_put, m2], by simp [mm_put, m3], by simp [mm_put], by simp [mm_put, m5], by simp [mm_put, m7]⟩
theorem MapO.modc {h : HP} {t : Nat} {rt ks : Option Nat} {n mc n' : Int32} (M : MapO h t rt n mc ks) : MapO (h.put t 5 (.int n')) t rt n n' ks := by
  obtain ⟨m1, m2, m3, m4, m5, m7⟩ := M
  exact ⟨m1, by simp [mm_put, m2], by simp [mm_put, m3], by simp [mm_put, m4], by simp [mm_put], by simp [mm_put, m7]⟩
theorem MapO.root {h : HP} {t : Nat} {rt ks : Option Nat} {n mc : Int32} (M : MapO h t rt n mc ks) (rt' : Option Nat) : MapO (h.put t 3 (va_rf rt')) t rt' n mc ks := by
  obtain ⟨m1, m2, m3, m4, m5, m7⟩ := M
  exact ⟨m1, by simp [mm_put, m2], by simp [mm_put], by simp [mm_put, m4], by simp [mm_put, m5], by simp [mm_put, m7]⟩
theorem EnS.off {h : HP} {S : Nat → Prop} {L R P : Nat → Option Nat} {ke va : Nat → Nat} {cl : Nat → Int32} (X : EnS h S L R P ke va cl) {t j : Nat} {v : Value} (hn : ¬ S t) : EnS (h.put t j v) S L R P ke va cl := by
  intro a ha
  have e : ¬ a = t := fun e => hn (e ▸ ha)
  obtain ⟨x1, x2, x3, x4, x5, x6, x7, x8⟩ := X a ha
  exact ⟨x1, by rw [mm_nea _ _ _ _ _ e]; exact x2, by rw [mm_nea _ _ _ _ _ e]; exact x3, by rw [mm_nea _ _ _ _ _ e]; exact x4, by rw [mm_nea _ _ _ _ _ e]; exact x5, by rw [mm_nea _ _ _ _ _ e]; exact x6, by rw [mm_nea _ _ _ _ _ e]; exact x7, x8⟩
theorem EnS.keep {h h' : HP} {S U : Nat → Prop} {L R P : Nat → Option Nat} {ke va : Nat → Nat} {cl : Nat → Int32} (X : EnS h S L R P ke va cl) (A : Sm U h h') (hz : ∀ a, S a → a < h.sz ∧ ¬ U a) : EnS h' S L R P ke va cl := by
  intro a ha
  obtain ⟨b1, b2, b3⟩ := A.2 a (hz a ha).1
  have b4 := b3 (hz a ha).2
  rw [b1, b4]
  exact X a ha
theorem MapO.keep {h h' : HP} {t : Nat} {U : Nat → Prop} {rt ks : Option Nat} {n mc : Int32} (M : MapO h t rt n mc ks) (A : Sm U h h') (hz : t < h.sz ∧ ¬ U t) : MapO h' t rt n mc ks := by
  obtain ⟨b1, b2, b3⟩ := A.2 t hz.1
  unfold MapO
  rw [b1, b3 hz.2]
  exact M
theorem IV.nS {h0 h : HP} {t : Nat} {S : Nat → Prop} {lt : Nat → Nat → Prop} {ke va : Nat → Nat} {n mc : Int32} {ks : Option Nat} {L R P : Nat → Option Nat} {rt : Option Nat} {D : Nat → Nat → Prop} {cl : Nat → Int32} (I : IV h0 t S lt ke va n mc ks h L R P rt D cl) : ¬ S t := fun e => I.nt e rfl
set_option maxHeartbeats 4000000 in
theorem c_addL {E : Ev} {h : HP} {S : Nat → Prop} {κ : Nat → Nat} {L R P : Nat → Option Nat} {rt : Option Nat} {D : Nat → Nat → Prop} {ke va : Nat → Nat} {cl : Nat → Int32} {n mc : Int32} {ks : Option Nat} {t p x v kx : Nat} {xs : List Nat} (d k : Nat) (hd1 : 3 ≤ d) (hk2 : 2 ≤ k) (hxs9 : ∀ a, S a → a ∈ xs) (T : TW S (KO κ) L R P rt D) (X : EnS h S L R P ke va cl) (M : MapO h t rt n mc ks) (ht : t < h.sz) (hz : ∀ a, S a → a < h.sz) (hp : S p) (fr : ∀ a, S a → ¬ κ a = kx) (hs : ∀ a, D a p → a ≠ p → (kx < κ a ↔ κ p < κ a)) (hl : L p = none) (hlt : kx < κ p) : Call E yJ8_addEntry d k [.ref t, .ref x, .ref v, .ref p, .int (nI 1)] h (rV (PutQ h t S κ ke va n mc ks x v kx)) := by
  refine Call.of [.ref t, .ref x, .ref v, .ref p, .int (nI 1), dum] q1406 (by decide) pn_J8 (Nat.le_of_ble_eq_true rfl) rfl ?_
  refine z_new (k' := k - 2) 0 nJ8_59 dJ8_addEntry_0 (by omega) (fun h1 e1 => ?_)
  refine z_dup 3 dJ8_addEntry_3 (by first | rfl | exact va_rf_cat _) ?_
  first | refine z_aload1 4 dJ8_addEntry_4 ?_ | refine z_aload1N 4 dJ8_addEntry_4 ?_ | refine z_aload1o 4 dJ8_addEntry_4 ?_
  first | refine z_aload2 5 dJ8_addEntry_5 ?_ | refine z_aload2N 5 dJ8_addEntry_5 ?_ | refine z_aload2o 5 dJ8_addEntry_5 ?_
  first | refine z_aload3 6 dJ8_addEntry_6 ?_ | refine z_aload3N 6 dJ8_addEntry_6 ?_ | refine z_aload3o 6 dJ8_addEntry_6 ?_
  refine z_I3 (k' := k - 2) 7 iJ8_167 dJ8_addEntry_7 (c_entNew (p := some p) (d - 1) 0 (by omega) (by rw [e1]; simp [kd_mk]) (by rw [e1]; simp [mm_mk]; rfl) (by rw [e1]; simp [mm_mk]; rfl)) (by omega) (by omega) (Nat.le_of_ble_eq_true rfl) (aft_V fun h2 hq => ?_)
  have he : ¬ S h.sz := fun e => Nat.lt_irrefl _ (hz _ e)
  have hpt : ¬ p = t := fun e => by have h9 := (X p hp).1; rw [e, M.1] at h9; cases h9
  obtain ⟨N2, A2, z2⟩ := hq
  have A1 : Sm (fun _ => False) h h1 := by rw [e1]; exact Sm.mk'
  have A12 : Sm (fun _ => False) h h2 := A1.tr A2 (fun q hq e => by omega)
  have X2 := X.keep A12 (fun a ha => ⟨hz a ha, id⟩)
  have M2 := M.keep A12 ⟨ht, id⟩
  have z1 : h1.sz = h.sz + 1 := by rw [e1]; rfl
  have hpk := (X2 p hp).1
  have hpe : ¬ p = h.sz := fun e => he (e ▸ hp)
  first | refine z_astore5 10 dJ8_addEntry_10 rfl ?_ | refine z_astore5N 10 dJ8_addEntry_10 rfl ?_ | refine z_astore5o 10 dJ8_addEntry_10 rfl ?_
  refine z_iload4 12 dJ8_addEntry_12 ?_
  refine z_ifeq 14 26 dJ8_addEntry_14 (by decide) (fun c14 => by first | exact absurd c14 (nI01) | exact absurd (nI01) c14) (fun c14 => ?_)
  first | refine z_aload3 17 dJ8_addEntry_17 ?_ | refine z_aload3N 17 dJ8_addEntry_17 ?_ | refine z_aload3o 17 dJ8_addEntry_17 ?_
  first | refine z_aload5 18 dJ8_addEntry_18 ?_ | refine z_aload5N 18 dJ8_addEntry_18 ?_ | refine z_aload5o 18 dJ8_addEntry_18 ?_
  refine z_put 20 pJ8_111 (fun h => by cases h) dJ8_addEntry_20 hpk (rfl) (rfl) ?_
  have I3 : IV (h2.put p 2 (.ref h.sz)) t (fun a => S a ∨ a = h.sz) (KO (u9 κ h.sz kx)) (u9 ke h.sz x) (u9 va h.sz v) n mc ks (h2.put p 2 (.ref h.sz)) (iL L p h.sz) (iN R h.sz) (iP P p h.sz) rt (iD D p h.sz) (fun a => if a = h.sz then nI 1 else cl a) := by
    refine ⟨(T.insK hp he fr hs).1 hl hlt, fun a ha => ?_, ?_, Sm.refl _ _, rfl⟩
    · by_cases e : a = h.sz
      · subst e
        obtain ⟨g1, g2, g3, g4, g5, g6, g7⟩ := N2
        have hne : ¬ h.sz = p := fun e => hpe e.symm
        refine ⟨g1, ?_, ?_, ?_, ?_, ?_, ?_, ?_⟩
        · rw [mm_nea _ _ _ _ _ hne, u9_e]; exact g2
        · rw [mm_nea _ _ _ _ _ hne, u9_e]; exact g3
        · rw [mm_nea _ _ _ _ _ hne]; simp [iL, iN, hne, g4, va_rf]
        · rw [mm_nea _ _ _ _ _ hne]; simp [iL, iN, hne, g5, va_rf]
        · rw [mm_nea _ _ _ _ _ hne]; simp [iP, g6]
        · rw [mm_nea _ _ _ _ _ hne]; simp [g7]
        · simp [bt01_1]
      · obtain ⟨x1, x2, x3, x4, x5, x6, x7, x8⟩ := X2 a (ha.elim id (fun q => absurd q e))
        refine ⟨x1, ?_, ?_, ?_, ?_, ?_, ?_, ?_⟩
        · rw [u9_o e]; simp [mm_put, x2]
        · rw [u9_o e]; simp [mm_put, x3]
        · by_cases e2 : a = p <;> simp [mm_put, iL, iN, e, e2, x4, hpe, va_rf_some] <;> simp [← e2, x4]
        · by_cases e2 : a = p <;> simp [mm_put, iL, iN, e, e2, x5, hpe, va_rf_some] <;> simp [← e2, x5]
        · simp [mm_put, iP, e, x6]
        · simp [mm_put, e, x7]
        · simp [e, x8]
    · obtain ⟨m1, m2, m3, m4, m5, m7⟩ := M2
      have htp : ¬ t = p := fun e => hpt e.symm
      exact ⟨m1, by rw [mm_nea _ _ _ _ _ htp]; exact m2, by rw [mm_nea _ _ _ _ _ htp]; exact m3, by rw [mm_nea _ _ _ _ _ htp]; exact m4, by rw [mm_nea _ _ _ _ _ htp]; exact m5, by rw [mm_nea _ _ _ _ _ htp]; exact m7⟩
  have A3 : Sm (fun a => S a ∨ a = t) h (h2.put p 2 (.ref h.sz)) := (A12.mono (fun _ _ f => f.elim)).putS (Or.inl hp)
  have hxs2 : ∀ a, S a ∨ a = h.sz → a ∈ h.sz :: xs := fun a ha => ha.elim (fun q => List.mem_cons_of_mem _ (hxs9 a q)) (fun q => q ▸ List.mem_cons_self)
  refine z_goto 23 32 dJ8_addEntry_23 (by decide) ?_
  first | refine z_aload0 32 dJ8_addEntry_32 ?_ | refine z_aload0N 32 dJ8_addEntry_32 ?_ | refine z_aload0o 32 dJ8_addEntry_32 ?_
  first | refine z_aload5 33 dJ8_addEntry_33 ?_ | refine z_aload5N 33 dJ8_addEntry_33 ?_ | refine z_aload5o 33 dJ8_addEntry_33 ?_
  refine z_V1 (k' := k - 2) 35 vJ8_170 dJ8_addEntry_35 I3.2.2.1.1 (c_fixIns (d - 1) 0 (by omega) hxs2 I3 (Or.inr rfl)) (by omega) (by omega) (Nat.le_of_ble_eq_true rfl) (aft_V fun h4 hq => ?_)
  obtain ⟨L4, R4, P4, rt4, D4, cl4, I4⟩ := hq
  have ns4 := I4.nS
  first | refine z_aload0 38 dJ8_addEntry_38 ?_ | refine z_aload0N 38 dJ8_addEntry_38 ?_ | refine z_aload0o 38 dJ8_addEntry_38 ?_
  refine z_dup 39 dJ8_addEntry_39 (by first | rfl | exact va_rf_cat _) ?_
  refine z_get 40 gJ8_7 dJ8_addEntry_40 I4.2.2.1.1 I4.2.2.1.2.2.2.1 ?_
  refine z_iconst 43 (nI 1) dJ8_addEntry_43 kI1 ?_
  refine z_iadd 44 dJ8_addEntry_44 ?_
  refine z_put 45 pJ8_7 (fun h => by cases h) dJ8_addEntry_45 I4.2.2.1.1 (rfl) (rfl) ?_
  have M5 := I4.2.2.1.size (n' := n + nI 1)
  first | refine z_aload0 48 dJ8_addEntry_48 ?_ | refine z_aload0N 48 dJ8_addEntry_48 ?_ | refine z_aload0o 48 dJ8_addEntry_48 ?_
  refine z_dup 49 dJ8_addEntry_49 (by first | rfl | exact va_rf_cat _) ?_
  refine z_get 50 gJ8_13 dJ8_addEntry_50 M5.1 M5.2.2.2.2.1 ?_
  refine z_iconst 53 (nI 1) dJ8_addEntry_53 kI1 ?_
  refine z_iadd 54 dJ8_addEntry_54 ?_
  refine z_put 55 pJ8_13 (fun h => by cases h) dJ8_addEntry_55 M5.1 (rfl) (rfl) ?_
  refine z_return 58 rfl dJ8_addEntry_58 ?_
  refine ⟨rfl, ⟨_, _, _, _, _, _, I4.1, (I4.2.1.off ns4).off ns4, M5.modc⟩, ?_, ?_⟩
  · refine Sm.putS (Sm.putS (A3.tr I4.2.2.2.1 (fun q hq e => ?_)) (Or.inr rfl)) (Or.inr rfl)
    rcases e with (e | e) | e
    · exact Or.inl e
    · omega
    · exact Or.inr e
  · have z4 := I4.2.2.2.2
    simp only [sz_put] at z4 ⊢
    omega

set_option maxHeartbeats 4000000 in
theorem c_addR {E : Ev} {h : HP} {S : Nat → Prop} {κ : Nat → Nat} {L R P : Nat → Option Nat} {rt : Option Nat} {D : Nat → Nat → Prop} {ke va : Nat → Nat} {cl : Nat → Int32} {n mc : Int32} {ks : Option Nat} {t p x v kx : Nat} {xs : List Nat} (d k : Nat) (hd1 : 3 ≤ d) (hk2 : 2 ≤ k) (hxs9 : ∀ a, S a → a ∈ xs) (T : TW S (KO κ) L R P rt D) (X : EnS h S L R P ke va cl) (M : MapO h t rt n mc ks) (ht : t < h.sz) (hz : ∀ a, S a → a < h.sz) (hp : S p) (fr : ∀ a, S a → ¬ κ a = kx) (hs : ∀ a, D a p → a ≠ p → (kx < κ a ↔ κ p < κ a)) (hl : R p = none) (hlt : κ p < kx) : Call E yJ8_addEntry d k [.ref t, .ref x, .ref v, .ref p, .int (nI 0)] h (rV (PutQ h t S κ ke va n mc ks x v kx)) := by
  refine Call.of [.ref t, .ref x, .ref v, .ref p, .int (nI 0), dum] q1406 (by decide) pn_J8 (Nat.le_of_ble_eq_true rfl) rfl ?_
  refine z_new (k' := k - 2) 0 nJ8_59 dJ8_addEntry_0 (by omega) (fun h1 e1 => ?_)
  refine z_dup 3 dJ8_addEntry_3 (by first | rfl | exact va_rf_cat _) ?_
  first | refine z_aload1 4 dJ8_addEntry_4 ?_ | refine z_aload1N 4 dJ8_addEntry_4 ?_ | refine z_aload1o 4 dJ8_addEntry_4 ?_
  first | refine z_aload2 5 dJ8_addEntry_5 ?_ | refine z_aload2N 5 dJ8_addEntry_5 ?_ | refine z_aload2o 5 dJ8_addEntry_5 ?_
  first | refine z_aload3 6 dJ8_addEntry_6 ?_ | refine z_aload3N 6 dJ8_addEntry_6 ?_ | refine z_aload3o 6 dJ8_addEntry_6 ?_
  refine z_I3 (k' := k - 2) 7 iJ8_167 dJ8_addEntry_7 (c_entNew (p := some p) (d - 1) 0 (by omega) (by rw [e1]; simp [kd_mk]) (by rw [e1]; simp [mm_mk]; rfl) (by rw [e1]; simp [mm_mk]; rfl)) (by omega) (by omega) (Nat.le_of_ble_eq_true rfl) (aft_V fun h2 hq => ?_)
  have he : ¬ S h.sz := fun e => Nat.lt_irrefl _ (hz _ e)
  have hpt : ¬ p = t := fun e => by have h9 := (X p hp).1; rw [e, M.1] at h9; cases h9
  obtain ⟨N2, A2, z2⟩ := hq
  have A1 : Sm (fun _ => False) h h1 := by rw [e1]; exact Sm.mk'
  have A12 : Sm (fun _ => False) h h2 := A1.tr A2 (fun q hq e => by omega)
  have X2 := X.keep A12 (fun a ha => ⟨hz a ha, id⟩)
  have M2 := M.keep A12 ⟨ht, id⟩
  have z1 : h1.sz = h.sz + 1 := by rw [e1]; rfl
  have hpk := (X2 p hp).1
  have hpe : ¬ p = h.sz := fun e => he (e ▸ hp)
  first | refine z_astore5 10 dJ8_addEntry_10 rfl ?_ | refine z_astore5N 10 dJ8_addEntry_10 rfl ?_ | refine z_astore5o 10 dJ8_addEntry_10 rfl ?_
  refine z_iload4 12 dJ8_addEntry_12 ?_
  refine z_ifeq 14 26 dJ8_addEntry_14 (by decide) (fun c14 => ?_) (fun c14 => by first | exact absurd c14 (rfl) | exact absurd (rfl) c14)
  first | refine z_aload3 26 dJ8_addEntry_26 ?_ | refine z_aload3N 26 dJ8_addEntry_26 ?_ | refine z_aload3o 26 dJ8_addEntry_26 ?_
  first | refine z_aload5 27 dJ8_addEntry_27 ?_ | refine z_aload5N 27 dJ8_addEntry_27 ?_ | refine z_aload5o 27 dJ8_addEntry_27 ?_
  refine z_put 29 pJ8_114 (fun h => by cases h) dJ8_addEntry_29 hpk (rfl) (rfl) ?_
  have I3 : IV (h2.put p 3 (.ref h.sz)) t (fun a => S a ∨ a = h.sz) (KO (u9 κ h.sz kx)) (u9 ke h.sz x) (u9 va h.sz v) n mc ks (h2.put p 3 (.ref h.sz)) (iN L h.sz) (iL R p h.sz) (iP P p h.sz) rt (iD D p h.sz) (fun a => if a = h.sz then nI 1 else cl a) := by
    refine ⟨(T.insK hp he fr hs).2 hl hlt, fun a ha => ?_, ?_, Sm.refl _ _, rfl⟩
    · by_cases e : a = h.sz
      · subst e
        obtain ⟨g1, g2, g3, g4, g5, g6, g7⟩ := N2
        have hne : ¬ h.sz = p := fun e => hpe e.symm
        refine ⟨g1, ?_, ?_, ?_, ?_, ?_, ?_, ?_⟩
        · rw [mm_nea _ _ _ _ _ hne, u9_e]; exact g2
        · rw [mm_nea _ _ _ _ _ hne, u9_e]; exact g3
        · rw [mm_nea _ _ _ _ _ hne]; simp [iL, iN, hne, g4, va_rf]
        · rw [mm_nea _ _ _ _ _ hne]; simp [iL, iN, hne, g5, va_rf]
        · rw [mm_nea _ _ _ _ _ hne]; simp [iP, g6]
        · rw [mm_nea _ _ _ _ _ hne]; simp [g7]
        · simp [bt01_1]
      · obtain ⟨x1, x2, x3, x4, x5, x6, x7, x8⟩ := X2 a (ha.elim id (fun q => absurd q e))
        refine ⟨x1, ?_, ?_, ?_, ?_, ?_, ?_, ?_⟩
        · rw [u9_o e]; simp [mm_put, x2]
        · rw [u9_o e]; simp [mm_put, x3]
        · by_cases e2 : a = p <;> simp [mm_put, iL, iN, e, e2, x4, hpe, va_rf_some] <;> simp [← e2, x4]
        · by_cases e2 : a = p <;> simp [mm_put, iL, iN, e, e2, x5, hpe, va_rf_some] <;> simp [← e2, x5]
        · simp [mm_put, iP, e, x6]
        · simp [mm_put, e, x7]
        · simp [e, x8]
    · obtain ⟨m1, m2, m3, m4, m5, m7⟩ := M2
      have htp : ¬ t = p := fun e => hpt e.symm
      exact ⟨m1, by rw [mm_nea _ _ _ _ _ htp]; exact m2, by rw [mm_nea _ _ _ _ _ htp]; exact m3, by rw [mm_nea _ _ _ _ _ htp]; exact m4, by rw [mm_nea _ _ _ _ _ htp]; exact m5, by rw [mm_nea _ _ _ _ _ htp]; exact m7⟩
  have A3 : Sm (fun a => S a ∨ a = t) h (h2.put p 3 (.ref h.sz)) := (A12.mono (fun _ _ f => f.elim)).putS (Or.inl hp)
  have hxs2 : ∀ a, S a ∨ a = h.sz → a ∈ h.sz :: xs := fun a ha => ha.elim (fun q => List.mem_cons_of_mem _ (hxs9 a q)) (fun q => q ▸ List.mem_cons_self)
  first | refine z_aload0 32 dJ8_addEntry_32 ?_ | refine z_aload0N 32 dJ8_addEntry_32 ?_ | refine z_aload0o 32 dJ8_addEntry_32 ?_
  first | refine z_aload5 33 dJ8_addEntry_33 ?_ | refine z_aload5N 33 dJ8_addEntry_33 ?_ | refine z_aload5o 33 dJ8_addEntry_33 ?_
  refine z_V1 (k' := k - 2) 35 vJ8_170 dJ8_addEntry_35 I3.2.2.1.1 (c_fixIns (d - 1) 0 (by omega) hxs2 I3 (Or.inr rfl)) (by omega) (by omega) (Nat.le_of_ble_eq_true rfl) (aft_V fun h4 hq => ?_)
  obtain ⟨L4, R4, P4, rt4, D4, cl4, I4⟩ := hq
  have ns4 := I4.nS
  first | refine z_aload0 38 dJ8_addEntry_38 ?_ | refine z_aload0N 38 dJ8_addEntry_38 ?_ | refine z_aload0o 38 dJ8_addEntry_38 ?_
  refine z_dup 39 dJ8_addEntry_39 (by first | rfl | exact va_rf_cat _) ?_
  refine z_get 40 gJ8_7 dJ8_addEntry_40 I4.2.2.1.1 I4.2.2.1.2.2.2.1 ?_
  refine z_iconst 43 (nI 1) dJ8_addEntry_43 kI1 ?_
  refine z_iadd 44 dJ8_addEntry_44 ?_
  refine z_put 45 pJ8_7 (fun h => by cases h) dJ8_addEntry_45 I4.2.2.1.1 (rfl) (rfl) ?_
  have M5 := I4.2.2.1.size (n' := n + nI 1)
  first | refine z_aload0 48 dJ8_addEntry_48 ?_ | refine z_aload0N 48 dJ8_addEntry_48 ?_ | refine z_aload0o 48 dJ8_addEntry_48 ?_
  refine z_dup 49 dJ8_addEntry_49 (by first | rfl | exact va_rf_cat _) ?_
  refine z_get 50 gJ8_13 dJ8_addEntry_50 M5.1 M5.2.2.2.2.1 ?_
  refine z_iconst 53 (nI 1) dJ8_addEntry_53 kI1 ?_
  refine z_iadd 54 dJ8_addEntry_54 ?_
  refine z_put 55 pJ8_13 (fun h => by cases h) dJ8_addEntry_55 M5.1 (rfl) (rfl) ?_
  refine z_return 58 rfl dJ8_addEntry_58 ?_
  refine ⟨rfl, ⟨_, _, _, _, _, _, I4.1, (I4.2.1.off ns4).off ns4, M5.modc⟩, ?_, ?_⟩
  · refine Sm.putS (Sm.putS (A3.tr I4.2.2.2.1 (fun q hq e => ?_)) (Or.inr rfl)) (Or.inr rfl)
    rcases e with (e | e) | e
    · exact Or.inl e
    · omega
    · exact Or.inr e
  · have z4 := I4.2.2.2.2
    simp only [sz_put] at z4 ⊢
    omega

set_option maxHeartbeats 4000000 in
theorem c_addEmpty {E : Ev} {h : HP} {S : Nat → Prop} {κ ke va : Nat → Nat} {n mc : Int32} {ks : Option Nat} {t x v kx ci : Nat} {y : MethodName} (d k : Nat) (hd1 : 4 ≤ d) (hk2 : 2 ≤ k) (F : SiteF RJ8 107 cmpX y ci 1) (hx : h.kd x = ci) (CX : CmpOK E h y x x kx kx) (hS : ∀ a, ¬ S a) (hn : n = nI 0) (M : MapO h t none n mc ks) (ht : t < h.sz) : Call E yJ8_addEntryToEmptyMap d k [.ref t, .ref x, .ref v] h (rV (PutQ h t S κ ke va n mc ks x v kx)) := by
  refine Call.of [.ref t, .ref x, .ref v] q1368 (by decide) pn_J8 (Nat.le_of_ble_eq_true rfl) rfl ?_
  first | refine z_aload0 0 dJ8_addEntryToEmptyMap_0 ?_ | refine z_aload0N 0 dJ8_addEntryToEmptyMap_0 ?_ | refine z_aload0o 0 dJ8_addEntryToEmptyMap_0 ?_
  first | refine z_aload1 1 dJ8_addEntryToEmptyMap_1 ?_ | refine z_aload1N 1 dJ8_addEntryToEmptyMap_1 ?_ | refine z_aload1o 1 dJ8_addEntryToEmptyMap_1 ?_
  first | refine z_aload1 2 dJ8_addEntryToEmptyMap_2 ?_ | refine z_aload1N 2 dJ8_addEntryToEmptyMap_2 ?_ | refine z_aload1o 2 dJ8_addEntryToEmptyMap_2 ?_
  refine z_V2 (k' := k) 3 vJ8_123 dJ8_addEntryToEmptyMap_3 M.1 (c_compare (d - 1) 0 (by omega) F M.1 M.2.1 hx CX) (by omega) (by omega) (Nat.le_of_ble_eq_true rfl) (aft_I fun v9 h' hq => ?_)
  obtain ⟨rfl, -⟩ := hq
  refine z_pop 6 dJ8_addEntryToEmptyMap_6 (by first | rfl | exact va_rf_cat _) ?_
  first | refine z_aload0 7 dJ8_addEntryToEmptyMap_7 ?_ | refine z_aload0N 7 dJ8_addEntryToEmptyMap_7 ?_ | refine z_aload0o 7 dJ8_addEntryToEmptyMap_7 ?_
  refine z_new (k' := k - 2) 8 nJ8_59 dJ8_addEntryToEmptyMap_8 (by omega) (fun h1 e1 => ?_)
  refine z_dup 11 dJ8_addEntryToEmptyMap_11 (by first | rfl | exact va_rf_cat _) ?_
  first | refine z_aload1 12 dJ8_addEntryToEmptyMap_12 ?_ | refine z_aload1N 12 dJ8_addEntryToEmptyMap_12 ?_ | refine z_aload1o 12 dJ8_addEntryToEmptyMap_12 ?_
  first | refine z_aload2 13 dJ8_addEntryToEmptyMap_13 ?_ | refine z_aload2N 13 dJ8_addEntryToEmptyMap_13 ?_ | refine z_aload2o 13 dJ8_addEntryToEmptyMap_13 ?_
  refine z_null 14 dJ8_addEntryToEmptyMap_14 ?_
  refine z_I3 (k' := k - 2) 15 iJ8_167 dJ8_addEntryToEmptyMap_15 (c_entNew (p := none) (d - 1) 0 (by omega) (by rw [e1]; simp [kd_mk]) (by rw [e1]; simp [mm_mk]; rfl) (by rw [e1]; simp [mm_mk]; rfl)) (by omega) (by omega) (Nat.le_of_ble_eq_true rfl) (aft_V fun h2 hq => ?_)
  obtain ⟨N2, A2, z2⟩ := hq
  have A1 : Sm (fun _ => False) h' h1 := by rw [e1]; exact Sm.mk'
  have A12 : Sm (fun _ => False) h' h2 := A1.tr A2 (fun q hq e => by omega)
  have M2 := M.keep A12 ⟨ht, id⟩
  have z1 : h1.sz = h'.sz + 1 := by rw [e1]; rfl
  refine z_put 18 pJ8_101 (fun h => by cases h) dJ8_addEntryToEmptyMap_18 M2.1 (rfl) (rfl) ?_
  have M3 := M2.root (some h'.sz)
  first | refine z_aload0 21 dJ8_addEntryToEmptyMap_21 ?_ | refine z_aload0N 21 dJ8_addEntryToEmptyMap_21 ?_ | refine z_aload0o 21 dJ8_addEntryToEmptyMap_21 ?_
  refine z_iconst 22 (nI 1) dJ8_addEntryToEmptyMap_22 kI1 ?_
  refine z_put 23 pJ8_7 (fun h => by cases h) dJ8_addEntryToEmptyMap_23 M3.1 (rfl) (rfl) ?_
  have M4 := M3.size (n' := nI 1)
  first | refine z_aload0 26 dJ8_addEntryToEmptyMap_26 ?_ | refine z_aload0N 26 dJ8_addEntryToEmptyMap_26 ?_ | refine z_aload0o 26 dJ8_addEntryToEmptyMap_26 ?_
  refine z_dup 27 dJ8_addEntryToEmptyMap_27 (by first | rfl | exact va_rf_cat _) ?_
  refine z_get 28 gJ8_13 dJ8_addEntryToEmptyMap_28 M4.1 M4.2.2.2.2.1 ?_
  refine z_iconst 31 (nI 1) dJ8_addEntryToEmptyMap_31 kI1 ?_
  refine z_iadd 32 dJ8_addEntryToEmptyMap_32 ?_
  refine z_put 33 pJ8_13 (fun h => by cases h) dJ8_addEntryToEmptyMap_33 M4.1 (rfl) (rfl) ?_
  refine z_return 36 rfl dJ8_addEntryToEmptyMap_36 ?_
  have ht9 : ¬ (S t ∨ t = h'.sz) := fun e => e.elim (hS t) (fun e => by omega)
  have M5 := M4.modc (n' := mc + nI 1)
  have hn1 : n + nI 1 = nI 1 := by subst hn; decide
  refine ⟨rfl, ⟨_, _, _, _, _, (fun _ => nI 1), TW.one hS (Nat.lt_irrefl _), EnS.off (EnS.off (EnS.off (fun a ha => ?_) ht9) ht9) ht9, by rw [hn1]; exact M5⟩, ?_, ?_⟩
  · have e : a = h'.sz := ha.elim (fun q => absurd q (hS a)) id
    subst e
    obtain ⟨g1, g2, g3, g4, g5, g6, g7⟩ := N2
    exact ⟨g1, by rw [u9_e]; exact g2, by rw [u9_e]; exact g3, g4, g5, g6, g7, bt01_1⟩
  · exact (((A12.mono (fun _ _ f => f.elim)).putS (Or.inr rfl)).putS (Or.inr rfl)).putS (Or.inr rfl)
  · simp only [sz_put]; omega

set_option maxHeartbeats 4000000 in
theorem c_put2 {E : Ev} {h : HP} {S : Nat → Prop} {κ : Nat → Nat} {L R P : Nat → Option Nat} {rt : Option Nat} {D : Nat → Nat → Prop} {ke va : Nat → Nat} {cl : Nat → Int32} {n mc : Int32} {ks : Option Nat} {t x v kx ci : Nat} {y : MethodName} {xs : List Nat} (d k : Nat) (hd1 : 5 ≤ d) (hk2 : 2 ≤ k) (hxs9 : ∀ a, S a → a ∈ xs) (T : TW S (KO κ) L R P rt D) (X : EnS h S L R P ke va cl) (M : MapO h t rt n mc ks) (ht : t < h.sz) (hz : ∀ a, S a → a < h.sz) (fr : ∀ a, S a → ¬ κ a = kx) (F : SiteF RJ8 107 cmpX y ci 1) (hx : h.kd x = ci) (CC : ∀ a, S a → CmpOK E h y x (ke a) kx (κ a)) (CX : CmpOK E h y x x kx kx) (hn0 : rt = none → n = nI 0) : Call E yJ8_put_2 d k [.ref t, .ref x, .ref v, .int (nI 1)] h (rA (fun r h' => r = none ∧ PutQ h t S κ ke va n mc ks x v kx h')) := by
  have LOOP : ∀ (m a : Nat) (v5 v6 v9 : Value), v5.category = 1 → S a → cnD D xs a < m → (∀ a2, D a2 a → a2 ≠ a → (kx < κ a2 ↔ κ a < κ a2)) → Z E mJ8_put_2 d (rA (fun r h' => r = none ∧ PutQ h t S κ ke va n mc ks x v kx h')) k h 123 [.ref t, .ref x, .ref v, .int (nI 1), .ref a, v5, v6, .null, .ref x, v9] [] := by
    intro m
    induction m with
    | zero => exact fun _ _ _ _ _ _ q => absurd q (Nat.not_lt_zero _)
    | succ m ih =>
      intro a v5 v6 v9 hv5 ha hm hi
      first | refine z_aload4 123 dJ8_put_2_123 ?_ | refine z_aload4N 123 dJ8_put_2_123 ?_ | refine z_aload4o 123 dJ8_put_2_123 ?_
      refine z_astore6 125 dJ8_put_2_125 (hv5) ?_
      first | refine z_aload8 127 dJ8_put_2_127 ?_ | refine z_aload8N 127 dJ8_put_2_127 ?_ | refine z_aload8o 127 dJ8_put_2_127 ?_
      first | refine z_aload4 129 dJ8_put_2_129 ?_ | refine z_aload4N 129 dJ8_put_2_129 ?_ | refine z_aload4o 129 dJ8_put_2_129 ?_
      refine z_get 131 gJ8_105 dJ8_put_2_131 (X a ha).1 (X a ha).2.1 ?_
      refine z_cmp 134 F dJ8_put_2_134 hx (CC a ha) (by omega) (Nat.le_of_ble_eq_true rfl) (fun w hq => ?_)
      refine z_istore5 139 dJ8_put_2_139 rfl ?_
      refine z_iload5 141 dJ8_put_2_141 ?_
      refine z_ifge 143 156 dJ8_put_2_143 (by decide) (fun c143 => ?_) (fun d143 => ?_)
      · have hge : κ a ≤ kx := hq.ge.mp c143
        have hgt : κ a < kx := Nat.lt_of_le_of_ne hge (fr a ha)
        refine z_iload5 156 dJ8_put_2_156 ?_
        refine z_ifle 158 171 dJ8_put_2_158 (by decide) (fun c158 => by first | exact absurd c158 (fun e => Nat.not_le_of_lt hgt (hq.le.mp e)) | exact absurd (fun e => Nat.not_le_of_lt hgt (hq.le.mp e)) c158) (fun c158 => ?_)
        first | refine z_aload4 161 dJ8_put_2_161 ?_ | refine z_aload4N 161 dJ8_put_2_161 ?_ | refine z_aload4o 161 dJ8_put_2_161 ?_
        refine z_get 163 gJ8_114 dJ8_put_2_163 (X a ha).1 (X a ha).2.2.2.2.1 ?_
        refine z_astore4o 166 dJ8_put_2_166 rfl ?_
        refine z_goto 168 196 dJ8_put_2_168 (by decide) ?_
        rcases hL : R a with _ | b
        · refine z_aload4N 196 dJ8_put_2_196 ?_
          refine z_ifnonnullN 198 dJ8_put_2_198 ?_
          first | refine z_aload0 201 dJ8_put_2_201 ?_ | refine z_aload0N 201 dJ8_put_2_201 ?_ | refine z_aload0o 201 dJ8_put_2_201 ?_
          first | refine z_aload1 202 dJ8_put_2_202 ?_ | refine z_aload1N 202 dJ8_put_2_202 ?_ | refine z_aload1o 202 dJ8_put_2_202 ?_
          first | refine z_aload2 203 dJ8_put_2_203 ?_ | refine z_aload2N 203 dJ8_put_2_203 ?_ | refine z_aload2o 203 dJ8_put_2_203 ?_
          refine z_aload6 204 dJ8_put_2_204 ?_
          refine z_iload5 206 dJ8_put_2_206 ?_
          refine z_ifge 208 215 dJ8_put_2_208 (by decide) (fun c208 => ?_) (fun c208 => by first | exact absurd c208 (c143) | exact absurd (c143) c208)
          refine z_iconst 215 (nI 0) dJ8_put_2_215 kI0 ?_
          refine z_V4 (k' := k - 2) 216 vJ8_139 dJ8_put_2_216 M.1 (c_addR (d - 1) 2 (by omega) (by omega) hxs9 T X M ht hz ha fr hi hL hgt) (by omega) (by omega) (Nat.le_of_ble_eq_true rfl) (aft_V fun h2 hq => ?_)
          refine z_null 219 dJ8_put_2_219 ?_
          refine z_areturn 220 rfl (Or.inl ⟨_, rfl⟩) (by first | exact Or.inl rfl | exact Or.inr ⟨_, rfl⟩ | exact va_rf_or _) dJ8_put_2_220 ?_
          exact ⟨none, rfl, rfl, hq⟩
        · refine z_aload4 196 dJ8_put_2_196 ?_
          refine z_ifnonnull 198 123 dJ8_put_2_198 (by decide) ?_
          have kd9 := T.kidR ha hL
          refine ih b _ _ _ rfl kd9.1 (by have := T.cnt hxs9 kd9.2.2.1 (fun e => by rw [e] at kd9; exact absurd kd9.2.2.2 (Nat.lt_irrefl _)); omega) (fun a2 h2 hne => ?_)
          have h3 : D a2 a := T.2.2.2.2.2.2.2.2.2.2.2.2.2.2 a2 b a h2 hne kd9.2.1
          by_cases e : a2 = a
          · subst e
            have := kd9.2.2.2
            simp only [KO] at this
            omega
          · have s1 := T.side h3 kd9.2.2.1 e
            have s2 := hi a2 h3 e
            have s3 := T.2.2.2.2.2.2.2.2.2.2.2.2.1 a2 a (T.1 _ _ h3).1 ha e
            simp only [KO] at s1 s3
            omega
      · have hlt : kx < κ a := Nat.lt_of_not_le (fun q => d143 (hq.ge.mpr q))
        first | refine z_aload4 146 dJ8_put_2_146 ?_ | refine z_aload4N 146 dJ8_put_2_146 ?_ | refine z_aload4o 146 dJ8_put_2_146 ?_
        refine z_get 148 gJ8_111 dJ8_put_2_148 (X a ha).1 (X a ha).2.2.2.1 ?_
        refine z_astore4o 151 dJ8_put_2_151 rfl ?_
        refine z_goto 153 196 dJ8_put_2_153 (by decide) ?_
        rcases hL : L a with _ | b
        · refine z_aload4N 196 dJ8_put_2_196 ?_
          refine z_ifnonnullN 198 dJ8_put_2_198 ?_
          first | refine z_aload0 201 dJ8_put_2_201 ?_ | refine z_aload0N 201 dJ8_put_2_201 ?_ | refine z_aload0o 201 dJ8_put_2_201 ?_
          first | refine z_aload1 202 dJ8_put_2_202 ?_ | refine z_aload1N 202 dJ8_put_2_202 ?_ | refine z_aload1o 202 dJ8_put_2_202 ?_
          first | refine z_aload2 203 dJ8_put_2_203 ?_ | refine z_aload2N 203 dJ8_put_2_203 ?_ | refine z_aload2o 203 dJ8_put_2_203 ?_
          refine z_aload6 204 dJ8_put_2_204 ?_
          refine z_iload5 206 dJ8_put_2_206 ?_
          refine z_ifge 208 215 dJ8_put_2_208 (by decide) (fun c208 => by first | exact absurd c208 (fun e => d143 e) | exact absurd (fun e => d143 e) c208) (fun c208 => ?_)
          refine z_iconst 211 (nI 1) dJ8_put_2_211 kI1 ?_
          refine z_goto 212 216 dJ8_put_2_212 (by decide) ?_
          refine z_V4 (k' := k - 2) 216 vJ8_139 dJ8_put_2_216 M.1 (c_addL (d - 1) 2 (by omega) (by omega) hxs9 T X M ht hz ha fr hi hL hlt) (by omega) (by omega) (Nat.le_of_ble_eq_true rfl) (aft_V fun h2 hq => ?_)
          refine z_null 219 dJ8_put_2_219 ?_
          refine z_areturn 220 rfl (Or.inl ⟨_, rfl⟩) (by first | exact Or.inl rfl | exact Or.inr ⟨_, rfl⟩ | exact va_rf_or _) dJ8_put_2_220 ?_
          exact ⟨none, rfl, rfl, hq⟩
        · refine z_aload4 196 dJ8_put_2_196 ?_
          refine z_ifnonnull 198 123 dJ8_put_2_198 (by decide) ?_
          have kd9 := T.kidL ha hL
          refine ih b _ _ _ rfl kd9.1 (by have := T.cnt hxs9 kd9.2.2.1 (fun e => by rw [e] at kd9; exact absurd kd9.2.2.2 (Nat.lt_irrefl _)); omega) (fun a2 h2 hne => ?_)
          have h3 : D a2 a := T.2.2.2.2.2.2.2.2.2.2.2.2.2.2 a2 b a h2 hne kd9.2.1
          by_cases e : a2 = a
          · subst e
            have := kd9.2.2.2
            simp only [KO] at this
            omega
          · have s1 := T.side h3 kd9.2.2.1 e
            have s2 := hi a2 h3 e
            have s3 := T.2.2.2.2.2.2.2.2.2.2.2.2.1 a2 a (T.1 _ _ h3).1 ha e
            simp only [KO] at s1 s3
            omega
  refine Call.of [.ref t, .ref x, .ref v, .int (nI 1), dum, dum, dum, dum, dum, dum] q1364 (by decide) pn_J8 (Nat.le_of_ble_eq_true rfl) rfl ?_
  first | refine z_aload0 0 dJ8_put_2_0 ?_ | refine z_aload0N 0 dJ8_put_2_0 ?_ | refine z_aload0o 0 dJ8_put_2_0 ?_
  refine z_get 1 gJ8_101 dJ8_put_2_1 M.1 M.2.2.1 ?_
  refine z_astore4o 4 dJ8_put_2_4 rfl ?_
  refine z_aload4o 6 dJ8_put_2_6 ?_
  rcases hr : rt with _ | r
  · skip
    refine z_ifnonnullN 8 dJ8_put_2_8 ?_
    first | refine z_aload0 11 dJ8_put_2_11 ?_ | refine z_aload0N 11 dJ8_put_2_11 ?_ | refine z_aload0o 11 dJ8_put_2_11 ?_
    first | refine z_aload1 12 dJ8_put_2_12 ?_ | refine z_aload1N 12 dJ8_put_2_12 ?_ | refine z_aload1o 12 dJ8_put_2_12 ?_
    first | refine z_aload2 13 dJ8_put_2_13 ?_ | refine z_aload2N 13 dJ8_put_2_13 ?_ | refine z_aload2o 13 dJ8_put_2_13 ?_
    refine z_V2 (k' := k - 2) 14 vJ8_135 dJ8_put_2_14 M.1 (c_addEmpty (κ := κ) (ke := ke) (va := va) (d - 1) 2 (by omega) (by omega) F hx CX (fun a ha => T.2.2.2.2.2.2.1 hr a ha) (hn0 hr) (by rw [hr] at M; exact M) ht) (by omega) (by omega) (Nat.le_of_ble_eq_true rfl) (aft_V fun h2 hq => ?_)
    refine z_null 17 dJ8_put_2_17 ?_
    refine z_areturn 18 rfl (Or.inl ⟨_, rfl⟩) (by first | exact Or.inl rfl | exact Or.inr ⟨_, rfl⟩ | exact va_rf_or _) dJ8_put_2_18 ?_
    exact ⟨none, rfl, rfl, hq⟩
  · have hr9 := T.2.2.2.2.2.2.2.1 r hr
    refine z_ifnonnull 8 19 dJ8_put_2_8 (by decide) ?_
    first | refine z_aload0 19 dJ8_put_2_19 ?_ | refine z_aload0N 19 dJ8_put_2_19 ?_ | refine z_aload0o 19 dJ8_put_2_19 ?_
    refine z_get 20 gJ8_16 dJ8_put_2_20 M.1 M.2.1 ?_
    refine z_astore7N 23 dJ8_put_2_23 rfl ?_
    refine z_aload7N 25 dJ8_put_2_25 ?_
    refine z_ifnullN 27 112 dJ8_put_2_27 (by decide) ?_
    first | refine z_aload1 112 dJ8_put_2_112 ?_ | refine z_aload1N 112 dJ8_put_2_112 ?_ | refine z_aload1o 112 dJ8_put_2_112 ?_
    refine z_S1 (k' := k) 113 sJ8_95 dJ8_put_2_113 (c_req 0 0) (by omega) (by omega) (Nat.le_of_ble_eq_true rfl) (aft_R fun a9 h' hq => ?_)
    obtain ⟨rfl, rfl⟩ := hq
    refine z_pop 116 dJ8_put_2_116 (by first | rfl | exact va_rf_cat _) ?_
    first | refine z_aload1 117 dJ8_put_2_117 ?_ | refine z_aload1N 117 dJ8_put_2_117 ?_ | refine z_aload1o 117 dJ8_put_2_117 ?_
    refine z_castF 118 F q1137 dJ8_put_2_118 hx ?_
    first | refine z_astore8 121 dJ8_put_2_121 rfl ?_ | refine z_astore8N 121 dJ8_put_2_121 rfl ?_ | refine z_astore8o 121 dJ8_put_2_121 rfl ?_
    exact LOOP _ r _ _ _ rfl hr9.1 (Nat.lt_succ_self _) (fun a2 h2 hne => absurd (T.anti h2 (hr9.2.2 a2 (T.1 _ _ h2).1)) hne)
set_option maxHeartbeats 4000000 in
theorem c_put {E : Ev} {h : HP} {S : Nat → Prop} {κ : Nat → Nat} {L R P : Nat → Option Nat} {rt : Option Nat} {D : Nat → Nat → Prop} {ke va : Nat → Nat} {cl : Nat → Int32} {n mc : Int32} {ks : Option Nat} {t x v kx ci : Nat} {y : MethodName} {xs : List Nat} (d k : Nat) (hd1 : 6 ≤ d) (hk2 : 2 ≤ k) (hxs9 : ∀ a, S a → a ∈ xs) (T : TW S (KO κ) L R P rt D) (X : EnS h S L R P ke va cl) (M : MapO h t rt n mc ks) (ht : t < h.sz) (hz : ∀ a, S a → a < h.sz) (fr : ∀ a, S a → ¬ κ a = kx) (F : SiteF RJ8 107 cmpX y ci 1) (hx : h.kd x = ci) (CC : ∀ a, S a → CmpOK E h y x (ke a) kx (κ a)) (CX : CmpOK E h y x x kx kx) (hn0 : rt = none → n = nI 0) : Call E yJ8_put d k [.ref t, .ref x, .ref v] h (rA (fun r h' => r = none ∧ PutQ h t S κ ke va n mc ks x v kx h')) := by
  refine Call.of [.ref t, .ref x, .ref v] q1360 (by decide) pn_J8 (Nat.le_of_ble_eq_true rfl) rfl ?_
  first | refine z_aload0 0 dJ8_put_0 ?_ | refine z_aload0N 0 dJ8_put_0 ?_ | refine z_aload0o 0 dJ8_put_0 ?_
  first | refine z_aload1 1 dJ8_put_1 ?_ | refine z_aload1N 1 dJ8_put_1 ?_ | refine z_aload1o 1 dJ8_put_1 ?_
  first | refine z_aload2 2 dJ8_put_2 ?_ | refine z_aload2N 2 dJ8_put_2 ?_ | refine z_aload2o 2 dJ8_put_2 ?_
  refine z_iconst 3 (nI 1) dJ8_put_3 kI1 ?_
  refine z_V3 (k' := k - 2) 4 vJ8_127 dJ8_put_4 M.1 (c_put2 (d - 1) 2 (by omega) (by omega) hxs9 T X M ht hz fr F hx CC CX hn0) (by omega) (by omega) (Nat.le_of_ble_eq_true rfl) (aft_A fun r9 h2 hq => ?_)
  obtain ⟨rfl, hq⟩ := hq
  refine z_areturn 7 rfl (Or.inl ⟨_, rfl⟩) (Or.inl rfl) dJ8_put_7 ?_
  exact ⟨none, rfl, rfl, hq⟩

