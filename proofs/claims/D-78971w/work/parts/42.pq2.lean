/-! PRIORITYQUEUE of Jobs: its own methods -/
theorem nrA (t : FieldType) (a : Nat) : narrow (.array t) (.ref a) = .ref a := rfl
/-- a queue: its array ar, the n elements el9 n g, heaped -/
def PqP (h : HP) (p ar n cap : Nat) (g : Nat → Nat) (κ : Nat → Nat) (mc : Int32) : Prop := h.kd p = 12 ∧ h.mm p 0 = .ref ar ∧ h.mm p 1 = .int (nI n) ∧ h.mm p 2 = .null ∧ h.mm p 3 = .int mc ∧ p < h.sz ∧ PqA h ar n cap g cap ∧ Hp9 n κ g ∧ inj9 n g ∧ 1 ≤ cap
theorem PqA.at {h : HP} {ar n cap k k' : Nat} {g : Nat → Nat} (X : PqA h ar n cap g k) (hk : cap ≤ k ∨ (k = n ∧ n = cap)) : PqA h ar n cap g k' := by
  obtain ⟨x1, x2, x3, x4, x5, x6, x7⟩ := X
  exact ⟨x1, x2, x3, x4, fun i hi _ => x5 i hi (by omega), fun i hi hc _ => x6 i hi hc (by omega), x7⟩
theorem PqA.off {h : HP} {ar n cap k p j : Nat} {v : Value} {g : Nat → Nat} (X : PqA h ar n cap g k) (hn : ¬ ar = p) : PqA (h.put p j v) ar n cap g k := by
  obtain ⟨x1, x2, x3, x4, x5, x6, x7⟩ := X
  exact ⟨x1, x2, x3, x4, fun i hi hk => by rw [mm_nea _ _ _ _ _ hn]; exact x5 i hi hk, fun i hi hc hk => by rw [mm_nea _ _ _ _ _ hn]; exact x6 i hi hc hk, x7⟩
set_option maxHeartbeats 4000000 in
theorem c_siftUp {E : Ev} {h : HP} {p ar x k0 : Nat} {Q : HP → Prop} (d k : Nat) (hd1 : 3 ≤ d) (hp : h.kd p = 12) (h0 : h.mm p 0 = .ref ar) (h2 : h.mm p 2 = .null) (CC : Call E yJ2_siftUpComparable (d - 1) 0 [.int (nI k0), .ref x, .ref ar] h (rV Q)) : Call E yJ2_siftUp d k [.ref p, .int (nI k0), .ref x] h (rV Q) := by
  refine Call.of [.ref p, .int (nI k0), .ref x] q1583 (by decide) pn_J2 (Nat.le_of_ble_eq_true rfl) rfl ?_
  first | refine z_aload0 0 dJ2_siftUp_0 ?_ | refine z_aload0N 0 dJ2_siftUp_0 ?_ | refine z_aload0o 0 dJ2_siftUp_0 ?_
  refine z_get 1 gJ2_21 dJ2_siftUp_1 hp h2 ?_
  refine z_ifnullN 4 23 dJ2_siftUp_4 (by decide) ?_
  refine z_iload1 23 dJ2_siftUp_23 ?_
  first | refine z_aload2 24 dJ2_siftUp_24 ?_ | refine z_aload2N 24 dJ2_siftUp_24 ?_ | refine z_aload2o 24 dJ2_siftUp_24 ?_
  first | refine z_aload0 25 dJ2_siftUp_25 ?_ | refine z_aload0N 25 dJ2_siftUp_25 ?_ | refine z_aload0o 25 dJ2_siftUp_25 ?_
  refine z_get 26 gJ2_17 dJ2_siftUp_26 hp h0 ?_
  refine z_S3 (k' := k) 29 sJ2_140 dJ2_siftUp_29 (CC) (by omega) (by omega) (Nat.le_of_ble_eq_true rfl) (aft_V fun h2 hq => ?_)
  refine z_return 32 rfl dJ2_siftUp_32 ?_
  exact ⟨rfl, hq⟩

set_option maxHeartbeats 4000000 in
theorem c_pqSize {E : Ev} {h : HP} {p n : Nat} (d k : Nat) (hp : h.kd p = 12) (h1 : h.mm p 1 = .int (nI n)) : Call E yJ2_size d k [.ref p] h (rI (fun x h' => h' = h ∧ x = nI n)) := by
  refine Call.of [.ref p] q1607 (by decide) pn_J2 (Nat.le_of_ble_eq_true rfl) rfl ?_
  first | refine z_aload0 0 dJ2_size_0 ?_ | refine z_aload0N 0 dJ2_size_0 ?_ | refine z_aload0o 0 dJ2_size_0 ?_
  refine z_get 1 gJ2_58 dJ2_size_1 hp h1 ?_
  refine z_ireturn 4 rfl dJ2_size_4 ?_
  exact ⟨_, rfl, rfl, rfl⟩

set_option maxHeartbeats 4000000 in
theorem c_pqIsEmpty {E : Ev} {h : HP} {p n : Nat} (d k : Nat) (hd1 : 1 ≤ d) (hp : h.kd p = 12) (h1 : h.mm p 1 = .int (nI n)) (hn : n < 2147483648) : Call E yJ0_isEmpty d k [.ref p] h (rI (fun x h' => h' = h ∧ ((x = nI 1 ∧ n = 0) ∨ (x = nI 0 ∧ ¬ n = 0)))) := by
  refine Call.of [.ref p] q1600 (by decide) pn_J0 (Nat.le_of_ble_eq_true rfl) rfl ?_
  first | refine z_aload0 0 dJ0_isEmpty_0 ?_ | refine z_aload0N 0 dJ0_isEmpty_0 ?_ | refine z_aload0o 0 dJ0_isEmpty_0 ?_
  refine z_U0 (k' := k) 1 wJ0_7_12 dJ0_isEmpty_1 hp (c_pqSize (d - 1) 0 hp h1) (by omega) (by omega) (Nat.le_of_ble_eq_true rfl) (aft_I fun x h2 hq => ?_)
  obtain ⟨rfl, rfl⟩ := hq
  have hz : nI n = 0 ↔ n = 0 := nI_eq (b := 0) (by omega) (by decide)
  refine z_ifne 4 11 dJ0_isEmpty_4 (by decide) (fun c4 => ?_) (fun d4 => ?_)
  · refine z_iconst 11 (nI 0) dJ0_isEmpty_11 kI0 ?_
    refine z_zreturn 12 rfl (by first | exact nb1 | exact nb0) dJ0_isEmpty_12 ?_
    first
      | exact ⟨_, rfl, rfl, Or.inl ⟨rfl, hz.mp (by first | exact d4 | exact Classical.not_not.mp d4)⟩⟩
      | exact ⟨_, rfl, rfl, Or.inr ⟨rfl, fun e => c4 (hz.mpr e)⟩⟩
  · refine z_iconst 7 (nI 1) dJ0_isEmpty_7 kI1 ?_
    refine z_goto 8 12 dJ0_isEmpty_8 (by decide) ?_
    refine z_zreturn 12 rfl (by first | exact nb1 | exact nb0) dJ0_isEmpty_12 ?_
    first
      | exact ⟨_, rfl, rfl, Or.inl ⟨rfl, hz.mp (by first | exact d4 | exact Classical.not_not.mp d4)⟩⟩
      | exact ⟨_, rfl, rfl, Or.inr ⟨rfl, fun e => c4 (hz.mpr e)⟩⟩

set_option maxHeartbeats 4000000 in
theorem c_pqGrow {E : Ev} {h : HP} {p ar n : Nat} (d k : Nat) (hd1 : 3 ≤ d) (hk1 : n + 3 ≤ k) (hp : h.kd p = 12) (h0 : h.mm p 0 = .ref ar) (hpl : p < h.sz) (ha : h.kd ar = 104) (hl : h.ln ar = n) (hal : ar < h.sz) (h64 : n < 64) (hv : ∀ i, i < n → h.mm ar i = .null ∨ ∃ y ci : Nat, h.mm ar i = .ref y ∧ h.kd y = ci ∧ SiteE 4 ci ∧ y < h.sz) : Call E yJ2_grow d k [.ref p, .int (nI (n + 1))] h (rV (fun h' => h'.mm p 0 = .ref h.sz ∧ h'.kd h.sz = 104 ∧ h'.ln h.sz = 2 * n + 2 ∧ (∀ j, j < n → h'.mm h.sz j = h.mm ar j) ∧ (∀ j, n ≤ j → h'.mm h.sz j = .null) ∧ (∀ j, ¬ j = 0 → h'.mm p j = h.mm p j) ∧ Sm (fun a => a = p) h h' ∧ h'.sz = h.sz + 1)) := by
  refine Call.of [.ref p, .int (nI (n + 1)), dum, dum] q1541 (by decide) pn_J2 (Nat.le_of_ble_eq_true rfl) rfl ?_
  first | refine z_aload0 0 dJ2_grow_0 ?_ | refine z_aload0N 0 dJ2_grow_0 ?_ | refine z_aload0o 0 dJ2_grow_0 ?_
  refine z_get 1 gJ2_17 dJ2_grow_1 hp h0 ?_
  refine z_len (i := 4) 4 dJ2_grow_4 (by decide) ha hl ?_
  refine z_istore2 5 dJ2_grow_5 rfl ?_
  refine z_iload2 6 dJ2_grow_6 ?_
  refine z_iload1 7 dJ2_grow_7 ?_
  refine z_iload2 8 dJ2_grow_8 ?_
  refine z_isub 9 dJ2_grow_9 ?_
  rw [pk_sub (Nat.le_succ n), show n + 1 - n = 1 from by omega]
  refine z_iload2 10 dJ2_grow_10 ?_
  refine z_bipush 11 (nI 64) dJ2_grow_11 kB64 ?_
  refine z_icge 13 22 dJ2_grow_13 (by decide) (fun c13 => by first | exact absurd c13 (nI_ge h64 (by decide)) | exact absurd (nI_ge h64 (by decide)) c13) (fun c13 => ?_)
  refine z_iload2 16 dJ2_grow_16 ?_
  refine z_iconst 17 (nI 2) dJ2_grow_17 kI2 ?_
  refine z_iadd 18 dJ2_grow_18 ?_
  rw [nI_add]
  refine z_goto 19 25 dJ2_grow_19 (by decide) ?_
  refine z_S3 (k' := k) 25 sJ2_80 dJ2_grow_25 (c_newLength (d - 1) 0 (by omega) (by omega) (by omega) (by omega) (by omega)) (by omega) (by omega) (Nat.le_of_ble_eq_true rfl) (aft_I fun x h2 hq => ?_)
  obtain ⟨rfl, rfl⟩ := hq
  rw [show n + max 1 (n + 2) = 2 * n + 2 from by omega]
  refine z_istore3 28 dJ2_grow_28 rfl ?_
  first | refine z_aload0 29 dJ2_grow_29 ?_ | refine z_aload0N 29 dJ2_grow_29 ?_ | refine z_aload0o 29 dJ2_grow_29 ?_
  first | refine z_aload0 30 dJ2_grow_30 ?_ | refine z_aload0N 30 dJ2_grow_30 ?_ | refine z_aload0o 30 dJ2_grow_30 ?_
  refine z_get 31 gJ2_17 dJ2_grow_31 hp h0 ?_
  refine z_iload3 34 dJ2_grow_34 ?_
  refine z_S2 (k' := 0) 35 sJ2_86 dJ2_grow_35 (c_copyOf (d - 1) (n + 3) (by omega) (by omega) ha hl (by omega) (by omega) hal hv) (by omega) (by omega) (Nat.le_of_ble_eq_true rfl) (aft_R fun b h3 hq => ?_)
  obtain ⟨rfl, g1, g2, g3, g4, A3, z3⟩ := hq
  have hp3 : h3.kd p = 12 := (A3.2 p hpl).1.trans hp
  have hps : ¬ h2.sz = p := by omega
  refine z_put 38 pJ2_17 (fun h => by cases h) dJ2_grow_38 hp3 (rfl) (rfl) ?_
  refine z_return 41 rfl dJ2_grow_41 ?_
  exact ⟨rfl, by simp [mm_put], g1, g2, fun j hj => by rw [mm_nea _ _ _ _ _ hps]; exact g3 j hj, fun j hj => by rw [mm_nea _ _ _ _ _ hps]; exact g4 j hj, fun j hj => by rw [mm_nek _ _ _ _ _ hj, (A3.2 p hpl).2.2 id], (A3.mono (fun _ _ f => f.elim)).putS rfl, z3⟩

theorem kdJob {h : HP} {pl qu rk dy : Nat → Nat} {y : Nat} (J : JbA h pl qu rk dy y) : h.kd y = 3 := J.1.1
theorem ofr_up {n : Nat} {κ g : Nat → Nat} {x : Nat} (H : Hp9 n κ g) : Up9 (n + 1) κ (fun a => if a = n then x else g a) n := by
  refine ⟨by omega, fun i h0 hi hn => ?_, fun c h0 hc hcp _ => by omega⟩
  show κ (if (i - 1) / 2 = n then x else g ((i - 1) / 2)) ≤ κ (if i = n then x else g i)
  rw [if_neg (by omega), if_neg hn]
  exact H i h0 (by omega)
theorem ofr_inj {n : Nat} {g : Nat → Nat} {x : Nat} (H : inj9 n g) (hx : ¬ el9 n g x) : inj9 (n + 1) (fun a => if a = n then x else g a) := by
  intro i j hi hj e
  have e : (if i = n then x else g i) = (if j = n then x else g j) := e
  by_cases e1 : i = n
  · by_cases e2 : j = n
    · omega
    · rw [if_pos e1, if_neg e2] at e; exact absurd ⟨j, by omega, e.symm⟩ hx
  · by_cases e2 : j = n
    · rw [if_neg e1, if_pos e2] at e; exact absurd ⟨i, by omega, e⟩ hx
    · rw [if_neg e1, if_neg e2] at e; exact H i j (by omega) (by omega) e
theorem ofr_el {n : Nat} {g : Nat → Nat} {x y : Nat} : el9 (n + 1) (fun a => if a = n then x else g a) y ↔ el9 n g y ∨ y = x := by
  constructor
  · rintro ⟨i, hi, e⟩
    have e : (if i = n then x else g i) = y := e
    by_cases e1 : i = n
    · rw [if_pos e1] at e; exact Or.inr e.symm
    · rw [if_neg e1] at e; exact Or.inl ⟨i, by omega, e⟩
  · rintro (⟨i, hi, e⟩ | e)
    · exact ⟨i, by omega, by show (if i = n then x else g i) = y; rw [if_neg (by omega)]; exact e⟩
    · exact ⟨n, by omega, by show (if n = n then x else g n) = y; rw [if_pos rfl, e]⟩
set_option maxHeartbeats 4000000 in
theorem c_offer {E : Ev} {h : HP} {pl qu rk dy : Nat → Nat} {p ar n cap : Nat} {g : Nat → Nat} {mc : Int32} {x : Nat} (d k : Nat) (hd1 : 4 ≤ d) (hk1 : n + 3 ≤ k) (h64 : n < 64) (QP : PqP h p ar n cap g (kA pl qu rk dy) mc) (JJ : ∀ y, el9 n g y → JbA h pl qu rk dy y) (hpa : ¬ p = ar) (JX : JbA h pl qu rk dy x) (hnx : ¬ el9 n g x) : Call E yJ2_offer d k [.ref p, .ref x] h (rI (fun r h' => r = nI 1 ∧ ∃ (ar' cap' : Nat) (g' : Nat → Nat), PqP h' p ar' (n + 1) cap' g' (kA pl qu rk dy) (mc + nI 1) ∧ (∀ y, el9 (n + 1) g' y ↔ el9 n g y ∨ y = x) ∧ Sm (fun a => a = p ∨ a = ar) h h' ∧ h'.sz ≤ h.sz + 1 ∧ (ar' = ar ∨ ar' = h.sz))) := by
  obtain ⟨hp, h0, h1, h2, h3, hpl, PA, HH, IJ, hc1⟩ := id QP
  have hcap := PA.2.2.2.1
  have REST : ∀ (k2 : Nat) (h2 : HP) (ar2 cap2 : Nat), h2.kd p = 12 → h2.mm p 0 = .ref ar2 → h2.mm p 2 = .null → h2.mm p 3 = .int (mc + nI 1) → p < h2.sz → PqA h2 ar2 (n + 1) cap2 (fun a => if a = n then x else g a) n → ¬ p = ar2 → Sm (fun a => a = p ∨ a = ar) h h2 → h2.sz ≤ h.sz + 1 → (ar2 = ar ∨ ar2 = h.sz) → Z E mJ2_offer d (rI (fun r h' => r = nI 1 ∧ ∃ (ar' cap' : Nat) (g' : Nat → Nat), PqP h' p ar' (n + 1) cap' g' (kA pl qu rk dy) (mc + nI 1) ∧ (∀ y, el9 (n + 1) g' y ↔ el9 n g y ∨ y = x) ∧ Sm (fun a => a = p ∨ a = ar) h h' ∧ h'.sz ≤ h.sz + 1 ∧ (ar' = ar ∨ ar' = h.sz))) k2 h2 43 [.ref p, .ref x, .int (nI n)] [] := by
    intro k2 h2 ar2 cap2 hp2 h02 h22 h32 hpl2 PA2 hpa2 A2 z2 o2
    have hal : ar < h.sz := PA.2.2.2.2.2.2
    have JJ2 : ∀ y, el9 (n + 1) (fun a => if a = n then x else g a) y → JbA h2 pl qu rk dy y := fun y hy => by
      rcases ofr_el.mp hy with e | e
      · refine (JJ y e).keep A2 (fun q => ?_)
        have := kdJob (JJ y e)
        rcases q with q | q
        · rw [q, hp] at this; cases this
        · rw [q, PA.1] at this; cases this
      · subst e
        refine JX.keep A2 (fun q => ?_)
        have := kdJob JX
        rcases q with q | q
        · rw [q, hp] at this; cases this
        · rw [q, PA.1] at this; cases this
    have hna2 : ∀ y, el9 (n + 1) (fun a => if a = n then x else g a) y → ¬ y = ar2 := fun y hy e => by
      have := kdJob (JJ2 y hy)
      rw [e, PA2.1] at this; cases this
    first | refine z_aload0 43 dJ2_offer_43 ?_ | refine z_aload0N 43 dJ2_offer_43 ?_ | refine z_aload0o 43 dJ2_offer_43 ?_
    refine z_iload2 44 dJ2_offer_44 ?_
    first | refine z_aload1 45 dJ2_offer_45 ?_ | refine z_aload1N 45 dJ2_offer_45 ?_ | refine z_aload1o 45 dJ2_offer_45 ?_
    refine z_V2 (k' := k2) 46 vJ2_100 dJ2_offer_46 hp2 (c_siftUp (d - 1) 0 (by omega) hp2 h02 h22 (c_siftUp0 (g := fun a => if a = n then x else g a) (n := n + 1) (k0 := n) (cap := cap2) (d - 1 - 1) 0 (by omega) PA2 (ofr_up HH) (by simp) (ofr_inj IJ hnx) JJ2 hna2)) (by omega) (by omega) (Nat.le_of_ble_eq_true rfl) (aft_V fun h3 hq => ?_)
    obtain ⟨g', PA3, H3, IJ3, EL3, A3, z3⟩ := hq
    have A3p := A3.2 p hpl2
    have hp3 : h3.kd p = 12 := A3p.1.trans hp2
    have c3 := A3p.2.2 hpa2
    first | refine z_aload0 49 dJ2_offer_49 ?_ | refine z_aload0N 49 dJ2_offer_49 ?_ | refine z_aload0o 49 dJ2_offer_49 ?_
    refine z_iload2 50 dJ2_offer_50 ?_
    refine z_iconst 51 (nI 1) dJ2_offer_51 kI1 ?_
    refine z_iadd 52 dJ2_offer_52 ?_
    rw [nI_add]
    refine z_put 53 pJ2_58 (fun h => by cases h) dJ2_offer_53 hp3 (rfl) (rfl) ?_
    refine z_iconst 56 (nI 1) dJ2_offer_56 kI1 ?_
    refine z_zreturn 57 rfl (nb1) dJ2_offer_57 ?_
    refine ⟨_, rfl, rfl, ar2, cap2, g', ⟨hp3, by simp [mm_put, c3, h02], by simp [mm_put], by simp [mm_put, c3, h22], by simp [mm_put, c3, h32], by simp only [sz_put]; omega, PA3.off (fun e => hpa2 e.symm), H3, IJ3, by have := PA2.2.2.1; omega⟩, fun y => (EL3 y).trans ofr_el, ?_, by simp only [sz_put]; omega, o2⟩
    refine (A2.tr A3 (fun q hq e => ?_)).putS (Or.inl rfl)
    rcases o2 with e2 | e2
    · exact Or.inr (e.trans e2)
    · omega
  refine Call.of [.ref p, .ref x, dum] q1537 (by decide) pn_J2 (Nat.le_of_ble_eq_true rfl) rfl ?_
  first | refine z_aload1 0 dJ2_offer_0 ?_ | refine z_aload1N 0 dJ2_offer_0 ?_ | refine z_aload1o 0 dJ2_offer_0 ?_
  refine z_ifnonnull 1 12 dJ2_offer_1 (by decide) ?_
  first | refine z_aload0 12 dJ2_offer_12 ?_ | refine z_aload0N 12 dJ2_offer_12 ?_ | refine z_aload0o 12 dJ2_offer_12 ?_
  refine z_dup 13 dJ2_offer_13 (by first | rfl | exact va_rf_cat _) ?_
  refine z_get 14 gJ2_93 dJ2_offer_14 hp h3 ?_
  refine z_iconst 17 (nI 1) dJ2_offer_17 kI1 ?_
  refine z_iadd 18 dJ2_offer_18 ?_
  refine z_put 19 pJ2_93 (fun h => by cases h) dJ2_offer_19 hp (rfl) (rfl) ?_
  first | refine z_aload0 22 dJ2_offer_22 ?_ | refine z_aload0N 22 dJ2_offer_22 ?_ | refine z_aload0o 22 dJ2_offer_22 ?_
  refine z_get 23 gJ2_58 dJ2_offer_23 hp (show HP.mm _ p 1 = .int (nI n) from by simp [mm_put, h1]) ?_
  refine z_istore2 26 dJ2_offer_26 rfl ?_
  refine z_iload2 27 dJ2_offer_27 ?_
  first | refine z_aload0 28 dJ2_offer_28 ?_ | refine z_aload0N 28 dJ2_offer_28 ?_ | refine z_aload0o 28 dJ2_offer_28 ?_
  refine z_get 29 gJ2_17 dJ2_offer_29 hp (show HP.mm _ p 0 = .ref ar from by simp [mm_put, h0]) ?_
  refine z_len (i := 4) 32 dJ2_offer_32 (by decide) PA.1 PA.2.1 ?_
  refine z_iclt 33 43 dJ2_offer_33 (by decide) (fun c33 => ?_) (fun d33 => ?_)
  · have hlt : n < cap := Nat.lt_of_not_le (fun e => by have := nI_nlt e (by omega); exact this c33)
    refine REST _ _ ar cap hp (by simp [mm_put, h0]) (by simp [mm_put, h2]) (by simp [mm_put]) hpl ?_ hpa ((Sm.refl _ h).putS (Or.inl rfl)) (Nat.le_succ _) (Or.inl rfl)
    obtain ⟨x1, x2, x3, x4, x5, x6, x7⟩ := PA
    refine ⟨x1, x2, hlt, x4, fun i hi hk => ?_, fun i hi hc hk => ?_, x7⟩
    · show _ = Value.ref (if i = n then x else g i)
      rw [mm_nea _ _ _ _ _ (fun e => hpa e.symm), if_neg hk]; exact x5 i (by omega) (by omega)
    · rw [mm_nea _ _ _ _ _ (fun e => hpa e.symm)]; exact x6 i (by omega) hc (by omega)
  · have heq : n = cap := by
      have := PA.2.2.1
      exact Nat.le_antisymm this (Nat.le_of_not_lt (fun e => d33 (nI_lt e (by omega))))
    first | refine z_aload0 36 dJ2_offer_36 ?_ | refine z_aload0N 36 dJ2_offer_36 ?_ | refine z_aload0o 36 dJ2_offer_36 ?_
    refine z_iload2 37 dJ2_offer_37 ?_
    refine z_iconst 38 (nI 1) dJ2_offer_38 kI1 ?_
    refine z_iadd 39 dJ2_offer_39 ?_
    rw [nI_add]
    refine z_V1 (k' := 0) 40 vJ2_96 dJ2_offer_40 hp (c_pqGrow (n := n) (ar := ar) (d - 1) (n + 3) (by omega) (by omega) hp (by simp [mm_put, h0]) hpl PA.1 (by rw [heq]; exact PA.2.1) PA.2.2.2.2.2.2 (by omega) (fun i hi => ?HV)) (by omega) (by omega) (Nat.le_of_ble_eq_true rfl) (aft_V fun h3 hq => ?AF)
    case HV =>
      have hy := JJ (g i) ⟨i, hi, rfl⟩
      refine Or.inr ⟨g i, 3, ?_, (show h.kd (g i) = 3 from kdJob hy), e_4_3, hy.2.2.2.2.2⟩
      rw [mm_nea _ _ _ _ _ (fun e => hpa e.symm)]; exact PA.2.2.2.2.1 i hi (by omega)
    case AF =>
      obtain ⟨q0, q1, q2, q3, q4, q5, A3, z3⟩ := hq
      have hp9 : ¬ p = h.sz := by omega
      refine REST _ _ h.sz (2 * n + 2) ((A3.2 p hpl).1.trans hp) q0 (by rw [q5 2 (by decide)]; simp [mm_put, h2]) (by rw [q5 3 (by decide)]; simp [mm_put]) (by have := A3.1; simp only [sz_put] at this; omega) ?_ hp9 (((Sm.refl _ h).putS (Or.inl rfl)).tr A3 (fun q _ e => Or.inl e)) (by simp only [sz_put] at z3; omega) (Or.inr rfl)
      refine ⟨q1, q2, by omega, by omega, fun i hi hk => ?_, fun i hi hc hk => ?_, by simp only [sz_put] at z3; omega⟩
      · have q3' : h3.mm h.sz i = (h.put p 3 (.int (mc + nI 1))).mm ar i := q3 i (by omega)
        show _ = Value.ref (if i = n then x else g i)
        rw [q3', mm_nea _ _ _ _ _ (fun e => hpa e.symm), if_neg hk]; exact PA.2.2.2.2.1 i (by omega) (by omega)
      · exact q4 i (by omega)
set_option maxHeartbeats 4000000 in
theorem c_pqAdd {E : Ev} {h : HP} {pl qu rk dy : Nat → Nat} {p ar n cap : Nat} {g : Nat → Nat} {mc : Int32} {x : Nat} (d k : Nat) (hd1 : 5 ≤ d) (hk1 : n + 3 ≤ k) (h64 : n < 64) (QP : PqP h p ar n cap g (kA pl qu rk dy) mc) (JJ : ∀ y, el9 n g y → JbA h pl qu rk dy y) (hpa : ¬ p = ar) (JX : JbA h pl qu rk dy x) (hnx : ¬ el9 n g x) : Call E yJ2_add d k [.ref p, .ref x] h (rI (fun r h' => r = nI 1 ∧ ∃ (ar' cap' : Nat) (g' : Nat → Nat), PqP h' p ar' (n + 1) cap' g' (kA pl qu rk dy) (mc + nI 1) ∧ (∀ y, el9 (n + 1) g' y ↔ el9 n g y ∨ y = x) ∧ Sm (fun a => a = p ∨ a = ar) h h' ∧ h'.sz ≤ h.sz + 1 ∧ (ar' = ar ∨ ar' = h.sz))) := by
  refine Call.of [.ref p, .ref x] q1533 (by decide) pn_J2 (Nat.le_of_ble_eq_true rfl) rfl ?_
  first | refine z_aload0 0 dJ2_add_0 ?_ | refine z_aload0N 0 dJ2_add_0 ?_ | refine z_aload0o 0 dJ2_add_0 ?_
  first | refine z_aload1 1 dJ2_add_1 ?_ | refine z_aload1N 1 dJ2_add_1 ?_ | refine z_aload1o 1 dJ2_add_1 ?_
  refine z_V1 (k' := 0) 2 vJ2_89 dJ2_add_2 QP.1 (c_offer (d - 1) (n + 3) (by omega) (Nat.le_refl _) h64 QP JJ hpa JX hnx) (by omega) (by omega) (Nat.le_of_ble_eq_true rfl) (aft_I fun r h2 hq => ?_)
  refine z_zreturn 5 rfl (by rw [hq.1]; exact nb1) dJ2_add_5 ?_
  exact ⟨_, rfl, hq⟩

