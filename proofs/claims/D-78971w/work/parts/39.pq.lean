/-! PRIORITYQUEUE of Jobs -/
theorem ush1 {n : Nat} (h : n < 2 ^ 31) : ((nI n).toUInt32 >>> ((nI 1).toUInt32 &&& Int32.toUInt32 31)).toInt32 = nI (n / 2) := by
  have := pk_ushrN (n := n) (by omega) (nI 1) 1 (by decide)
  simpa using this
theorem shl1 {n : Nat} (h : n < 2 ^ 30) : nI n <<< ((nI 1) &&& 31) = nI (2 * n) := by
  have := pk_shlN (n := n) ((nI 1) &&& 31) 1 (by decide) (by omega)
  rw [this, Nat.mul_comm]
/-- what a job's picture says: place, kind, rank, day by its address -/
def JbA (h : HP) (pl qu rk dy : Nat → Nat) (x : Nat) : Prop := JobAt h x (pl x) (qu x) (nI (rk x)) (nI (dy x)) ∧ rk x < 2 ∧ dy x < 4096 ∧ pl x < 8 ∧ qu x < 2 ∧ x < h.sz
def kA (pl qu rk dy : Nat → Nat) (x : Nat) : Nat := kJ (rk x) (dy x) (pl x) (qu x)
theorem JbA.keep {h h' : HP} {V : Nat → Prop} {pl qu rk dy : Nat → Nat} {x : Nat} (J : JbA h pl qu rk dy x) (A : Sm V h h') (hn : ¬ V x) : JbA h' pl qu rk dy x := by
  obtain ⟨⟨j1, j2, j3, j4, j5⟩, b1, b2, b3, b4, b5⟩ := J
  obtain ⟨c1, c2, c3⟩ := A.2 x b5
  have c4 := c3 hn
  exact ⟨⟨c1.trans j1, by rw [c4]; exact j2, by rw [c4]; exact j3, by rw [c4]; exact j4, by rw [c4]; exact j5⟩, b1, b2, b3, b4, Nat.lt_of_lt_of_le b5 A.1⟩
/-- the array: the elements, then nulls; at the hole k nothing is said -/
def PqA (h : HP) (ar n cap : Nat) (g : Nat → Nat) (k : Nat) : Prop := h.kd ar = 104 ∧ h.ln ar = cap ∧ n ≤ cap ∧ cap < 1000 ∧ (∀ i, i < n → i ≠ k → h.mm ar i = .ref (g i)) ∧ (∀ i, n ≤ i → i < cap → i ≠ k → h.mm ar i = .null) ∧ ar < h.sz
theorem c_jbCmp {E : Ev} {h : HP} {pl qu rk dy : Nat → Nat} {x y : Nat} (d k : Nat) (hd1 : 1 ≤ d) (X : JbA h pl qu rk dy x) (Y : JbA h pl qu rk dy y) : Call E yX4_compareTo d k [.ref x, .ref y] h (rI fun v h' => h' = h ∧ Cm v (kA pl qu rk dy x) (kA pl qu rk dy y)) :=
  c_jobCmp d k hd1 X.2.1 Y.2.1 X.2.2.1 Y.2.2.1 X.2.2.2.1 Y.2.2.2.1 X.2.2.2.2.1 Y.2.2.2.2.1 X.1 Y.1
theorem PqA.put {h : HP} {ar n cap k i : Nat} {g : Nat → Nat} (X : PqA h ar n cap g k) (hk : k < n) (hi : i < n) : PqA (h.put ar k (.ref (g i))) ar n cap (swp g k i) i := by
  obtain ⟨x1, x2, x3, x4, x5, x6, x7⟩ := X
  refine ⟨x1, x2, x3, x4, fun j hj hn => ?_, fun j hj hc hn => ?_, x7⟩
  · unfold swp
    by_cases e : j = k
    · subst e; simp [mm_put]
    · rw [mm_nek _ _ _ _ _ e, if_neg e, if_neg hn]; exact x5 j hj e
  · rw [mm_nek _ _ _ _ _ (by omega)]; exact x6 j hj hc (by omega)
theorem nI_pos9 {n : Nat} (h0 : 0 < n) (h : n < 2 ^ 31) : ¬ nI n ≤ 0 := nI_nle h0 h
set_option maxHeartbeats 4000000 in
theorem c_siftUp0 {E : Ev} {h : HP} {pl qu rk dy : Nat → Nat} {ar n cap : Nat} {g : Nat → Nat} {x k0 : Nat} (d k : Nat) (hd1 : 2 ≤ d) (PA : PqA h ar n cap g k0) (hU : Up9 n (kA pl qu rk dy) g k0) (hgx : g k0 = x) (IJ : inj9 n g) (JJ : ∀ y, el9 n g y → JbA h pl qu rk dy y) (hnar : ∀ y, el9 n g y → ¬ y = ar) : Call E yJ2_siftUpComparable d k [.int (nI k0), .ref x, .ref ar] h (rV (fun h' => ∃ g' : Nat → Nat, PqA h' ar n cap g' cap ∧ Hp9 n (kA pl qu rk dy) g' ∧ inj9 n g' ∧ (∀ x, el9 n g' x ↔ el9 n g x) ∧ Sm (fun a => a = ar) h h' ∧ h'.sz = h.sz)) := by
  have LOOP : ∀ (m : Nat) (k9 : Nat) (g9 : Nat → Nat) (h9 : HP) (v4 v5 : Value), v4.category = 1 → k9 < m → PqA h9 ar n cap g9 k9 ∧ Up9 n (kA pl qu rk dy) g9 k9 ∧ g9 k9 = x ∧ inj9 n g9 ∧ (∀ x, el9 n g9 x ↔ el9 n g x) ∧ Sm (fun a => a = ar) h h9 ∧ h9.sz = h.sz → Z E mJ2_siftUpComparable d (rV (fun h' => ∃ g' : Nat → Nat, PqA h' ar n cap g' cap ∧ Hp9 n (kA pl qu rk dy) g' ∧ inj9 n g' ∧ (∀ x, el9 n g' x ↔ el9 n g x) ∧ Sm (fun a => a = ar) h h' ∧ h'.sz = h.sz)) k h9 5 [.int (nI k9), .ref x, .ref ar, .ref x, v4, v5] [] := by
    intro m
    induction m with
    | zero => exact fun _ _ _ _ _ _ q => absurd q (Nat.not_lt_zero _)
    | succ m ih =>
      intro k9 g9 h9 v4 v5 hv4 hm ⟨PA, UP, hgx, IJ, EL, AA, zz⟩
      obtain ⟨A1, A2, A3, A4, A5, A6, A7⟩ := id PA
      have hkn := UP.1
      have hJ : ∀ i, i < n → JbA h9 pl qu rk dy (g9 i) := fun i hi => (JJ _ ((EL _).mp ⟨i, hi, rfl⟩)).keep AA (hnar _ ((EL _).mp ⟨i, hi, rfl⟩))
      have JX := hJ k9 hkn
      rw [hgx] at JX
      have JE := hJ ((k9 - 1) / 2) (by omega)
      refine z_iload0 5 dJ2_siftUpComparable_5 ?_
      refine z_ifle 6 47 dJ2_siftUpComparable_6 (by decide) (fun c6 => ?_) (fun d6 => ?_)
      · first | refine z_aload2 47 dJ2_siftUpComparable_47 ?_ | refine z_aload2N 47 dJ2_siftUpComparable_47 ?_ | refine z_aload2o 47 dJ2_siftUpComparable_47 ?_
        refine z_iload0 48 dJ2_siftUpComparable_48 ?_
        first | refine z_aload3 49 dJ2_siftUpComparable_49 ?_ | refine z_aload3N 49 dJ2_siftUpComparable_49 ?_ | refine z_aload3o 49 dJ2_siftUpComparable_49 ?_
        refine z_aast 50 k9 e_4_3 dJ2_siftUpComparable_50 A1 JX.1.1 A2 rfl (by omega) (by omega) ?_
        refine z_return 51 rfl dJ2_siftUpComparable_51 ?_
        refine ⟨rfl, g9, ⟨A1, A2, A3, A4, fun i hi _ => ?_, fun i hi hc _ => ?_, A7⟩, UP.done (fun h0 => by first | (exfalso; exact nI_pos9 h0 (by omega) c6) | (rw [hgx]; exact hge)), IJ, EL, AA.putS rfl, zz⟩
        · by_cases e9 : i = k9
          · subst e9; rw [mm_self, hgx]
          · rw [mm_nek _ _ _ _ _ e9]; exact A5 i hi e9
        · rw [mm_nek _ _ _ _ _ (by omega)]; exact A6 i hi hc (by omega)
      · have hk0 : 0 < k9 := Nat.pos_of_ne_zero (fun e => d6 (by subst e; decide))
        have hp : (k9 - 1) / 2 < k9 := by omega
        refine z_iload0 9 dJ2_siftUpComparable_9 ?_
        refine z_iconst 10 (nI 1) dJ2_siftUpComparable_10 kI1 ?_
        refine z_isub 11 dJ2_siftUpComparable_11 ?_
        refine z_iconst 12 (nI 1) dJ2_siftUpComparable_12 kI1 ?_
        refine z_iushr 13 dJ2_siftUpComparable_13 ?_
        rw [show nI k9 - nI 1 = nI (k9 - 1) from pk_sub hk0, ush1 (by omega)]
        refine z_istore4 14 dJ2_siftUpComparable_14 rfl ?_
        first | refine z_aload2 16 dJ2_siftUpComparable_16 ?_ | refine z_aload2N 16 dJ2_siftUpComparable_16 ?_ | refine z_aload2o 16 dJ2_siftUpComparable_16 ?_
        refine z_iload4 17 dJ2_siftUpComparable_17 ?_
        refine z_aald (i := 4) 19 ((k9 - 1) / 2) dJ2_siftUpComparable_19 (by decide) (by decide) A1 A2 (rfl) (by omega) (by omega) (A5 _ (by omega) (by omega)) ?_
        refine z_astore5 20 dJ2_siftUpComparable_20 rfl ?_
        first | refine z_aload3 22 dJ2_siftUpComparable_22 ?_ | refine z_aload3N 22 dJ2_siftUpComparable_22 ?_ | refine z_aload3o 22 dJ2_siftUpComparable_22 ?_
        first | refine z_aload5 23 dJ2_siftUpComparable_23 ?_ | refine z_aload5N 23 dJ2_siftUpComparable_23 ?_ | refine z_aload5o 23 dJ2_siftUpComparable_23 ?_
        refine z_F1 (k' := k) 25 fxJ2_146_3 dJ2_siftUpComparable_25 JX.1.1 (c_jbCmp (d - 1) 0 (by omega) JX JE) (by omega) (by omega) (Nat.le_of_ble_eq_true rfl) (aft_I fun v h2 hq => ?_)
        obtain ⟨rfl, hq⟩ := hq
        refine z_iflt 30 36 dJ2_siftUpComparable_30 (by decide) (fun c30 => ?_) (fun d30 => ?_)
        · have hlt := hq.1.mp c30
          first | refine z_aload2 36 dJ2_siftUpComparable_36 ?_ | refine z_aload2N 36 dJ2_siftUpComparable_36 ?_ | refine z_aload2o 36 dJ2_siftUpComparable_36 ?_
          refine z_iload0 37 dJ2_siftUpComparable_37 ?_
          first | refine z_aload5 38 dJ2_siftUpComparable_38 ?_ | refine z_aload5N 38 dJ2_siftUpComparable_38 ?_ | refine z_aload5o 38 dJ2_siftUpComparable_38 ?_
          refine z_aast 40 k9 e_4_3 dJ2_siftUpComparable_40 A1 JE.1.1 A2 rfl (by omega) (by omega) ?_
          refine z_iload4 41 dJ2_siftUpComparable_41 ?_
          refine z_istore0 43 dJ2_siftUpComparable_43 ?_
          refine z_goto 44 5 dJ2_siftUpComparable_44 (by decide) ?_
          refine ih _ _ _ _ _ rfl (by omega) ⟨PA.put UP.1 (by omega), UP.step hk0 (by rw [hgx]; exact hlt), ?_, inj9_swp UP.1 (by omega) IJ, fun y => (el9_swp UP.1 (by omega)).trans (EL y), AA.putS rfl, zz⟩
          unfold swp; rw [if_neg (by omega), if_pos rfl]; exact hgx
        · have hge := hq.ge.mp (by rw [Int32.le_iff_toInt_le]; rw [Int32.lt_iff_toInt_lt] at d30; omega)
          refine z_goto 33 47 dJ2_siftUpComparable_33 (by decide) ?_
          first | refine z_aload2 47 dJ2_siftUpComparable_47 ?_ | refine z_aload2N 47 dJ2_siftUpComparable_47 ?_ | refine z_aload2o 47 dJ2_siftUpComparable_47 ?_
          refine z_iload0 48 dJ2_siftUpComparable_48 ?_
          first | refine z_aload3 49 dJ2_siftUpComparable_49 ?_ | refine z_aload3N 49 dJ2_siftUpComparable_49 ?_ | refine z_aload3o 49 dJ2_siftUpComparable_49 ?_
          refine z_aast 50 k9 e_4_3 dJ2_siftUpComparable_50 A1 JX.1.1 A2 rfl (by omega) (by omega) ?_
          refine z_return 51 rfl dJ2_siftUpComparable_51 ?_
          refine ⟨rfl, g9, ⟨A1, A2, A3, A4, fun i hi _ => ?_, fun i hi hc _ => ?_, A7⟩, UP.done (fun h0 => by first | (exfalso; exact nI_pos9 h0 (by omega) c6) | (rw [hgx]; exact hge)), IJ, EL, AA.putS rfl, zz⟩
          · by_cases e9 : i = k9
            · subst e9; rw [mm_self, hgx]
            · rw [mm_nek _ _ _ _ _ e9]; exact A5 i hi e9
          · rw [mm_nek _ _ _ _ _ (by omega)]; exact A6 i hi hc (by omega)
  refine Call.of [.int (nI k0), .ref x, .ref ar, dum, dum, dum] q1591 (by decide) pn_J2 (Nat.le_of_ble_eq_true rfl) rfl ?_
  first | refine z_aload1 0 dJ2_siftUpComparable_0 ?_ | refine z_aload1N 0 dJ2_siftUpComparable_0 ?_ | refine z_aload1o 0 dJ2_siftUpComparable_0 ?_
  refine z_castF 1 fxJ2_146_3 q1592 dJ2_siftUpComparable_1 (JJ x ⟨k0, hU.1, hgx⟩).1.1 ?_
  refine z_astore3 4 dJ2_siftUpComparable_4 rfl ?_
  exact LOOP _ _ _ _ _ _ rfl (Nat.lt_succ_self _) ⟨PA, hU, hgx, IJ, fun _ => Iff.rfl, Sm.refl _ _, rfl⟩
theorem iushr1 {n : Nat} (h : n < 2 ^ 31) : ((nI n).toUInt32 >>> ((nI 1).toUInt32 &&& Int32.toUInt32 31)).toInt32 = nI (n / 2) := ush1 h
set_option maxHeartbeats 4000000 in
theorem c_siftDown0 {E : Ev} {h : HP} {pl qu rk dy : Nat → Nat} {ar n cap : Nat} {g : Nat → Nat} {x k0 : Nat} (d k : Nat) (hd1 : 2 ≤ d) (PA : PqA h ar n cap g k0) (hU : Dn9 n (kA pl qu rk dy) g k0) (hgx : g k0 = x) (IJ : inj9 n g) (JJ : ∀ y, el9 n g y → JbA h pl qu rk dy y) (hnar : ∀ y, el9 n g y → ¬ y = ar) : Call E yJ2_siftDownComparable d k [.int (nI k0), .ref x, .ref ar, .int (nI n)] h (rV (fun h' => ∃ g' : Nat → Nat, PqA h' ar n cap g' cap ∧ Hp9 n (kA pl qu rk dy) g' ∧ inj9 n g' ∧ (∀ x, el9 n g' x ↔ el9 n g x) ∧ Sm (fun a => a = ar) h h' ∧ h'.sz = h.sz)) := by
  have LOOP : ∀ (m : Nat) (k9 : Nat) (g9 : Nat → Nat) (h9 : HP) (v6 v7 v8 : Value), v6.category = 1 → v7.category = 1 → n - k9 < m → PqA h9 ar n cap g9 k9 ∧ Dn9 n (kA pl qu rk dy) g9 k9 ∧ g9 k9 = x ∧ inj9 n g9 ∧ (∀ x, el9 n g9 x ↔ el9 n g x) ∧ Sm (fun a => a = ar) h h9 ∧ h9.sz = h.sz → Z E mJ2_siftDownComparable d (rV (fun h' => ∃ g' : Nat → Nat, PqA h' ar n cap g' cap ∧ Hp9 n (kA pl qu rk dy) g' ∧ inj9 n g' ∧ (∀ x, el9 n g' x ↔ el9 n g x) ∧ Sm (fun a => a = ar) h h' ∧ h'.sz = h.sz)) k h9 11 [.int (nI k9), .ref x, .ref ar, .int (nI n), .ref x, .int (nI (n / 2)), v6, v7, v8] [] := by
    intro m
    induction m with
    | zero => exact fun _ _ _ _ _ _ _ _ q => absurd q (Nat.not_lt_zero _)
    | succ m ih =>
      intro k9 g9 h9 v6 v7 v8 hv6 hv7 hm ⟨PA, UP, hgx, IJ, EL, AA, zz⟩
      obtain ⟨A1, A2, A3, A4, A5, A6, A7⟩ := id PA
      have hkn := UP.1
      have hJ : ∀ i, i < n → JbA h9 pl qu rk dy (g9 i) := fun i hi => (JJ _ ((EL _).mp ⟨i, hi, rfl⟩)).keep AA (hnar _ ((EL _).mp ⟨i, hi, rfl⟩))
      have JX := hJ k9 hkn
      rw [hgx] at JX
      refine z_iload0 11 dJ2_siftDownComparable_11 ?_
      refine z_iload5 12 dJ2_siftDownComparable_12 ?_
      refine z_icge 14 94 dJ2_siftDownComparable_14 (by decide) (fun c14 => ?_) (fun d14 => ?_)
      · have hk2 : n / 2 ≤ k9 := Nat.le_of_not_lt (fun e => nI_ge e (by omega) c14)
        first | refine z_aload2 94 dJ2_siftDownComparable_94 ?_ | refine z_aload2N 94 dJ2_siftDownComparable_94 ?_ | refine z_aload2o 94 dJ2_siftDownComparable_94 ?_
        refine z_iload0 95 dJ2_siftDownComparable_95 ?_
        first | refine z_aload4 96 dJ2_siftDownComparable_96 ?_ | refine z_aload4N 96 dJ2_siftDownComparable_96 ?_ | refine z_aload4o 96 dJ2_siftDownComparable_96 ?_
        refine z_aast 98 k9 e_4_3 dJ2_siftDownComparable_98 A1 JX.1.1 A2 rfl (by omega) (by omega) ?_
        refine z_return 99 rfl dJ2_siftDownComparable_99 ?_
        refine ⟨rfl, g9, ⟨A1, A2, A3, A4, fun i hi _ => ?_, fun i hi hc _ => ?_, A7⟩, UP.done (fun c hc0 hc hcp => (by omega)), IJ, EL, AA.putS rfl, zz⟩
        · by_cases e9 : i = k9
          · subst e9; rw [mm_self, hgx]
          · rw [mm_nek _ _ _ _ _ e9]; exact A5 i hi e9
        · rw [mm_nek _ _ _ _ _ (by omega)]; exact A6 i hi hc (by omega)
      · have hk2 : k9 < n / 2 := Nat.lt_of_not_le (fun e => d14 (nI_le e (by omega)))
        refine z_iload0 17 dJ2_siftDownComparable_17 ?_
        refine z_iconst 18 (nI 1) dJ2_siftDownComparable_18 kI1 ?_
        refine z_ishl 19 dJ2_siftDownComparable_19 ?_
        rw [shl1 (by omega)]
        refine z_iconst 20 (nI 1) dJ2_siftDownComparable_20 kI1 ?_
        refine z_iadd 21 dJ2_siftDownComparable_21 ?_
        rw [nI_add]
        refine z_istore6 22 dJ2_siftDownComparable_22 rfl ?_
        refine z_aload2 24 dJ2_siftDownComparable_24 ?_
        refine z_iload6 25 dJ2_siftDownComparable_25 ?_
        refine z_aald (i := 4) 27 (2 * k9 + 1) dJ2_siftDownComparable_27 (by decide) (by decide) A1 A2 (rfl) (by omega) (by omega) (A5 _ (by omega) (by omega)) ?_
        refine z_astore7 28 dJ2_siftDownComparable_28 rfl ?_
        have JL := hJ (2 * k9 + 1) (by omega)
        refine z_iload6 30 dJ2_siftDownComparable_30 ?_
        refine z_iconst 32 (nI 1) dJ2_siftDownComparable_32 kI1 ?_
        refine z_iadd 33 dJ2_siftDownComparable_33 ?_
        rw [nI_add]
        refine z_istore8 34 dJ2_siftDownComparable_34 rfl ?_
        refine z_iload8 36 dJ2_siftDownComparable_36 ?_
        refine z_iload3 38 dJ2_siftDownComparable_38 ?_
        refine z_icge 39 68 dJ2_siftDownComparable_39 (by decide) (fun c39 => ?_) (fun d39 => ?_)
        · have hr2 : n ≤ 2 * k9 + 1 + 1 := Nat.le_of_not_lt (fun e => nI_ge e (by omega) c39)
          refine z_aload4 68 dJ2_siftDownComparable_68 ?_
          refine z_aload7 70 dJ2_siftDownComparable_70 ?_
          refine z_F1 (k' := k) 72 fxJ2_146_3 dJ2_siftDownComparable_72 JX.1.1 (c_jbCmp (d - 1) 0 (by omega) JX JL) (by omega) (by omega) (Nat.le_of_ble_eq_true rfl) (aft_I fun v h2 hq => ?_)
          obtain ⟨rfl, hq⟩ := hq
          refine z_ifgt 77 83 dJ2_siftDownComparable_77 (by decide) (fun c77 => ?_) (fun d77 => ?_)
          · have hlt : kA pl qu rk dy (g9 (2 * k9 + 1)) < kA pl qu rk dy x := hq.gt.mp c77
            first | refine z_aload2 83 dJ2_siftDownComparable_83 ?_ | refine z_aload2N 83 dJ2_siftDownComparable_83 ?_ | refine z_aload2o 83 dJ2_siftDownComparable_83 ?_
            refine z_iload0 84 dJ2_siftDownComparable_84 ?_
            first | refine z_aload7 85 dJ2_siftDownComparable_85 ?_ | refine z_aload7N 85 dJ2_siftDownComparable_85 ?_ | refine z_aload7o 85 dJ2_siftDownComparable_85 ?_
            refine z_aast 87 k9 e_4_3 dJ2_siftDownComparable_87 A1 JL.1.1 A2 rfl (by omega) (by omega) ?_
            refine z_iload6 88 dJ2_siftDownComparable_88 ?_
            refine z_istore0 90 dJ2_siftDownComparable_90 ?_
            refine z_goto 91 11 dJ2_siftDownComparable_91 (by decide) ?_
            refine ih _ _ _ _ _ _ rfl rfl (by omega) ⟨PA.put UP.1 (by omega), UP.step (by omega) (by omega) (by omega) (by rw [hgx]; exact hlt) (fun b hb0 hb hbp => (by rw [show b = 2 * k9 + 1 from (by omega)]; exact Nat.le_refl _)), ?_, inj9_swp UP.1 (by omega) IJ, fun y => (el9_swp UP.1 (by omega)).trans (EL y), AA.putS rfl, zz⟩
            unfold swp; rw [if_neg (by omega), if_pos rfl]; exact hgx
          · have hle : kA pl qu rk dy x ≤ kA pl qu rk dy (g9 (2 * k9 + 1)) := hq.le.mp (by rw [Int32.le_iff_toInt_le]; rw [Int32.lt_iff_toInt_lt] at d77; omega)
            refine z_goto 80 94 dJ2_siftDownComparable_80 (by decide) ?_
            first | refine z_aload2 94 dJ2_siftDownComparable_94 ?_ | refine z_aload2N 94 dJ2_siftDownComparable_94 ?_ | refine z_aload2o 94 dJ2_siftDownComparable_94 ?_
            refine z_iload0 95 dJ2_siftDownComparable_95 ?_
            first | refine z_aload4 96 dJ2_siftDownComparable_96 ?_ | refine z_aload4N 96 dJ2_siftDownComparable_96 ?_ | refine z_aload4o 96 dJ2_siftDownComparable_96 ?_
            refine z_aast 98 k9 e_4_3 dJ2_siftDownComparable_98 A1 JX.1.1 A2 rfl (by omega) (by omega) ?_
            refine z_return 99 rfl dJ2_siftDownComparable_99 ?_
            refine ⟨rfl, g9, ⟨A1, A2, A3, A4, fun i hi _ => ?_, fun i hi hc _ => ?_, A7⟩, UP.done (fun c hc0 hc hcp => (by rw [hgx]; exact Nat.le_trans hle ((by rw [show c = 2 * k9 + 1 from (by omega)]; exact Nat.le_refl _)))), IJ, EL, AA.putS rfl, zz⟩
            · by_cases e9 : i = k9
              · subst e9; rw [mm_self, hgx]
              · rw [mm_nek _ _ _ _ _ e9]; exact A5 i hi e9
            · rw [mm_nek _ _ _ _ _ (by omega)]; exact A6 i hi hc (by omega)
        · have hr2 : 2 * k9 + 1 + 1 < n := Nat.lt_of_not_le (fun e => d39 (nI_le e (by omega)))
          have JR := hJ (2 * k9 + 2) (by omega)
          first | refine z_aload7 42 dJ2_siftDownComparable_42 ?_ | refine z_aload7N 42 dJ2_siftDownComparable_42 ?_ | refine z_aload7o 42 dJ2_siftDownComparable_42 ?_
          refine z_castF 44 fxJ2_146_3 q1592 dJ2_siftDownComparable_44 JL.1.1 ?_
          first | refine z_aload2 47 dJ2_siftDownComparable_47 ?_ | refine z_aload2N 47 dJ2_siftDownComparable_47 ?_ | refine z_aload2o 47 dJ2_siftDownComparable_47 ?_
          refine z_iload8 48 dJ2_siftDownComparable_48 ?_
          refine z_aald (i := 4) 50 (2 * k9 + 2) dJ2_siftDownComparable_50 (by decide) (by decide) A1 A2 (rfl) (by omega) (by omega) (A5 _ (by omega) (by omega)) ?_
          refine z_F1 (k' := k) 51 fxJ2_146_3 dJ2_siftDownComparable_51 JL.1.1 (c_jbCmp (d - 1) 0 (by omega) JL JR) (by omega) (by omega) (Nat.le_of_ble_eq_true rfl) (aft_I fun v h2 hq => ?_)
          obtain ⟨rfl, hq⟩ := hq
          refine z_ifle 56 68 dJ2_siftDownComparable_56 (by decide) (fun c56 => ?_) (fun d56 => ?_)
          · have hLR : kA pl qu rk dy (g9 (2 * k9 + 1)) ≤ kA pl qu rk dy (g9 (2 * k9 + 2)) := hq.le.mp c56
            refine z_aload4 68 dJ2_siftDownComparable_68 ?_
            refine z_aload7 70 dJ2_siftDownComparable_70 ?_
            refine z_F1 (k' := k) 72 fxJ2_146_3 dJ2_siftDownComparable_72 JX.1.1 (c_jbCmp (d - 1) 0 (by omega) JX JL) (by omega) (by omega) (Nat.le_of_ble_eq_true rfl) (aft_I fun v h2 hq => ?_)
            obtain ⟨rfl, hq⟩ := hq
            refine z_ifgt 77 83 dJ2_siftDownComparable_77 (by decide) (fun c77 => ?_) (fun d77 => ?_)
            · have hlt : kA pl qu rk dy (g9 (2 * k9 + 1)) < kA pl qu rk dy x := hq.gt.mp c77
              first | refine z_aload2 83 dJ2_siftDownComparable_83 ?_ | refine z_aload2N 83 dJ2_siftDownComparable_83 ?_ | refine z_aload2o 83 dJ2_siftDownComparable_83 ?_
              refine z_iload0 84 dJ2_siftDownComparable_84 ?_
              first | refine z_aload7 85 dJ2_siftDownComparable_85 ?_ | refine z_aload7N 85 dJ2_siftDownComparable_85 ?_ | refine z_aload7o 85 dJ2_siftDownComparable_85 ?_
              refine z_aast 87 k9 e_4_3 dJ2_siftDownComparable_87 A1 JL.1.1 A2 rfl (by omega) (by omega) ?_
              refine z_iload6 88 dJ2_siftDownComparable_88 ?_
              refine z_istore0 90 dJ2_siftDownComparable_90 ?_
              refine z_goto 91 11 dJ2_siftDownComparable_91 (by decide) ?_
              refine ih _ _ _ _ _ _ rfl rfl (by omega) ⟨PA.put UP.1 (by omega), UP.step (by omega) (by omega) (by omega) (by rw [hgx]; exact hlt) (fun b hb0 hb hbp => ((show b = 2 * k9 + 1 ∨ b = 2 * k9 + 2 from (by omega)).elim (fun e => by rw [e]; exact Nat.le_refl _) (fun e => by rw [e]; exact hLR))), ?_, inj9_swp UP.1 (by omega) IJ, fun y => (el9_swp UP.1 (by omega)).trans (EL y), AA.putS rfl, zz⟩
              unfold swp; rw [if_neg (by omega), if_pos rfl]; exact hgx
            · have hle : kA pl qu rk dy x ≤ kA pl qu rk dy (g9 (2 * k9 + 1)) := hq.le.mp (by rw [Int32.le_iff_toInt_le]; rw [Int32.lt_iff_toInt_lt] at d77; omega)
              refine z_goto 80 94 dJ2_siftDownComparable_80 (by decide) ?_
              first | refine z_aload2 94 dJ2_siftDownComparable_94 ?_ | refine z_aload2N 94 dJ2_siftDownComparable_94 ?_ | refine z_aload2o 94 dJ2_siftDownComparable_94 ?_
              refine z_iload0 95 dJ2_siftDownComparable_95 ?_
              first | refine z_aload4 96 dJ2_siftDownComparable_96 ?_ | refine z_aload4N 96 dJ2_siftDownComparable_96 ?_ | refine z_aload4o 96 dJ2_siftDownComparable_96 ?_
              refine z_aast 98 k9 e_4_3 dJ2_siftDownComparable_98 A1 JX.1.1 A2 rfl (by omega) (by omega) ?_
              refine z_return 99 rfl dJ2_siftDownComparable_99 ?_
              refine ⟨rfl, g9, ⟨A1, A2, A3, A4, fun i hi _ => ?_, fun i hi hc _ => ?_, A7⟩, UP.done (fun c hc0 hc hcp => (by rw [hgx]; exact Nat.le_trans hle (((show c = 2 * k9 + 1 ∨ c = 2 * k9 + 2 from (by omega)).elim (fun e => by rw [e]; exact Nat.le_refl _) (fun e => by rw [e]; exact hLR))))), IJ, EL, AA.putS rfl, zz⟩
              · by_cases e9 : i = k9
                · subst e9; rw [mm_self, hgx]
                · rw [mm_nek _ _ _ _ _ e9]; exact A5 i hi e9
              · rw [mm_nek _ _ _ _ _ (by omega)]; exact A6 i hi hc (by omega)
          · have hRL : kA pl qu rk dy (g9 (2 * k9 + 2)) < kA pl qu rk dy (g9 (2 * k9 + 1)) := Nat.lt_of_not_le (fun e => d56 (hq.le.mpr e))
            first | refine z_aload2 59 dJ2_siftDownComparable_59 ?_ | refine z_aload2N 59 dJ2_siftDownComparable_59 ?_ | refine z_aload2o 59 dJ2_siftDownComparable_59 ?_
            refine z_iload8 60 dJ2_siftDownComparable_60 ?_
            refine z_dup 62 dJ2_siftDownComparable_62 (by first | rfl | exact va_rf_cat _) ?_
            refine z_istore6 63 dJ2_siftDownComparable_63 rfl ?_
            refine z_aald (i := 4) 65 (2 * k9 + 2) dJ2_siftDownComparable_65 (by decide) (by decide) A1 A2 (rfl) (by omega) (by omega) (A5 _ (by omega) (by omega)) ?_
            refine z_astore7 66 dJ2_siftDownComparable_66 rfl ?_
            refine z_aload4 68 dJ2_siftDownComparable_68 ?_
            refine z_aload7 70 dJ2_siftDownComparable_70 ?_
            refine z_F1 (k' := k) 72 fxJ2_146_3 dJ2_siftDownComparable_72 JX.1.1 (c_jbCmp (d - 1) 0 (by omega) JX JR) (by omega) (by omega) (Nat.le_of_ble_eq_true rfl) (aft_I fun v h2 hq => ?_)
            obtain ⟨rfl, hq⟩ := hq
            refine z_ifgt 77 83 dJ2_siftDownComparable_77 (by decide) (fun c77 => ?_) (fun d77 => ?_)
            · have hlt : kA pl qu rk dy (g9 (2 * k9 + 2)) < kA pl qu rk dy x := hq.gt.mp c77
              first | refine z_aload2 83 dJ2_siftDownComparable_83 ?_ | refine z_aload2N 83 dJ2_siftDownComparable_83 ?_ | refine z_aload2o 83 dJ2_siftDownComparable_83 ?_
              refine z_iload0 84 dJ2_siftDownComparable_84 ?_
              first | refine z_aload7 85 dJ2_siftDownComparable_85 ?_ | refine z_aload7N 85 dJ2_siftDownComparable_85 ?_ | refine z_aload7o 85 dJ2_siftDownComparable_85 ?_
              refine z_aast 87 k9 e_4_3 dJ2_siftDownComparable_87 A1 JR.1.1 A2 rfl (by omega) (by omega) ?_
              refine z_iload6 88 dJ2_siftDownComparable_88 ?_
              refine z_istore0 90 dJ2_siftDownComparable_90 ?_
              refine z_goto 91 11 dJ2_siftDownComparable_91 (by decide) ?_
              refine ih _ _ _ _ _ _ rfl rfl (by omega) ⟨PA.put UP.1 (by omega), UP.step (by omega) (by omega) (by omega) (by rw [hgx]; exact hlt) (fun b hb0 hb hbp => ((show b = 2 * k9 + 1 ∨ b = 2 * k9 + 2 from (by omega)).elim (fun e => by rw [e]; exact Nat.le_of_lt hRL) (fun e => by rw [e]; exact Nat.le_refl _))), ?_, inj9_swp UP.1 (by omega) IJ, fun y => (el9_swp UP.1 (by omega)).trans (EL y), AA.putS rfl, zz⟩
              unfold swp; rw [if_neg (by omega), if_pos rfl]; exact hgx
            · have hle : kA pl qu rk dy x ≤ kA pl qu rk dy (g9 (2 * k9 + 2)) := hq.le.mp (by rw [Int32.le_iff_toInt_le]; rw [Int32.lt_iff_toInt_lt] at d77; omega)
              refine z_goto 80 94 dJ2_siftDownComparable_80 (by decide) ?_
              first | refine z_aload2 94 dJ2_siftDownComparable_94 ?_ | refine z_aload2N 94 dJ2_siftDownComparable_94 ?_ | refine z_aload2o 94 dJ2_siftDownComparable_94 ?_
              refine z_iload0 95 dJ2_siftDownComparable_95 ?_
              first | refine z_aload4 96 dJ2_siftDownComparable_96 ?_ | refine z_aload4N 96 dJ2_siftDownComparable_96 ?_ | refine z_aload4o 96 dJ2_siftDownComparable_96 ?_
              refine z_aast 98 k9 e_4_3 dJ2_siftDownComparable_98 A1 JX.1.1 A2 rfl (by omega) (by omega) ?_
              refine z_return 99 rfl dJ2_siftDownComparable_99 ?_
              refine ⟨rfl, g9, ⟨A1, A2, A3, A4, fun i hi _ => ?_, fun i hi hc _ => ?_, A7⟩, UP.done (fun c hc0 hc hcp => (by rw [hgx]; exact Nat.le_trans hle (((show c = 2 * k9 + 1 ∨ c = 2 * k9 + 2 from (by omega)).elim (fun e => by rw [e]; exact Nat.le_of_lt hRL) (fun e => by rw [e]; exact Nat.le_refl _))))), IJ, EL, AA.putS rfl, zz⟩
              · by_cases e9 : i = k9
                · subst e9; rw [mm_self, hgx]
                · rw [mm_nek _ _ _ _ _ e9]; exact A5 i hi e9
              · rw [mm_nek _ _ _ _ _ (by omega)]; exact A6 i hi hc (by omega)
  refine Call.of [.int (nI k0), .ref x, .ref ar, .int (nI n), dum, dum, dum, dum, dum] q1623 (by decide) pn_J2 (Nat.le_of_ble_eq_true rfl) rfl ?_
  first | refine z_aload1 0 dJ2_siftDownComparable_0 ?_ | refine z_aload1N 0 dJ2_siftDownComparable_0 ?_ | refine z_aload1o 0 dJ2_siftDownComparable_0 ?_
  refine z_castF 1 fxJ2_146_3 q1592 dJ2_siftDownComparable_1 (JJ x ⟨k0, hU.1, hgx⟩).1.1 ?_
  refine z_astore4 4 dJ2_siftDownComparable_4 rfl ?_
  refine z_iload3 6 dJ2_siftDownComparable_6 ?_
  refine z_iconst 7 (nI 1) dJ2_siftDownComparable_7 kI1 ?_
  refine z_iushr 8 dJ2_siftDownComparable_8 ?_
  rw [ush1 (by have := PA.2.2.1; have := PA.2.2.2.1; omega)]
  refine z_istore5 9 dJ2_siftDownComparable_9 rfl ?_
  exact LOOP _ _ _ _ _ _ _ rfl rfl (Nat.lt_succ_self _) ⟨PA, hU, hgx, IJ, fun _ => Iff.rfl, Sm.refl _ _, rfl⟩
