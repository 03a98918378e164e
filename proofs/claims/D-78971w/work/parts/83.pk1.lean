/-! PARK, its looks -/
/-- what the small methods see -/
def PkV (h : HP) (L tg P td : Nat → Nat) (pn : Nat) (fz : Bool) : Prop := PkO h L tg ∧ PkA h L ∧ PkN h L P pn fz ∧ PkF h L P td
section
variable {h : HP} {L tg P td : Nat → Nat} {pn : Nat} {fz : Bool}
theorem Pk.v (X : Pk h L tg P td pn fz) : PkV h L tg P td pn fz := ⟨X.1, X.2.1, X.2.2.1, X.2.2.2.1⟩
theorem PkV.k0 (X : PkV h L tg P td pn fz) : h.kd (L 0) = 1 := X.2.1.1
theorem PkV.k1 (X : PkV h L tg P td pn fz) : h.kd (L 1) = 105 := X.2.1.2.2.1.1
theorem PkV.l1 (X : PkV h L tg P td pn fz) : h.ln (L 1) = 8 := X.2.1.2.2.1.2.1
theorem PkV.a1 (X : PkV h L tg P td pn fz) {i : Nat} (hi : i < 8) : h.mm (L 1) i = .ref (L (10 + i)) := X.2.1.2.2.1.2.2 i hi
theorem PkV.k2 (X : PkV h L tg P td pn fz) : h.kd (L 2) = 106 := X.2.1.2.2.2.1.1
theorem PkV.l2 (X : PkV h L tg P td pn fz) : h.ln (L 2) = 16 := X.2.1.2.2.2.1.2.1
theorem PkV.a2 (X : PkV h L tg P td pn fz) {i : Nat} (hi : i < 16) : h.mm (L 2) i = .ref (L (40 + i)) := X.2.1.2.2.2.1.2.2 i hi
theorem PkV.k7 (X : PkV h L tg P td pn fz) : h.kd (L 7) = 100 := X.2.1.2.2.2.2.1
theorem PkV.l7 (X : PkV h L tg P td pn fz) : h.ln (L 7) = 5 := X.2.1.2.2.2.2.2
theorem PkV.a7 (X : PkV h L tg P td pn fz) {i : Nat} (hi : i < 5) : h.mm (L 7) i = .int (nI (P i)) := X.2.2.1.1 i hi
theorem PkV.day (X : PkV h L tg P td pn fz) : h.mm (L 0) 6 = .int (nI (P 5)) := X.2.2.1.2.1
theorem PkV.fro (X : PkV h L tg P td pn fz) : h.mm (L 0) 13 = .int (nI (bN fz)) := X.2.2.1.2.2.2.2
theorem PkV.sm (X : PkV h L tg P td pn fz) {k : Nat} (h1 : 8 ≤ k) (h2 : k ≤ 12) : h.mm (L 0) k = .int (nI (P k)) := X.2.2.1.2.2.2.1 k h1 h2
theorem PkV.kf (X : PkV h L tg P td pn fz) {i : Nat} (hi : i < 8) : h.kd (L (10 + i)) = 2 := (X.2.2.2 i hi).elim fun _ q => q.1.1
theorem PkV.ft (X : PkV h L tg P td pn fz) {i : Nat} (hi : i < 8) (k : Nat) (hk : k ≤ 10) : h.mm (L (10 + i)) k = .int (ftF P (td i) i k) := (X.2.2.2 i hi).elim fun _ q => q.1.2.1 k hk
end
def clF (fz : Bool) (P : Nat → Nat) (pl : Nat) : Nat := if ofP P pl 6 = 0 then 1 else if ofP P pl 5 = 1 then 2 else if ofP P pl 4 = 1 then 3 else if fz = true ∧ ofP P pl 3 = 0 then 4 else if ofP P pl 2 = 4 * ofP P pl 1 then 5 else 0
theorem clF_P (P : Nat → Nat) (pl : Nat) : clF (frP P (P 5)) P pl = clP P pl := rfl
theorem clF_lt (fz : Bool) (P : Nat → Nat) (pl : Nat) : clF fz P pl < 6 := by unfold clF; grind
theorem nI_mul4 (a : Nat) : nI 4 * nI a = nI (4 * a) := by rw [pk_mul]
theorem c_pkUsed {E : Ev} {h : HP} {L tg P td : Nat → Nat} {pn : Nat} {fz : Bool} (V : PkV h L tg P td pn fz) (W : WF P) {i : Nat} (hi : i < 8) (d k : Nat) : Call E yX3_isUsedUp d k [.ref (L (10 + i))] h (rP h (nI (bN (decide (ofP P i 2 = 4 * ofP P i 1))))) := by
  obtain ⟨w, x, -⟩ := V.2.2.2 i hi
  refine (c_isUsedUp d k x).mono (fun r h' q => ?_)
  obtain ⟨v, e, e1, e2⟩ := q
  refine ⟨v, e, e1, e2.trans ?_⟩
  show (if nI 4 * nI (ofP P i 1) ≤ nI (ofP P i 2) then nI 1 else nI 0) = _
  have b := W.pl hi
  rw [nI_mul4]
  by_cases c : ofP P i 2 = 4 * ofP P i 1
  · rw [if_pos (nI_le (by omega) (by omega)), decide_eq_true c]; rfl
  · rw [if_neg (nI_ge (by omega) (by omega)), decide_eq_false c]; rfl
set_option maxHeartbeats 4000000 in
theorem c_pkWhy {E : Ev} {h : HP} {L tg P td : Nat → Nat} {pn : Nat} {fz : Bool} (V : PkV h L tg P td pn fz) (W : WF P) {i : Nat} (hi : i < 8) (d k : Nat) (hd : 1 ≤ d) : Call E yX2_why d k [.ref (L 0), .int (nI i)] h (rP h (nI (clF fz P i))) := by
  have b := W.pl hi
  refine Call.of [.ref (L 0), .int (nI i), dum] q916 (by decide) pn_X2 (Nat.le_of_ble_eq_true rfl) rfl ?_
  refine z_aload0 0 dX2_why_0 ?_
  refine z_get 1 gX2_11 dX2_why_1 V.k0 (V.2.1.2.1.1) ?_
  refine z_iload1 4 dX2_why_4 ?_
  refine z_aald (i := 5) (n := 8) 5 (i) dX2_why_5 (by decide) (by decide) V.k1 V.l1 (rfl) (hi) (by decide) (V.a1 hi) ?_
  refine z_astore2 6 dX2_why_6 rfl ?_
  refine z_aload2 7 dX2_why_7 ?_
  refine z_get 8 gX2_140 dX2_why_8 (V.kf hi) (V.ft hi 0 (by decide)) ?_
  refine z_ifneN 11 16 dX2_why_11 (by decide) (by omega) (fun c_11 => ?_) (fun c_11 => ?_)
  · refine z_aload2 16 dX2_why_16 ?_
    refine z_get 17 gX2_143 dX2_why_17 (V.kf hi) (V.ft hi 6 (by decide)) ?_
    refine z_ifeqN 20 25 dX2_why_20 (by decide) (by omega) (fun c_20 => ?_) (fun c_20 => ?_)
    · refine z_aload2 25 dX2_why_25 ?_
      refine z_get 26 gX2_146 dX2_why_26 (V.kf hi) (V.ft hi 5 (by decide)) ?_
      refine z_ifeqN 29 34 dX2_why_29 (by decide) (by omega) (fun c_29 => ?_) (fun c_29 => ?_)
      · refine z_aload0 34 dX2_why_34 ?_
        refine z_get 35 gX2_125 dX2_why_35 V.k0 V.fro ?_
        refine z_ifeqB 38 50 dX2_why_38 (by decide) (fun c_38 => ?_) (fun c_38 => ?_)
        · refine z_aload2 50 dX2_why_50 ?_
          refine z_V0 (k' := k) 51 vX2_152 dX2_why_51 (V.kf hi) (c_pkUsed V W hi (d - 1) 0) (by omega) (by omega) (Nat.le_of_ble_eq_true rfl) (aft_P ?_)
          refine z_ifeqB 54 61 dX2_why_54 (by decide) (fun c_54 => ?_) (fun c_54 => ?_)
          · refine z_iconst 61 (nI 0) dX2_why_61 kI0 ?_
            refine z_ireturn 62 rfl dX2_why_62 ?_
            exact rP_of (congrArg nI (by unfold clF; grind))
          · refine z_iconst 57 (nI 5) dX2_why_57 kI5 ?_
            refine z_goto 58 62 dX2_why_58 (by decide) ?_
            refine z_ireturn 62 rfl dX2_why_62 ?_
            exact rP_of (congrArg nI (by unfold clF; grind))
        · refine z_aload2 41 dX2_why_41 ?_
          refine z_get 42 gX2_149 dX2_why_42 (V.kf hi) (V.ft hi 4 (by decide)) ?_
          refine z_ifneN 45 50 dX2_why_45 (by decide) (by omega) (fun c_45 => ?_) (fun c_45 => ?_)
          · refine z_aload2 50 dX2_why_50 ?_
            refine z_V0 (k' := k) 51 vX2_152 dX2_why_51 (V.kf hi) (c_pkUsed V W hi (d - 1) 0) (by omega) (by omega) (Nat.le_of_ble_eq_true rfl) (aft_P ?_)
            refine z_ifeqB 54 61 dX2_why_54 (by decide) (fun c_54 => ?_) (fun c_54 => ?_)
            · refine z_iconst 61 (nI 0) dX2_why_61 kI0 ?_
              refine z_ireturn 62 rfl dX2_why_62 ?_
              exact rP_of (congrArg nI (by unfold clF; grind))
            · refine z_iconst 57 (nI 5) dX2_why_57 kI5 ?_
              refine z_goto 58 62 dX2_why_58 (by decide) ?_
              refine z_ireturn 62 rfl dX2_why_62 ?_
              exact rP_of (congrArg nI (by unfold clF; grind))
          · refine z_iconst 48 (nI 4) dX2_why_48 kI4 ?_
            refine z_ireturn 49 rfl dX2_why_49 ?_
            exact rP_of (congrArg nI (by unfold clF; grind))
      · refine z_iconst 32 (nI 3) dX2_why_32 kI3 ?_
        refine z_ireturn 33 rfl dX2_why_33 ?_
        exact rP_of (congrArg nI (by unfold clF; grind))
    · refine z_iconst 23 (nI 2) dX2_why_23 kI2 ?_
      refine z_ireturn 24 rfl dX2_why_24 ?_
      exact rP_of (congrArg nI (by unfold clF; grind))
  · refine z_iconst 14 (nI 1) dX2_why_14 kI1 ?_
    refine z_ireturn 15 rfl dX2_why_15 ?_
    exact rP_of (congrArg nI (by unfold clF; grind))

def mnF (b fz : Bool) (P : Nat → Nat) (i : Nat) : Nat := if b = true then (if clF fz P i = 0 then 1 else 0) else ofP P i 6
theorem mnF_lt (b fz : Bool) (P : Nat → Nat) (i : Nat) (h : ofP P i 6 ≤ 1) : mnF b fz P i ≤ 1 := by unfold mnF; grind
theorem smN_le (f : Nat → Nat) (n c : Nat) (h : ∀ i, i < n → f i ≤ c) : smN n f ≤ n * c := by
  induction n with
  | zero => exact Nat.zero_le _
  | succ n ih =>
    have e1 : smN (n + 1) f = smN n f + f n := rfl
    have := ih (fun i hi => h i (by omega)); have := h n (by omega)
    rw [e1, Nat.succ_mul]; omega
theorem smN_16 (f : Nat → Nat) : smN 8 (fun i => f (2 * i) + f (2 * i + 1)) = smN 16 f := by simp [smN, itN, Nat.add_assoc]
theorem c_pkJobs1 {E : Ev} {h : HP} {L tg P td : Nat → Nat} {pn : Nat} {fz : Bool} (V : PkV h L tg P td pn fz) (W : WF P) {i : Nat} (hi : i < 8) (d k : Nat) : Call E yX3_jobs d k [.ref (L (10 + i))] h (rP h (nI (jbP P (2 * i) 0 + jbP P (2 * i + 1) 0))) := by
  obtain ⟨w, x, -⟩ := V.2.2.2 i hi
  refine (c_jobs d k x).mono (fun r h' q => ?_)
  obtain ⟨v, e, e1, e2⟩ := q
  refine ⟨v, e, e1, e2.trans ?_⟩
  have g : ∀ k, k < 2 → (if ftR P i k = -1 then nI 0 else nI 1) = nI (jbP P (2 * i + k) 0) := fun k hk => by
    have b := W.jb (j := 2 * i + k) (by omega)
    have b5 := W.B 5 (by omega) (by omega) (by omega)
    by_cases c : jbP P (2 * i + k) 0 = 1
    · have e9 : ftR P i k = nI (jbP P (2 * i + k) 1) := if_pos c
      rw [e9, if_neg (nI_nm1 (by omega)), c]
    · have e9 : ftR P i k = -1 := if_neg c
      have e0 : jbP P (2 * i + k) 0 = 0 := by omega
      rw [e9, if_pos rfl, e0]
  rw [g 0 (by omega), g 1 (by omega), nI_add]; rfl
set_option maxHeartbeats 4000000 in
theorem c_pkMany {E : Ev} {h : HP} {L tg P td : Nat → Nat} {pn : Nat} {fz : Bool} (V : PkV h L tg P td pn fz) (W : WF P) (b : Bool) (d k : Nat) (hd : 2 ≤ d) : Call E yX2_many d k [.ref (L 0), .int (nI (bN b))] h (rP h (nI (smN 8 (mnF b fz P)))) := by
  refine Call.of [.ref (L 0), .int (nI (bN b)), dum, dum] q912 (by decide) pn_X2 (Nat.le_of_ble_eq_true rfl) rfl ?_
  refine z_iconst 0 (nI 0) dX2_many_0 kI0 ?_
  refine z_istore2 1 dX2_many_1 rfl ?_
  refine z_iconst 2 (nI 0) dX2_many_2 kI0 ?_
  refine z_istore3 3 dX2_many_3 rfl ?_
  refine lpA0 4 (8) (fun i s => s + mnF b fz P i) (0) ((itN 8 (fun i s => s + mnF b fz P i) 0)) (rfl) (fun i a => [.ref (L 0), .int (nI (bN b)), .int (nI a), .int (nI i)]) ?_ (fun i a hi_i ih_i => ?_)
  · refine z_iload3 4 dX2_many_4 ?_
    refine z_bipush 5 (nI 8) dX2_many_5 kB8 ?_
    refine z_icgeN 7 56 dX2_many_7 (by decide) (by omega) (by omega) (fun c_7 => ?_) (fun c_7 => absurd c_7 (by omega))
    refine z_iload2 56 dX2_many_56 ?_
    refine z_ireturn 57 rfl dX2_many_57 ?_
    exact rP_of rfl
  · have b1 := clF_lt fz P i
    have b2 := W.pl hi_i
    refine z_iload3 4 dX2_many_4 ?_
    refine z_bipush 5 (nI 8) dX2_many_5 kB8 ?_
    refine z_icgeN 7 56 dX2_many_7 (by decide) (by omega) (by omega) (fun c_7 => absurd c_7 (by omega)) (fun c_7 => ?_)
    refine z_iload2 10 dX2_many_10 ?_
    refine z_iload1 11 dX2_many_11 ?_
    refine z_ifeqB 12 31 dX2_many_12 (by decide) (fun c_12 => ?_) (fun c_12 => ?_)
    · refine z_aload0 31 dX2_many_31 ?_
      refine z_get 32 gX2_11 dX2_many_32 V.k0 (V.2.1.2.1.1) ?_
      refine z_iload3 35 dX2_many_35 ?_
      refine z_aald (i := 5) (n := 8) 36 (i) dX2_many_36 (by decide) (by decide) V.k1 V.l1 (rfl) (hi_i) (by decide) (V.a1 hi_i) ?_
      refine z_get 37 gX2_140 dX2_many_37 (V.kf hi_i) (V.ft hi_i 0 (by decide)) ?_
      refine z_ifeqN 40 47 dX2_many_40 (by decide) (by omega) (fun c_40 => ?_) (fun c_40 => ?_)
      · refine z_iconst 47 (nI 0) dX2_many_47 kI0 ?_
        refine z_iaddN 48 dX2_many_48 ?_
        refine z_istore2 49 dX2_many_49 rfl ?_
        refine z_iinc3 50 ((nI (i + 1))) dX2_many_50 (nI_add _ _) rfl ?_
        refine z_goto 53 4 dX2_many_53 (by decide) ?_
        exact ih_i (a + 0) (by first | (simp [mnF, *]; done) | (simp [mnF, *]; omega))
      · refine z_iconst 43 (nI 1) dX2_many_43 kI1 ?_
        refine z_goto 44 48 dX2_many_44 (by decide) ?_
        refine z_iaddN 48 dX2_many_48 ?_
        refine z_istore2 49 dX2_many_49 rfl ?_
        refine z_iinc3 50 ((nI (i + 1))) dX2_many_50 (nI_add _ _) rfl ?_
        refine z_goto 53 4 dX2_many_53 (by decide) ?_
        exact ih_i (a + 1) (by first | (simp [mnF, *]; done) | (simp [mnF, *]; omega))
    · refine z_aload0 15 dX2_many_15 ?_
      refine z_iload3 16 dX2_many_16 ?_
      refine z_V1 (k' := k) 17 vX2_155 dX2_many_17 V.k0 (c_pkWhy V W hi_i (d - 1) 0 (by omega)) (by omega) (by omega) (Nat.le_of_ble_eq_true rfl) (aft_P ?_)
      refine z_ifneN 20 27 dX2_many_20 (by decide) (by omega) (fun c_20 => ?_) (fun c_20 => ?_)
      · refine z_iconst 27 (nI 0) dX2_many_27 kI0 ?_
        refine z_goto 28 48 dX2_many_28 (by decide) ?_
        refine z_iaddN 48 dX2_many_48 ?_
        refine z_istore2 49 dX2_many_49 rfl ?_
        refine z_iinc3 50 ((nI (i + 1))) dX2_many_50 (nI_add _ _) rfl ?_
        refine z_goto 53 4 dX2_many_53 (by decide) ?_
        exact ih_i (a + 0) (by first | (simp [mnF, *]; done) | (simp [mnF, *]; omega))
      · refine z_iconst 23 (nI 1) dX2_many_23 kI1 ?_
        refine z_goto 24 48 dX2_many_24 (by decide) ?_
        refine z_iaddN 48 dX2_many_48 ?_
        refine z_istore2 49 dX2_many_49 rfl ?_
        refine z_iinc3 50 ((nI (i + 1))) dX2_many_50 (nI_add _ _) rfl ?_
        refine z_goto 53 4 dX2_many_53 (by decide) ?_
        exact ih_i (a + 1) (by first | (simp [mnF, *]; done) | (simp [mnF, *]; omega))

set_option maxHeartbeats 4000000 in
theorem c_pkJobs {E : Ev} {h : HP} {L tg P td : Nat → Nat} {pn : Nat} {fz : Bool} (V : PkV h L tg P td pn fz) (W : WF P)  (d k : Nat) (hd : 1 ≤ d) : Call E yX2_jobs d k [.ref (L 0)] h (rP h (nI (jsP P))) := by
  refine Call.of [.ref (L 0), dum, dum, dum, dum, dum] q924 (by decide) pn_X2 (Nat.le_of_ble_eq_true rfl) rfl ?_
  refine z_iconst 0 (nI 0) dX2_jobs_0 kI0 ?_
  refine z_istore1 1 dX2_jobs_1 rfl ?_
  refine z_aload0 2 dX2_jobs_2 ?_
  refine z_get 3 gX2_11 dX2_jobs_3 V.k0 (V.2.1.2.1.1) ?_
  refine z_astore2 6 dX2_jobs_6 rfl ?_
  refine z_aload2 7 dX2_jobs_7 ?_
  refine z_len (i := 5) 8 dX2_jobs_8 (by decide) V.k1 V.l1 ?_
  refine z_istore3 9 dX2_jobs_9 rfl ?_
  refine z_iconst 10 (nI 0) dX2_jobs_10 kI0 ?_
  refine z_istore4 11 dX2_jobs_11 rfl ?_
  refine lpA0 13 (8) (fun i s => s + (jbP P (2 * i) 0 + jbP P (2 * i + 1) 0)) (0) ((itN 8 (fun i s => s + (jbP P (2 * i) 0 + jbP P (2 * i + 1) 0)) 0)) (rfl) (fun i a => [.ref (L 0), .int (nI a), .ref (L 1), .int (nI 8), .int (nI i), dum]) ?_ (fun i a hi_i ih_i => ?_)
  · refine z_iload4 13 dX2_jobs_13 ?_
    refine z_iload3 15 dX2_jobs_15 ?_
    refine z_icgeN 16 39 dX2_jobs_16 (by decide) (by omega) (by omega) (fun c_16 => ?_) (fun c_16 => absurd c_16 (by omega))
    refine z_iload1 39 dX2_jobs_39 ?_
    refine z_ireturn 40 rfl dX2_jobs_40 ?_
    exact rP_of (congrArg nI (smN_16 (fun j => jbP P j 0)))
  · refine z_iload4 13 dX2_jobs_13 ?_
    refine z_iload3 15 dX2_jobs_15 ?_
    refine z_icgeN 16 39 dX2_jobs_16 (by decide) (by omega) (by omega) (fun c_16 => absurd c_16 (by omega)) (fun c_16 => ?_)
    refine z_aload2 19 dX2_jobs_19 ?_
    refine z_iload4 20 dX2_jobs_20 ?_
    refine z_aald (i := 5) (n := 8) 22 (i) dX2_jobs_22 (by decide) (by decide) V.k1 V.l1 (rfl) (hi_i) (by decide) (V.a1 hi_i) ?_
    refine z_astore5 23 dX2_jobs_23 rfl ?_
    refine z_iload1 25 dX2_jobs_25 ?_
    refine z_aload5 26 dX2_jobs_26 ?_
    refine z_V0 (k' := k) 28 vX2_159 dX2_jobs_28 (V.kf hi_i) (c_pkJobs1 V W hi_i (d - 1) 0) (by omega) (by omega) (Nat.le_of_ble_eq_true rfl) (aft_P ?_)
    refine z_iaddN 31 dX2_jobs_31 ?_
    refine z_istore1 32 dX2_jobs_32 rfl ?_
    refine z_iinc4 33 ((nI (i + 1))) dX2_jobs_33 (nI_add _ _) rfl ?_
    refine z_goto 36 13 dX2_jobs_36 (by decide) ?_
    refine z_fog 5 ?_
    exact ih_i (a + (jbP P (2 * i) 0 + jbP P (2 * i + 1) 0)) (by rfl)

