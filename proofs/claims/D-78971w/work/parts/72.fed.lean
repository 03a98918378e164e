/-! WHAT WAS FED: a quotient of doubles that is a number -/
theorem b64_t : Jvm.FP.Core.b64.tails = 4503599627370496 := by decide
theorem b64_e : Jvm.FP.Core.b64.exps = 2048 := by decide
theorem b64_m : Jvm.FP.Core.b64.qmin = -1074 := by decide
theorem b64_x : Jvm.FP.Core.b64.qmax = 971 := by decide
theorem b64_p : (2 : Nat) ^ Jvm.FP.Core.b64.p = 9007199254740992 := by decide
theorem b64_q : ((Jvm.FP.Core.b64.p : Nat) : Int) - 1 = 52 := by decide
/-- data whose bits are no NaN's -/
def Okd (d : Jvm.FP.Core.Datum) : Prop := match d with
  | .nan => False
  | .inf _ => True
  | .fin _ c q => c < 9007199254740992 ∧ q ≤ 971
theorem enc_fin (s : Bool) (c : Nat) (q : Int) : Jvm.FP.Core.encode Jvm.FP.Core.b64 (.fin s c q) = if c < 4503599627370496 then (s.toNat * 2048 + 0) * 4503599627370496 + c else (s.toNat * 2048 + ((q - (-1074)).toNat + 1)) * 4503599627370496 + (c - 4503599627370496) := by
  unfold Jvm.FP.Core.encode Jvm.FP.Core.assemble
  simp only [b64_t, b64_e, b64_m]
theorem enc_ok {d : Jvm.FP.Core.Datum} (h : Okd d) : Jvm.FP.Core.encode Jvm.FP.Core.b64 d % 9223372036854775808 ≤ 9218868437227405312 := by
  cases d with
  | nan => exact h.elim
  | inf s => cases s <;> decide
  | fin s c q =>
    obtain ⟨h1, h2⟩ := h
    rw [enc_fin]
    have hs : s.toNat = 0 ∨ s.toNat = 1 := by cases s <;> simp
    split
    · rcases hs with e | e <;> rw [e] <;> omega
    · have h3 : (q - (-1074)).toNat ≤ 2045 := by omega
      rcases hs with e | e <;> rw [e] <;> omega
theorem rr_ok (s : Bool) (A B : Nat) (e : Int) : Okd (Jvm.FP.Core.roundRatio Jvm.FP.Core.b64 s A B e) := by
  unfold Jvm.FP.Core.roundRatio
  split
  · rw [b64_m]; exact ⟨by decide, by decide⟩
  · unfold Jvm.FP.Core.roundAt Jvm.FP.Core.settle Jvm.FP.Core.bound
    rw [b64_p, b64_x, b64_t]
    split
    · split
      · exact ⟨by assumption, by assumption⟩
      · exact trivial
    · split
      · exact ⟨by decide, by assumption⟩
      · exact trivial
theorem n64_of {n : Nat} (h : n % 9223372036854775808 ≤ 9218868437227405312) : vf_n64 (UInt64.ofNat n) := by
  unfold vf_n64
  rw [UInt64.le_iff_toNat_le, UInt64.toNat_and]
  have e : (0x7fffffffffffffff : UInt64).toNat = 2 ^ 63 - 1 := by decide
  have e2 : (0x7ff0000000000000 : UInt64).toNat = 9218868437227405312 := by decide
  rw [e, e2, Nat.and_two_pow_sub_one_eq_mod, UInt64.toNat_ofNat']
  omega
/-- the number of an int, as bits -/
theorem i2d_dec (a : Int32) : ∃ s c q, Jvm.FP.Core.decode Jvm.FP.Core.b64 (FP.i2d a).toNat = .fin s c q ∧ (¬ a = 0 → c ≠ 0) := by
  show ∃ s c q, Jvm.FP.Core.decode Jvm.FP.Core.b64 (UInt64.ofNat (Jvm.FP.Core.encode Jvm.FP.Core.b64 (Jvm.FP.Core.roundRatio Jvm.FP.Core.b64 (decide (a.toInt < 0)) a.toInt.natAbs 1 0))).toNat = .fin s c q ∧ (¬ a = 0 → c ≠ 0)
  generalize hs : decide (a.toInt < 0) = s
  have hn : a.toInt.natAbs ≤ 2147483648 := by
    have h1 := a.toInt_lt
    have h2 := a.le_toInt
    omega
  have h0 : ¬ a = 0 → a.toInt.natAbs ≠ 0 := fun q e => q (Int32.toInt_inj.mp (by rw [Int.natAbs_eq_zero.mp e]; decide))
  generalize a.toInt.natAbs = n at hn h0 ⊢
  by_cases hz : n = 0
  · subst hz
    refine ⟨s, 0, -1074, ?_, fun q => absurd rfl (h0 q)⟩
    cases s <;> decide
  · have l1 : 2 ^ n.log2 ≤ n := Nat.log2_self_le hz
    have l2 : n < 2 ^ (n.log2 + 1) := Nat.lt_log2_self
    have l3 : n.log2 ≤ 31 := by
      have : n.log2 < 32 := (Nat.log2_lt hz).mpr (by omega)
      omega
    have hl : Jvm.FP.Core.leading n 1 = (n.log2 : Int) := by
      have e1 : Nat.log2 1 = 0 := by decide
      unfold Jvm.FP.Core.leading
      simp only [e1]
      rw [if_pos]
      · omega
      · have e2 : ((n.log2 : Int) - ((0 : Nat) : Int)).toNat = n.log2 := by omega
        have e3 : (-((n.log2 : Int) - ((0 : Nat) : Int))).toNat = 0 := by omega
        rw [e2, e3, Nat.one_mul, Nat.pow_zero, Nat.mul_one]
        exact l1
    have hq : Jvm.FP.Core.quantum Jvm.FP.Core.b64 n 1 0 = (n.log2 : Int) - 52 := by
      unfold Jvm.FP.Core.quantum
      rw [hl, b64_m, b64_q]
      omega
    unfold Jvm.FP.Core.roundRatio
    rw [if_neg hz, hq]
    generalize n.log2 = L at l1 l2 l3
    have hu : Jvm.FP.Core.unitsNum n 0 ((L : Int) - 52) = n * 2 ^ (52 - L) := by
      unfold Jvm.FP.Core.unitsNum
      rw [show (0 - ((L : Int) - 52)).toNat = 52 - L by omega]
    have hd : Jvm.FP.Core.unitsDen 1 0 ((L : Int) - 52) = 1 := by
      unfold Jvm.FP.Core.unitsDen
      rw [show ((L : Int) - 52 - 0).toNat = 0 by omega]
    have p1 : 2 ^ L * 2 ^ (52 - L) = 4503599627370496 := by
      rw [← Nat.pow_add, show L + (52 - L) = 52 by omega]
    have p2 : 2 ^ (L + 1) * 2 ^ (52 - L) = 9007199254740992 := by
      rw [← Nat.pow_add, show L + 1 + (52 - L) = 53 by omega]
    have c1 : 4503599627370496 ≤ n * 2 ^ (52 - L) := by rw [← p1]; exact Nat.mul_le_mul_right _ l1
    have c2 : n * 2 ^ (52 - L) < 9007199254740992 := by rw [← p2]; exact Nat.mul_lt_mul_of_pos_right l2 (Nat.two_pow_pos _)
    unfold Jvm.FP.Core.roundAt
    rw [hu, hd]
    generalize n * 2 ^ (52 - L) = c at c1 c2
    have hn9 : Jvm.FP.Core.nearest c 1 = c := by
      unfold Jvm.FP.Core.nearest
      rw [Nat.mod_one, if_pos (by decide), Nat.div_one]
    unfold Jvm.FP.Core.settle Jvm.FP.Core.bound
    rw [hn9, b64_p, b64_x, if_pos c2, if_pos (by omega), enc_fin, if_neg (by omega), UInt64.toNat_ofNat']
    have hs9 : s.toNat = 0 ∨ s.toNat = 1 := by cases s <;> simp
    have e9 : ((L : Int) - 52 - (-1074)).toNat + 1 = L + 1023 := by omega
    rw [e9]
    generalize hm : ((s.toNat * 2048 + (L + 1023)) * 4503599627370496 + (c - 4503599627370496)) % 2 ^ 64 = m
    have hf : Jvm.FP.Core.fieldE Jvm.FP.Core.b64 m = L + 1023 := by
      unfold Jvm.FP.Core.fieldE
      rw [b64_t, b64_e, ← hm]
      rcases hs9 with e | e <;> rw [e] <;> omega
    unfold Jvm.FP.Core.decode
    rw [hf, b64_e, if_neg (by omega), if_neg (by omega), b64_t]
    exact ⟨_, _, _, rfl, fun _ => by omega⟩
theorem fd_num {a b : Int32} (h0 : ¬ b = 0) : vf_n64 (FP.ddiv (FP.i2d a) (FP.i2d b)) := by
  obtain ⟨s, c, q, h1, -⟩ := i2d_dec a
  obtain ⟨t, d, r, h2, h3⟩ := i2d_dec b
  show vf_n64 (UInt64.ofNat (Jvm.FP.Core.encode Jvm.FP.Core.b64 (Jvm.FP.Core.quotient Jvm.FP.Core.b64 (Jvm.FP.Core.decode Jvm.FP.Core.b64 (FP.i2d a).toNat) (Jvm.FP.Core.decode Jvm.FP.Core.b64 (FP.i2d b).toNat))))
  rw [h1, h2]
  refine n64_of (enc_ok ?_)
  show Okd (if d = 0 then _ else Jvm.FP.Core.roundRatio Jvm.FP.Core.b64 (s != t) c d (q - r))
  rw [if_neg (h3 h0)]
  exact rr_ok _ _ _ _
/-- the part of the children that was not thirsty -/
def fdV (P : Nat → Nat) : UInt64 := if nI (P 9) = 0 then FP.dconst1 else FP.ddiv (FP.i2d (nI (P 9) - nI (P 8))) (FP.i2d (nI (P 9)))
section
variable {E : Ev} {mt : Mth} {d k : Nat} {Q : Res → HP → Prop} {h : HP} {ls st : List Value}
theorem z_d2l {idx : Nat} {x : UInt64} (pc : Nat) (hlk : Cond.methodLink mt.1.cls idx ⟨"java/lang/Double", "doubleToRawLongBits", "(D)J"⟩ ∈ lw_all) (hd : decode mt.2.1 pc = .ok (.invokestatic idx, 3)) (hd1 : 1 ≤ d) (hst : (st.map fun v => v.category).sum ≤ 8) (kk : Z E mt d Q k h (pc + 3) ls (.long x.toInt64 :: st)) : Z E mt d Q k h pc ls (.double x :: st) := by
  intro p e s m args below meth c K H locs cells slots la hc h1 h2 hP hS hl
  have kk := kk p e s m args below meth c K H locs cells slots la hc h1 h2 hP hS hl
  exact vn_d2l hc.x hc.c (hc.ml.trans hl.1.symm) hc.own (hc.ts args _ hlk) (hc.ts args _ q1799) (hc.ts args _ q1798) (hc.ts args _ q140) (by show 1 ≤ d; exact hd1) (by show _ ≤ 200 * d; omega) hd kk
end
/-- the bits of a double as doubleToLongBits gives them -/
def dlB (x : UInt64) : Int64 := if Op.cmpValue (FP.dcmp x x) .l = 0 then x.toInt64 else 9221120237041090560
theorem jsP_le {P : Nat → Nat} (W : WF P) : jsP P ≤ 16 := by
  unfold jsP smN
  refine itN_ind (fun i (s : Nat) => s ≤ i) (Nat.le_refl 0) (fun i s hi h => ?_)
  show s + jbP P i 0 ≤ i + 1
  have := (W.jb hi).1
  omega
