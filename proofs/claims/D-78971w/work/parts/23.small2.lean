/-! JOB, OUTING, INTEGER: constructors, lay, valueOf .. -/
theorem JobAt.put {h : HP} {j p q : Nat} {r y : Int32} (X : JobAt h j p q r y) : (∀ v : Int32, JobAt (h.put j 2 (.int v)) j p q v y) ∧ ∀ v : Int32, JobAt (h.put j 3 (.int v)) j p q r v := by
  obtain ⟨a, b, c, e, f⟩ := X
  exact ⟨fun v => ⟨a, by simp [mm_put, b], by simp [mm_put, c], by simp [mm_put], by simp [mm_put, f]⟩, fun v => ⟨a, by simp [mm_put, b], by simp [mm_put, c], by simp [mm_put, e], by simp [mm_put]⟩⟩
theorem Sm.tr {S S' : Nat → Prop} {h1 h2 h3 : HP} (a : Sm S h1 h2) (b : Sm S' h2 h3) (hs : ∀ q, q < h1.sz → S' q → S q) : Sm S h1 h3 :=
  ⟨Nat.le_trans a.1 b.1, fun q hq => by
    obtain ⟨x1, x2, x3⟩ := a.2 q hq
    obtain ⟨y1, y2, y3⟩ := b.2 q (Nat.lt_of_lt_of_le hq a.1)
    exact ⟨y1.trans x1, y2.trans x2, fun hn => (y3 (fun z => hn (hs q hq z))).trans (x3 hn)⟩⟩
theorem Sm.putN {S : Nat → Prop} {h0 h : HP} {a k : Nat} {v : Value} (M : Sm S h0 h) (ha : h0.sz ≤ a) : Sm S h0 (h.put a k v) := M.tr (Sm.put (S := fun q => q = a) rfl) (fun q hq e => by omega)
theorem Sm.mkS {S : Nat → Prop} {h0 h : HP} {c n : Nat} {f : Nat → Value} (M : Sm S h0 h) : Sm S h0 (h.mk c n f) := M.trans Sm.mk'
theorem IntAt.keep {S : Nat → Prop} {h h' : HP} {a : Nat} {x : Int32} (X : IntAt h a x) (M : Sm S h h') (hn : ¬ S a) : IntAt h' a x := by
  obtain ⟨g1, g2, g3⟩ := X
  obtain ⟨m1, m2, m3⟩ := M.2 a g1
  exact ⟨Nat.lt_of_lt_of_le g1 M.1, m1.trans g2, by rw [m3 hn]; exact g3⟩
def rkJ (o q : Nat) : Nat := if o = 2 ∨ o = q then 0 else 1
set_option maxHeartbeats 4000000 in
theorem c_jobNew {E : Ev} {h : HP} {j p q : Nat} {r y : Int32} (d k : Nat) (hd1 : 1 ≤ d) (hj : h.kd j = 3) (g2 : h.mm j 2 = .int r) (g3 : h.mm j 3 = .int y) : Call E yX4_init d k [.ref j, .int (nI p), .int (nI q)] h (rV (fun h' => JobAt h' j p q r y ∧ Sm (fun a => a = j) h h' ∧ h'.sz = h.sz)) := by
  refine Call.of [.ref j, .int (nI p), .int (nI q)] q375 (by decide) pn_X4 (Nat.le_of_ble_eq_true rfl) rfl ?_
  first | refine z_aload0 0 dX4_init_0 ?_ | refine z_aload0N 0 dX4_init_0 ?_ | refine z_aload0o 0 dX4_init_0 ?_
  refine z_objInit 1 q376 q147 q148 dX4_init_1 (by omega) (Nat.le_of_ble_eq_true rfl) ?_
  first | refine z_aload0 4 dX4_init_4 ?_ | refine z_aload0N 4 dX4_init_4 ?_ | refine z_aload0o 4 dX4_init_4 ?_
  refine z_iload1 5 dX4_init_5 ?_
  refine z_put 6 pX4_7 (fun _ => rfl) dX4_init_6 hj (rfl) (rfl) ?_
  first | refine z_aload0 9 dX4_init_9 ?_ | refine z_aload0N 9 dX4_init_9 ?_ | refine z_aload0o 9 dX4_init_9 ?_
  refine z_iload2 10 dX4_init_10 ?_
  refine z_put 11 pX4_13 (fun _ => rfl) dX4_init_11 hj (rfl) (rfl) ?_
  refine z_return 14 rfl dX4_init_14 ?_
  exact ⟨rfl, ⟨hj, by simp [mm_put], by simp [mm_put], by simp [mm_put, g2], by simp [mm_put, g3]⟩, ((Sm.refl (fun a => a = j) h).putS rfl).putS rfl, rfl⟩

set_option maxHeartbeats 4000000 in
theorem c_jobLay {E : Ev} {h : HP} {j p q o : Nat} {r y v : Int32} (d k : Nat) (ho : o < 3) (hq2 : q < 2) (X : JobAt h j p q r y) : Call E yX4_lay d k [.ref j, .int (nI o), .int v] h (rR (fun a h' => a = j ∧ JobAt h' j p q (nI (rkJ o q)) v ∧ Sm (fun a => a = j) h h' ∧ h'.sz = h.sz)) := by
  refine Call.of [.ref j, .int (nI o), .int v] q1529 (by decide) pn_X4 (Nat.le_of_ble_eq_true rfl) rfl ?_
  first | refine z_aload0 0 dX4_lay_0 ?_ | refine z_aload0N 0 dX4_lay_0 ?_ | refine z_aload0o 0 dX4_lay_0 ?_
  refine z_iload1 1 dX4_lay_1 ?_
  refine z_iconst 2 (nI 2) dX4_lay_2 kI2 ?_
  refine z_iceq 3 14 dX4_lay_3 (by decide) (fun c1 => ?_) (fun c1 => ?_)
  · refine z_iconst 14 (nI 0) dX4_lay_14 kI0 ?_
    refine z_goto 15 19 dX4_lay_15 (by decide) ?_
    refine z_put 19 pX4_16 (fun h => by cases h) dX4_lay_19 X.1 (rfl) (rfl) ?_
    first | refine z_aload0 22 dX4_lay_22 ?_ | refine z_aload0N 22 dX4_lay_22 ?_ | refine z_aload0o 22 dX4_lay_22 ?_
    refine z_iload2 23 dX4_lay_23 ?_
    refine z_put 24 pX4_19 (fun h => by cases h) dX4_lay_24 X.1 (rfl) (rfl) ?_
    first | refine z_aload0 27 dX4_lay_27 ?_ | refine z_aload0N 27 dX4_lay_27 ?_ | refine z_aload0o 27 dX4_lay_27 ?_
    refine z_areturn 28 rfl (Or.inl ⟨_, rfl⟩) (by first | exact Or.inl rfl | exact Or.inr ⟨_, rfl⟩ | exact va_rf_or _) dX4_lay_28 ?_
    have hr : rkJ o q = 0 := by
      unfold rkJ
      first | (rw [nI_eq (by omega) (by omega)] at c1 c2; split <;> omega) | (rw [nI_eq (by omega) (by omega)] at c1; split <;> omega)
    rw [hr]
    exact ⟨_, rfl, rfl, (X.put.1 _).put.2 v, ((Sm.refl (fun a => a = j) h).putS rfl).putS rfl, rfl⟩
  · refine z_iload1 6 dX4_lay_6 ?_
    first | refine z_aload0 7 dX4_lay_7 ?_ | refine z_aload0N 7 dX4_lay_7 ?_ | refine z_aload0o 7 dX4_lay_7 ?_
    refine z_get 8 gX4_13 dX4_lay_8 X.1 X.2.2.1 ?_
    refine z_icne 11 18 dX4_lay_11 (by decide) (fun c2 => ?_) (fun c2 => ?_)
    · refine z_iconst 18 (nI 1) dX4_lay_18 kI1 ?_
      refine z_put 19 pX4_16 (fun h => by cases h) dX4_lay_19 X.1 (rfl) (rfl) ?_
      first | refine z_aload0 22 dX4_lay_22 ?_ | refine z_aload0N 22 dX4_lay_22 ?_ | refine z_aload0o 22 dX4_lay_22 ?_
      refine z_iload2 23 dX4_lay_23 ?_
      refine z_put 24 pX4_19 (fun h => by cases h) dX4_lay_24 X.1 (rfl) (rfl) ?_
      first | refine z_aload0 27 dX4_lay_27 ?_ | refine z_aload0N 27 dX4_lay_27 ?_ | refine z_aload0o 27 dX4_lay_27 ?_
      refine z_areturn 28 rfl (Or.inl ⟨_, rfl⟩) (by first | exact Or.inl rfl | exact Or.inr ⟨_, rfl⟩ | exact va_rf_or _) dX4_lay_28 ?_
      have hr : rkJ o q = 1 := by
        unfold rkJ
        first | (rw [nI_eq (by omega) (by omega)] at c1 c2; split <;> omega) | (rw [nI_eq (by omega) (by omega)] at c1; split <;> omega)
      rw [hr]
      exact ⟨_, rfl, rfl, (X.put.1 _).put.2 v, ((Sm.refl (fun a => a = j) h).putS rfl).putS rfl, rfl⟩
    · refine z_iconst 14 (nI 0) dX4_lay_14 kI0 ?_
      refine z_goto 15 19 dX4_lay_15 (by decide) ?_
      refine z_put 19 pX4_16 (fun h => by cases h) dX4_lay_19 X.1 (rfl) (rfl) ?_
      first | refine z_aload0 22 dX4_lay_22 ?_ | refine z_aload0N 22 dX4_lay_22 ?_ | refine z_aload0o 22 dX4_lay_22 ?_
      refine z_iload2 23 dX4_lay_23 ?_
      refine z_put 24 pX4_19 (fun h => by cases h) dX4_lay_24 X.1 (rfl) (rfl) ?_
      first | refine z_aload0 27 dX4_lay_27 ?_ | refine z_aload0N 27 dX4_lay_27 ?_ | refine z_aload0o 27 dX4_lay_27 ?_
      refine z_areturn 28 rfl (Or.inl ⟨_, rfl⟩) (by first | exact Or.inl rfl | exact Or.inr ⟨_, rfl⟩ | exact va_rf_or _) dX4_lay_28 ?_
      have hr : rkJ o q = 0 := by
        unfold rkJ
        first | (rw [nI_eq (by omega) (by omega)] at c1 c2; split <;> omega) | (rw [nI_eq (by omega) (by omega)] at c1; split <;> omega)
      rw [hr]
      exact ⟨_, rfl, rfl, (X.put.1 _).put.2 v, ((Sm.refl (fun a => a = j) h).putS rfl).putS rfl, rfl⟩

set_option maxHeartbeats 4000000 in
theorem c_outNew {E : Ev} {h : HP} {o y c g n : Nat} (d k : Nat) (hd1 : 1 ≤ d) (hj : h.kd o = 4) : Call E yX6_init d k [.ref o, .int (nI y), .int (nI c), .int (nI g), .int (nI n)] h (rV (fun h' => OutAt h' o y c g n ∧ Sm (fun a => a = o) h h' ∧ h'.sz = h.sz)) := by
  refine Call.of [.ref o, .int (nI y), .int (nI c), .int (nI g), .int (nI n)] q1762 (by decide) pn_X6 (Nat.le_of_ble_eq_true rfl) rfl ?_
  first | refine z_aload0 0 dX6_init_0 ?_ | refine z_aload0N 0 dX6_init_0 ?_ | refine z_aload0o 0 dX6_init_0 ?_
  refine z_objInit 1 q1763 q147 q148 dX6_init_1 (by omega) (Nat.le_of_ble_eq_true rfl) ?_
  first | refine z_aload0 4 dX6_init_4 ?_ | refine z_aload0N 4 dX6_init_4 ?_ | refine z_aload0o 4 dX6_init_4 ?_
  refine z_iload1 5 dX6_init_5 ?_
  refine z_put 6 pX6_7 (fun _ => rfl) dX6_init_6 hj (rfl) (rfl) ?_
  first | refine z_aload0 9 dX6_init_9 ?_ | refine z_aload0N 9 dX6_init_9 ?_ | refine z_aload0o 9 dX6_init_9 ?_
  refine z_iload2 10 dX6_init_10 ?_
  refine z_put 11 pX6_13 (fun _ => rfl) dX6_init_11 hj (rfl) (rfl) ?_
  first | refine z_aload0 14 dX6_init_14 ?_ | refine z_aload0N 14 dX6_init_14 ?_ | refine z_aload0o 14 dX6_init_14 ?_
  refine z_iload3 15 dX6_init_15 ?_
  refine z_put 16 pX6_16 (fun _ => rfl) dX6_init_16 hj (rfl) (rfl) ?_
  first | refine z_aload0 19 dX6_init_19 ?_ | refine z_aload0N 19 dX6_init_19 ?_ | refine z_aload0o 19 dX6_init_19 ?_
  refine z_iload4 20 dX6_init_20 ?_
  refine z_put 22 pX6_19 (fun _ => rfl) dX6_init_22 hj (rfl) (rfl) ?_
  refine z_return 25 rfl dX6_init_25 ?_
  exact ⟨rfl, ⟨hj, by simp [mm_put], by simp [mm_put], by simp [mm_put], by simp [mm_put]⟩, ((((Sm.refl (fun a => a = o) h).putS rfl).putS rfl).putS rfl).putS rfl, rfl⟩

set_option maxHeartbeats 4000000 in
theorem c_number {E : Ev} {h : HP} {a : Nat} (d k : Nat) (hd1 : 1 ≤ d) : Call E yJ26_init d k [.ref a] h (rV (fun h' => h' = h)) := by
  refine Call.of [.ref a] q1481 (by decide) pn_J26 (Nat.le_of_ble_eq_true rfl) rfl ?_
  first | refine z_aload0 0 dJ26_init_0 ?_ | refine z_aload0N 0 dJ26_init_0 ?_ | refine z_aload0o 0 dJ26_init_0 ?_
  refine z_objInit 1 q1482 q147 q148 dJ26_init_1 (by omega) (Nat.le_of_ble_eq_true rfl) ?_
  refine z_return 4 rfl dJ26_init_4 ?_
  exact ⟨rfl, rfl⟩

set_option maxHeartbeats 4000000 in
theorem c_intNew {E : Ev} {h : HP} {a : Nat} {x : Int32} (d k : Nat) (hd1 : 2 ≤ d) (hk : h.kd a = 15) (hz : E.z ≤ a) : Call E yJ27_init d k [.ref a, .int x] h (rV (fun h' => h' = h.put a 0 (.int x))) := by
  refine Call.of [.ref a, .int x] q1478 (by decide) pn_J27 (Nat.le_of_ble_eq_true rfl) rfl ?_
  first | refine z_aload0 0 dJ27_init_0 ?_ | refine z_aload0N 0 dJ27_init_0 ?_ | refine z_aload0o 0 dJ27_init_0 ?_
  refine z_I0 (k' := k) 1 iJ27_202 dJ27_init_1 (c_number (d - 1) 0 (by omega)) (by omega) (by omega) (Nat.le_of_ble_eq_true rfl) (aft_V fun h' hq => ?_)
  subst hq
  first | refine z_aload0 4 dJ27_init_4 ?_ | refine z_aload0N 4 dJ27_init_4 ?_ | refine z_aload0o 4 dJ27_init_4 ?_
  refine z_iload1 5 dJ27_init_5 ?_
  refine z_putI 6 pJ27_205 (fun _ => rfl) dJ27_init_6 hk rfl rfl (Or.inr hz) ?_
  refine z_return 9 rfl dJ27_init_9 ?_
  exact ⟨rfl, rfl⟩

set_option maxHeartbeats 4000000 in
theorem c_intValue {E : Ev} {h : HP} {a : Nat} {x : Int32} (d k : Nat) (X : IntAt h a x) : Call E yJ27_intValue d k [.ref a] h (rI (fun y h' => h' = h ∧ y = x)) := by
  refine Call.of [.ref a] q1501 (by decide) pn_J27 (Nat.le_of_ble_eq_true rfl) rfl ?_
  first | refine z_aload0 0 dJ27_intValue_0 ?_ | refine z_aload0N 0 dJ27_intValue_0 ?_ | refine z_aload0o 0 dJ27_intValue_0 ?_
  refine z_get 1 gJ27_205 dJ27_intValue_1 X.2.1 X.2.2 ?_
  refine z_ireturn 4 rfl dJ27_intValue_4 ?_
  exact ⟨_, rfl, rfl, rfl⟩

set_option maxHeartbeats 4000000 in
theorem c_intCompare {E : Ev} {h : HP} {a b : Nat} (d k : Nat) (ha : a < 2147483648) (hb : b < 2147483648) : Call E yJ27_compare d k [.int (nI a), .int (nI b)] h (rI (fun x h' => h' = h ∧ Cm x a b)) := by
  refine Call.of [.int (nI a), .int (nI b)] q1177 (by decide) pn_J27 (Nat.le_of_ble_eq_true rfl) rfl ?_
  refine z_iload0 0 dJ27_compare_0 ?_
  refine z_iload1 1 dJ27_compare_1 ?_
  refine z_icge 2 9 dJ27_compare_2 (by decide) (fun c1 => ?_) (fun c1 => ?_)
  · refine z_iload0 9 dJ27_compare_9 ?_
    refine z_iload1 10 dJ27_compare_10 ?_
    refine z_icne 11 18 dJ27_compare_11 (by decide) (fun c2 => ?_) (fun c3 => ?_)
    · refine z_iconst 18 (nI 1) dJ27_compare_18 kI1 ?_
      refine z_ireturn 19 rfl dJ27_compare_19 ?_
      refine ⟨_, rfl, rfl, ?_⟩
      have e1 : nI a < nI b ↔ a < b := nI_ltI ha hb
      have e2 : nI b ≤ nI a ↔ b ≤ a := nI_leI hb ha
      have e3 : nI a = nI b ↔ a = b := nI_eq ha hb
      first
        | (have c9 : a < b := by (first | (exact e1.mp c1) | (simp only [ge_iff_le, e2] at c1; omega))
           exact ⟨⟨fun _ => c9, fun _ => by decide⟩, ⟨fun q => absurd q (by decide), fun q => by omega⟩⟩)
        | (have c9 : a = b := by (first | exact e3.mp c3 | (simp only [ne_eq, e3] at c3; omega))
           exact ⟨⟨fun q => absurd q (by decide), fun q => by omega⟩, ⟨fun _ => c9, fun _ => rfl⟩⟩)
        | (have c9 : b < a := by
             simp only [ge_iff_le, e2] at c1
             simp only [ne_eq, e3] at c2
             omega
           exact ⟨⟨fun q => absurd q (by decide), fun q => by omega⟩, ⟨fun q => absurd q (by decide), fun q => by omega⟩⟩)
    · refine z_iconst 14 (nI 0) dJ27_compare_14 kI0 ?_
      refine z_goto 15 19 dJ27_compare_15 (by decide) ?_
      refine z_ireturn 19 rfl dJ27_compare_19 ?_
      refine ⟨_, rfl, rfl, ?_⟩
      have e1 : nI a < nI b ↔ a < b := nI_ltI ha hb
      have e2 : nI b ≤ nI a ↔ b ≤ a := nI_leI hb ha
      have e3 : nI a = nI b ↔ a = b := nI_eq ha hb
      first
        | (have c9 : a < b := by (first | (exact e1.mp c1) | (simp only [ge_iff_le, e2] at c1; omega))
           exact ⟨⟨fun _ => c9, fun _ => by decide⟩, ⟨fun q => absurd q (by decide), fun q => by omega⟩⟩)
        | (have c9 : a = b := by (first | exact e3.mp c3 | (simp only [ne_eq, e3] at c3; omega))
           exact ⟨⟨fun q => absurd q (by decide), fun q => by omega⟩, ⟨fun _ => c9, fun _ => rfl⟩⟩)
        | (have c9 : b < a := by
             simp only [ge_iff_le, e2] at c1
             simp only [ne_eq, e3] at c2
             omega
           exact ⟨⟨fun q => absurd q (by decide), fun q => by omega⟩, ⟨fun q => absurd q (by decide), fun q => by omega⟩⟩)
  · refine z_iconst 5 (-1) dJ27_compare_5 kIm1 ?_
    refine z_goto 6 19 dJ27_compare_6 (by decide) ?_
    refine z_ireturn 19 rfl dJ27_compare_19 ?_
    refine ⟨_, rfl, rfl, ?_⟩
    have e1 : nI a < nI b ↔ a < b := nI_ltI ha hb
    have e2 : nI b ≤ nI a ↔ b ≤ a := nI_leI hb ha
    have e3 : nI a = nI b ↔ a = b := nI_eq ha hb
    first
      | (have c9 : a < b := by (first | (exact e1.mp c1) | (simp only [ge_iff_le, e2] at c1; omega))
         exact ⟨⟨fun _ => c9, fun _ => by decide⟩, ⟨fun q => absurd q (by decide), fun q => by omega⟩⟩)
      | (have c9 : a = b := by (first | exact e3.mp c3 | (simp only [ne_eq, e3] at c3; omega))
         exact ⟨⟨fun q => absurd q (by decide), fun q => by omega⟩, ⟨fun _ => c9, fun _ => rfl⟩⟩)
      | (have c9 : b < a := by
           simp only [ge_iff_le, e2] at c1
           simp only [ne_eq, e3] at c2
           omega
         exact ⟨⟨fun q => absurd q (by decide), fun q => by omega⟩, ⟨fun q => absurd q (by decide), fun q => by omega⟩⟩)

set_option maxHeartbeats 4000000 in
theorem c_intCmp2 {E : Ev} {h : HP} {a b x y : Nat} (d k : Nat) (hd1 : 1 ≤ d) (hx : x < 2147483648) (hy : y < 2147483648) (X : IntAt h a (nI x)) (Y : IntAt h b (nI y)) : Call E yJ27_compareTo_2 d k [.ref a, .ref b] h (rI (fun v h' => h' = h ∧ Cm v x y)) := by
  refine Call.of [.ref a, .ref b] q1174 (by decide) pn_J27 (Nat.le_of_ble_eq_true rfl) rfl ?_
  first | refine z_aload0 0 dJ27_compareTo_2_0 ?_ | refine z_aload0N 0 dJ27_compareTo_2_0 ?_ | refine z_aload0o 0 dJ27_compareTo_2_0 ?_
  refine z_get 1 gJ27_205 dJ27_compareTo_2_1 X.2.1 X.2.2 ?_
  first | refine z_aload1 4 dJ27_compareTo_2_4 ?_ | refine z_aload1N 4 dJ27_compareTo_2_4 ?_ | refine z_aload1o 4 dJ27_compareTo_2_4 ?_
  refine z_get 5 gJ27_205 dJ27_compareTo_2_5 Y.2.1 Y.2.2 ?_
  refine z_S2 (k' := k) 8 sJ27_259 dJ27_compareTo_2_8 (c_intCompare (d - 1) 0 hx hy) (by omega) (by omega) (Nat.le_of_ble_eq_true rfl) (aft_I fun v h' hq => ?_)
  obtain ⟨rfl, hq⟩ := hq
  refine z_ireturn 11 rfl dJ27_compareTo_2_11 ?_
  exact ⟨_, rfl, rfl, hq⟩

set_option maxHeartbeats 4000000 in
theorem c_intCmp {E : Ev} {h : HP} {a b x y : Nat} (d k : Nat) (hd1 : 2 ≤ d) (hx : x < 2147483648) (hy : y < 2147483648) (X : IntAt h a (nI x)) (Y : IntAt h b (nI y)) : Call E yJ27_compareTo d k [.ref a, .ref b] h (rI (fun v h' => h' = h ∧ Cm v x y)) := by
  refine Call.of [.ref a, .ref b] q1169 (by decide) pn_J27 (Nat.le_of_ble_eq_true rfl) rfl ?_
  first | refine z_aload0 0 dJ27_compareTo_0 ?_ | refine z_aload0N 0 dJ27_compareTo_0 ?_ | refine z_aload0o 0 dJ27_compareTo_0 ?_
  first | refine z_aload1 1 dJ27_compareTo_1 ?_ | refine z_aload1N 1 dJ27_compareTo_1 ?_ | refine z_aload1o 1 dJ27_compareTo_1 ?_
  refine z_castY 2 (ci := 15) ok_15.1 q1170 (Or.inl rfl) dJ27_compareTo_2 Y.2.1 ?_
  refine z_V1 (k' := k) 5 vJ27_284 dJ27_compareTo_5 X.2.1 (c_intCmp2 (d - 1) 0 (by omega) hx hy X Y) (by omega) (by omega) (Nat.le_of_ble_eq_true rfl) (aft_I fun v h' hq => ?_)
  obtain ⟨rfl, hq⟩ := hq
  refine z_ireturn 8 rfl dJ27_compareTo_8 ?_
  exact ⟨_, rfl, rfl, hq⟩

set_option maxHeartbeats 4000000 in
theorem c_valueOf {E : Ev} {h : HP} {x : Int32} (d k : Nat) (hd1 : 3 ≤ d) (hk1 : 1 ≤ k) : Call E yJ27_valueOf d k [.int x] h (rR (fun a h' => IntAt h' a x ∧ Sm (fun _ => False) h h' ∧ h'.sz ≤ h.sz + 1)) := by
  refine Call.of [.int x] q1470 (by decide) pn_J27 (Nat.le_of_ble_eq_true rfl) rfl ?_
  refine z_base 0 fun B => ?_
  refine z_ic 0 fun ⟨hzs, hic⟩ => ?_
  obtain ⟨t, hZt, hTt⟩ := st_cache B
  refine z_iload0 0 dJ27_valueOf_0 ?_
  refine z_bipush 1 (-128) dJ27_valueOf_1 kBm128 ?_
  refine z_iclt 3 23 dJ27_valueOf_3 (by decide) (fun c1 => ?_) (fun c1 => ?_)
  · refine z_new (k' := k - 1) 23 nJ27_1 dJ27_valueOf_23 (by omega) (fun h1 e1 => ?_)
    refine z_dup 26 dJ27_valueOf_26 (by first | rfl | exact va_rf_cat _) ?_
    refine z_iload0 27 dJ27_valueOf_27 ?_
    refine z_I1 (k' := k - 1) 28 iJ27_199 dJ27_valueOf_28 (c_intNew (d - 1) 0 (by omega) (by rw [e1]; simp [kd_mk]) hzs) (by omega) (by omega) (Nat.le_of_ble_eq_true rfl) (aft_V fun h' hq => ?_)
    subst hq
    refine z_areturn 31 rfl (Or.inl ⟨_, rfl⟩) (by first | exact Or.inl rfl | exact Or.inr ⟨_, rfl⟩ | exact va_rf_or _) dJ27_valueOf_31 ?_
    subst e1
    exact ⟨_, rfl, ⟨by simp only [sz_put, sz_mk]; omega, by simp [kd_put, kd_mk], by simp [mm_put]⟩, (Sm.mkS (Sm.refl _ h)).putN (Nat.le_refl _), by simp only [sz_put, sz_mk]; omega⟩
  · refine z_iload0 6 dJ27_valueOf_6 ?_
    refine z_gets 7 (st_high B) q1471 dJ27_valueOf_7 ?_
    refine z_icgt 10 23 dJ27_valueOf_10 (by decide) (fun c2 => ?_) (fun c2 => ?_)
    · refine z_new (k' := k - 1) 23 nJ27_1 dJ27_valueOf_23 (by omega) (fun h1 e1 => ?_)
      refine z_dup 26 dJ27_valueOf_26 (by first | rfl | exact va_rf_cat _) ?_
      refine z_iload0 27 dJ27_valueOf_27 ?_
      refine z_I1 (k' := k - 1) 28 iJ27_199 dJ27_valueOf_28 (c_intNew (d - 1) 0 (by omega) (by rw [e1]; simp [kd_mk]) hzs) (by omega) (by omega) (Nat.le_of_ble_eq_true rfl) (aft_V fun h' hq => ?_)
      subst hq
      refine z_areturn 31 rfl (Or.inl ⟨_, rfl⟩) (by first | exact Or.inl rfl | exact Or.inr ⟨_, rfl⟩ | exact va_rf_or _) dJ27_valueOf_31 ?_
      subst e1
      exact ⟨_, rfl, ⟨by simp only [sz_put, sz_mk]; omega, by simp [kd_put, kd_mk], by simp [mm_put]⟩, (Sm.mkS (Sm.refl _ h)).putN (Nat.le_refl _), by simp only [sz_put, sz_mk]; omega⟩
    · obtain ⟨j, hj, e1, e2⟩ := bx_small c1 c2
      refine z_gets 13 hZt q1473 dJ27_valueOf_13 ?_
      refine z_iload0 16 dJ27_valueOf_16 ?_
      refine z_sipush 17 (nI 128) dJ27_valueOf_17 kS128 ?_
      refine z_iadd 20 dJ27_valueOf_20 ?_
      refine z_tq 21 j hTt e1 hj (by decide) rfl dJ27_valueOf_21 ?_
      refine z_areturn 22 rfl (Or.inl ⟨_, rfl⟩) (by first | exact Or.inl rfl | exact Or.inr ⟨_, rfl⟩ | exact va_rf_or _) dJ27_valueOf_22 ?_
      exact ⟨_, rfl, ⟨by have := (hic j hj).1; omega, (hic j hj).2.1, by rw [e2]; exact (hic j hj).2.2⟩, Sm.refl _ h, by omega⟩
