/-! PARK: whether a day is frosty; steps that write other cells only -/
theorem cmpI {E : Ev} {h : HP} {x y a b : Nat} (ha : a < 2147483648) (hb : b < 2147483648) (X : IntAt h x (nI a)) (Y : IntAt h y (nI b)) : CmpOK E h yJ27_compareTo x y a b := fun d k hd => c_intCmp d k hd ha hb X Y
theorem cmpO {E : Ev} {h : HP} {x y y1 c g n y2 c2 g2 n2 : Nat} (b1 : y1 < 4096) (b2 : y2 < 4096) (b3 : c < 128) (b4 : c2 < 128) (b5 : n < 1048576) (b6 : n2 < 1048576) (X : OutAt h x y1 c g n) (Y : OutAt h y y2 c2 g2 n2) : CmpOK E h yX6_compareTo x y (kO y1 c n) (kO y2 c2 n2) := fun d k hd => c_outCmp d k (by omega) b1 b2 b3 b4 b5 b6 X Y
theorem PkTo.new {V : Nat → Prop} {h0 h h' : HP} {L tg0 tg P td : Nat → Nat} {pn : Nat} {fz : Bool} (T : PkTo h0 L tg0 tg P td pn fz h) (M : Sm V h h') (hv : ∀ a, a < h.sz → ¬ V a) : PkTo h0 L tg0 tg P td pn fz h' := by
  have M0 : Sm (fun _ => False) h h' := M.mono (fun q hq v => hv q hq v)
  exact ⟨T.1.keep M0 (fun _ _ f => f) (fun _ _ f => f) (fun _ _ f => f) (fun _ _ f => f), T.2.1.tr M0 (fun _ _ f => f.elim), T.2.2⟩
theorem Pk.kM {h : HP} {L tg P td : Nat → Nat} {pn : Nat} {fz : Bool} (X : Pk h L tg P td pn fz) : h.kd (L 4) = 7 := by
  obtain ⟨C, mc, ks, x, -⟩ := X.2.2.2.2.2.2.1; exact x.lt.1
theorem Pk.kT {h : HP} {L tg P td : Nat → Nat} {pn : Nat} {fz : Bool} (X : Pk h L tg P td pn fz) : h.kd (L 5) = 11 := by
  obtain ⟨K, mc, ks, ν, ad, x, -⟩ := X.2.2.2.2.2.2.2; exact x.1
theorem Pk.kQ {h : HP} {L tg P td : Nat → Nat} {pn : Nat} {fz : Bool} (X : Pk h L tg P td pn fz) : h.kd (L 3) = 12 := by
  obtain ⟨ar, n, cap, g, κ, mc, x, -⟩ := X.2.2.2.2.2.1; exact x.1
/-- whether a day of f .. l is one of a frost -/
def mtB (P : Nat → Nat) (f l : Nat) : Bool := anN (P 6) fun k => decide (f ≤ P (141 + 2 * k + 1)) && decide (P (141 + 2 * k) ≤ l)
theorem anN_s (n : Nat) (f : Nat → Bool) : anN (n + 1) f = (anN n f || f n) := rfl
theorem anN_f {n : Nat} {f : Nat → Bool} (h : ∀ k, k < n → f k = false) : anN n f = false := by
  induction n with
  | zero => rfl
  | succ n ih => rw [anN_s, ih (fun k hk => h k (by omega)), h n (by omega)]; rfl
theorem anN_t {n : Nat} {f : Nat → Bool} {k : Nat} (hk : k < n) (h : f k = true) : anN n f = true := by
  induction n with
  | zero => omega
  | succ n ih =>
    rw [anN_s]
    by_cases e : k = n
    · subst e; rw [h, Bool.or_true]
    · rw [ih (by omega), Bool.true_or]
theorem frP_mt (P : Nat → Nat) (y : Nat) : frP P y = mtB P y y := by
  unfold frP mtB inN
  congr 1
  funext k
  exact Bool.and_comm _ _
theorem frs_lt {P : Nat → Nat} (W : WF P) {i : Nat} : ∀ j, i < j → j < P 6 → P (141 + 2 * i + 1) < P (141 + 2 * j) := by
  intro j
  induction j with
  | zero => intro h; omega
  | succ j ih =>
    intro h1 h2
    have a1 := W.2.2.1.2.2 j h2
    by_cases e : i = j
    · subst e; exact a1
    · have := ih (by omega) (by omega)
      have := W.2.2.1.2.1 j (by omega)
      omega
theorem mt_floor {P : Nat → Nat} (W : WF P) {k f l : Nat} (hk : k < P 6) (hl : P (141 + 2 * k) ≤ l) (mx : ∀ j, j < P 6 → P (141 + 2 * j) ≤ l → P (141 + 2 * j) ≤ P (141 + 2 * k)) : mtB P f l = decide (f ≤ P (141 + 2 * k + 1)) := by
  by_cases c : f ≤ P (141 + 2 * k + 1)
  · rw [decide_eq_true c]
    exact anN_t hk (by simp [c, hl])
  · rw [decide_eq_false c]
    refine anN_f (fun j hj => ?_)
    by_cases e : P (141 + 2 * j) ≤ l
    · have h1 := mx j hj e
      have hjk : j ≤ k := Classical.byContradiction fun q => by
        have := frs_lt W (i := k) j (by omega) hj
        have := W.2.2.1.2.1 k hk
        omega
      have h2 : P (141 + 2 * j + 1) ≤ P (141 + 2 * k + 1) := by
        by_cases q : j = k
        · rw [q]; exact Nat.le_refl _
        · have := frs_lt W (i := j) k (by omega) hk
          have := W.2.2.1.2.1 k hk
          omega
      have h3 : ¬ f ≤ P (141 + 2 * j + 1) := by omega
      simp [h3]
    · simp [e]
theorem mt_none {P : Nat → Nat} {l : Nat} (h : ∀ j, j < P 6 → l < P (141 + 2 * j)) (f : Nat) : mtB P f l = false :=
  anN_f (fun j hj => by have := h j hj; have h2 : ¬ P (141 + 2 * j) ≤ l := by omega
                        simp [h2])
theorem WF.f0 {P : Nat → Nat} (W : WF P) {k : Nat} (hk : k < P 6) : P (141 + 2 * k) ≤ 999 ∧ P (141 + 2 * k + 1) ≤ 999 := by
  have := W.2.2.1.2.1 k hk; omega
theorem frs_inj {P : Nat → Nat} (W : WF P) {i j : Nat} (hi : i < P 6) (hj : j < P 6) (e : P (141 + 2 * i) = P (141 + 2 * j)) : i = j := Classical.byContradiction fun q => by
  have := W.2.2.1.2.1 i hi; have := W.2.2.1.2.1 j hj
  by_cases c : i < j
  · have := frs_lt W (i := i) j c hj; omega
  · have := frs_lt W (i := j) i (by omega) hi; omega
theorem c_pkFloor {E : Ev} {h : HP} {L tg P : Nat → Nat} (X : PkM h L tg P) (W : WF P) {a l : Nat} (ia : IntAt h a (nI l)) (hl : l < 2147483648) (d k : Nat) (hd : 6 ≤ d) : Call E yJ8_floorKey d k [.ref (L 4), .ref a] h (rA fun r h' => h' = h ∧ (r = none → ∀ f, mtB P f l = false) ∧ ∀ b, r = some b → ∃ j, j < P 6 ∧ IntAt h b (nI (P (141 + 2 * j))) ∧ ∀ f, mtB P f l = decide (f ≤ P (141 + 2 * j + 1))) := by
  obtain ⟨C, mc, ks, M1, M2, M3, -⟩ := X
  refine (c_mpFloor (kx := l) d k M1 hd fxJ8_107_15 ia.2.1 (fun q y0 v hC => ?_)).mono (fun r h' q => ?_)
  · obtain ⟨j, j1, j2, j3, -⟩ := M2 q y0 v hC
    have := W.f0 j1
    exact cmpI hl (by omega) ia j3
  · obtain ⟨r9, e, e1, e2, e3⟩ := q
    refine ⟨r9, e, e1, fun hn f => ?_, fun b hb => ?_⟩
    · refine mt_none (fun j hj => ?_) f
      obtain ⟨x, v, hx⟩ := M3 j hj
      exact e3 hn _ x v hx
    · obtain ⟨q, v, hC, hq, mx⟩ := e2 b hb
      obtain ⟨j, j1, j2, j3, -⟩ := M2 q b v hC
      refine ⟨j, j1, by rw [← j2]; exact j3, fun f => mt_floor W j1 (by rw [← j2]; exact hq) (fun i hi hil => ?_)⟩
      obtain ⟨x9, v9, h9⟩ := M3 i hi
      rw [← j2]
      exact mx _ _ _ h9 hil
theorem c_pkGet {E : Ev} {h : HP} {L tg P : Nat → Nat} (X : PkM h L tg P) (W : WF P) {b j : Nat} (hj : j < P 6) (ib : IntAt h b (nI (P (141 + 2 * j)))) (d k : Nat) (hd : 5 ≤ d) : Call E yJ8_get d k [.ref (L 4), .ref b] h (rR fun v h' => h' = h ∧ IntAt h v (nI (P (141 + 2 * j + 1)))) := by
  obtain ⟨C, mc, ks, M1, M2, M3, -⟩ := X
  have b0 := W.f0 hj
  refine (c_mpGet (kx := P (141 + 2 * j)) d k M1 hd fxJ8_107_15 ib.2.1 (fun q y0 v hC => ?_)).mono (fun r h' q => ?_)
  · obtain ⟨i, i1, i2, i3, -⟩ := M2 q y0 v hC
    have := W.f0 i1
    exact cmpI (by omega) (by omega) ib i3
  · obtain ⟨r9, e, e1, e2, e3⟩ := q
    obtain ⟨x, v, hx⟩ := M3 j hj
    rcases r9 with _ | v9
    · exact absurd hx (e3 rfl _ _)
    · obtain ⟨x9, h9⟩ := e2 v9 rfl
      obtain ⟨i, i1, i2, -, i4⟩ := M2 _ _ _ h9
      have ei := frs_inj W hj i1 i2
      subst ei
      exact ⟨v9, e, e1, i4⟩
set_option maxHeartbeats 4000000 in
theorem c_pkLook {E : Ev} {h : HP} {L tg P td : Nat → Nat} {pn : Nat} {fz : Bool} (T0 : Pk h L tg P td pn fz) (W : WF P)  (d k : Nat) (hd : 7 ≤ d) (hk : 1 ≤ k) : Call E yX2_lookOut d k [.ref (L 0)] h (rV (PkTo h L tg tg P td pn (frP P (P 5)))) := by
  have b5 := W.B.s 5 (by decide)
  refine Call.of [.ref (L 0), dum] q1467 (by decide) pn_X2 (Nat.le_of_ble_eq_true rfl) rfl ?_
  refine z_aload0 0 dX2_lookOut_0 ?_
  refine z_get 1 gX2_33 dX2_lookOut_1 T0.v.k0 (T0.v.2.1.2.1.2.2.2.1) ?_
  refine z_aload0 4 dX2_lookOut_4 ?_
  refine z_get 5 gX2_103 dX2_lookOut_5 T0.v.k0 T0.v.day ?_
  refine z_S1 (k' := (k - 1)) 8 sX2_129 dX2_lookOut_8 (c_valueOf (E := E) (h := h) (x := nI (P 5)) (d - 1) 1 (by omega) (by omega)) (by omega) (by omega) (Nat.le_of_ble_eq_true rfl) (aft_R fun a h1 hq => ?_)
  obtain ⟨ia, m1, -⟩ := hq
  have T := T0.to.new m1 (fun _ _ f => f)
  refine z_V1 (k' := (k - 1)) 11 vX2_133 dX2_lookOut_11 T.1.kM (c_pkFloor T.1.2.2.2.2.2.2.1 W ia (by omega) (d - 1) 0 (by omega)) (by omega) (by omega) (Nat.le_of_ble_eq_true rfl) (aft_A fun r h2 hq => ?_)
  obtain ⟨rfl, hn, hs⟩ := hq
  rcases r with _ | b
  · have hb : false = frP P (P 5) := by rw [frP_mt]; exact (hn rfl _).symm
    refine z_castN 14 dX2_lookOut_14 ?_
    refine z_astore1N 17 dX2_lookOut_17 rfl ?_
    refine z_aload0 18 dX2_lookOut_18 ?_
    refine z_aload1N 19 dX2_lookOut_19 ?_
    refine z_ifnullN 20 48 dX2_lookOut_20 (by decide) ?_
    refine z_iconst 48 (nI 0) dX2_lookOut_48 kI0 ?_
    refine z_put 49 pX2_125 (fun h => by cases h) dX2_lookOut_49 T.V.k0 (rfl) (rfl) ?_
    have T := T.fzS false W.h6
    refine z_return 52 rfl dX2_lookOut_52 ?_
    refine ⟨rfl, ?_⟩
    rw [← hb]
    exact T
  · obtain ⟨j, hj, ib, hm⟩ := hs b rfl
    have bj := W.f0 hj
    have hf : frP P (P 5) = decide (P 5 ≤ P (141 + 2 * j + 1)) := by rw [frP_mt]; exact hm _
    refine z_castY 14 (ci := 15) ok_15.1 q1117 (Or.inl rfl) dX2_lookOut_14 ib.2.1 ?_
    refine z_astore1 17 dX2_lookOut_17 rfl ?_
    refine z_aload0 18 dX2_lookOut_18 ?_
    refine z_aload1 19 dX2_lookOut_19 ?_
    refine z_ifnull 20 dX2_lookOut_20 ?_
    refine z_aload0 23 dX2_lookOut_23 ?_
    refine z_get 24 gX2_33 dX2_lookOut_24 T.V.k0 (T.V.2.1.2.1.2.2.2.1) ?_
    refine z_aload1 27 dX2_lookOut_27 ?_
    refine z_V1 (k' := (k - 1)) 28 vX2_81 dX2_lookOut_28 T.1.kM (c_pkGet T.1.2.2.2.2.2.2.1 W hj ib (d - 1) 0 (by omega)) (by omega) (by omega) (Nat.le_of_ble_eq_true rfl) (aft_R fun v h3 hq => ?_)
    obtain ⟨rfl, iv⟩ := hq
    refine z_castY 31 (ci := 15) ok_15.1 q1117 (Or.inl rfl) dX2_lookOut_31 iv.2.1 ?_
    refine z_V0 (k' := (k - 1)) 34 vX2_136 dX2_lookOut_34 iv.2.1 (c_intValue (d - 1) 0 iv) (by omega) (by omega) (Nat.le_of_ble_eq_true rfl) (aft_P ?_)
    refine z_aload0 37 dX2_lookOut_37 ?_
    refine z_get 38 gX2_103 dX2_lookOut_38 T.V.k0 T.V.day ?_
    refine z_icltN 41 48 dX2_lookOut_41 (by decide) (by omega) (by omega) (fun c_41 => ?_) (fun c_41 => ?_)
    · have hb : false = frP P (P 5) := by rw [hf]; exact (decide_eq_false (by omega)).symm
      refine z_iconst 48 (nI 0) dX2_lookOut_48 kI0 ?_
      refine z_put 49 pX2_125 (fun h => by cases h) dX2_lookOut_49 T.V.k0 (rfl) (rfl) ?_
      have T := T.fzS false W.h6
      refine z_return 52 rfl dX2_lookOut_52 ?_
      refine ⟨rfl, ?_⟩
      rw [← hb]
      exact T
    · have hb : true = frP P (P 5) := by rw [hf]; exact (decide_eq_true (by omega)).symm
      refine z_iconst 44 (nI 1) dX2_lookOut_44 kI1 ?_
      refine z_goto 45 49 dX2_lookOut_45 (by decide) ?_
      refine z_put 49 pX2_125 (fun h => by cases h) dX2_lookOut_49 T.V.k0 (rfl) (rfl) ?_
      have T := T.fzS true W.h6
      refine z_return 52 rfl dX2_lookOut_52 ?_
      refine ⟨rfl, ?_⟩
      rw [← hb]
      exact T

set_option maxHeartbeats 4000000 in
theorem c_pkMeets {E : Ev} {h : HP} {L tg P td : Nat → Nat} {pn : Nat} {fz : Bool} (T0 : Pk h L tg P td pn fz) (W : WF P) {f l : Nat} (bf : f < 100000) (bl : l < 100000) (d k : Nat) (hd : 7 ≤ d) (hk : 1 ≤ k) : Call E yX2_meets d k [.ref (L 0), .int (nI f), .int (nI l)] h (rI fun x h' => x = nI (bN (mtB P f l)) ∧ PkTo h L tg tg P td pn fz h') := by
  refine Call.of [.ref (L 0), .int (nI f), .int (nI l), dum] q1939 (by decide) pn_X2 (Nat.le_of_ble_eq_true rfl) rfl ?_
  refine z_aload0 0 dX2_meets_0 ?_
  refine z_get 1 gX2_33 dX2_meets_1 T0.v.k0 (T0.v.2.1.2.1.2.2.2.1) ?_
  refine z_iload2 4 dX2_meets_4 ?_
  refine z_S1 (k' := (k - 1)) 5 sX2_129 dX2_meets_5 (c_valueOf (E := E) (h := h) (x := nI l) (d - 1) 1 (by omega) (by omega)) (by omega) (by omega) (Nat.le_of_ble_eq_true rfl) (aft_R fun a h1 hq => ?_)
  obtain ⟨ia, m1, -⟩ := hq
  have T := T0.to.new m1 (fun _ _ f => f)
  refine z_V1 (k' := (k - 1)) 8 vX2_133 dX2_meets_8 T.1.kM (c_pkFloor T.1.2.2.2.2.2.2.1 W ia (by omega) (d - 1) 0 (by omega)) (by omega) (by omega) (Nat.le_of_ble_eq_true rfl) (aft_A fun r h2 hq => ?_)
  obtain ⟨rfl, hn, hs⟩ := hq
  rcases r with _ | b
  · have hb : false = mtB P f l := (hn rfl _).symm
    refine z_castN 11 dX2_meets_11 ?_
    refine z_astore3N 14 dX2_meets_14 rfl ?_
    refine z_aload3N 15 dX2_meets_15 ?_
    refine z_ifnullN 16 41 dX2_meets_16 (by decide) ?_
    refine z_iconst 41 (nI 0) dX2_meets_41 kI0 ?_
    refine z_zreturn 42 rfl (by decide) dX2_meets_42 ?_
    refine ⟨_, rfl, ?_, T⟩
    rw [← hb]; rfl
  · obtain ⟨j, hj, ib, hm⟩ := hs b rfl
    have bj := W.f0 hj
    have hf := hm f
    refine z_castY 11 (ci := 15) ok_15.1 q1117 (Or.inl rfl) dX2_meets_11 ib.2.1 ?_
    refine z_astore3 14 dX2_meets_14 rfl ?_
    refine z_aload3 15 dX2_meets_15 ?_
    refine z_ifnull 16 dX2_meets_16 ?_
    refine z_aload0 19 dX2_meets_19 ?_
    refine z_get 20 gX2_33 dX2_meets_20 T.V.k0 (T.V.2.1.2.1.2.2.2.1) ?_
    refine z_aload3 23 dX2_meets_23 ?_
    refine z_V1 (k' := (k - 1)) 24 vX2_81 dX2_meets_24 T.1.kM (c_pkGet T.1.2.2.2.2.2.2.1 W hj ib (d - 1) 0 (by omega)) (by omega) (by omega) (Nat.le_of_ble_eq_true rfl) (aft_R fun v h3 hq => ?_)
    obtain ⟨rfl, iv⟩ := hq
    refine z_castY 27 (ci := 15) ok_15.1 q1117 (Or.inl rfl) dX2_meets_27 iv.2.1 ?_
    refine z_V0 (k' := (k - 1)) 30 vX2_136 dX2_meets_30 iv.2.1 (c_intValue (d - 1) 0 iv) (by omega) (by omega) (Nat.le_of_ble_eq_true rfl) (aft_P ?_)
    refine z_iload1 33 dX2_meets_33 ?_
    refine z_icltN 34 41 dX2_meets_34 (by decide) (by omega) (by omega) (fun c_34 => ?_) (fun c_34 => ?_)
    · have hb : false = mtB P f l := by rw [hf]; exact (decide_eq_false (by omega)).symm
      refine z_iconst 41 (nI 0) dX2_meets_41 kI0 ?_
      refine z_zreturn 42 rfl (by decide) dX2_meets_42 ?_
      refine ⟨_, rfl, ?_, T⟩
      rw [← hb]; rfl
    · have hb : true = mtB P f l := by rw [hf]; exact (decide_eq_true (by omega)).symm
      refine z_iconst 37 (nI 1) dX2_meets_37 kI1 ?_
      refine z_goto 38 42 dX2_meets_38 (by decide) ?_
      refine z_zreturn 42 rfl (by decide) dX2_meets_42 ?_
      refine ⟨_, rfl, ?_, T⟩
      rw [← hb]; rfl

