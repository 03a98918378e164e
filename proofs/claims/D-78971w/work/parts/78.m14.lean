/-! THE REFERENCE: firstError, planAll, fed, the constructor -/
theorem z_hgen {E : Ev} {mt : Mth} {d k : Nat} {Q : Res → HP → Prop} {h : HP} {pc : Nat} {ls st : List Value} {P : HP → Prop} (hp : P h) (kk : ∀ h', P h' → Z E mt d Q k h' pc ls st) : Z E mt d Q k h pc ls st := kk h hp
theorem paC_t {P : Nat → Nat} {s : Ps} (h : paC P s = true) : P 7 + s.2.2.2 ≤ 16 ∧ ∀ k, k < s.2.2.2 → P 5 ≤ s.2.2.1 (3 * k) := by
  unfold paC at h
  revert h
  refine itN_ind (fun i (b : Bool) => b = true → P 7 + s.2.2.2 ≤ 16 ∧ ∀ k, k < i → P 5 ≤ s.2.2.1 (3 * k)) (fun q => ⟨of_decide_eq_true q, fun k hk => absurd hk (Nat.not_lt_zero k)⟩) (fun i b hi ih q => ?_)
  have q : (b && decide (P 5 ≤ s.2.2.1 (3 * i))) = true := q
  rw [Bool.and_eq_true, decide_eq_true_eq] at q
  refine ⟨(ih q.1).1, fun k hk => ?_⟩
  by_cases e : k = i
  · rw [e]; exact q.2
  · exact (ih q.1).2 k (by omega)
theorem paQ_7 (P : Nat → Nat) (s : Ps) : paQ P s 7 = P 7 + s.2.2.2 := by
  unfold paQ
  refine itN_ind (fun i (Q : Nat → Nat) => Q 7 = P 7 + i) rfl (fun i Q hi ih => ?_)
  rw [plP_7, ih]; omega
/-- the reference's fields, half built: k arrays are there -/
def flD : Nat → Nat
  | 0 => 1
  | 1 => 2
  | 2 => 3
  | 3 => 5
  | 4 => 7
  | 5 => 8
  | 6 => 9
  | _ => 12
def InM (k : Nat) (h0 : HP) (m : Nat) (h : HP) : Prop := h.sz = h0.sz + k ∧ h.kd m = 6 ∧ (∀ f, scF f = true → h.mm m f = .int (nI 0)) ∧ h.mm m 14 = .long 0 ∧ (∀ i, i < k → h.mm m (flD i) = .ref (h0.sz + i) ∧ h.kd (h0.sz + i) = akd (flD i) ∧ h.ln (h0.sz + i) = aln (flD i) ∧ ∀ j, h.mm (h0.sz + i) j = .int (nI 0)) ∧ Sm (fun a => a = m) h0 h
theorem flD_sc (i : Nat) : scF (flD i) = false ∧ flD i ≠ 14 ∧ arF (flD i) = true := by
  unfold flD; split <;> decide
theorem flD_inj : ∀ i, i < 8 → ∀ j, j < 8 → flD i = flD j → i = j := by decide
theorem flD_sur (f : Nat) (h : arF f = true) : ∃ i, i < 8 ∧ flD i = f := by
  unfold arF at h
  split at h
  · exact ⟨0, by decide, rfl⟩
  · exact ⟨1, by decide, rfl⟩
  · exact ⟨2, by decide, rfl⟩
  · exact ⟨3, by decide, rfl⟩
  · exact ⟨4, by decide, rfl⟩
  · exact ⟨5, by decide, rfl⟩
  · exact ⟨6, by decide, rfl⟩
  · exact ⟨7, by decide, rfl⟩
  · cases h
theorem InM.step {k : Nat} {h0 h : HP} {m : Nat} (I : InM k h0 m h) (hk : k < 8) (hm : m < h0.sz) : InM (k + 1) h0 m ((h.mk (akd (flD k)) (aln (flD k)) (fun _ => .int (nI 0))).put m (flD k) (.ref h.sz)) := by
  obtain ⟨i1, i2, i3, i4, i5, i6⟩ := I
  have n1 : m ≠ h.sz := by omega
  refine ⟨by show h.sz + 1 = _; omega, by rw [kd_put, kd_mk, if_neg n1]; exact i2, fun f hf => ?_, ?_, fun i hi => ?_, (i6.mkS).putS rfl⟩
  · have e : f ≠ flD k := fun e => by rw [e, (flD_sc k).1] at hf; cases hf
    rw [mm_nek _ _ _ _ _ e, mm_mk, if_neg n1]; exact i3 f hf
  · rw [mm_nek _ _ _ _ _ (Ne.symm (flD_sc k).2.1), mm_mk, if_neg n1]; exact i4
  · have hne : h0.sz + i ≠ m := by omega
    by_cases e : i = k
    · rw [e, mm_self, i1]
      refine ⟨rfl, ?_, ?_, fun j => ?_⟩
      · rw [kd_put, kd_mk, i1, if_pos rfl]
      · rw [ln_put, ln_mk, i1, if_pos rfl]
      · rw [mm_nea _ _ _ _ _ (by omega), mm_mk, i1, if_pos rfl]
    · obtain ⟨q1, q2, q3, q4⟩ := i5 i (by omega)
      have n2 : h0.sz + i ≠ h.sz := by omega
      have n3 : flD i ≠ flD k := fun q => e (flD_inj i (by omega) k hk q)
      refine ⟨?_, ?_, ?_, fun j => ?_⟩
      · rw [mm_nek _ _ _ _ _ n3, mm_mk, if_neg n1]; exact q1
      · rw [kd_put, kd_mk, if_neg n2]; exact q2
      · rw [ln_put, ln_mk, if_neg n2]; exact q3
      · rw [mm_nea _ _ _ _ _ hne, mm_mk, if_neg n2]; exact q4 j
/-- the numbers at the start -/
def P00 : Nat → Nat := upn (upn (upn (upn (fun _ => 0) 0 4) 2 2) 3 5) 4 10
def flR : Nat → Nat
  | 1 => 0
  | 2 => 1
  | 3 => 2
  | 5 => 3
  | 7 => 4
  | 8 => 5
  | 9 => 6
  | _ => 7
theorem flR_D (i : Nat) (h : i < 8) : flR (flD i) = i := by
  rcases (by omega : i = 0 ∨ i = 1 ∨ i = 2 ∨ i = 3 ∨ i = 4 ∨ i = 5 ∨ i = 6 ∨ i = 7) with e | e | e | e | e | e | e | e <;> subst e <;> rfl
theorem InM.at {h0 h : HP} {m : Nat} (I : InM 8 h0 m h) (hm : m < h0.sz) : MdAt h m (fun f => h0.sz + flR f) (fun _ => 0) (fun _ _ => 0) 0 := by
  obtain ⟨i1, i2, i3, i4, i5, i6⟩ := I
  have ar : ∀ f, arF f = true → h.mm m f = .ref (h0.sz + flR f) ∧ h.kd (h0.sz + flR f) = akd f ∧ h.ln (h0.sz + flR f) = aln f ∧ ∀ j, h.mm (h0.sz + flR f) j = .int (nI 0) := by
    intro f hf
    obtain ⟨i, hi, e⟩ := flD_sur f hf
    rw [← e, flR_D i hi]
    exact i5 i hi
  refine ⟨i2, by omega, i3, fun f hf => ?_, i4, fun j _ => (ar 1 rfl).2.2.2 j, fun f hf _ j _ => (ar f hf).2.2.2 j, fun f g hf hg e => ?_⟩
  · obtain ⟨q1, q2, q3, q4⟩ := ar f hf
    refine ⟨q1, q2, q3, ?_⟩
    obtain ⟨i, hi, e⟩ := flD_sur f hf
    show h0.sz + flR f < h.sz
    rw [← e, flR_D i hi]; omega
  · obtain ⟨i, hi, ei⟩ := flD_sur f hf
    obtain ⟨j, hj, ej⟩ := flD_sur g hg
    have e : h0.sz + flR f = h0.sz + flR g := e
    rw [← ei, ← ej, flR_D i hi, flR_D j hj] at e
    rw [← ei, ← ej, show i = j by omega]
set_option maxHeartbeats 4000000 in
theorem a_mfirst {E : Ev} {h : HP} {m : Nat} {A : Nat → Nat} {S : Sx} {hs : Int64} {c9 : Nat} (T0 : MdL h m A S hs c9) (WS : WFS S)  (d k : Nat) (hd : 6 ≤ d) : Call E yX5_firstError d k [.ref m] h (MdApi h m A hs (a_first S)) := by
  obtain ⟨P, SV, n, BF, L⟩ := S
  obtain ⟨X, M, e0, e3, e4, e5, e6⟩ := T0
  have e3 : X 3 = SV := e3
  have e4 : X 4 0 = n := e4
  have e5 : X 5 = BF := e5
  have e6 : X 6 0 = L := e6
  obtain ⟨⟨W, w5, w7⟩, hn6, hL, hB, hsv⟩ := id WS
  have W : WF P := W
  have w5 : P 5 ≤ 999 := w5
  have w7 : P 7 ≤ 16 := w7
  have hn6 : n ≤ 6 := hn6
  have hL : L ≤ 60 := hL
  have hB : ∀ j, j < L → 33 ≤ BF j ∧ BF j ≤ 126 := hB
  have T : MdTo h m A P X hs h := M.to
  refine Call.of [.ref m] q2349 (by decide) pn_X5 (Nat.le_of_ble_eq_true rfl) rfl ?_
  refine z_aload0 0 dX5_firstError_0 ?_
  refine z_iconst 1 (nI 0) dX5_firstError_1 kI0 ?_
  refine z_put 2 pX5_35 (fun h => by cases h) dX5_firstError_2 T.kd (rfl) (rfl) ?_
  have T := T.putS 0 0 rfl
  refine z_aload0 5 dX5_firstError_5 ?_
  refine z_V0 (k' := k) 6 vX5_177 dX5_firstError_6 T.kd (m_readsAll T.1 e5 e6 hL (fun j hj => (hB j hj).2) (d - 1) 0 (by omega)) (by omega) (by omega) (Nat.le_of_ble_eq_true rfl) (aft_V fun h_r hq => ?_)
  obtain ⟨X1, S1, PX, T1⟩ := hq
  have T := T.trans T1
  have hI := alP_in BF L
  have g3 : X1 3 = SV := (S1 3 (by decide)).trans e3
  have g4 : X1 4 0 = n := (congrFun (S1 4 (by decide)) 0).trans e4
  have g5 : X1 5 = BF := (S1 5 (by decide)).trans e5
  have g6 : X1 6 0 = L := (congrFun (S1 6 (by decide)) 0).trans e6
  have g0 : X1 0 0 = 0 := congrFun (S1 0 (by decide)) 0
  refine z_aload0 9 dX5_firstError_9 ?_
  refine z_get 10 gX5_149 dX5_firstError_10 T.kd (show HP.mm _ _ _ = .int (nI (X1 10 0)) from T.sc 10 rfl) ?_
  rw [PX.1]
  refine z_ireturn 13 rfl dX5_firstError_13 ?_
  exact mdApi_of (c := 0) rfl (fun _ => rfl) T g0 g3 g4 g5 g6

set_option maxHeartbeats 4000000 in
theorem a_mplanAll {E : Ev} {h : HP} {m : Nat} {A : Nat → Nat} {S : Sx} {hs : Int64} {c9 : Nat} (T0 : MdL h m A S hs c9) (WS : WFS S)  (d k : Nat) (hd : 6 ≤ d) : Call E yX5_planAll d k [.ref m] h (MdApi h m A hs (a_planAll S)) := by
  obtain ⟨P, SV, n, BF, L⟩ := S
  obtain ⟨X, M, e0, e3, e4, e5, e6⟩ := T0
  have e3 : X 3 = SV := e3
  have e4 : X 4 0 = n := e4
  have e5 : X 5 = BF := e5
  have e6 : X 6 0 = L := e6
  obtain ⟨⟨W, w5, w7⟩, hn6, hL, hB, hsv⟩ := id WS
  have W : WF P := W
  have w5 : P 5 ≤ 999 := w5
  have w7 : P 7 ≤ 16 := w7
  have hn6 : n ≤ 6 := hn6
  have hL : L ≤ 60 := hL
  have hB : ∀ j, j < L → 33 ≤ BF j ∧ BF j ≤ 126 := hB
  have T : MdTo h m A P X hs h := M.to
  have b5 := W.B.s 5 (by omega)
  refine Call.of [.ref m, dum, dum] q2381 (by decide) pn_X5 (Nat.le_of_ble_eq_true rfl) rfl ?_
  refine z_aload0 0 dX5_planAll_0 ?_
  refine z_iconst 1 (nI 0) dX5_planAll_1 kI0 ?_
  refine z_put 2 pX5_35 (fun h => by cases h) dX5_planAll_2 T.kd (rfl) (rfl) ?_
  have T := T.putS 0 0 rfl
  refine z_aload0 5 dX5_planAll_5 ?_
  refine z_V0 (k' := k) 6 vX5_177 dX5_planAll_6 T.kd (m_readsAll T.1 e5 e6 hL (fun j hj => (hB j hj).2) (d - 1) 0 (by omega)) (by omega) (by omega) (Nat.le_of_ble_eq_true rfl) (aft_V fun h_r hq => ?_)
  obtain ⟨X1, S1, PX, T1⟩ := hq
  have T := T.trans T1
  have hI := alP_in BF L
  have g3 : X1 3 = SV := (S1 3 (by decide)).trans e3
  have g4 : X1 4 0 = n := (congrFun (S1 4 (by decide)) 0).trans e4
  have g5 : X1 5 = BF := (S1 5 (by decide)).trans e5
  have g6 : X1 6 0 = L := (congrFun (S1 6 (by decide)) 0).trans e6
  have g0 : X1 0 0 = 0 := congrFun (S1 0 (by decide)) 0
  generalize hs9 : alP BF L = s9 at PX hI
  obtain ⟨w9, a9, td, tm⟩ := s9
  have x0 : X1 10 0 = a9 := PX.1
  have x1 : X1 11 0 = bN w9 := PX.2.1
  have x2 : ∀ j, j < 3 * tm → X1 12 j = td j := PX.2.2.1
  have x3 : X1 13 0 = tm := PX.2.2.2
  have htm : 4 * tm ≤ 60 := Nat.le_trans hI.1 (Nat.le_trans hI.2.1 hL)
  have htd : ∀ k, k < tm → td (3 * k) ≤ 999 ∧ 1 ≤ td (3 * k + 1) ∧ td (3 * k + 1) ≤ 99 ∧ td (3 * k + 2) < 8 := hI.2.2
  refine z_aload0 9 dX5_planAll_9 ?_
  refine z_get 10 gX5_152 dX5_planAll_10 T.kd (show HP.mm _ _ _ = .int (nI (X1 11 0)) from T.sc 11 rfl) ?_
  rw [x1]
  refine z_ifneB 13 22 dX5_planAll_13 (by decide) (fun c_13 => ?_) (fun c_13 => ?_)
  · subst c_13
    refine z_aload0 22 dX5_planAll_22 ?_
    refine z_get 23 gX5_7 dX5_planAll_23 T.kd (T.rf 1 rfl) ?_
    refine z_bipush 26 (nI 7) dX5_planAll_26 kB7 ?_
    refine z_iald (n := 204) 28 (7) dX5_planAll_28 (T.ak 1 rfl rfl) (T.al 1 rfl rfl) (rfl) ((by omega)) (by decide) (T.at1 (by omega)) ?_
    refine z_aload0 29 dX5_planAll_29 ?_
    refine z_get 30 gX5_168 dX5_planAll_30 T.kd (show HP.mm _ _ _ = .int (nI (X1 13 0)) from T.sc 13 rfl) ?_
    rw [x3]
    refine z_iaddN 33 dX5_planAll_33 ?_
    refine z_bipush 34 (nI 16) dX5_planAll_34 kB16 ?_
    refine joinZ 44 (fun v9 => [.ref m, dum, dum]) (fun v9 => [.int v9]) ((nI (bN (decide (P 7 + tm ≤ 16))))) ?_ (fun J => ?_)
    · refine z_istore1 44 dX5_planAll_44 rfl ?_
      refine z_iconst 45 (nI 0) dX5_planAll_45 kI0 ?_
      refine z_istore2 46 dX5_planAll_46 rfl ?_
      refine lpA0 47 (tm) (fun k b => b && decide (P 5 ≤ td (3 * k))) (decide (P 7 + tm ≤ 16)) ((paC P (true, a9, td, tm))) (rfl) (fun i b => [.ref m, .int (nI (bN b)), .int (nI i)]) ?_ (fun i b hi_i ih_i => ?_)
      · refine z_iload2 47 dX5_planAll_47 ?_
        refine z_aload0 48 dX5_planAll_48 ?_
        refine z_get 49 gX5_168 dX5_planAll_49 T.kd (show HP.mm _ _ _ = .int (nI (X1 13 0)) from T.sc 13 rfl) ?_
        rw [x3]
        refine z_icgeN 52 88 dX5_planAll_52 (by decide) (by omega) (by omega) (fun c_52 => ?_) (fun c_52 => absurd c_52 (by omega))
        refine z_iload1 88 dX5_planAll_88 ?_
        refine z_ifneB 89 98 dX5_planAll_89 (by decide) (fun c_89 => ?_) (fun c_89 => ?_)
        · refine z_aload0 98 dX5_planAll_98 ?_
          refine z_V0 (k' := k) 99 vX5_127 dX5_planAll_99 T.kd (m_saves T.1 (by rw [g4]; exact hn6) (d - 1) 0) (by omega) (by omega) (Nat.le_of_ble_eq_true rfl) (aft_V fun h_s hq => ?_)
          obtain ⟨X9, s3, s4, sF, T1⟩ := hq
          have T : MdTo h m A P X9 hs h_s := T.trans T1
          have f0 : X9 0 0 = 0 := by rw [sF 0 (by decide) (by decide)]; exact g0
          have f3 : X9 3 = svX SV n P := s3.trans (by rw [g3, g4])
          have f4 : X9 4 0 = svN n := s4.trans (by rw [g4])
          have f5 : X9 5 = BF := (sF 5 (by decide) (by decide)).trans g5
          have y2 : ∀ j, j < 3 * tm → X9 12 j = td j := fun j hj => by rw [sF 12 (by decide) (by decide)]; exact x2 j hj
          have y3 : X9 13 0 = tm := by rw [sF 13 (by decide) (by decide)]; exact x3
          obtain ⟨hc16, hcd⟩ := paC_t (P := P) (s := (true, a9, td, tm)) c_89
          have hc16 : P 7 + tm ≤ 16 := hc16
          refine z_aload0 102 dX5_planAll_102 ?_
          refine z_iconst 103 (nI 0) dX5_planAll_103 kI0 ?_
          refine z_put 104 pX5_146 (fun h => by cases h) dX5_planAll_104 T.kd (rfl) (rfl) ?_
          have T := T.putS 6 0 rfl
          refine z_iconst 107 (nI 0) dX5_planAll_107 kI0 ?_
          refine z_istore2 108 dX5_planAll_108 rfl ?_
          refine lpB 109 (tm) (fun k Q => plP Q (td (3 * k)) (td (3 * k + 1)) (td (3 * k + 2))) (P) ((paQ P (true, a9, td, tm))) (rfl) (fun i Q => [.ref m, .int (nI (bN (paC P (true, a9, td, tm)))), .int (nI i)]) (fun i Q h9 => MdTo h m A Q (upx X9 6 0 0) hs h9) (fun i Q => Q 7 = P 7 + i) (fun _ => k) (T) (rfl) (fun i Q hi hJ => by rw [plP_7, hJ]; omega) (fun h_1 T hJ => ?_) (fun i Q h_1 hi_i hJ T ih_i => ?_)
          · have T : MdTo h m A (paQ P (true, a9, td, tm)) (upx X9 6 0 0) hs h_1 := T
            refine z_iload2 109 dX5_planAll_109 ?_
            refine z_aload0 110 dX5_planAll_110 ?_
            refine z_get 111 gX5_168 dX5_planAll_111 T.kd (show HP.mm _ _ _ = .int (nI ((X9 13) 0)) from T.sc 13 rfl) ?_
            rw [y3]
            refine z_icgeN 114 155 dX5_planAll_114 (by decide) (by omega) (by omega) (fun c_114 => ?_) (fun c_114 => absurd c_114 (by omega))
            refine z_aload0 155 dX5_planAll_155 ?_
            refine z_get 156 gX5_7 dX5_planAll_156 T.kd (T.rf 1 rfl) ?_
            refine z_bipush 159 (nI 7) dX5_planAll_159 kB7 ?_
            refine z_iald (n := 204) 161 (7) dX5_planAll_161 (T.ak 1 rfl rfl) (T.al 1 rfl rfl) (rfl) ((by omega)) (by decide) (T.at1 (by omega)) ?_
            rw [paQ_7]
            refine z_ireturn 162 rfl dX5_planAll_162 ?_
            exact mdApi_of (c := 0) (by unfold a_planAll; show (if (alP BF L).1 = false then _ else if paC P (alP BF L) = false then _ else _) = _; rw [hs9, if_neg (fun q => by cases q), if_neg (by rw [c_89]; decide)]; rfl) (fun _ => rfl) T f0 f3 f4 f5 rfl
          · have hQ7 : Q 7 = P 7 + i := hJ
            refine z_iload2 109 dX5_planAll_109 ?_
            refine z_aload0 110 dX5_planAll_110 ?_
            refine z_get 111 gX5_168 dX5_planAll_111 T.kd (show HP.mm _ _ _ = .int (nI ((X9 13) 0)) from T.sc 13 rfl) ?_
            rw [y3]
            refine z_icgeN 114 155 dX5_planAll_114 (by decide) (by omega) (by omega) (fun c_114 => absurd c_114 (by omega)) (fun c_114 => ?_)
            refine z_aload0 117 dX5_planAll_117 ?_
            refine z_aload0 118 dX5_planAll_118 ?_
            refine z_get 119 gX5_32 dX5_planAll_119 T.kd (T.rf 12 rfl) ?_
            refine z_iconst 122 (nI 3) dX5_planAll_122 kI3 ?_
            refine z_iload2 123 dX5_planAll_123 ?_
            refine z_imulN 124 dX5_planAll_124 ?_
            refine z_iald (n := 96) 125 (3 * i) dX5_planAll_125 (T.ak 12 rfl rfl) (T.al 12 rfl rfl) (rfl) ((by omega)) (by decide) (show HP.mm _ _ _ = .int (nI ((X9 12) (3 * i))) from T.at 12 rfl (by decide) (c := 96) rfl (by omega)) ?_
            rw [y2 _ (by omega)]
            refine z_aload0 126 dX5_planAll_126 ?_
            refine z_get 127 gX5_32 dX5_planAll_127 T.kd (T.rf 12 rfl) ?_
            refine z_iconst 130 (nI 3) dX5_planAll_130 kI3 ?_
            refine z_iload2 131 dX5_planAll_131 ?_
            refine z_imulN 132 dX5_planAll_132 ?_
            refine z_iconst 133 (nI 1) dX5_planAll_133 kI1 ?_
            refine z_iaddN 134 dX5_planAll_134 ?_
            refine z_iald (n := 96) 135 (3 * i + 1) dX5_planAll_135 (T.ak 12 rfl rfl) (T.al 12 rfl rfl) (rfl) ((by omega)) (by decide) (show HP.mm _ _ _ = .int (nI ((X9 12) (3 * i + 1))) from T.at 12 rfl (by decide) (c := 96) rfl (by omega)) ?_
            rw [y2 _ (by omega)]
            refine z_aload0 136 dX5_planAll_136 ?_
            refine z_get 137 gX5_32 dX5_planAll_137 T.kd (T.rf 12 rfl) ?_
            refine z_iconst 140 (nI 3) dX5_planAll_140 kI3 ?_
            refine z_iload2 141 dX5_planAll_141 ?_
            refine z_imulN 142 dX5_planAll_142 ?_
            refine z_iconst 143 (nI 2) dX5_planAll_143 kI2 ?_
            refine z_iaddN 144 dX5_planAll_144 ?_
            refine z_iald (n := 96) 145 (3 * i + 2) dX5_planAll_145 (T.ak 12 rfl rfl) (T.al 12 rfl rfl) (rfl) ((by omega)) (by decide) (show HP.mm _ _ _ = .int (nI ((X9 12) (3 * i + 2))) from T.at 12 rfl (by decide) (c := 96) rfl (by omega)) ?_
            rw [y2 _ (by omega)]
            refine z_V3 (k' := k) 146 vX5_137 dX5_planAll_146 T.kd (m_plans T.1 (by omega) (d - 1) 0) (by omega) (by omega) (Nat.le_of_ble_eq_true rfl) (aft_V fun h_2 hq => ?_)
            have T : MdTo h m A (plP Q ((td) (3 * i)) ((td) (3 * i + 1)) ((td) (3 * i + 2))) (upx X9 6 0 0) hs h_2 := T.trans hq
            refine z_iinc2 149 ((nI (i + 1))) dX5_planAll_149 (nI_add _ _) rfl ?_
            refine z_goto 152 109 dX5_planAll_152 (by decide) ?_
            exact ih_i (plP Q ((td) (3 * i)) ((td) (3 * i + 1)) ((td) (3 * i + 2))) _ (by rfl) T
        · refine z_aload0 92 dX5_planAll_92 ?_
          refine z_iconst 93 (nI 2) dX5_planAll_93 kI2 ?_
          refine z_V1 (k' := k) 94 vX5_124 dX5_planAll_94 T.kd (m_fails T.1 (d - 1) 0) (by omega) (by omega) (Nat.le_of_ble_eq_true rfl) (aft_I fun x_3 h_3 hq => ?_)
          obtain ⟨hx, T1⟩ := hq
          have hx : x_3 = nI 0 := hx
          subst hx
          have T := T.trans T1
          refine z_ireturn 97 rfl dX5_planAll_97 ?_
          exact mdApi_of (c := 2) (v := nI 0) (by unfold a_planAll; show (if (alP BF L).1 = false then _ else if paC P (alP BF L) = false then _ else _) = _; rw [hs9, if_neg (fun q => by cases q), if_pos c_89]) (fun q => by cases q) T rfl g3 g4 g5 g6
      · have hd9 := (htd i (by omega)).1
        refine z_iload2 47 dX5_planAll_47 ?_
        refine z_aload0 48 dX5_planAll_48 ?_
        refine z_get 49 gX5_168 dX5_planAll_49 T.kd (show HP.mm _ _ _ = .int (nI (X1 13 0)) from T.sc 13 rfl) ?_
        rw [x3]
        refine z_icgeN 52 88 dX5_planAll_52 (by decide) (by omega) (by omega) (fun c_52 => absurd c_52 (by omega)) (fun c_52 => ?_)
        refine z_iload1 55 dX5_planAll_55 ?_
        refine z_ifeqB 56 80 dX5_planAll_56 (by decide) (fun c_56 => ?_) (fun c_56 => ?_)
        · refine z_iconst 80 (nI 0) dX5_planAll_80 kI0 ?_
          refine z_istore1 81 dX5_planAll_81 rfl ?_
          refine z_iinc2 82 ((nI (i + 1))) dX5_planAll_82 (nI_add _ _) rfl ?_
          refine z_goto 85 47 dX5_planAll_85 (by decide) ?_
          exact ih_i (false) (by first | (simp [*]; done) | (simp; omega))
        · refine z_aload0 59 dX5_planAll_59 ?_
          refine z_get 60 gX5_32 dX5_planAll_60 T.kd (T.rf 12 rfl) ?_
          refine z_iconst 63 (nI 3) dX5_planAll_63 kI3 ?_
          refine z_iload2 64 dX5_planAll_64 ?_
          refine z_imulN 65 dX5_planAll_65 ?_
          refine z_iald (n := 96) 66 (3 * i) dX5_planAll_66 (T.ak 12 rfl rfl) (T.al 12 rfl rfl) (rfl) ((by omega)) (by decide) (T.at 12 rfl (by decide) (c := 96) rfl (by omega)) ?_
          rw [x2 _ (by omega)]
          refine z_aload0 67 dX5_planAll_67 ?_
          refine z_get 68 gX5_7 dX5_planAll_68 T.kd (T.rf 1 rfl) ?_
          refine z_iconst 71 (nI 5) dX5_planAll_71 kI5 ?_
          refine z_iald (n := 204) 72 (5) dX5_planAll_72 (T.ak 1 rfl rfl) (T.al 1 rfl rfl) (rfl) ((by omega)) (by decide) (T.at1 (by omega)) ?_
          refine z_icltN 73 80 dX5_planAll_73 (by decide) (by omega) (by omega) (fun c_73 => ?_) (fun c_73 => ?_)
          · refine z_iconst 80 (nI 0) dX5_planAll_80 kI0 ?_
            refine z_istore1 81 dX5_planAll_81 rfl ?_
            refine z_iinc2 82 ((nI (i + 1))) dX5_planAll_82 (nI_add _ _) rfl ?_
            refine z_goto 85 47 dX5_planAll_85 (by decide) ?_
            exact ih_i (false) (by first | (simp [*]; done) | (simp; omega))
          · refine z_iconst 76 (nI 1) dX5_planAll_76 kI1 ?_
            refine z_goto 77 81 dX5_planAll_77 (by decide) ?_
            refine z_istore1 81 dX5_planAll_81 rfl ?_
            refine z_iinc2 82 ((nI (i + 1))) dX5_planAll_82 (nI_add _ _) rfl ?_
            refine z_goto 85 47 dX5_planAll_85 (by decide) ?_
            exact ih_i (true) (by first | (simp [*]; done) | (simp; omega))
    · refine z_icgtN 36 43 dX5_planAll_36 (by decide) (by omega) (by omega) (fun c_36 => ?_) (fun c_36 => ?_)
      · refine z_iconst 43 (nI 0) dX5_planAll_43 kI0 ?_
        exact J _ (congrArg nI (by simp [bN]; omega))
      · refine z_iconst 39 (nI 1) dX5_planAll_39 kI1 ?_
        refine z_goto 40 44 dX5_planAll_40 (by decide) ?_
        exact J _ (congrArg nI (by simp [bN]; omega))
  · refine z_aload0 16 dX5_planAll_16 ?_
    refine z_iconst 17 (nI 1) dX5_planAll_17 kI1 ?_
    refine z_V1 (k' := k) 18 vX5_124 dX5_planAll_18 T.kd (m_fails T.1 (d - 1) 0) (by omega) (by omega) (Nat.le_of_ble_eq_true rfl) (aft_I fun x_4 h_4 hq => ?_)
    obtain ⟨hx, T1⟩ := hq
    have hx : x_4 = nI 0 := hx
    subst hx
    have T := T.trans T1
    refine z_ireturn 21 rfl dX5_planAll_21 ?_
    exact mdApi_of (c := 1) (v := nI 0) (by subst c_13; unfold a_planAll; show (if (alP BF L).1 = false then _ else _) = _; rw [hs9, if_pos rfl]) (fun q => by cases q) T rfl g3 g4 g5 g6

theorem a_mfed {E : Ev} {h : HP} {m : Nat} {A : Nat → Nat} {S : Sx} {hs : Int64} {c9 : Nat} (T0 : MdL h m A S hs c9) (d k : Nat) : Call E yX5_fed d k [.ref m] h (rD fun x h' => x = fdV S.1 ∧ Sm (MdC m A) h h' ∧ h'.sz = h.sz ∧ MdL h' m A S hs 0) := by
  obtain ⟨X, M, e0, e3, e4, e5, e6⟩ := T0
  refine (m_fed M d k).mono fun r h' hq => ?_
  obtain ⟨x, hr, hx, T⟩ := hq
  exact ⟨x, hr, hx, T.2.1, T.2.2, _, T.1, rfl, e3, e4, e5, e6⟩
theorem a_mthrown {E : Ev} {h : HP} {m : Nat} {A : Nat → Nat} {S : Sx} {hs : Int64} {c9 : Nat} (T0 : MdL h m A S hs c9) (d k : Nat) : Call E yX5_thrown d k [.ref m] h (rP h (nI c9)) := by
  obtain ⟨X, M, e0, e3, e4, e5, e6⟩ := T0
  rw [← e0]
  exact m_thrown M d k
set_option maxHeartbeats 4000000 in
theorem a_minit {E : Ev} {h : HP} {m : Nat} (hk6 : h.kd m = 6) (hlt : m < h.sz) (hsc : ∀ f, scF f = true → h.mm m f = .int (nI 0)) (hlg : h.mm m 14 = .long 0) (d k : Nat) (hd : 1 ≤ d) (hk : 600 ≤ k) : Call E yX5_init d k [.ref m] h (rV (fun h' => ∃ A, Sm (fun a => a = m) h h' ∧ h'.sz = h.sz + 8 ∧ MdL h' m A (P00, (fun _ => 0), 0, (fun _ => 0), 0) 0 0)) := by
  have I0 : InM 0 h m h := ⟨rfl, hk6, hsc, hlg, fun i hi => absurd hi (Nat.not_lt_zero i), Sm.refl _ h⟩
  refine Call.of [.ref m] q2125 (by decide) pn_X5 (Nat.le_of_ble_eq_true rfl) rfl ?_
  refine z_aload0 0 dX5_init_0 ?_
  refine z_objInit 1 q2126 q147 q148 dX5_init_1 (by omega) (Nat.le_of_ble_eq_true rfl) ?_
  refine z_aload0 4 dX5_init_4 ?_
  refine z_sipush 5 (nI 204) dX5_init_5 kS204 ?_
  refine z_newa (atype := .int) (i := 0) (n := 204) (k' := k - 52) 8 q371 (by decide) rfl dX5_init_8 (rfl) (by decide) (by omega) (fun h_0 e_0 => ?_)
  subst e_0
  refine z_put 10 pX5_7 (fun _ => rfl) dX5_init_10 (show HP.kd _ m = 6 from by rw [kd_mk, if_neg (by have := I0.1; omega)]; exact I0.2.1) (rfl) (rfl) ?_
  refine z_hgen (P := InM 1 h m) (I0.step (by decide) hlt) (fun hh1 I1 => ?_)
  refine z_aload0 13 dX5_init_13 ?_
  refine z_sipush 14 (nI 204) dX5_init_14 kS204 ?_
  refine z_newa (atype := .int) (i := 0) (n := 204) (k' := k - 104) 17 q371 (by decide) rfl dX5_init_17 (rfl) (by decide) (by omega) (fun h_1 e_1 => ?_)
  subst e_1
  refine z_put 19 pX5_13 (fun _ => rfl) dX5_init_19 (show HP.kd _ m = 6 from by rw [kd_mk, if_neg (by have := I1.1; omega)]; exact I1.2.1) (rfl) (rfl) ?_
  refine z_hgen (P := InM 2 h m) (I1.step (by decide) hlt) (fun hh2 I2 => ?_)
  refine z_aload0 22 dX5_init_22 ?_
  refine z_sipush 23 (nI 1224) dX5_init_23 kS1224 ?_
  refine z_newa (atype := .int) (i := 0) (n := 1224) (k' := k - 411) 26 q371 (by decide) rfl dX5_init_26 (rfl) (by decide) (by omega) (fun h_2 e_2 => ?_)
  subst e_2
  refine z_put 28 pX5_16 (fun _ => rfl) dX5_init_28 (show HP.kd _ m = 6 from by rw [kd_mk, if_neg (by have := I2.1; omega)]; exact I2.2.1) (rfl) (rfl) ?_
  refine z_hgen (P := InM 3 h m) (I2.step (by decide) hlt) (fun hh3 I3 => ?_)
  refine z_aload0 31 dX5_init_31 ?_
  refine z_bipush 32 (nI 60) dX5_init_32 kB60 ?_
  refine z_newa (atype := .int) (i := 0) (n := 60) (k' := k - 427) 34 q371 (by decide) rfl dX5_init_34 (rfl) (by decide) (by omega) (fun h_3 e_3 => ?_)
  subst e_3
  refine z_put 36 pX5_19 (fun _ => rfl) dX5_init_36 (show HP.kd _ m = 6 from by rw [kd_mk, if_neg (by have := I3.1; omega)]; exact I3.2.1) (rfl) (rfl) ?_
  refine z_hgen (P := InM 4 h m) (I3.step (by decide) hlt) (fun hh4 I4 => ?_)
  refine z_aload0 39 dX5_init_39 ?_
  refine z_bipush 40 (nI 8) dX5_init_40 kB8 ?_
  refine z_newa (atype := .int) (i := 0) (n := 8) (k' := k - 430) 42 q371 (by decide) rfl dX5_init_42 (rfl) (by decide) (by omega) (fun h_4 e_4 => ?_)
  subst e_4
  refine z_put 44 pX5_22 (fun _ => rfl) dX5_init_44 (show HP.kd _ m = 6 from by rw [kd_mk, if_neg (by have := I4.1; omega)]; exact I4.2.1) (rfl) (rfl) ?_
  refine z_hgen (P := InM 5 h m) (I4.step (by decide) hlt) (fun hh5 I5 => ?_)
  refine z_aload0 47 dX5_init_47 ?_
  refine z_bipush 48 (nI 17) dX5_init_48 kB17 ?_
  refine z_newa (atype := .boolean) (i := 1) (n := 17) (k' := k - 435) 50 q2173 (by decide) rfl dX5_init_50 (rfl) (by decide) (by omega) (fun h_5 e_5 => ?_)
  subst e_5
  refine z_put 52 pX5_25 (fun _ => rfl) dX5_init_52 (show HP.kd _ m = 6 from by rw [kd_mk, if_neg (by have := I5.1; omega)]; exact I5.2.1) (rfl) (rfl) ?_
  refine z_hgen (P := InM 6 h m) (I5.step (by decide) hlt) (fun hh6 I6 => ?_)
  refine z_aload0 55 dX5_init_55 ?_
  refine z_bipush 56 (nI 8) dX5_init_56 kB8 ?_
  refine z_newa (atype := .boolean) (i := 1) (n := 8) (k' := k - 438) 58 q2173 (by decide) rfl dX5_init_58 (rfl) (by decide) (by omega) (fun h_6 e_6 => ?_)
  subst e_6
  refine z_put 60 pX5_29 (fun _ => rfl) dX5_init_60 (show HP.kd _ m = 6 from by rw [kd_mk, if_neg (by have := I6.1; omega)]; exact I6.2.1) (rfl) (rfl) ?_
  refine z_hgen (P := InM 7 h m) (I6.step (by decide) hlt) (fun hh7 I7 => ?_)
  refine z_aload0 63 dX5_init_63 ?_
  refine z_bipush 64 (nI 96) dX5_init_64 kB96 ?_
  refine z_newa (atype := .int) (i := 0) (n := 96) (k' := k - 463) 66 q371 (by decide) rfl dX5_init_66 (rfl) (by decide) (by omega) (fun h_7 e_7 => ?_)
  subst e_7
  refine z_put 68 pX5_32 (fun _ => rfl) dX5_init_68 (show HP.kd _ m = 6 from by rw [kd_mk, if_neg (by have := I7.1; omega)]; exact I7.2.1) (rfl) (rfl) ?_
  refine z_hgen (P := InM 8 h m) (I7.step (by decide) hlt) (fun hh8 I8 => ?_)
  have T := (I8.at hlt).to
  refine z_aload0 71 dX5_init_71 ?_
  refine z_iconst 72 (nI 0) dX5_init_72 kI0 ?_
  refine z_put 73 pX5_35 (fun h => by cases h) dX5_init_73 T.kd (rfl) (rfl) ?_
  have T := T.putS 0 0 rfl
  refine z_aload0 76 dX5_init_76 ?_
  refine z_get 77 gX5_7 dX5_init_77 T.kd (T.rf 1 rfl) ?_
  refine z_iconst 80 (nI 0) dX5_init_80 kI0 ?_
  refine z_iconst 81 (nI 4) dX5_init_81 kI4 ?_
  refine z_iast (n := 204) 82 (0) dX5_init_82 (T.ak 1 rfl rfl) (T.al 1 rfl rfl) (rfl) ((by decide)) (by decide) ?_
  have T := T.put1 0 4
  refine z_aload0 83 dX5_init_83 ?_
  refine z_get 84 gX5_7 dX5_init_84 T.kd (T.rf 1 rfl) ?_
  refine z_iconst 87 (nI 2) dX5_init_87 kI2 ?_
  refine z_iconst 88 (nI 2) dX5_init_88 kI2 ?_
  refine z_iast (n := 204) 89 (2) dX5_init_89 (T.ak 1 rfl rfl) (T.al 1 rfl rfl) (rfl) ((by decide)) (by decide) ?_
  have T := T.put1 2 2
  refine z_aload0 90 dX5_init_90 ?_
  refine z_get 91 gX5_7 dX5_init_91 T.kd (T.rf 1 rfl) ?_
  refine z_iconst 94 (nI 3) dX5_init_94 kI3 ?_
  refine z_iconst 95 (nI 5) dX5_init_95 kI5 ?_
  refine z_iast (n := 204) 96 (3) dX5_init_96 (T.ak 1 rfl rfl) (T.al 1 rfl rfl) (rfl) ((by decide)) (by decide) ?_
  have T := T.put1 3 5
  refine z_aload0 97 dX5_init_97 ?_
  refine z_get 98 gX5_7 dX5_init_98 T.kd (T.rf 1 rfl) ?_
  refine z_iconst 101 (nI 4) dX5_init_101 kI4 ?_
  refine z_bipush 102 (nI 10) dX5_init_102 kB10 ?_
  refine z_iast (n := 204) 104 (4) dX5_init_104 (T.ak 1 rfl rfl) (T.al 1 rfl rfl) (rfl) ((by decide)) (by decide) ?_
  have T := T.put1 4 10
  refine z_return 105 rfl dX5_init_105 ?_
  have eX : upx (fun _ _ => 0) 0 0 0 = fun _ _ => 0 := by
    funext f j
    unfold upx upn
    split
    · show (if j = 0 then 0 else 0) = 0
      split <;> rfl
    · rfl
  rw [eX] at T
  exact ⟨rfl, (fun f => h.sz + flR f), I8.2.2.2.2.2.tr T.2.1 (fun q hq hS => by
    rcases hS with e | ⟨f, _, e⟩
    · exact e
    · have e : q = h.sz + flR f := e
      omega), by rw [T.2.2]; exact I8.1, (fun _ _ => 0), T.1, rfl, rfl, rfl, rfl, rfl⟩

