/-! THE REFERENCE: what was fed, the hash -/
def mxL (h v : Int64) : Int64 := 31 * h + v
def dg1 (S : Sx) : Int64 := itN 5 (fun i h => mxL h (nI (S.1 i)).toInt64) (itN 12 (fun i h => mxL h (nI (ctV S.1 S.2.2.1 i)).toInt64) 2851)
def dgP (P : Nat → Nat) (pl : Nat) (h : Int64) : Int64 := mxL (itN 10 (fun u h => mxL h (tpV P pl u).toInt64) h) (oI (uuV P pl)).toInt64
def dg2 (S : Sx) : Int64 := itN 8 (dgP S.1) (dg1 S)
def dg3 (S : Sx) : Int64 := itN (jsP S.1) (fun j h => itN 4 (fun u h => mxL h (tjV S.1 (nI j) (nI u)).toInt64) h) (dg2 S)
def dg4 (S : Sx) : Int64 := itN (2 * S.1 6) (fun i h => mxL h (nI (S.1 (141 + i))).toInt64) (dg3 S)
def dg5 (S : Sx) : Int64 := itN (S.1 7) (fun j h => itN 3 (fun u h => mxL h (toV S.1 (nI j) u).toInt64) h) (dg4 S)
def dg6 (S : Sx) : Int64 := itN 4 (fun i h => mxL h (pdV S.1 10 i).toInt64) (dg5 S)
def dg7 (S : Sx) : Int64 := itN 8 (fun i h => mxL h (mtV S.1 20 i).toInt64) (dg6 S)
def dg8 (S : Sx) : Int64 := mxL (mxL (mxL (mxL (dg7 S) (nI (gtP S.1 30)).toInt64) (oI (odP S.1 7).2.1).toInt64) (dlB (fdV S.1))) (nI S.2.2.2.2).toInt64
theorem dg8_eq (P SV : Nat → Nat) (n : Nat) (BF : Nat → Nat) (L : Nat) : mxL (mxL (mxL (mxL (dg7 (P, SV, n, BF, L)) (nI (gtP P 30)).toInt64) (oI (odP P 7).2.1).toInt64) (dlB (fdV P))) (nI L).toInt64 = dg8 (P, SV, n, BF, L) := by
  simp only [dg8]
def dgV (S : Sx) : Int64 := itN S.2.2.2.2 (fun i h => mxL h (nI (S.2.2.2.1 i)).toInt64) (dg8 S)
set_option maxHeartbeats 4000000 in
theorem m_fed {E : Ev} {h : HP} {m : Nat} {A P : Nat → Nat} {X : Nat → Nat → Nat} {hs : Int64} (T0 : MdAt h m A P X hs)  (d k : Nat) : Call E yX5_fed d k [.ref m] h (rD fun x h' => x = fdV P ∧ MdTo h m A P (upx X 0 0 0) hs h') := by
  have T := T0.to
  refine Call.of [.ref m] q2493 (by decide) pn_X5 (Nat.le_of_ble_eq_true rfl) rfl ?_
  refine z_aload0 0 dX5_fed_0 ?_
  refine z_iconst 1 (nI 0) dX5_fed_1 kI0 ?_
  refine z_put 2 pX5_35 (fun h => by cases h) dX5_fed_2 T.kd (rfl) (rfl) ?_
  have T := T.putS 0 0 rfl
  refine z_aload0 5 dX5_fed_5 ?_
  refine z_get 6 gX5_7 dX5_fed_6 T.kd (T.rf 1 rfl) ?_
  refine z_bipush 9 (nI 9) dX5_fed_9 kB9 ?_
  refine z_iald (n := 204) 11 (9) dX5_fed_11 (T.ak 1 rfl rfl) (T.al 1 rfl rfl) (rfl) ((by omega)) (by decide) (T.at1 (by omega)) ?_
  refine z_ifne 12 19 dX5_fed_12 (by decide) (fun c_12 => ?_) (fun c_12 => ?_)
  · refine z_aload0 19 dX5_fed_19 ?_
    refine z_get 20 gX5_7 dX5_fed_20 T.kd (T.rf 1 rfl) ?_
    refine z_bipush 23 (nI 9) dX5_fed_23 kB9 ?_
    refine z_iald (n := 204) 25 (9) dX5_fed_25 (T.ak 1 rfl rfl) (T.al 1 rfl rfl) (rfl) ((by omega)) (by decide) (T.at1 (by omega)) ?_
    refine z_aload0 26 dX5_fed_26 ?_
    refine z_get 27 gX5_7 dX5_fed_27 T.kd (T.rf 1 rfl) ?_
    refine z_bipush 30 (nI 8) dX5_fed_30 kB8 ?_
    refine z_iald (n := 204) 32 (8) dX5_fed_32 (T.ak 1 rfl rfl) (T.al 1 rfl rfl) (rfl) ((by omega)) (by decide) (T.at1 (by omega)) ?_
    refine z_isub 33 dX5_fed_33 ?_
    refine z_i2d 34 dX5_fed_34 ?_
    refine z_aload0 35 dX5_fed_35 ?_
    refine z_get 36 gX5_7 dX5_fed_36 T.kd (T.rf 1 rfl) ?_
    refine z_bipush 39 (nI 9) dX5_fed_39 kB9 ?_
    refine z_iald (n := 204) 41 (9) dX5_fed_41 (T.ak 1 rfl rfl) (T.al 1 rfl rfl) (rfl) ((by omega)) (by decide) (T.at1 (by omega)) ?_
    refine z_i2d 42 dX5_fed_42 ?_
    refine z_ddiv 43 dX5_fed_43 (fd_num c_12) ?_
    refine z_dreturn 44 rfl dX5_fed_44 ?_
    exact ⟨_, rfl, by unfold fdV; first | exact (if_pos c_12).symm | exact (if_neg c_12).symm, T⟩
  · refine z_dconst1 15 dX5_fed_15 ?_
    refine z_goto 16 44 dX5_fed_16 (by decide) ?_
    refine z_dreturn 44 rfl dX5_fed_44 ?_
    exact ⟨_, rfl, by unfold fdV; first | exact (if_pos c_12).symm | exact (if_neg c_12).symm, T⟩

set_option maxHeartbeats 4000000 in
theorem m_hashes {E : Ev} {h : HP} {m : Nat} {A P : Nat → Nat} {X : Nat → Nat → Nat} {hs : Int64} (T0 : MdAt h m A P X hs) {v : Int64} (d k : Nat) : Call E yX5_hashes d k [.ref m, .long v] h (rV (MdTo h m A P X (mxL hs v))) := by
  have T := T0.to
  refine Call.of [.ref m, .long v, dum] q2502 (by decide) pn_X5 (Nat.le_of_ble_eq_true rfl) rfl ?_
  refine z_aload0 0 dX5_hashes_0 ?_
  refine z_ldc2 1 (31 : Int64) q2503 dX5_hashes_1 ?_
  refine z_aload0 4 dX5_hashes_4 ?_
  refine z_get 5 gX5_227 dX5_hashes_5 T.kd T.lg ?_
  refine z_lmul 8 dX5_hashes_8 ?_
  refine z_lload1 9 dX5_hashes_9 ?_
  refine z_ladd 10 dX5_hashes_10 ?_
  refine z_put 11 pX5_227 (fun h => by cases h) dX5_hashes_11 T.kd (rfl) (rfl) ?_
  have T := T.putH (((31 : Int64) * hs) + v)
  refine z_return 14 rfl dX5_hashes_14 ?_
  exact ⟨rfl, T⟩

set_option maxHeartbeats 4000000 in
theorem m_hashesPlaces {E : Ev} {h : HP} {m : Nat} {A P : Nat → Nat} {X : Nat → Nat → Nat} {hs : Int64} (T0 : MdAt h m A P X hs) (W : WF P) (h5 : P 5 + 61 < 4096) (d k : Nat) (hd : 6 ≤ d) : Call E yX5_hashesPlaces d k [.ref m] h (rV (MdS [0, 2, 7, 8, 9] h m A P X (itN 8 (dgP P) hs))) := by
  have T := T0.to
  refine Call.of [.ref m, dum, dum] q2507 (by decide) pn_X5 (Nat.le_of_ble_eq_true rfl) rfl ?_
  refine z_iconst 0 (nI 0) dX5_hashesPlaces_0 kI0 ?_
  refine z_istore1 1 dX5_hashesPlaces_1 rfl ?_
  refine lpB 2 (8) (dgP P) (hs) (itN 8 (dgP P) hs) rfl (fun i a_i => [.ref m, .int (nI i), dum]) (fun _ a_i h9 => MdS [0, 2, 7, 8, 9] h m A P X a_i h9) (fun _ _ => True) (fun _ => k) ⟨_, (Scr.refl [0, 2, 7, 8, 9] X), T⟩ trivial (fun _ _ _ _ => trivial) (fun h_1 V _ => ?_) (fun i a_i h_1 hi_i _ V ih_i => ?_)
  · obtain ⟨Y1, R1, T⟩ := V
    have T : MdTo h m A P Y1 (itN 8 (dgP P) hs) h_1 := T
    refine z_iload1 2 dX5_hashesPlaces_2 ?_
    refine z_bipush 3 (nI 8) dX5_hashesPlaces_3 kB8 ?_
    refine z_icgeN 5 49 dX5_hashesPlaces_5 (by decide) (by omega) (by omega) (fun c_5 => ?_) (fun c_5 => absurd c_5 (by omega))
    refine z_return 49 rfl dX5_hashesPlaces_49 ?_
    exact ⟨rfl, _, R1, T⟩
  · obtain ⟨Y1, R1, T⟩ := V
    have T : MdTo h m A P Y1 a_i h_1 := T
    refine z_iload1 2 dX5_hashesPlaces_2 ?_
    refine z_bipush 3 (nI 8) dX5_hashesPlaces_3 kB8 ?_
    refine z_icgeN 5 49 dX5_hashesPlaces_5 (by decide) (by omega) (by omega) (fun c_5 => absurd c_5 (by omega)) (fun c_5 => ?_)
    refine z_iconst 8 (nI 0) dX5_hashesPlaces_8 kI0 ?_
    refine z_istore2 9 dX5_hashesPlaces_9 rfl ?_
    refine lpB 10 (10) (fun u h => mxL h (tpV P i u).toInt64) (a_i) (itN 10 (fun u h => mxL h (tpV P i u).toInt64) a_i) rfl (fun u a_u => [.ref m, .int (nI i), .int (nI u)]) (fun _ a_u h9 => MdS [0, 2, 7, 8, 9] h m A P X a_u h9) (fun _ _ => True) (fun _ => k) ⟨_, R1, T⟩ trivial (fun _ _ _ _ => trivial) (fun h_2 V _ => ?_) (fun u a_u h_2 hi_u _ V ih_u => ?_)
    · obtain ⟨Y2, R2, T⟩ := V
      have T : MdTo h m A P Y2 (itN 10 (fun u h => mxL h (tpV P i u).toInt64) a_i) h_2 := T
      refine z_iload2 10 dX5_hashesPlaces_10 ?_
      refine z_bipush 11 (nI 10) dX5_hashesPlaces_11 kB10 ?_
      refine z_icgeN 13 33 dX5_hashesPlaces_13 (by decide) (by omega) (by omega) (fun c_13 => ?_) (fun c_13 => absurd c_13 (by omega))
      refine z_aload0 33 dX5_hashesPlaces_33 ?_
      refine z_aload0 34 dX5_hashesPlaces_34 ?_
      refine z_iload1 35 dX5_hashesPlaces_35 ?_
      refine z_V1 (k' := k) 36 vX5_219 dX5_hashesPlaces_36 T.kd (m_untilUsed T.1 (by omega) (W) (by omega) (d - 1) 0 (by omega)) (by omega) (by omega) (Nat.le_of_ble_eq_true rfl) (aft_I fun x_3 h_3 hq => ?_)
      obtain ⟨hx, X3, S3, T1⟩ := hq
      subst hx
      have T : MdTo h m A P X3 (itN 10 (fun u h => mxL h (tpV P i u).toInt64) a_i) h_3 := T.trans T1
      refine z_i2l 39 dX5_hashesPlaces_39 ?_
      refine z_V1 (k' := k) 40 vX5_231 dX5_hashesPlaces_40 T.kd (m_hashes T.1 (d - 1) 0) (by omega) (by omega) (Nat.le_of_ble_eq_true rfl) (aft_V fun h_4 hq => ?_)
      have T : MdTo h m A P X3 (mxL (itN 10 (fun u h => mxL h (tpV P i u).toInt64) a_i) (Int32.toInt64 (oI (uuV P i)))) h_4 := T.trans hq
      refine z_iinc1 43 ((nI (i + 1))) dX5_hashesPlaces_43 (nI_add _ _) rfl ?_
      refine z_goto 46 2 dX5_hashesPlaces_46 (by decide) ?_
      refine z_fog 2 ?_
      exact ih_i (mxL (itN 10 (fun u h => mxL h (tpV P i u).toInt64) a_i) (Int32.toInt64 (oI (uuV P i)))) _ (by rfl) ⟨_, (R2.trans (S3.mono (by decide))), T⟩
    · obtain ⟨Y2, R2, T⟩ := V
      have T : MdTo h m A P Y2 a_u h_2 := T
      refine z_iload2 10 dX5_hashesPlaces_10 ?_
      refine z_bipush 11 (nI 10) dX5_hashesPlaces_11 kB10 ?_
      refine z_icgeN 13 33 dX5_hashesPlaces_13 (by decide) (by omega) (by omega) (fun c_13 => absurd c_13 (by omega)) (fun c_13 => ?_)
      refine z_aload0 16 dX5_hashesPlaces_16 ?_
      refine z_aload0 17 dX5_hashesPlaces_17 ?_
      refine z_iload1 18 dX5_hashesPlaces_18 ?_
      refine z_iload2 19 dX5_hashesPlaces_19 ?_
      refine z_V2 (k' := k) 20 vX5_180 dX5_hashesPlaces_20 T.kd (m_tellsPlace T.1 (by omega) (by omega) (W) (d - 1) 0 (by omega)) (by omega) (by omega) (Nat.le_of_ble_eq_true rfl) (aft_P (x := tpV P i u) ?_)
      refine z_i2l 23 dX5_hashesPlaces_23 ?_
      refine z_V1 (k' := k) 24 vX5_231 dX5_hashesPlaces_24 T.kd (m_hashes T.1 (d - 1) 0) (by omega) (by omega) (Nat.le_of_ble_eq_true rfl) (aft_V fun h_5 hq => ?_)
      have T : MdTo h m A P Y2 (mxL a_u (Int32.toInt64 (tpV P i u))) h_5 := T.trans hq
      refine z_iinc2 27 ((nI (u + 1))) dX5_hashesPlaces_27 (nI_add _ _) rfl ?_
      refine z_goto 30 10 dX5_hashesPlaces_30 (by decide) ?_
      exact ih_u (mxL a_u (Int32.toInt64 (tpV P i u))) _ (by rfl) ⟨_, R2, T⟩

set_option maxHeartbeats 8000000 in
theorem a_mdigest {E : Ev} {h : HP} {m : Nat} {A : Nat → Nat} {S : Sx} {hs : Int64} {c9 : Nat} (T0 : MdL h m A S hs c9) (WS : WFS S) (d k : Nat) (hd : 9 ≤ d) : Call E yX5_digest d k [.ref m] h (rL fun x h' => x = dgV S ∧ Sm (MdC m A) h h' ∧ h'.sz = h.sz ∧ ∃ c, MdL h' m A S (dgV S) c) := by
  obtain ⟨P, SV, n, BF, L⟩ := S
  obtain ⟨X, M, e0, e3, e4, e5, e6⟩ := T0
  have e3 : X 3 = SV := e3
  have e4 : X 4 0 = n := e4
  have e5 : X 5 = BF := e5
  have e6 : X 6 0 = L := e6
  obtain ⟨⟨W, w5, w7⟩, hn6, hL, hB, hsv⟩ := id WS
  have W : WF P := W
  have w5 : P 5 ≤ 999 := w5
  have w7 : P 7 ≤ 16 := w7
  have hn6 : n ≤ 6 := hn6
  have hL : L ≤ 60 := hL
  have hB : ∀ j, j < L → 33 ≤ BF j ∧ BF j ≤ 126 := hB
  have T : MdTo h m A P X hs h := M.to
  have f4 : X 4 0 = n := e4
  have f6 : X 6 0 = L := e6
  have he5 : ∀ j, X 5 j = BF j := fun j => by rw [e5]
  have h6 := W.h6
  refine Call.of [.ref m, dum, dum] q2497 (by decide) pn_X5 (Nat.le_of_ble_eq_true rfl) rfl ?_
  refine z_aload0 0 dX5_digest_0 ?_
  refine z_ldc2 1 (2851 : Int64) q2498 dX5_digest_1 ?_
  refine z_put 4 pX5_227 (fun h => by cases h) dX5_digest_4 T.kd (rfl) (rfl) ?_
  have T := T.putH (2851 : Int64)
  have T : MdTo h m A P X 2851 _ := T
  refine z_iconst 7 (nI 0) dX5_digest_7 kI0 ?_
  refine z_istore1 8 dX5_digest_8 rfl ?_
  refine lpB 9 (12) (fun i h => mxL h (nI (ctV P n i)).toInt64) (2851) (itN 12 (fun i h => mxL h (nI (ctV P n i)).toInt64) 2851) rfl (fun i a_i => [.ref m, .int (nI i), dum]) (fun _ a_i h9 => MdS [0, 2, 7, 8, 9] h m A P X a_i h9) (fun _ _ => True) (fun _ => k) ⟨_, (Scr.refl [0, 2, 7, 8, 9] X), T⟩ trivial (fun _ _ _ _ => trivial) (fun h_1 V _ => ?_) (fun i a_i h_1 hi_i _ V ih_i => ?_)
  · obtain ⟨Y1, R1, T⟩ := V
    have T : MdTo h m A P Y1 (itN 12 (fun i h => mxL h (nI (ctV P n i)).toInt64) 2851) h_1 := T
    refine z_iload1 9 dX5_digest_9 ?_
    refine z_bipush 10 (nI 12) dX5_digest_10 kB12 ?_
    refine z_icgeN 12 31 dX5_digest_12 (by decide) (by omega) (by omega) (fun c_12 => ?_) (fun c_12 => absurd c_12 (by omega))
    refine z_iconst 31 (nI 0) dX5_digest_31 kI0 ?_
    refine z_istore1 32 dX5_digest_32 rfl ?_
    refine lpB 33 (5) (fun i h => mxL h (nI (P i)).toInt64) (itN 12 (fun i h => mxL h (nI (ctV P n i)).toInt64) 2851) (dg1 (P, SV, n, BF, L)) rfl (fun i a_i => [.ref m, .int (nI i), dum]) (fun _ a_i h9 => MdS [0, 2, 7, 8, 9] h m A P X a_i h9) (fun _ _ => True) (fun _ => k) ⟨_, R1, T⟩ trivial (fun _ _ _ _ => trivial) (fun h_2 V _ => ?_) (fun i a_i h_2 hi_i _ V ih_i => ?_)
    · obtain ⟨Y2, R2, T⟩ := V
      have T : MdTo h m A P Y2 (dg1 (P, SV, n, BF, L)) h_2 := T
      refine z_iload1 33 dX5_digest_33 ?_
      refine z_iconst 34 (nI 5) dX5_digest_34 kI5 ?_
      refine z_icgeN 35 55 dX5_digest_35 (by decide) (by omega) (by omega) (fun c_35 => ?_) (fun c_35 => absurd c_35 (by omega))
      refine z_aload0 55 dX5_digest_55 ?_
      refine z_V0 (k' := k) 56 vX5_237 dX5_digest_56 T.kd (m_hashesPlaces T.1 W (by omega) (d - 1) 0 (by omega)) (by omega) (by omega) (Nat.le_of_ble_eq_true rfl) (aft_V fun h_3 hq => ?_)
      obtain ⟨X3, S3, T1⟩ := hq
      have T : MdTo h m A P X3 (dg2 (P, SV, n, BF, L)) h_3 := T.trans T1
      refine z_iconst 59 (nI 0) dX5_digest_59 kI0 ?_
      refine z_istore1 60 dX5_digest_60 rfl ?_
      refine lpB 61 (jsP P) (fun j h => itN 4 (fun u h => mxL h (tjV P (nI j) (nI u)).toInt64) h) (dg2 (P, SV, n, BF, L)) (dg3 (P, SV, n, BF, L)) rfl (fun j a_j => [.ref m, .int (nI j), dum]) (fun _ a_j h9 => MdS [0, 2, 7, 8, 9] h m A P X a_j h9) (fun _ _ => True) (fun _ => k) ⟨_, (R2.trans (S3.mono (by decide))), T⟩ trivial (fun _ _ _ _ => trivial) (fun h_4 V _ => ?_) (fun j a_j h_4 hi_j _ V ih_j => ?_)
      · obtain ⟨Y4, R4, T⟩ := V
        have T : MdTo h m A P Y4 (dg3 (P, SV, n, BF, L)) h_4 := T
        refine z_iload1 61 dX5_digest_61 ?_
        refine z_aload0 62 dX5_digest_62 ?_
        refine z_V0 (k' := k) 63 vX5_195 dX5_digest_63 T.kd (m_jobs T.1  (d - 1) 0 (by omega)) (by omega) (by omega) (Nat.le_of_ble_eq_true rfl) (aft_P (x := (nI (jsP P))) ?_)
        have js9 := jsP_le W
        refine z_icgeN 66 99 dX5_digest_66 (by decide) (by have := jsP_le W; omega) (by have := jsP_le W; omega) (fun c_66 => ?_) (fun c_66 => absurd c_66 (by omega))
        refine z_iconst 99 (nI 0) dX5_digest_99 kI0 ?_
        refine z_istore1 100 dX5_digest_100 rfl ?_
        refine lpB 101 (2 * P 6) (fun i h => mxL h (nI (P (141 + i))).toInt64) (dg3 (P, SV, n, BF, L)) (dg4 (P, SV, n, BF, L)) rfl (fun i a_i => [.ref m, .int (nI i), dum]) (fun _ a_i h9 => MdS [0, 2, 7, 8, 9] h m A P X a_i h9) (fun _ _ => True) (fun _ => k) ⟨_, R4, T⟩ trivial (fun _ _ _ _ => trivial) (fun h_5 V _ => ?_) (fun i a_i h_5 hi_i _ V ih_i => ?_)
        · obtain ⟨Y5, R5, T⟩ := V
          have T : MdTo h m A P Y5 (dg4 (P, SV, n, BF, L)) h_5 := T
          refine z_iload1 101 dX5_digest_101 ?_
          refine z_iconst 102 (nI 2) dX5_digest_102 kI2 ?_
          refine z_aload0 103 dX5_digest_103 ?_
          refine z_get 104 gX5_7 dX5_digest_104 T.kd (T.rf 1 rfl) ?_
          refine z_bipush 107 (nI 6) dX5_digest_107 kB6 ?_
          refine z_iald (n := 204) 109 (6) dX5_digest_109 (T.ak 1 rfl rfl) (T.al 1 rfl rfl) (rfl) ((by omega)) (by decide) (T.at1 (by omega)) ?_
          refine z_imulN 110 dX5_digest_110 ?_
          refine z_icgeN 111 135 dX5_digest_111 (by decide) (by omega) (by omega) (fun c_111 => ?_) (fun c_111 => absurd c_111 (by omega))
          refine z_iconst 135 (nI 0) dX5_digest_135 kI0 ?_
          refine z_istore1 136 dX5_digest_136 rfl ?_
          refine lpB 137 (P 7) (fun j h => itN 3 (fun u h => mxL h (toV P (nI j) u).toInt64) h) (dg4 (P, SV, n, BF, L)) (dg5 (P, SV, n, BF, L)) rfl (fun j a_j => [.ref m, .int (nI j), dum]) (fun _ a_j h9 => MdS [0, 2, 7, 8, 9] h m A P X a_j h9) (fun _ _ => True) (fun _ => k) ⟨_, R5, T⟩ trivial (fun _ _ _ _ => trivial) (fun h_6 V _ => ?_) (fun j a_j h_6 hi_j _ V ih_j => ?_)
          · obtain ⟨Y6, R6, T⟩ := V
            have T : MdTo h m A P Y6 (dg5 (P, SV, n, BF, L)) h_6 := T
            refine z_iload1 137 dX5_digest_137 ?_
            refine z_aload0 138 dX5_digest_138 ?_
            refine z_get 139 gX5_7 dX5_digest_139 T.kd (T.rf 1 rfl) ?_
            refine z_bipush 142 (nI 7) dX5_digest_142 kB7 ?_
            refine z_iald (n := 204) 144 (7) dX5_digest_144 (T.ak 1 rfl rfl) (T.al 1 rfl rfl) (rfl) ((by omega)) (by decide) (T.at1 (by omega)) ?_
            refine z_icgeN 145 178 dX5_digest_145 (by decide) (by have := W.h7; omega) (by have := W.h7; omega) (fun c_145 => ?_) (fun c_145 => absurd c_145 (by omega))
            refine z_iconst 178 (nI 0) dX5_digest_178 kI0 ?_
            refine z_istore1 179 dX5_digest_179 rfl ?_
            refine lpB 180 (4) (fun i h => mxL h (pdV P 10 i).toInt64) (dg5 (P, SV, n, BF, L)) (dg6 (P, SV, n, BF, L)) rfl (fun i a_i => [.ref m, .int (nI i), dum]) (fun _ a_i h9 => MdS [0, 2, 7, 8, 9] h m A P X a_i h9) (fun _ _ => True) (fun _ => k) ⟨_, R6, T⟩ trivial (fun _ _ _ _ => trivial) (fun h_7 V _ => ?_) (fun i a_i h_7 hi_i _ V ih_i => ?_)
            · obtain ⟨Y7, R7, T⟩ := V
              have T : MdTo h m A P Y7 (dg6 (P, SV, n, BF, L)) h_7 := T
              refine z_iload1 180 dX5_digest_180 ?_
              refine z_iconst 181 (nI 4) dX5_digest_181 kI4 ?_
              refine z_icgeN 182 203 dX5_digest_182 (by decide) (by omega) (by omega) (fun c_182 => ?_) (fun c_182 => absurd c_182 (by omega))
              refine z_iconst 203 (nI 0) dX5_digest_203 kI0 ?_
              refine z_istore1 204 dX5_digest_204 rfl ?_
              refine lpB 205 (8) (fun i h => mxL h (mtV P 20 i).toInt64) (dg6 (P, SV, n, BF, L)) (dg7 (P, SV, n, BF, L)) rfl (fun i a_i => [.ref m, .int (nI i), dum]) (fun _ a_i h9 => MdS [0, 2, 7, 8, 9] h m A P X a_i h9) (fun _ _ => True) (fun _ => k) ⟨_, R7, T⟩ trivial (fun _ _ _ _ => trivial) (fun h_8 V _ => ?_) (fun i a_i h_8 hi_i _ V ih_i => ?_)
              · obtain ⟨Y8, R8, T⟩ := V
                have T : MdTo h m A P Y8 (dg7 (P, SV, n, BF, L)) h_8 := T
                refine z_iload1 205 dX5_digest_205 ?_
                refine z_bipush 206 (nI 8) dX5_digest_206 kB8 ?_
                refine z_icgeN 208 229 dX5_digest_208 (by decide) (by omega) (by omega) (fun c_208 => ?_) (fun c_208 => absurd c_208 (by omega))
                refine z_aload0 229 dX5_digest_229 ?_
                refine z_aload0 230 dX5_digest_230 ?_
                refine z_bipush 231 (nI 30) dX5_digest_231 kB30 ?_
                refine z_V1 (k' := k) 233 vX5_213 dX5_digest_233 T.kd (m_gateFor (c := 30) T.1 (by omega) W w7 (by omega) (d - 1) 0 (by omega)) (by omega) (by omega) (Nat.le_of_ble_eq_true rfl) (aft_I fun x_9 h_9 hq => ?_)
                obtain ⟨hx, X9, S9, T1⟩ := hq
                rw [hx]
                have T : MdTo h m A P X9 (dg7 (P, SV, n, BF, L)) h_9 := T.trans T1
                refine z_i2l 236 dX5_digest_236 ?_
                refine z_V1 (k' := k) 237 vX5_231 dX5_digest_237 T.kd (m_hashes T.1 (d - 1) 0) (by omega) (by omega) (Nat.le_of_ble_eq_true rfl) (aft_V fun h_10 hq => ?_)
                have T : MdTo h m A P X9 (mxL (dg7 (P, SV, n, BF, L)) (Int32.toInt64 (nI (gtP P 30)))) h_10 := T.trans hq
                refine z_aload0 240 dX5_digest_240 ?_
                refine z_aload0 241 dX5_digest_241 ?_
                refine z_bipush 242 (nI 7) dX5_digest_242 kB7 ?_
                refine z_V1 (k' := k) 244 vX5_222 dX5_digest_244 T.kd (m_orderFor (n := 7) T.1 (W) (by omega) (d - 1) 0 (by omega)) (by omega) (by omega) (Nat.le_of_ble_eq_true rfl) (aft_I fun x_11 h_11 hq => ?_)
                obtain ⟨hx, X11, S11, T1⟩ := hq
                rw [hx]
                have T : MdTo h m A P X11 (mxL (dg7 (P, SV, n, BF, L)) (Int32.toInt64 (nI (gtP P 30)))) h_11 := T.trans T1
                refine z_i2l 247 dX5_digest_247 ?_
                refine z_V1 (k' := k) 248 vX5_231 dX5_digest_248 T.kd (m_hashes T.1 (d - 1) 0) (by omega) (by omega) (Nat.le_of_ble_eq_true rfl) (aft_V fun h_12 hq => ?_)
                have T : MdTo h m A P X11 (mxL (mxL (dg7 (P, SV, n, BF, L)) (Int32.toInt64 (nI (gtP P 30)))) (Int32.toInt64 (oI ((odP P 7).2.1)))) h_12 := T.trans hq
                refine z_aload0 251 dX5_digest_251 ?_
                refine z_aload0 252 dX5_digest_252 ?_
                refine z_V0 (k' := k) 253 vX5_240 dX5_digest_253 T.kd (m_fed T.1 (d - 1) 0) (by omega) (by omega) (Nat.le_of_ble_eq_true rfl) (aft_D fun x_13 h_13 hq => ?_)
                obtain ⟨hx, T1⟩ := hq
                have hx : x_13 = fdV P := hx
                subst hx
                have T : MdTo h m A P (upx X11 0 0 0) (mxL (mxL (dg7 (P, SV, n, BF, L)) (Int32.toInt64 (nI (gtP P 30)))) (Int32.toInt64 (oI ((odP P 7).2.1)))) h_13 := T.trans T1
                refine z_S1 (k' := k) 256 sX5_244 dX5_digest_256 (c_dlb (d - 1) 0 (by omega)) (by omega) (by omega) (Nat.le_of_ble_eq_true rfl) (aft_L fun y_9 h_y hq => ?_)
                obtain ⟨rfl, rfl⟩ := hq
                refine z_V1 (k' := k) 259 vX5_231 dX5_digest_259 T.kd (m_hashes T.1 (d - 1) 0) (by omega) (by omega) (Nat.le_of_ble_eq_true rfl) (aft_V fun h_14 hq => ?_)
                have T : MdTo h m A P (upx X11 0 0 0) (mxL (mxL (mxL (dg7 (P, SV, n, BF, L)) (Int32.toInt64 (nI (gtP P 30)))) (Int32.toInt64 (oI ((odP P 7).2.1)))) (dlB (fdV P))) h_14 := T.trans hq
                refine z_aload0 262 dX5_digest_262 ?_
                refine z_aload0 263 dX5_digest_263 ?_
                refine z_get 264 gX5_146 dX5_digest_264 T.kd (show HP.mm _ _ _ = .int (nI ((X11 6) 0)) from T.sc 6 rfl) ?_
                rw [show (X11 6) 0 = L from (congrFun ((((R8.trans (S9.mono (by decide))).trans (S11.mono (by decide))).upx 0 0 (f := 0) (by decide)) 6 (by decide)) 0).trans e6]
                refine z_i2l 267 dX5_digest_267 ?_
                refine z_V1 (k' := k) 268 vX5_231 dX5_digest_268 T.kd (m_hashes T.1 (d - 1) 0) (by omega) (by omega) (Nat.le_of_ble_eq_true rfl) (aft_V fun h_15 hq => ?_)
                have T : MdTo h m A P (upx X11 0 0 0) (mxL (mxL (mxL (mxL (dg7 (P, SV, n, BF, L)) (Int32.toInt64 (nI (gtP P 30)))) (Int32.toInt64 (oI ((odP P 7).2.1)))) (dlB (fdV P))) (Int32.toInt64 (nI L))) h_15 := T.trans hq
                refine z_iconst 271 (nI 0) dX5_digest_271 kI0 ?_
                refine z_istore1 272 dX5_digest_272 rfl ?_
                rw [dg8_eq] at T
                refine lpB 273 (L) (fun i h => mxL h (nI (BF i)).toInt64) (dg8 (P, SV, n, BF, L)) (dgV (P, SV, n, BF, L)) rfl (fun i a_i => [.ref m, .int (nI i), dum]) (fun _ a_i h9 => MdS [0, 2, 7, 8, 9] h m A P X a_i h9) (fun _ _ => True) (fun _ => k) ⟨_, (((R8.trans (S9.mono (by decide))).trans (S11.mono (by decide))).upx 0 0 (f := 0) (by decide)), T⟩ trivial (fun _ _ _ _ => trivial) (fun h_16 V _ => ?_) (fun i a_i h_16 hi_i _ V ih_i => ?_)
                · obtain ⟨Y16, R16, T⟩ := V
                  have T : MdTo h m A P Y16 (dgV (P, SV, n, BF, L)) h_16 := T
                  refine z_iload1 273 dX5_digest_273 ?_
                  refine z_aload0 274 dX5_digest_274 ?_
                  refine z_get 275 gX5_146 dX5_digest_275 T.kd (show HP.mm _ _ _ = .int (nI (Y16 6 0)) from T.sc 6 rfl) ?_
                  rw [show Y16 6 0 = L from (congrFun (R16 6 (by decide)) 0).trans e6]
                  refine z_icgeN 278 298 dX5_digest_278 (by decide) (by omega) (by omega) (fun c_278 => ?_) (fun c_278 => absurd c_278 (by omega))
                  refine z_aload0 298 dX5_digest_298 ?_
                  refine z_get 299 gX5_227 dX5_digest_299 T.kd T.lg ?_
                  refine z_lreturn 302 rfl dX5_digest_302 ?_
                  exact ⟨_, rfl, rfl, T.2.1, T.2.2, _, _, T.1, rfl, (R16 3 (by decide)).trans e3, (congrFun (R16 4 (by decide)) 0).trans e4, (R16 5 (by decide)).trans e5, (congrFun (R16 6 (by decide)) 0).trans e6⟩
                · obtain ⟨Y16, R16, T⟩ := V
                  have T : MdTo h m A P Y16 a_i h_16 := T
                  refine z_iload1 273 dX5_digest_273 ?_
                  refine z_aload0 274 dX5_digest_274 ?_
                  refine z_get 275 gX5_146 dX5_digest_275 T.kd (show HP.mm _ _ _ = .int (nI (Y16 6 0)) from T.sc 6 rfl) ?_
                  rw [show Y16 6 0 = L from (congrFun (R16 6 (by decide)) 0).trans e6]
                  refine z_icgeN 278 298 dX5_digest_278 (by decide) (by omega) (by omega) (fun c_278 => absurd c_278 (by omega)) (fun c_278 => ?_)
                  refine z_aload0 281 dX5_digest_281 ?_
                  refine z_aload0 282 dX5_digest_282 ?_
                  refine z_get 283 gX5_19 dX5_digest_283 T.kd (T.rf 5 rfl) ?_
                  refine z_iload1 286 dX5_digest_286 ?_
                  refine z_iald (n := 60) 287 (i) dX5_digest_287 (T.ak 5 rfl rfl) (T.al 5 rfl rfl) (rfl) ((by omega)) (by decide) (T.at 5 rfl (by decide) (c := 60) rfl (by omega)) ?_
                  rw [show Y16 5 i = BF i from (congrFun (R16 5 (by decide)) i).trans (he5 i)]
                  refine z_i2l 288 dX5_digest_288 ?_
                  refine z_V1 (k' := k) 289 vX5_231 dX5_digest_289 T.kd (m_hashes T.1 (d - 1) 0) (by omega) (by omega) (Nat.le_of_ble_eq_true rfl) (aft_V fun h_17 hq => ?_)
                  have T : MdTo h m A P Y16 (mxL a_i (Int32.toInt64 (nI (BF i)))) h_17 := T.trans hq
                  refine z_iinc1 292 ((nI (i + 1))) dX5_digest_292 (nI_add _ _) rfl ?_
                  refine z_goto 295 273 dX5_digest_295 (by decide) ?_
                  exact ih_i (mxL a_i (Int32.toInt64 (nI (BF i)))) _ (by rfl) ⟨_, R16, T⟩
              · obtain ⟨Y8, R8, T⟩ := V
                have T : MdTo h m A P Y8 a_i h_8 := T
                refine z_iload1 205 dX5_digest_205 ?_
                refine z_bipush 206 (nI 8) dX5_digest_206 kB8 ?_
                refine z_icgeN 208 229 dX5_digest_208 (by decide) (by omega) (by omega) (fun c_208 => absurd c_208 (by omega)) (fun c_208 => ?_)
                refine z_aload0 211 dX5_digest_211 ?_
                refine z_aload0 212 dX5_digest_212 ?_
                refine z_bipush 213 (nI 20) dX5_digest_213 kB20 ?_
                refine z_iload1 215 dX5_digest_215 ?_
                refine z_V2 (k' := k) 216 vX5_210 dX5_digest_216 T.kd (m_moreThirst T.1 (by omega) (by omega) (W) (w7) (by omega) (d - 1) 0 (by omega)) (by omega) (by omega) (Nat.le_of_ble_eq_true rfl) (aft_I fun x_18 h_18 hq => ?_)
                obtain ⟨hx, X18, S18, T1⟩ := hq
                subst hx
                have T : MdTo h m A P X18 a_i h_18 := T.trans T1
                refine z_i2l 219 dX5_digest_219 ?_
                refine z_V1 (k' := k) 220 vX5_231 dX5_digest_220 T.kd (m_hashes T.1 (d - 1) 0) (by omega) (by omega) (Nat.le_of_ble_eq_true rfl) (aft_V fun h_19 hq => ?_)
                have T : MdTo h m A P X18 (mxL a_i (Int32.toInt64 (mtV P 20 i))) h_19 := T.trans hq
                refine z_iinc1 223 ((nI (i + 1))) dX5_digest_223 (nI_add _ _) rfl ?_
                refine z_goto 226 205 dX5_digest_226 (by decide) ?_
                exact ih_i (mxL a_i (Int32.toInt64 (mtV P 20 i))) _ (by rfl) ⟨_, (R8.trans (S18.mono (by decide))), T⟩
            · obtain ⟨Y7, R7, T⟩ := V
              have T : MdTo h m A P Y7 a_i h_7 := T
              refine z_iload1 180 dX5_digest_180 ?_
              refine z_iconst 181 (nI 4) dX5_digest_181 kI4 ?_
              refine z_icgeN 182 203 dX5_digest_182 (by decide) (by omega) (by omega) (fun c_182 => absurd c_182 (by omega)) (fun c_182 => ?_)
              refine z_aload0 185 dX5_digest_185 ?_
              refine z_aload0 186 dX5_digest_186 ?_
              refine z_bipush 187 (nI 10) dX5_digest_187 kB10 ?_
              refine z_iload1 189 dX5_digest_189 ?_
              refine z_V2 (k' := k) 190 vX5_207 dX5_digest_190 T.kd (m_passed (n := 10) (u := i) T.1 (by omega) (W) (by omega) (d - 1) 0 (by omega)) (by omega) (by omega) (Nat.le_of_ble_eq_true rfl) (aft_I fun x_20 h_20 hq => ?_)
              obtain ⟨hx, X20, S20, T1⟩ := hq
              subst hx
              have T : MdTo h m A P X20 a_i h_20 := T.trans T1
              refine z_i2l 193 dX5_digest_193 ?_
              refine z_V1 (k' := k) 194 vX5_231 dX5_digest_194 T.kd (m_hashes T.1 (d - 1) 0) (by omega) (by omega) (Nat.le_of_ble_eq_true rfl) (aft_V fun h_21 hq => ?_)
              have T : MdTo h m A P X20 (mxL a_i (Int32.toInt64 (pdV P 10 i))) h_21 := T.trans hq
              refine z_iinc1 197 ((nI (i + 1))) dX5_digest_197 (nI_add _ _) rfl ?_
              refine z_goto 200 180 dX5_digest_200 (by decide) ?_
              exact ih_i (mxL a_i (Int32.toInt64 (pdV P 10 i))) _ (by rfl) ⟨_, (R7.trans (S20.mono (by decide))), T⟩
          · obtain ⟨Y6, R6, T⟩ := V
            have T : MdTo h m A P Y6 a_j h_6 := T
            refine z_iload1 137 dX5_digest_137 ?_
            refine z_aload0 138 dX5_digest_138 ?_
            refine z_get 139 gX5_7 dX5_digest_139 T.kd (T.rf 1 rfl) ?_
            refine z_bipush 142 (nI 7) dX5_digest_142 kB7 ?_
            refine z_iald (n := 204) 144 (7) dX5_digest_144 (T.ak 1 rfl rfl) (T.al 1 rfl rfl) (rfl) ((by omega)) (by decide) (T.at1 (by omega)) ?_
            refine z_icgeN 145 178 dX5_digest_145 (by decide) (by have := W.h7; omega) (by have := W.h7; omega) (fun c_145 => absurd c_145 (by omega)) (fun c_145 => ?_)
            refine z_iconst 148 (nI 0) dX5_digest_148 kI0 ?_
            refine z_istore2 149 dX5_digest_149 rfl ?_
            refine lpB 150 (3) (fun u h => mxL h (toV P (nI j) u).toInt64) (a_j) (itN 3 (fun u h => mxL h (toV P (nI j) u).toInt64) a_j) rfl (fun u a_u => [.ref m, .int (nI j), .int (nI u)]) (fun _ a_u h9 => MdS [0, 2, 7, 8, 9] h m A P X a_u h9) (fun _ _ => True) (fun _ => k) ⟨_, R6, T⟩ trivial (fun _ _ _ _ => trivial) (fun h_22 V _ => ?_) (fun u a_u h_22 hi_u _ V ih_u => ?_)
            · obtain ⟨Y22, R22, T⟩ := V
              have T : MdTo h m A P Y22 (itN 3 (fun u h => mxL h (toV P (nI j) u).toInt64) a_j) h_22 := T
              refine z_iload2 150 dX5_digest_150 ?_
              refine z_iconst 151 (nI 3) dX5_digest_151 kI3 ?_
              refine z_icgeN 152 172 dX5_digest_152 (by decide) (by omega) (by omega) (fun c_152 => ?_) (fun c_152 => absurd c_152 (by omega))
              refine z_iinc1 172 ((nI (j + 1))) dX5_digest_172 (nI_add _ _) rfl ?_
              refine z_goto 175 137 dX5_digest_175 (by decide) ?_
              refine z_fog 2 ?_
              exact ih_j (itN 3 (fun u h => mxL h (toV P (nI j) u).toInt64) a_j) _ (by rfl) ⟨_, R22, T⟩
            · obtain ⟨Y22, R22, T⟩ := V
              have T : MdTo h m A P Y22 a_u h_22 := T
              refine z_iload2 150 dX5_digest_150 ?_
              refine z_iconst 151 (nI 3) dX5_digest_151 kI3 ?_
              refine z_icgeN 152 172 dX5_digest_152 (by decide) (by omega) (by omega) (fun c_152 => absurd c_152 (by omega)) (fun c_152 => ?_)
              refine z_aload0 155 dX5_digest_155 ?_
              refine z_aload0 156 dX5_digest_156 ?_
              refine z_iload1 157 dX5_digest_157 ?_
              refine z_iload2 158 dX5_digest_158 ?_
              refine z_V2 (k' := k) 159 vX5_189 dX5_digest_159 T.kd (m_tellsOuting (r := nI j) (u := u) T.1 (by omega) W (d - 1) 0 (by omega)) (by omega) (by omega) (Nat.le_of_ble_eq_true rfl) (aft_P (x := toV P (nI j) u) ?_)
              refine z_i2l 162 dX5_digest_162 ?_
              refine z_V1 (k' := k) 163 vX5_231 dX5_digest_163 T.kd (m_hashes T.1 (d - 1) 0) (by omega) (by omega) (Nat.le_of_ble_eq_true rfl) (aft_V fun h_23 hq => ?_)
              have T : MdTo h m A P Y22 (mxL a_u (Int32.toInt64 (toV P (nI j) u))) h_23 := T.trans hq
              refine z_iinc2 166 ((nI (u + 1))) dX5_digest_166 (nI_add _ _) rfl ?_
              refine z_goto 169 150 dX5_digest_169 (by decide) ?_
              exact ih_u (mxL a_u (Int32.toInt64 (toV P (nI j) u))) _ (by rfl) ⟨_, R22, T⟩
        · obtain ⟨Y5, R5, T⟩ := V
          have T : MdTo h m A P Y5 a_i h_5 := T
          refine z_iload1 101 dX5_digest_101 ?_
          refine z_iconst 102 (nI 2) dX5_digest_102 kI2 ?_
          refine z_aload0 103 dX5_digest_103 ?_
          refine z_get 104 gX5_7 dX5_digest_104 T.kd (T.rf 1 rfl) ?_
          refine z_bipush 107 (nI 6) dX5_digest_107 kB6 ?_
          refine z_iald (n := 204) 109 (6) dX5_digest_109 (T.ak 1 rfl rfl) (T.al 1 rfl rfl) (rfl) ((by omega)) (by decide) (T.at1 (by omega)) ?_
          refine z_imulN 110 dX5_digest_110 ?_
          refine z_icgeN 111 135 dX5_digest_111 (by decide) (by omega) (by omega) (fun c_111 => absurd c_111 (by omega)) (fun c_111 => ?_)
          refine z_aload0 114 dX5_digest_114 ?_
          refine z_aload0 115 dX5_digest_115 ?_
          refine z_get 116 gX5_7 dX5_digest_116 T.kd (T.rf 1 rfl) ?_
          refine z_sipush 119 (nI 141) dX5_digest_119 kS141 ?_
          refine z_iload1 122 dX5_digest_122 ?_
          refine z_iaddN 123 dX5_digest_123 ?_
          refine z_iald (n := 204) 124 (141 + i) dX5_digest_124 (T.ak 1 rfl rfl) (T.al 1 rfl rfl) (rfl) ((by omega)) (by decide) (T.at1 (by omega)) ?_
          refine z_i2l 125 dX5_digest_125 ?_
          refine z_V1 (k' := k) 126 vX5_231 dX5_digest_126 T.kd (m_hashes T.1 (d - 1) 0) (by omega) (by omega) (Nat.le_of_ble_eq_true rfl) (aft_V fun h_24 hq => ?_)
          have T : MdTo h m A P Y5 (mxL a_i (Int32.toInt64 (nI (P (141 + i))))) h_24 := T.trans hq
          refine z_iinc1 129 ((nI (i + 1))) dX5_digest_129 (nI_add _ _) rfl ?_
          refine z_goto 132 101 dX5_digest_132 (by decide) ?_
          exact ih_i (mxL a_i (Int32.toInt64 (nI (P (141 + i))))) _ (by rfl) ⟨_, R5, T⟩
      · obtain ⟨Y4, R4, T⟩ := V
        have T : MdTo h m A P Y4 a_j h_4 := T
        refine z_iload1 61 dX5_digest_61 ?_
        refine z_aload0 62 dX5_digest_62 ?_
        refine z_V0 (k' := k) 63 vX5_195 dX5_digest_63 T.kd (m_jobs T.1  (d - 1) 0 (by omega)) (by omega) (by omega) (Nat.le_of_ble_eq_true rfl) (aft_P (x := (nI (jsP P))) ?_)
        have js9 := jsP_le W
        refine z_icgeN 66 99 dX5_digest_66 (by decide) (by have := jsP_le W; omega) (by have := jsP_le W; omega) (fun c_66 => absurd c_66 (by omega)) (fun c_66 => ?_)
        refine z_iconst 69 (nI 0) dX5_digest_69 kI0 ?_
        refine z_istore2 70 dX5_digest_70 rfl ?_
        refine lpB 71 (4) (fun u h => mxL h (tjV P (nI j) (nI u)).toInt64) (a_j) (itN 4 (fun u h => mxL h (tjV P (nI j) (nI u)).toInt64) a_j) rfl (fun u a_u => [.ref m, .int (nI j), .int (nI u)]) (fun _ a_u h9 => MdS [0, 2, 7, 8, 9] h m A P X a_u h9) (fun _ _ => True) (fun _ => k) ⟨_, R4, T⟩ trivial (fun _ _ _ _ => trivial) (fun h_25 V _ => ?_) (fun u a_u h_25 hi_u _ V ih_u => ?_)
        · obtain ⟨Y25, R25, T⟩ := V
          have T : MdTo h m A P Y25 (itN 4 (fun u h => mxL h (tjV P (nI j) (nI u)).toInt64) a_j) h_25 := T
          refine z_iload2 71 dX5_digest_71 ?_
          refine z_iconst 72 (nI 4) dX5_digest_72 kI4 ?_
          refine z_icgeN 73 93 dX5_digest_73 (by decide) (by omega) (by omega) (fun c_73 => ?_) (fun c_73 => absurd c_73 (by omega))
          refine z_iinc1 93 ((nI (j + 1))) dX5_digest_93 (nI_add _ _) rfl ?_
          refine z_goto 96 61 dX5_digest_96 (by decide) ?_
          refine z_fog 2 ?_
          exact ih_j (itN 4 (fun u h => mxL h (tjV P (nI j) (nI u)).toInt64) a_j) _ (by rfl) ⟨_, R25, T⟩
        · obtain ⟨Y25, R25, T⟩ := V
          have T : MdTo h m A P Y25 a_u h_25 := T
          refine z_iload2 71 dX5_digest_71 ?_
          refine z_iconst 72 (nI 4) dX5_digest_72 kI4 ?_
          refine z_icgeN 73 93 dX5_digest_73 (by decide) (by omega) (by omega) (fun c_73 => absurd c_73 (by omega)) (fun c_73 => ?_)
          refine z_aload0 76 dX5_digest_76 ?_
          refine z_aload0 77 dX5_digest_77 ?_
          refine z_iload1 78 dX5_digest_78 ?_
          refine z_iload2 79 dX5_digest_79 ?_
          refine z_V2 (k' := k) 80 vX5_186 dX5_digest_80 T.kd (m_tellsJob (r := nI j) (u := nI u) T.1 W (d - 1) 0 (by omega)) (by omega) (by omega) (Nat.le_of_ble_eq_true rfl) (aft_P (x := tjV P (nI j) (nI u)) ?_)
          refine z_i2l 83 dX5_digest_83 ?_
          refine z_V1 (k' := k) 84 vX5_231 dX5_digest_84 T.kd (m_hashes T.1 (d - 1) 0) (by omega) (by omega) (Nat.le_of_ble_eq_true rfl) (aft_V fun h_26 hq => ?_)
          have T : MdTo h m A P Y25 (mxL a_u (Int32.toInt64 (tjV P (nI j) (nI u)))) h_26 := T.trans hq
          refine z_iinc2 87 ((nI (u + 1))) dX5_digest_87 (nI_add _ _) rfl ?_
          refine z_goto 90 71 dX5_digest_90 (by decide) ?_
          exact ih_u (mxL a_u (Int32.toInt64 (tjV P (nI j) (nI u)))) _ (by rfl) ⟨_, R25, T⟩
    · obtain ⟨Y2, R2, T⟩ := V
      have T : MdTo h m A P Y2 a_i h_2 := T
      refine z_iload1 33 dX5_digest_33 ?_
      refine z_iconst 34 (nI 5) dX5_digest_34 kI5 ?_
      refine z_icgeN 35 55 dX5_digest_35 (by decide) (by omega) (by omega) (fun c_35 => absurd c_35 (by omega)) (fun c_35 => ?_)
      refine z_aload0 38 dX5_digest_38 ?_
      refine z_aload0 39 dX5_digest_39 ?_
      refine z_get 40 gX5_7 dX5_digest_40 T.kd (T.rf 1 rfl) ?_
      refine z_iload1 43 dX5_digest_43 ?_
      refine z_iald (n := 204) 44 (i) dX5_digest_44 (T.ak 1 rfl rfl) (T.al 1 rfl rfl) (rfl) ((by omega)) (by decide) (T.at1 (by omega)) ?_
      refine z_i2l 45 dX5_digest_45 ?_
      refine z_V1 (k' := k) 46 vX5_231 dX5_digest_46 T.kd (m_hashes T.1 (d - 1) 0) (by omega) (by omega) (Nat.le_of_ble_eq_true rfl) (aft_V fun h_27 hq => ?_)
      have T : MdTo h m A P Y2 (mxL a_i (Int32.toInt64 (nI (P i)))) h_27 := T.trans hq
      refine z_iinc1 49 ((nI (i + 1))) dX5_digest_49 (nI_add _ _) rfl ?_
      refine z_goto 52 33 dX5_digest_52 (by decide) ?_
      exact ih_i (mxL a_i (Int32.toInt64 (nI (P i)))) _ (by rfl) ⟨_, R2, T⟩
  · obtain ⟨Y1, R1, T⟩ := V
    have T : MdTo h m A P Y1 a_i h_1 := T
    have e4Y : Y1 4 0 = n := by rw [R1 4 (by decide)]; exact e4
    refine z_iload1 9 dX5_digest_9 ?_
    refine z_bipush 10 (nI 12) dX5_digest_10 kB12 ?_
    refine z_icgeN 12 31 dX5_digest_12 (by decide) (by omega) (by omega) (fun c_12 => absurd c_12 (by omega)) (fun c_12 => ?_)
    refine z_aload0 15 dX5_digest_15 ?_
    refine z_aload0 16 dX5_digest_16 ?_
    refine z_iload1 17 dX5_digest_17 ?_
    refine z_V1 (k' := k) 18 vX5_198 dX5_digest_18 T.kd (m_counts (n := n) T.1 (by omega) W e4Y (d - 1) 0 (by omega)) (by omega) (by omega) (Nat.le_of_ble_eq_true rfl) (aft_P (x := nI (ctV P n i)) ?_)
    refine z_i2l 21 dX5_digest_21 ?_
    refine z_V1 (k' := k) 22 vX5_231 dX5_digest_22 T.kd (m_hashes T.1 (d - 1) 0) (by omega) (by omega) (Nat.le_of_ble_eq_true rfl) (aft_V fun h_28 hq => ?_)
    have T : MdTo h m A P Y1 (mxL a_i (Int32.toInt64 (nI (ctV P n i)))) h_28 := T.trans hq
    refine z_iinc1 25 ((nI (i + 1))) dX5_digest_25 (nI_add _ _) rfl ?_
    refine z_goto 28 9 dX5_digest_28 (by decide) ?_
    exact ih_i (mxL a_i (Int32.toInt64 (nI (ctV P n i)))) _ (by rfl) ⟨_, R1, T⟩

