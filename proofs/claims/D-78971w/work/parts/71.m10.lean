/-! THE REFERENCE: the public methods, third part: looks, what would be -/
set_option maxHeartbeats 4000000 in
theorem m_counts {E : Ev} {h : HP} {m : Nat} {A P : Nat → Nat} {X : Nat → Nat → Nat} {hs : Int64} (T0 : MdAt h m A P X hs) {u n : Nat} (hu : u < 12) (W : WF P) (e4 : X 4 0 = n) (d k : Nat) (hd : 4 ≤ d) : Call E yX5_counts d k [.ref m, .int (nI u)] h (rP h (nI (ctV P n u))) := by
  have T := T0.to
  have b5 := W.B.s 5 (by omega)
  refine Call.of [.ref m, .int (nI u)] q2425 (by decide) pn_X5 (Nat.le_of_ble_eq_true rfl) rfl ?_
  refine z_iload1 0 dX5_counts_0 ?_
  rcases (by omega : u = 0 ∨ u = 1 ∨ u = 2 ∨ u = 3 ∨ u = 4 ∨ u = 5 ∨ u = 6 ∨ u = 7 ∨ u = 8 ∨ u = 9 ∨ u = 10 ∨ u = 11) with rfl | rfl | rfl | rfl | rfl | rfl | rfl | rfl | rfl | rfl | rfl | rfl
  · refine z_swIn (off := 63) 1 64 dX5_counts_1 (by decide) (by decide) (by rfl) (by decide) ?_
    refine z_aload0 64 dX5_counts_64 ?_
    refine z_get 65 gX5_7 dX5_counts_65 T.kd (T.rf 1 rfl) ?_
    refine z_iconst 68 (nI 5) dX5_counts_68 kI5 ?_
    refine z_iald (n := 204) 69 (5) dX5_counts_69 (T.ak 1 rfl rfl) (T.al 1 rfl rfl) (rfl) ((by omega)) (by decide) (T.at1 (by omega)) ?_
    refine z_ireturn 70 rfl dX5_counts_70 ?_
    exact rP_of (congrArg nI (by first | rfl | (rw [e4]; rfl)))
  · refine z_swIn (off := 70) 1 71 dX5_counts_1 (by decide) (by decide) (by rfl) (by decide) ?_
    refine z_aload0 71 dX5_counts_71 ?_
    refine z_V0 (k' := k) 72 vX5_130 dX5_counts_72 T.kd (m_fountains T.1  (d - 1) 0 (by omega)) (by omega) (by omega) (Nat.le_of_ble_eq_true rfl) (aft_P (x := (nI (fnP P))) ?_)
    refine z_ireturn 75 rfl dX5_counts_75 ?_
    exact rP_of (congrArg nI (by first | rfl | (rw [e4]; rfl)))
  · refine z_swIn (off := 75) 1 76 dX5_counts_1 (by decide) (by decide) (by rfl) (by decide) ?_
    refine z_aload0 76 dX5_counts_76 ?_
    refine z_V0 (k' := k) 77 vX5_192 dX5_counts_77 T.kd (m_open T.1 (W.h6) (W.B) (d - 1) 0 (by omega)) (by omega) (by omega) (Nat.le_of_ble_eq_true rfl) (aft_P (x := (nI (opP P))) ?_)
    refine z_ireturn 80 rfl dX5_counts_80 ?_
    exact rP_of (congrArg nI (by first | rfl | (rw [e4]; rfl)))
  · refine z_swIn (off := 80) 1 81 dX5_counts_1 (by decide) (by decide) (by rfl) (by decide) ?_
    refine z_aload0 81 dX5_counts_81 ?_
    refine z_V0 (k' := k) 82 vX5_195 dX5_counts_82 T.kd (m_jobs T.1  (d - 1) 0 (by omega)) (by omega) (by omega) (Nat.le_of_ble_eq_true rfl) (aft_P (x := (nI (jsP P))) ?_)
    refine z_ireturn 85 rfl dX5_counts_85 ?_
    exact rP_of (congrArg nI (by first | rfl | (rw [e4]; rfl)))
  · refine z_swIn (off := 85) 1 86 dX5_counts_1 (by decide) (by decide) (by rfl) (by decide) ?_
    refine z_aload0 86 dX5_counts_86 ?_
    refine z_get 87 gX5_7 dX5_counts_87 T.kd (T.rf 1 rfl) ?_
    refine z_bipush 90 (nI 7) dX5_counts_90 kB7 ?_
    refine z_iald (n := 204) 92 (7) dX5_counts_92 (T.ak 1 rfl rfl) (T.al 1 rfl rfl) (rfl) ((by omega)) (by decide) (T.at1 (by omega)) ?_
    refine z_ireturn 93 rfl dX5_counts_93 ?_
    exact rP_of (congrArg nI (by first | rfl | (rw [e4]; rfl)))
  · refine z_swIn (off := 117) 1 118 dX5_counts_1 (by decide) (by decide) (by rfl) (by decide) ?_
    refine z_aload0 118 dX5_counts_118 ?_
    refine z_get 119 gX5_7 dX5_counts_119 T.kd (T.rf 1 rfl) ?_
    refine z_bipush 122 (nI 8) dX5_counts_122 kB8 ?_
    refine z_iload1 124 dX5_counts_124 ?_
    refine z_iaddN 125 dX5_counts_125 ?_
    refine z_iconst 126 (nI 5) dX5_counts_126 kI5 ?_
    refine z_isubN 127 dX5_counts_127 (by omega) ?_
    refine z_iald (n := 204) 128 (8 + 5 - 5) dX5_counts_128 (T.ak 1 rfl rfl) (T.al 1 rfl rfl) (rfl) ((by omega)) (by decide) (T.at1 (by omega)) ?_
    refine z_ireturn 129 rfl dX5_counts_129 ?_
    exact rP_of (congrArg nI (by first | rfl | (rw [e4]; rfl)))
  · refine z_swIn (off := 117) 1 118 dX5_counts_1 (by decide) (by decide) (by rfl) (by decide) ?_
    refine z_aload0 118 dX5_counts_118 ?_
    refine z_get 119 gX5_7 dX5_counts_119 T.kd (T.rf 1 rfl) ?_
    refine z_bipush 122 (nI 8) dX5_counts_122 kB8 ?_
    refine z_iload1 124 dX5_counts_124 ?_
    refine z_iaddN 125 dX5_counts_125 ?_
    refine z_iconst 126 (nI 5) dX5_counts_126 kI5 ?_
    refine z_isubN 127 dX5_counts_127 (by omega) ?_
    refine z_iald (n := 204) 128 (8 + 6 - 5) dX5_counts_128 (T.ak 1 rfl rfl) (T.al 1 rfl rfl) (rfl) ((by omega)) (by decide) (T.at1 (by omega)) ?_
    refine z_ireturn 129 rfl dX5_counts_129 ?_
    exact rP_of (congrArg nI (by first | rfl | (rw [e4]; rfl)))
  · refine z_swIn (off := 117) 1 118 dX5_counts_1 (by decide) (by decide) (by rfl) (by decide) ?_
    refine z_aload0 118 dX5_counts_118 ?_
    refine z_get 119 gX5_7 dX5_counts_119 T.kd (T.rf 1 rfl) ?_
    refine z_bipush 122 (nI 8) dX5_counts_122 kB8 ?_
    refine z_iload1 124 dX5_counts_124 ?_
    refine z_iaddN 125 dX5_counts_125 ?_
    refine z_iconst 126 (nI 5) dX5_counts_126 kI5 ?_
    refine z_isubN 127 dX5_counts_127 (by omega) ?_
    refine z_iald (n := 204) 128 (8 + 7 - 5) dX5_counts_128 (T.ak 1 rfl rfl) (T.al 1 rfl rfl) (rfl) ((by omega)) (by decide) (T.at1 (by omega)) ?_
    refine z_ireturn 129 rfl dX5_counts_129 ?_
    exact rP_of (congrArg nI (by first | rfl | (rw [e4]; rfl)))
  · refine z_swIn (off := 117) 1 118 dX5_counts_1 (by decide) (by decide) (by rfl) (by decide) ?_
    refine z_aload0 118 dX5_counts_118 ?_
    refine z_get 119 gX5_7 dX5_counts_119 T.kd (T.rf 1 rfl) ?_
    refine z_bipush 122 (nI 8) dX5_counts_122 kB8 ?_
    refine z_iload1 124 dX5_counts_124 ?_
    refine z_iaddN 125 dX5_counts_125 ?_
    refine z_iconst 126 (nI 5) dX5_counts_126 kI5 ?_
    refine z_isubN 127 dX5_counts_127 (by omega) ?_
    refine z_iald (n := 204) 128 (8 + 8 - 5) dX5_counts_128 (T.ak 1 rfl rfl) (T.al 1 rfl rfl) (rfl) ((by omega)) (by decide) (T.at1 (by omega)) ?_
    refine z_ireturn 129 rfl dX5_counts_129 ?_
    exact rP_of (congrArg nI (by first | rfl | (rw [e4]; rfl)))
  · refine z_swIn (off := 117) 1 118 dX5_counts_1 (by decide) (by decide) (by rfl) (by decide) ?_
    refine z_aload0 118 dX5_counts_118 ?_
    refine z_get 119 gX5_7 dX5_counts_119 T.kd (T.rf 1 rfl) ?_
    refine z_bipush 122 (nI 8) dX5_counts_122 kB8 ?_
    refine z_iload1 124 dX5_counts_124 ?_
    refine z_iaddN 125 dX5_counts_125 ?_
    refine z_iconst 126 (nI 5) dX5_counts_126 kI5 ?_
    refine z_isubN 127 dX5_counts_127 (by omega) ?_
    refine z_iald (n := 204) 128 (8 + 9 - 5) dX5_counts_128 (T.ak 1 rfl rfl) (T.al 1 rfl rfl) (rfl) ((by omega)) (by decide) (T.at1 (by omega)) ?_
    refine z_ireturn 129 rfl dX5_counts_129 ?_
    exact rP_of (congrArg nI (by first | rfl | (rw [e4]; rfl)))
  · refine z_swIn (off := 93) 1 94 dX5_counts_1 (by decide) (by decide) (by rfl) (by decide) ?_
    refine z_aload0 94 dX5_counts_94 ?_
    refine z_aload0 95 dX5_counts_95 ?_
    refine z_get 96 gX5_7 dX5_counts_96 T.kd (T.rf 1 rfl) ?_
    refine z_iconst 99 (nI 5) dX5_counts_99 kI5 ?_
    refine z_iald (n := 204) 100 (5) dX5_counts_100 (T.ak 1 rfl rfl) (T.al 1 rfl rfl) (rfl) ((by omega)) (by decide) (T.at1 (by omega)) ?_
    refine z_V1 (k' := k) 101 vX5_50 dX5_counts_101 T.kd (m_isFrosty T.1 (by omega) (W.h6) (W.B) (d - 1) 0 (by omega)) (by omega) (by omega) (Nat.le_of_ble_eq_true rfl) (aft_P (x := (nI (bN (frP P (P 5))))) ?_)
    refine joinZ 112 (fun v9 => [.ref m, .int (nI 10)]) (fun v9 => [.int v9]) ((nI (bN (frP P (P 5))))) ?_ (fun J => ?_)
    · refine z_ireturn 112 rfl dX5_counts_112 ?_
      exact rP_of (congrArg nI (by first | rfl | (rw [e4]; rfl)))
    · refine z_ifeqB 104 111 dX5_counts_104 (by decide) (fun c_104 => ?_) (fun c_104 => ?_)
      · refine z_iconst 111 (nI 0) dX5_counts_111 kI0 ?_
        exact J _ (by rw [c_104]; rfl)
      · refine z_iconst 107 (nI 1) dX5_counts_107 kI1 ?_
        refine z_goto 108 112 dX5_counts_108 (by decide) ?_
        exact J _ (by rw [c_104]; rfl)
  · refine z_swIn (off := 112) 1 113 dX5_counts_1 (by decide) (by decide) (by rfl) (by decide) ?_
    refine z_aload0 113 dX5_counts_113 ?_
    refine z_get 114 gX5_43 dX5_counts_114 T.kd (show HP.mm _ _ _ = .int (nI (X 4 0)) from T.sc 4 rfl) ?_
    refine z_ireturn 117 rfl dX5_counts_117 ?_
    exact rP_of (congrArg nI (by first | rfl | (rw [e4]; rfl)))

set_option maxHeartbeats 4000000 in
theorem a_mfountain {E : Ev} {h : HP} {m : Nat} {A : Nat → Nat} {S : Sx} {hs : Int64} {c9 : Nat} (T0 : MdL h m A S hs c9) (WS : WFS S) {x xw : Int32} (d k : Nat) (hd : 4 ≤ d) : Call E yX5_fountain d k [.ref m, .int x, .int xw] h (MdApi h m A hs (a_fountain S x xw)) := by
  obtain ⟨P, SV, n, BF, L⟩ := S
  obtain ⟨X, M, e0, e3, e4, e5, e6⟩ := T0
  have e3 : X 3 = SV := e3
  have e4 : X 4 0 = n := e4
  have e5 : X 5 = BF := e5
  have e6 : X 6 0 = L := e6
  obtain ⟨⟨W, w5, w7⟩, hn6, hL, hB, hsv⟩ := id WS
  have W : WF P := W
  have w5 : P 5 ≤ 999 := w5
  have w7 : P 7 ≤ 16 := w7
  have hn6 : n ≤ 6 := hn6
  have hL : L ≤ 60 := hL
  have hB : ∀ j, j < L → 33 ≤ BF j ∧ BF j ≤ 126 := hB
  have T : MdTo h m A P X hs h := M.to
  refine Call.of [.ref m, .int x, .int xw] q2389 (by decide) pn_X5 (Nat.le_of_ble_eq_true rfl) rfl ?_
  refine z_aload0 0 dX5_fountain_0 ?_
  refine z_iconst 1 (nI 0) dX5_fountain_1 kI0 ?_
  refine z_put 2 pX5_35 (fun h => by cases h) dX5_fountain_2 T.kd (rfl) (rfl) ?_
  have T := T.putS 0 0 rfl
  refine z_iload1 5 dX5_fountain_5 ?_
  refine z_S1 (k' := k) 6 sX5_121 dX5_fountain_6 (m_isPlace (d - 1) 0 (by omega)) (by omega) (by omega) (Nat.le_of_ble_eq_true rfl) (aft_P ?_)
  refine z_ifneB 9 18 dX5_fountain_9 (by decide) (fun c_9 => ?_) (fun c_9 => ?_)
  · obtain ⟨pl, -, hp_pl, rfl⟩ := inI_nat (by decide) (by decide) c_9
    have t_pl : tn (nI pl) = pl := tn_nI (by omega)
    refine z_iload2 18 dX5_fountain_18 ?_
    refine z_iconst 19 (nI 0) dX5_fountain_19 kI0 ?_
    refine z_bipush 20 (nI 9) dX5_fountain_20 kB9 ?_
    refine z_S3 (k' := k) 22 sX5_39 dX5_fountain_22 (m_inI (d - 1) 0) (by omega) (by omega) (Nat.le_of_ble_eq_true rfl) (aft_P ?_)
    refine z_ifeqB 25 37 dX5_fountain_25 (by decide) (fun c_25 => ?_) (fun c_25 => ?_)
    · refine z_aload0 37 dX5_fountain_37 ?_
      refine z_iconst 38 (nI 2) dX5_fountain_38 kI2 ?_
      refine z_V1 (k' := k) 39 vX5_124 dX5_fountain_39 T.kd (m_fails T.1 (d - 1) 0) (by omega) (by omega) (Nat.le_of_ble_eq_true rfl) (aft_I fun x_1 h_1 hq => ?_)
      obtain ⟨hx, T1⟩ := hq
      have hx : x_1 = nI 0 := hx
      subst hx
      have T := T.trans T1
      refine z_ireturn 42 rfl dX5_fountain_42 ?_
      exact mdApi_of (c := 2) (v := nI 0) (by unfold a_fountain; rw [if_neg (by rw [c_9]; decide), if_pos c_25]) (fun q => by cases q) T rfl e3 e4 e5 e6
    · obtain ⟨u, lo_u, hp_u, rfl⟩ := inI_nat (by omega) (by omega) c_25
      have t_u : tn (nI u) = u := tn_nI (by omega)
      refine z_aload0 28 dX5_fountain_28 ?_
      refine z_iload1 29 dX5_fountain_29 ?_
      refine z_iload2 30 dX5_fountain_30 ?_
      refine z_V2 (k' := k) 31 vX5_180 dX5_fountain_31 T.kd (m_tellsPlace T.1 (by omega) (by omega) (W) (d - 1) 0 (by omega)) (by omega) (by omega) (Nat.le_of_ble_eq_true rfl) (aft_P (x := tpV P pl u) ?_)
      refine z_goto 34 42 dX5_fountain_34 (by decide) ?_
      refine z_ireturn 42 rfl dX5_fountain_42 ?_
      exact mdApi_of (c := 0) (by unfold a_fountain; rw [if_neg (by rw [c_9]; decide), if_neg (by rw [c_25]; decide), t_pl, t_u]) (fun _ => rfl) T rfl e3 e4 e5 e6
  · refine z_aload0 12 dX5_fountain_12 ?_
    refine z_iconst 13 (nI 1) dX5_fountain_13 kI1 ?_
    refine z_V1 (k' := k) 14 vX5_124 dX5_fountain_14 T.kd (m_fails T.1 (d - 1) 0) (by omega) (by omega) (Nat.le_of_ble_eq_true rfl) (aft_I fun x_2 h_2 hq => ?_)
    obtain ⟨hx, T1⟩ := hq
    have hx : x_2 = nI 0 := hx
    subst hx
    have T := T.trans T1
    refine z_ireturn 17 rfl dX5_fountain_17 ?_
    exact mdApi_of (c := 1) (v := nI 0) (by unfold a_fountain; rw [if_pos c_9]) (fun q => by cases q) T rfl e3 e4 e5 e6

set_option maxHeartbeats 4000000 in
theorem a_mjob {E : Ev} {h : HP} {m : Nat} {A : Nat → Nat} {S : Sx} {hs : Int64} {c9 : Nat} (T0 : MdL h m A S hs c9) (WS : WFS S) {xj xw : Int32} (d k : Nat) (hd : 4 ≤ d) : Call E yX5_job d k [.ref m, .int xj, .int xw] h (MdApi h m A hs (a_job S xj xw)) := by
  obtain ⟨P, SV, n, BF, L⟩ := S
  obtain ⟨X, M, e0, e3, e4, e5, e6⟩ := T0
  have e3 : X 3 = SV := e3
  have e4 : X 4 0 = n := e4
  have e5 : X 5 = BF := e5
  have e6 : X 6 0 = L := e6
  obtain ⟨⟨W, w5, w7⟩, hn6, hL, hB, hsv⟩ := id WS
  have W : WF P := W
  have w5 : P 5 ≤ 999 := w5
  have w7 : P 7 ≤ 16 := w7
  have hn6 : n ≤ 6 := hn6
  have hL : L ≤ 60 := hL
  have hB : ∀ j, j < L → 33 ≤ BF j ∧ BF j ≤ 126 := hB
  have T : MdTo h m A P X hs h := M.to
  refine Call.of [.ref m, .int xj, .int xw] q2397 (by decide) pn_X5 (Nat.le_of_ble_eq_true rfl) rfl ?_
  refine z_aload0 0 dX5_job_0 ?_
  refine z_iconst 1 (nI 0) dX5_job_1 kI0 ?_
  refine z_put 2 pX5_35 (fun h => by cases h) dX5_job_2 T.kd (rfl) (rfl) ?_
  have T := T.putS 0 0 rfl
  refine z_iload1 5 dX5_job_5 ?_
  refine z_iflt 6 27 dX5_job_6 (by decide) (fun c_6 => ?_) (fun c_6 => ?_)
  · refine z_aload0 27 dX5_job_27 ?_
    refine z_iconst 28 (nI 1) dX5_job_28 kI1 ?_
    refine z_V1 (k' := k) 29 vX5_124 dX5_job_29 T.kd (m_fails T.1 (d - 1) 0) (by omega) (by omega) (Nat.le_of_ble_eq_true rfl) (aft_I fun x_1 h_1 hq => ?_)
    obtain ⟨hx, T1⟩ := hq
    have hx : x_1 = nI 0 := hx
    subst hx
    have T := T.trans T1
    refine z_ireturn 32 rfl dX5_job_32 ?_
    first | exact mdApi_of (c := 1) (v := nI 0) (by unfold a_job; rw [if_pos (Or.inl c_6)]) (fun q => by cases q) T rfl e3 e4 e5 e6 | exact mdApi_of (c := 1) (v := nI 0) (by unfold a_job; rw [if_pos (Or.inr c_15)]) (fun q => by cases q) T rfl e3 e4 e5 e6
  · refine z_iload2 9 dX5_job_9 ?_
    refine z_iconst 10 (nI 0) dX5_job_10 kI0 ?_
    refine z_iconst 11 (nI 3) dX5_job_11 kI3 ?_
    refine z_S3 (k' := k) 12 sX5_39 dX5_job_12 (m_inI (d - 1) 0) (by omega) (by omega) (Nat.le_of_ble_eq_true rfl) (aft_P ?_)
    refine z_ifeqB 15 27 dX5_job_15 (by decide) (fun c_15 => ?_) (fun c_15 => ?_)
    · refine z_aload0 27 dX5_job_27 ?_
      refine z_iconst 28 (nI 1) dX5_job_28 kI1 ?_
      refine z_V1 (k' := k) 29 vX5_124 dX5_job_29 T.kd (m_fails T.1 (d - 1) 0) (by omega) (by omega) (Nat.le_of_ble_eq_true rfl) (aft_I fun x_2 h_2 hq => ?_)
      obtain ⟨hx, T1⟩ := hq
      have hx : x_2 = nI 0 := hx
      subst hx
      have T := T.trans T1
      refine z_ireturn 32 rfl dX5_job_32 ?_
      first | exact mdApi_of (c := 1) (v := nI 0) (by unfold a_job; rw [if_pos (Or.inl c_6)]) (fun q => by cases q) T rfl e3 e4 e5 e6 | exact mdApi_of (c := 1) (v := nI 0) (by unfold a_job; rw [if_pos (Or.inr c_15)]) (fun q => by cases q) T rfl e3 e4 e5 e6
    · refine z_aload0 18 dX5_job_18 ?_
      refine z_iload1 19 dX5_job_19 ?_
      refine z_iload2 20 dX5_job_20 ?_
      refine z_V2 (k' := k) 21 vX5_186 dX5_job_21 T.kd (m_tellsJob T.1 W (d - 1) 0 (by omega)) (by omega) (by omega) (Nat.le_of_ble_eq_true rfl) (aft_P (x := tjV P xj xw) ?_)
      refine z_goto 24 32 dX5_job_24 (by decide) ?_
      refine z_ireturn 32 rfl dX5_job_32 ?_
      exact mdApi_of (c := 0) (by unfold a_job; rw [if_neg (by rw [c_15]; intro q; rcases q with q | q; exact c_6 q; cases q)]) (fun _ => rfl) T rfl e3 e4 e5 e6

set_option maxHeartbeats 4000000 in
theorem a_mfrostOf {E : Ev} {h : HP} {m : Nat} {A : Nat → Nat} {S : Sx} {hs : Int64} {c9 : Nat} (T0 : MdL h m A S hs c9) (WS : WFS S) {xj xw : Int32} (d k : Nat) (hd : 2 ≤ d) : Call E yX5_frostOf d k [.ref m, .int xj, .int xw] h (MdApi h m A hs (a_frostOf S xj xw)) := by
  obtain ⟨P, SV, n, BF, L⟩ := S
  obtain ⟨X, M, e0, e3, e4, e5, e6⟩ := T0
  have e3 : X 3 = SV := e3
  have e4 : X 4 0 = n := e4
  have e5 : X 5 = BF := e5
  have e6 : X 6 0 = L := e6
  obtain ⟨⟨W, w5, w7⟩, hn6, hL, hB, hsv⟩ := id WS
  have W : WF P := W
  have w5 : P 5 ≤ 999 := w5
  have w7 : P 7 ≤ 16 := w7
  have hn6 : n ≤ 6 := hn6
  have hL : L ≤ 60 := hL
  have hB : ∀ j, j < L → 33 ≤ BF j ∧ BF j ≤ 126 := hB
  have T : MdTo h m A P X hs h := M.to
  have h6 := W.h6
  refine Call.of [.ref m, .int xj, .int xw] q2409 (by decide) pn_X5 (Nat.le_of_ble_eq_true rfl) rfl ?_
  refine z_aload0 0 dX5_frostOf_0 ?_
  refine z_iconst 1 (nI 0) dX5_frostOf_1 kI0 ?_
  refine z_put 2 pX5_35 (fun h => by cases h) dX5_frostOf_2 T.kd (rfl) (rfl) ?_
  have T := T.putS 0 0 rfl
  refine z_iload1 5 dX5_frostOf_5 ?_
  refine z_iflt 6 18 dX5_frostOf_6 (by decide) (fun c_6 => ?_) (fun c_6 => ?_)
  · refine z_aload0 18 dX5_frostOf_18 ?_
    refine z_iconst 19 (nI 1) dX5_frostOf_19 kI1 ?_
    refine z_V1 (k' := k) 20 vX5_124 dX5_frostOf_20 T.kd (m_fails T.1 (d - 1) 0) (by omega) (by omega) (Nat.le_of_ble_eq_true rfl) (aft_I fun x_1 h_1 hq => ?_)
    obtain ⟨hx, T1⟩ := hq
    have hx : x_1 = nI 0 := hx
    subst hx
    have T := T.trans T1
    refine z_ireturn 23 rfl dX5_frostOf_23 ?_
    first | exact mdApi_of (c := 1) (v := nI 0) (by unfold a_frostOf; rw [if_pos (Or.inl c_6)]) (fun q => by cases q) T rfl e3 e4 e5 e6 | exact mdApi_of (c := 1) (v := nI 0) (by unfold a_frostOf; rw [if_pos (Or.inr c_15)]) (fun q => by cases q) T rfl e3 e4 e5 e6
  · obtain ⟨j, hj, rfl⟩ := nI_of c_6
    have t_j : tn (nI j) = j := tn_nI hj
    refine z_iload2 9 dX5_frostOf_9 ?_
    refine z_iconst 10 (nI 0) dX5_frostOf_10 kI0 ?_
    refine z_iconst 11 (nI 1) dX5_frostOf_11 kI1 ?_
    refine z_S3 (k' := k) 12 sX5_39 dX5_frostOf_12 (m_inI (d - 1) 0) (by omega) (by omega) (Nat.le_of_ble_eq_true rfl) (aft_P ?_)
    refine z_ifneB 15 24 dX5_frostOf_15 (by decide) (fun c_15 => ?_) (fun c_15 => ?_)
    · obtain ⟨u, lo_u, hp_u, rfl⟩ := inI_nat (by omega) (by omega) c_15
      have t_u : tn (nI u) = u := tn_nI (by omega)
      refine z_iload1 24 dX5_frostOf_24 ?_
      refine z_aload0 25 dX5_frostOf_25 ?_
      refine z_get 26 gX5_7 dX5_frostOf_26 T.kd (T.rf 1 rfl) ?_
      refine z_bipush 29 (nI 6) dX5_frostOf_29 kB6 ?_
      refine z_iald (n := 204) 31 (6) dX5_frostOf_31 (T.ak 1 rfl rfl) (T.al 1 rfl rfl) (rfl) ((by omega)) (by decide) (T.at1 (by omega)) ?_
      refine z_icgeN 32 52 dX5_frostOf_32 (by decide) (by omega) (by omega) (fun c_32 => ?_) (fun c_32 => ?_)
      · refine z_iconst 52 (-1) dX5_frostOf_52 kIm1 ?_
        refine z_ireturn 53 rfl dX5_frostOf_53 ?_
        exact mdApi_of (c := 0) (by unfold a_frostOf; rw [if_neg (by rw [c_15]; intro q; rcases q with q | q; exact c_6 q; cases q), t_j, t_u]; unfold foV; first | (rw [if_neg (by show ¬ j < P 6; omega)]; done) | (rw [if_pos (by show j < P 6; omega)]; done)) (fun _ => rfl) T rfl e3 e4 e5 e6
      · refine z_aload0 35 dX5_frostOf_35 ?_
        refine z_get 36 gX5_7 dX5_frostOf_36 T.kd (T.rf 1 rfl) ?_
        refine z_sipush 39 (nI 141) dX5_frostOf_39 kS141 ?_
        refine z_iconst 42 (nI 2) dX5_frostOf_42 kI2 ?_
        refine z_iload1 43 dX5_frostOf_43 ?_
        refine z_imulN 44 dX5_frostOf_44 ?_
        refine z_iaddN 45 dX5_frostOf_45 ?_
        refine z_iload2 46 dX5_frostOf_46 ?_
        refine z_iaddN 47 dX5_frostOf_47 ?_
        refine z_iald (n := 204) 48 (141 + 2 * j + u) dX5_frostOf_48 (T.ak 1 rfl rfl) (T.al 1 rfl rfl) (rfl) ((by omega)) (by decide) (T.at1 (by omega)) ?_
        refine z_goto 49 53 dX5_frostOf_49 (by decide) ?_
        refine z_ireturn 53 rfl dX5_frostOf_53 ?_
        exact mdApi_of (c := 0) (by unfold a_frostOf; rw [if_neg (by rw [c_15]; intro q; rcases q with q | q; exact c_6 q; cases q), t_j, t_u]; unfold foV; first | (rw [if_neg (by show ¬ j < P 6; omega)]; done) | (rw [if_pos (by show j < P 6; omega)]; done)) (fun _ => rfl) T rfl e3 e4 e5 e6
    · refine z_aload0 18 dX5_frostOf_18 ?_
      refine z_iconst 19 (nI 1) dX5_frostOf_19 kI1 ?_
      refine z_V1 (k' := k) 20 vX5_124 dX5_frostOf_20 T.kd (m_fails T.1 (d - 1) 0) (by omega) (by omega) (Nat.le_of_ble_eq_true rfl) (aft_I fun x_2 h_2 hq => ?_)
      obtain ⟨hx, T1⟩ := hq
      have hx : x_2 = nI 0 := hx
      subst hx
      have T := T.trans T1
      refine z_ireturn 23 rfl dX5_frostOf_23 ?_
      first | exact mdApi_of (c := 1) (v := nI 0) (by unfold a_frostOf; rw [if_pos (Or.inl c_6)]) (fun q => by cases q) T rfl e3 e4 e5 e6 | exact mdApi_of (c := 1) (v := nI 0) (by unfold a_frostOf; rw [if_pos (Or.inr c_15)]) (fun q => by cases q) T rfl e3 e4 e5 e6

set_option maxHeartbeats 4000000 in
theorem a_mouting {E : Ev} {h : HP} {m : Nat} {A : Nat → Nat} {S : Sx} {hs : Int64} {c9 : Nat} (T0 : MdL h m A S hs c9) (WS : WFS S) {xj xw : Int32} (d k : Nat) (hd : 2 ≤ d) : Call E yX5_outing d k [.ref m, .int xj, .int xw] h (MdApi h m A hs (a_outing S xj xw)) := by
  obtain ⟨P, SV, n, BF, L⟩ := S
  obtain ⟨X, M, e0, e3, e4, e5, e6⟩ := T0
  have e3 : X 3 = SV := e3
  have e4 : X 4 0 = n := e4
  have e5 : X 5 = BF := e5
  have e6 : X 6 0 = L := e6
  obtain ⟨⟨W, w5, w7⟩, hn6, hL, hB, hsv⟩ := id WS
  have W : WF P := W
  have w5 : P 5 ≤ 999 := w5
  have w7 : P 7 ≤ 16 := w7
  have hn6 : n ≤ 6 := hn6
  have hL : L ≤ 60 := hL
  have hB : ∀ j, j < L → 33 ≤ BF j ∧ BF j ≤ 126 := hB
  have T : MdTo h m A P X hs h := M.to
  refine Call.of [.ref m, .int xj, .int xw] q2413 (by decide) pn_X5 (Nat.le_of_ble_eq_true rfl) rfl ?_
  refine z_aload0 0 dX5_outing_0 ?_
  refine z_iconst 1 (nI 0) dX5_outing_1 kI0 ?_
  refine z_put 2 pX5_35 (fun h => by cases h) dX5_outing_2 T.kd (rfl) (rfl) ?_
  have T := T.putS 0 0 rfl
  refine z_iload1 5 dX5_outing_5 ?_
  refine z_iflt 6 27 dX5_outing_6 (by decide) (fun c_6 => ?_) (fun c_6 => ?_)
  · refine z_aload0 27 dX5_outing_27 ?_
    refine z_iconst 28 (nI 1) dX5_outing_28 kI1 ?_
    refine z_V1 (k' := k) 29 vX5_124 dX5_outing_29 T.kd (m_fails T.1 (d - 1) 0) (by omega) (by omega) (Nat.le_of_ble_eq_true rfl) (aft_I fun x_1 h_1 hq => ?_)
    obtain ⟨hx, T1⟩ := hq
    have hx : x_1 = nI 0 := hx
    subst hx
    have T := T.trans T1
    refine z_ireturn 32 rfl dX5_outing_32 ?_
    first | exact mdApi_of (c := 1) (v := nI 0) (by unfold a_outing; rw [if_pos (Or.inl c_6)]) (fun q => by cases q) T rfl e3 e4 e5 e6 | exact mdApi_of (c := 1) (v := nI 0) (by unfold a_outing; rw [if_pos (Or.inr c_15)]) (fun q => by cases q) T rfl e3 e4 e5 e6
  · refine z_iload2 9 dX5_outing_9 ?_
    refine z_iconst 10 (nI 0) dX5_outing_10 kI0 ?_
    refine z_iconst 11 (nI 2) dX5_outing_11 kI2 ?_
    refine z_S3 (k' := k) 12 sX5_39 dX5_outing_12 (m_inI (d - 1) 0) (by omega) (by omega) (Nat.le_of_ble_eq_true rfl) (aft_P ?_)
    refine z_ifeqB 15 27 dX5_outing_15 (by decide) (fun c_15 => ?_) (fun c_15 => ?_)
    · refine z_aload0 27 dX5_outing_27 ?_
      refine z_iconst 28 (nI 1) dX5_outing_28 kI1 ?_
      refine z_V1 (k' := k) 29 vX5_124 dX5_outing_29 T.kd (m_fails T.1 (d - 1) 0) (by omega) (by omega) (Nat.le_of_ble_eq_true rfl) (aft_I fun x_2 h_2 hq => ?_)
      obtain ⟨hx, T1⟩ := hq
      have hx : x_2 = nI 0 := hx
      subst hx
      have T := T.trans T1
      refine z_ireturn 32 rfl dX5_outing_32 ?_
      first | exact mdApi_of (c := 1) (v := nI 0) (by unfold a_outing; rw [if_pos (Or.inl c_6)]) (fun q => by cases q) T rfl e3 e4 e5 e6 | exact mdApi_of (c := 1) (v := nI 0) (by unfold a_outing; rw [if_pos (Or.inr c_15)]) (fun q => by cases q) T rfl e3 e4 e5 e6
    · obtain ⟨u, lo_u, hp_u, rfl⟩ := inI_nat (by omega) (by omega) c_15
      have t_u : tn (nI u) = u := tn_nI (by omega)
      refine z_aload0 18 dX5_outing_18 ?_
      refine z_iload1 19 dX5_outing_19 ?_
      refine z_iload2 20 dX5_outing_20 ?_
      refine z_V2 (k' := k) 21 vX5_189 dX5_outing_21 T.kd (m_tellsOuting T.1 (by omega) W (d - 1) 0 (by omega)) (by omega) (by omega) (Nat.le_of_ble_eq_true rfl) (aft_P (x := toV P xj u) ?_)
      refine z_goto 24 32 dX5_outing_24 (by decide) ?_
      refine z_ireturn 32 rfl dX5_outing_32 ?_
      exact mdApi_of (c := 0) (by unfold a_outing; rw [if_neg (by rw [c_15]; intro q; rcases q with q | q; exact c_6 q; cases q), t_u]) (fun _ => rfl) T rfl e3 e4 e5 e6

set_option maxHeartbeats 4000000 in
theorem a_mcount {E : Ev} {h : HP} {m : Nat} {A : Nat → Nat} {S : Sx} {hs : Int64} {c9 : Nat} (T0 : MdL h m A S hs c9) (WS : WFS S) {xw : Int32} (d k : Nat) (hd : 5 ≤ d) : Call E yX5_count d k [.ref m, .int xw] h (MdApi h m A hs (a_count S xw)) := by
  obtain ⟨P, SV, n, BF, L⟩ := S
  obtain ⟨X, M, e0, e3, e4, e5, e6⟩ := T0
  have e3 : X 3 = SV := e3
  have e4 : X 4 0 = n := e4
  have e5 : X 5 = BF := e5
  have e6 : X 6 0 = L := e6
  obtain ⟨⟨W, w5, w7⟩, hn6, hL, hB, hsv⟩ := id WS
  have W : WF P := W
  have w5 : P 5 ≤ 999 := w5
  have w7 : P 7 ≤ 16 := w7
  have hn6 : n ≤ 6 := hn6
  have hL : L ≤ 60 := hL
  have hB : ∀ j, j < L → 33 ≤ BF j ∧ BF j ≤ 126 := hB
  have T : MdTo h m A P X hs h := M.to
  refine Call.of [.ref m, .int xw] q2421 (by decide) pn_X5 (Nat.le_of_ble_eq_true rfl) rfl ?_
  refine z_aload0 0 dX5_count_0 ?_
  refine z_iconst 1 (nI 0) dX5_count_1 kI0 ?_
  refine z_put 2 pX5_35 (fun h => by cases h) dX5_count_2 T.kd (rfl) (rfl) ?_
  have T := T.putS 0 0 rfl
  refine z_iload1 5 dX5_count_5 ?_
  refine z_iconst 6 (nI 0) dX5_count_6 kI0 ?_
  refine z_bipush 7 (nI 11) dX5_count_7 kB11 ?_
  refine z_S3 (k' := k) 9 sX5_39 dX5_count_9 (m_inI (d - 1) 0) (by omega) (by omega) (Nat.le_of_ble_eq_true rfl) (aft_P ?_)
  refine z_ifeqB 12 23 dX5_count_12 (by decide) (fun c_12 => ?_) (fun c_12 => ?_)
  · refine z_aload0 23 dX5_count_23 ?_
    refine z_iconst 24 (nI 1) dX5_count_24 kI1 ?_
    refine z_V1 (k' := k) 25 vX5_124 dX5_count_25 T.kd (m_fails T.1 (d - 1) 0) (by omega) (by omega) (Nat.le_of_ble_eq_true rfl) (aft_I fun x_1 h_1 hq => ?_)
    obtain ⟨hx, T1⟩ := hq
    have hx : x_1 = nI 0 := hx
    subst hx
    have T := T.trans T1
    refine z_ireturn 28 rfl dX5_count_28 ?_
    exact mdApi_of (c := 1) (v := nI 0) (by unfold a_count; rw [if_pos c_12]) (fun q => by cases q) T rfl e3 e4 e5 e6
  · obtain ⟨u, lo_u, hp_u, rfl⟩ := inI_nat (by omega) (by omega) c_12
    have t_u : tn (nI u) = u := tn_nI (by omega)
    refine z_aload0 15 dX5_count_15 ?_
    refine z_iload1 16 dX5_count_16 ?_
    refine z_V1 (k' := k) 17 vX5_198 dX5_count_17 T.kd (m_counts (n := n) T.1 (by omega) W e4 (d - 1) 0 (by omega)) (by omega) (by omega) (Nat.le_of_ble_eq_true rfl) (aft_P (x := nI (ctV P n u)) ?_)
    refine z_goto 20 28 dX5_count_20 (by decide) ?_
    refine z_ireturn 28 rfl dX5_count_28 ?_
    exact mdApi_of (c := 0) (by unfold a_count; rw [if_neg (by rw [c_12]; decide), t_u]) (fun _ => rfl) T rfl e3 e4 e5 e6

set_option maxHeartbeats 4000000 in
theorem a_msetting {E : Ev} {h : HP} {m : Nat} {A : Nat → Nat} {S : Sx} {hs : Int64} {c9 : Nat} (T0 : MdL h m A S hs c9) (WS : WFS S) {xi : Int32} (d k : Nat) (hd : 1 ≤ d) : Call E yX5_setting d k [.ref m, .int xi] h (MdApi h m A hs (a_setting S xi)) := by
  obtain ⟨P, SV, n, BF, L⟩ := S
  obtain ⟨X, M, e0, e3, e4, e5, e6⟩ := T0
  have e3 : X 3 = SV := e3
  have e4 : X 4 0 = n := e4
  have e5 : X 5 = BF := e5
  have e6 : X 6 0 = L := e6
  obtain ⟨⟨W, w5, w7⟩, hn6, hL, hB, hsv⟩ := id WS
  have W : WF P := W
  have w5 : P 5 ≤ 999 := w5
  have w7 : P 7 ≤ 16 := w7
  have hn6 : n ≤ 6 := hn6
  have hL : L ≤ 60 := hL
  have hB : ∀ j, j < L → 33 ≤ BF j ∧ BF j ≤ 126 := hB
  have T : MdTo h m A P X hs h := M.to
  refine Call.of [.ref m, .int xi] q2437 (by decide) pn_X5 (Nat.le_of_ble_eq_true rfl) rfl ?_
  refine z_aload0 0 dX5_setting_0 ?_
  refine z_iconst 1 (nI 0) dX5_setting_1 kI0 ?_
  refine z_put 2 pX5_35 (fun h => by cases h) dX5_setting_2 T.kd (rfl) (rfl) ?_
  have T := T.putS 0 0 rfl
  refine z_iload1 5 dX5_setting_5 ?_
  refine z_iconst 6 (nI 0) dX5_setting_6 kI0 ?_
  refine z_iconst 7 (nI 4) dX5_setting_7 kI4 ?_
  refine z_S3 (k' := k) 8 sX5_39 dX5_setting_8 (m_inI (d - 1) 0) (by omega) (by omega) (Nat.le_of_ble_eq_true rfl) (aft_P ?_)
  refine z_ifeqB 11 23 dX5_setting_11 (by decide) (fun c_11 => ?_) (fun c_11 => ?_)
  · refine z_aload0 23 dX5_setting_23 ?_
    refine z_iconst 24 (nI 1) dX5_setting_24 kI1 ?_
    refine z_V1 (k' := k) 25 vX5_124 dX5_setting_25 T.kd (m_fails T.1 (d - 1) 0) (by omega) (by omega) (Nat.le_of_ble_eq_true rfl) (aft_I fun x_1 h_1 hq => ?_)
    obtain ⟨hx, T1⟩ := hq
    have hx : x_1 = nI 0 := hx
    subst hx
    have T := T.trans T1
    refine z_ireturn 28 rfl dX5_setting_28 ?_
    exact mdApi_of (c := 1) (v := nI 0) (by unfold a_setting; rw [if_pos c_11]) (fun q => by cases q) T rfl e3 e4 e5 e6
  · obtain ⟨i, lo_i, hp_i, rfl⟩ := inI_nat (by omega) (by omega) c_11
    have t_i : tn (nI i) = i := tn_nI (by omega)
    refine z_aload0 14 dX5_setting_14 ?_
    refine z_get 15 gX5_7 dX5_setting_15 T.kd (T.rf 1 rfl) ?_
    refine z_iload1 18 dX5_setting_18 ?_
    refine z_iald (n := 204) 19 (i) dX5_setting_19 (T.ak 1 rfl rfl) (T.al 1 rfl rfl) (rfl) ((by omega)) (by decide) (T.at1 (by omega)) ?_
    refine z_goto 20 28 dX5_setting_20 (by decide) ?_
    refine z_ireturn 28 rfl dX5_setting_28 ?_
    exact mdApi_of (c := 0) (by unfold a_setting; rw [if_neg (by rw [c_11]; decide), t_i]) (fun _ => rfl) T rfl e3 e4 e5 e6

set_option maxHeartbeats 4000000 in
theorem a_mifPassed {E : Ev} {h : HP} {m : Nat} {A : Nat → Nat} {S : Sx} {hs : Int64} {c9 : Nat} (T0 : MdL h m A S hs c9) (WS : WFS S) {xn xw : Int32} (d k : Nat) (hd : 7 ≤ d) : Call E yX5_ifPassed d k [.ref m, .int xn, .int xw] h (MdApi h m A hs (a_ifPassed S xn xw)) := by
  obtain ⟨P, SV, n, BF, L⟩ := S
  obtain ⟨X, M, e0, e3, e4, e5, e6⟩ := T0
  have e3 : X 3 = SV := e3
  have e4 : X 4 0 = n := e4
  have e5 : X 5 = BF := e5
  have e6 : X 6 0 = L := e6
  obtain ⟨⟨W, w5, w7⟩, hn6, hL, hB, hsv⟩ := id WS
  have W : WF P := W
  have w5 : P 5 ≤ 999 := w5
  have w7 : P 7 ≤ 16 := w7
  have hn6 : n ≤ 6 := hn6
  have hL : L ≤ 60 := hL
  have hB : ∀ j, j < L → 33 ≤ BF j ∧ BF j ≤ 126 := hB
  have T : MdTo h m A P X hs h := M.to
  refine Call.of [.ref m, .int xn, .int xw] q2441 (by decide) pn_X5 (Nat.le_of_ble_eq_true rfl) rfl ?_
  refine z_aload0 0 dX5_ifPassed_0 ?_
  refine z_iconst 1 (nI 0) dX5_ifPassed_1 kI0 ?_
  refine z_put 2 pX5_35 (fun h => by cases h) dX5_ifPassed_2 T.kd (rfl) (rfl) ?_
  have T := T.putS 0 0 rfl
  refine z_iload1 5 dX5_ifPassed_5 ?_
  refine z_iconst 6 (nI 1) dX5_ifPassed_6 kI1 ?_
  refine z_bipush 7 (nI 60) dX5_ifPassed_7 kB60 ?_
  refine z_S3 (k' := k) 9 sX5_39 dX5_ifPassed_9 (m_inI (d - 1) 0) (by omega) (by omega) (Nat.le_of_ble_eq_true rfl) (aft_P ?_)
  refine z_ifeqB 12 33 dX5_ifPassed_12 (by decide) (fun c_12 => ?_) (fun c_12 => ?_)
  · refine z_aload0 33 dX5_ifPassed_33 ?_
    refine z_iconst 34 (nI 1) dX5_ifPassed_34 kI1 ?_
    refine z_V1 (k' := k) 35 vX5_124 dX5_ifPassed_35 T.kd (m_fails T.1 (d - 1) 0) (by omega) (by omega) (Nat.le_of_ble_eq_true rfl) (aft_I fun x_1 h_1 hq => ?_)
    obtain ⟨hx, T1⟩ := hq
    have hx : x_1 = nI 0 := hx
    subst hx
    have T := T.trans T1
    refine z_ireturn 38 rfl dX5_ifPassed_38 ?_
    first | exact mdApi_of (c := 1) (v := nI 0) (by unfold a_ifPassed; rw [if_pos (by rw [c_12]; rfl)]) (fun q => by cases q) T rfl e3 e4 e5 e6 | exact mdApi_of (c := 1) (v := nI 0) (by unfold a_ifPassed; rw [if_pos (by rw [c_21, Bool.and_false])]) (fun q => by cases q) T rfl e3 e4 e5 e6
  · obtain ⟨q, lo_q, hp_q, rfl⟩ := inI_nat (by omega) (by omega) c_12
    have t_q : tn (nI q) = q := tn_nI (by omega)
    refine z_iload2 15 dX5_ifPassed_15 ?_
    refine z_iconst 16 (nI 0) dX5_ifPassed_16 kI0 ?_
    refine z_iconst 17 (nI 3) dX5_ifPassed_17 kI3 ?_
    refine z_S3 (k' := k) 18 sX5_39 dX5_ifPassed_18 (m_inI (d - 1) 0) (by omega) (by omega) (Nat.le_of_ble_eq_true rfl) (aft_P ?_)
    refine z_ifeqB 21 33 dX5_ifPassed_21 (by decide) (fun c_21 => ?_) (fun c_21 => ?_)
    · refine z_aload0 33 dX5_ifPassed_33 ?_
      refine z_iconst 34 (nI 1) dX5_ifPassed_34 kI1 ?_
      refine z_V1 (k' := k) 35 vX5_124 dX5_ifPassed_35 T.kd (m_fails T.1 (d - 1) 0) (by omega) (by omega) (Nat.le_of_ble_eq_true rfl) (aft_I fun x_2 h_2 hq => ?_)
      obtain ⟨hx, T1⟩ := hq
      have hx : x_2 = nI 0 := hx
      subst hx
      have T := T.trans T1
      refine z_ireturn 38 rfl dX5_ifPassed_38 ?_
      first | exact mdApi_of (c := 1) (v := nI 0) (by unfold a_ifPassed; rw [if_pos (by rw [c_12]; rfl)]) (fun q => by cases q) T rfl e3 e4 e5 e6 | exact mdApi_of (c := 1) (v := nI 0) (by unfold a_ifPassed; rw [if_pos (by rw [c_21, Bool.and_false])]) (fun q => by cases q) T rfl e3 e4 e5 e6
    · obtain ⟨u, lo_u, hp_u, rfl⟩ := inI_nat (by omega) (by omega) c_21
      have t_u : tn (nI u) = u := tn_nI (by omega)
      refine z_aload0 24 dX5_ifPassed_24 ?_
      refine z_iload1 25 dX5_ifPassed_25 ?_
      refine z_iload2 26 dX5_ifPassed_26 ?_
      refine z_V2 (k' := k) 27 vX5_207 dX5_ifPassed_27 T.kd (m_passed (n := q) (u := u) T.1 (by omega) (W) (by omega) (d - 1) 0 (by omega)) (by omega) (by omega) (Nat.le_of_ble_eq_true rfl) (aft_I fun x_3 h_3 hq => ?_)
      obtain ⟨hx, X3, S3, T1⟩ := hq
      subst hx
      have T : MdTo h m A P X3 hs h_3 := T.trans T1
      refine z_goto 30 38 dX5_ifPassed_30 (by decide) ?_
      refine z_ireturn 38 rfl dX5_ifPassed_38 ?_
      exact mdApi_look (by unfold a_ifPassed; rw [if_neg (by rw [c_12, c_21]; decide), t_q, t_u]) rfl S3 T rfl e3 e4 e5 e6

set_option maxHeartbeats 4000000 in
theorem a_mifOuting {E : Ev} {h : HP} {m : Nat} {A : Nat → Nat} {S : Sx} {hs : Int64} {c9 : Nat} (T0 : MdL h m A S hs c9) (WS : WFS S) {xc xg : Int32} (d k : Nat) (hd : 7 ≤ d) : Call E yX5_ifOuting d k [.ref m, .int xc, .int xg] h (MdApi h m A hs (a_ifOuting S xc xg)) := by
  obtain ⟨P, SV, n, BF, L⟩ := S
  obtain ⟨X, M, e0, e3, e4, e5, e6⟩ := T0
  have e3 : X 3 = SV := e3
  have e4 : X 4 0 = n := e4
  have e5 : X 5 = BF := e5
  have e6 : X 6 0 = L := e6
  obtain ⟨⟨W, w5, w7⟩, hn6, hL, hB, hsv⟩ := id WS
  have W : WF P := W
  have w5 : P 5 ≤ 999 := w5
  have w7 : P 7 ≤ 16 := w7
  have hn6 : n ≤ 6 := hn6
  have hL : L ≤ 60 := hL
  have hB : ∀ j, j < L → 33 ≤ BF j ∧ BF j ≤ 126 := hB
  have T : MdTo h m A P X hs h := M.to
  refine Call.of [.ref m, .int xc, .int xg] q2457 (by decide) pn_X5 (Nat.le_of_ble_eq_true rfl) rfl ?_
  refine z_aload0 0 dX5_ifOuting_0 ?_
  refine z_iconst 1 (nI 0) dX5_ifOuting_1 kI0 ?_
  refine z_put 2 pX5_35 (fun h => by cases h) dX5_ifOuting_2 T.kd (rfl) (rfl) ?_
  have T := T.putS 0 0 rfl
  refine z_iload1 5 dX5_ifOuting_5 ?_
  refine z_iconst 6 (nI 1) dX5_ifOuting_6 kI1 ?_
  refine z_bipush 7 (nI 99) dX5_ifOuting_7 kB99 ?_
  refine z_S3 (k' := k) 9 sX5_39 dX5_ifOuting_9 (m_inI (d - 1) 0) (by omega) (by omega) (Nat.le_of_ble_eq_true rfl) (aft_P ?_)
  refine z_ifeqB 12 31 dX5_ifOuting_12 (by decide) (fun c_12 => ?_) (fun c_12 => ?_)
  · refine z_aload0 31 dX5_ifOuting_31 ?_
    refine z_iconst 32 (nI 1) dX5_ifOuting_32 kI1 ?_
    refine z_V1 (k' := k) 33 vX5_124 dX5_ifOuting_33 T.kd (m_fails T.1 (d - 1) 0) (by omega) (by omega) (Nat.le_of_ble_eq_true rfl) (aft_I fun x_1 h_1 hq => ?_)
    obtain ⟨hx, T1⟩ := hq
    have hx : x_1 = nI 0 := hx
    subst hx
    have T := T.trans T1
    refine z_ireturn 36 rfl dX5_ifOuting_36 ?_
    first | exact mdApi_of (c := 1) (v := nI 0) (by unfold a_ifOuting; rw [if_pos (by rw [c_12]; rfl)]) (fun q => by cases q) T rfl e3 e4 e5 e6 | exact mdApi_of (c := 1) (v := nI 0) (by unfold a_ifOuting; rw [if_pos (by rw [c_19, Bool.and_false])]) (fun q => by cases q) T rfl e3 e4 e5 e6
  · obtain ⟨c, lo_c, hp_c, rfl⟩ := inI_nat (by omega) (by omega) c_12
    have t_c : tn (nI c) = c := tn_nI (by omega)
    refine z_iload2 15 dX5_ifOuting_15 ?_
    refine z_S1 (k' := k) 16 sX5_121 dX5_ifOuting_16 (m_isPlace (d - 1) 0 (by omega)) (by omega) (by omega) (Nat.le_of_ble_eq_true rfl) (aft_P ?_)
    refine z_ifeqB 19 31 dX5_ifOuting_19 (by decide) (fun c_19 => ?_) (fun c_19 => ?_)
    · refine z_aload0 31 dX5_ifOuting_31 ?_
      refine z_iconst 32 (nI 1) dX5_ifOuting_32 kI1 ?_
      refine z_V1 (k' := k) 33 vX5_124 dX5_ifOuting_33 T.kd (m_fails T.1 (d - 1) 0) (by omega) (by omega) (Nat.le_of_ble_eq_true rfl) (aft_I fun x_2 h_2 hq => ?_)
      obtain ⟨hx, T1⟩ := hq
      have hx : x_2 = nI 0 := hx
      subst hx
      have T := T.trans T1
      refine z_ireturn 36 rfl dX5_ifOuting_36 ?_
      first | exact mdApi_of (c := 1) (v := nI 0) (by unfold a_ifOuting; rw [if_pos (by rw [c_12]; rfl)]) (fun q => by cases q) T rfl e3 e4 e5 e6 | exact mdApi_of (c := 1) (v := nI 0) (by unfold a_ifOuting; rw [if_pos (by rw [c_19, Bool.and_false])]) (fun q => by cases q) T rfl e3 e4 e5 e6
    · obtain ⟨g, lo_g, hp_g, rfl⟩ := inI_nat (by omega) (by omega) c_19
      have t_g : tn (nI g) = g := tn_nI (by omega)
      refine z_aload0 22 dX5_ifOuting_22 ?_
      refine z_iload1 23 dX5_ifOuting_23 ?_
      refine z_iload2 24 dX5_ifOuting_24 ?_
      refine z_V2 (k' := k) 25 vX5_210 dX5_ifOuting_25 T.kd (m_moreThirst T.1 (by omega) (by omega) (W) (w7) (by omega) (d - 1) 0 (by omega)) (by omega) (by omega) (Nat.le_of_ble_eq_true rfl) (aft_I fun x_3 h_3 hq => ?_)
      obtain ⟨hx, X3, S3, T1⟩ := hq
      subst hx
      have T : MdTo h m A P X3 hs h_3 := T.trans T1
      refine z_goto 28 36 dX5_ifOuting_28 (by decide) ?_
      refine z_ireturn 36 rfl dX5_ifOuting_36 ?_
      exact mdApi_look (by unfold a_ifOuting; rw [if_neg (by rw [c_12, c_19]; decide), t_c, t_g]) rfl S3 T rfl e3 e4 e5 e6

set_option maxHeartbeats 4000000 in
theorem a_mbestGate {E : Ev} {h : HP} {m : Nat} {A : Nat → Nat} {S : Sx} {hs : Int64} {c9 : Nat} (T0 : MdL h m A S hs c9) (WS : WFS S) {xc : Int32} (d k : Nat) (hd : 8 ≤ d) : Call E yX5_bestGate d k [.ref m, .int xc] h (MdApi h m A hs (a_bestGate S xc)) := by
  obtain ⟨P, SV, n, BF, L⟩ := S
  obtain ⟨X, M, e0, e3, e4, e5, e6⟩ := T0
  have e3 : X 3 = SV := e3
  have e4 : X 4 0 = n := e4
  have e5 : X 5 = BF := e5
  have e6 : X 6 0 = L := e6
  obtain ⟨⟨W, w5, w7⟩, hn6, hL, hB, hsv⟩ := id WS
  have W : WF P := W
  have w5 : P 5 ≤ 999 := w5
  have w7 : P 7 ≤ 16 := w7
  have hn6 : n ≤ 6 := hn6
  have hL : L ≤ 60 := hL
  have hB : ∀ j, j < L → 33 ≤ BF j ∧ BF j ≤ 126 := hB
  have T : MdTo h m A P X hs h := M.to
  refine Call.of [.ref m, .int xc] q2465 (by decide) pn_X5 (Nat.le_of_ble_eq_true rfl) rfl ?_
  refine z_aload0 0 dX5_bestGate_0 ?_
  refine z_iconst 1 (nI 0) dX5_bestGate_1 kI0 ?_
  refine z_put 2 pX5_35 (fun h => by cases h) dX5_bestGate_2 T.kd (rfl) (rfl) ?_
  have T := T.putS 0 0 rfl
  refine z_iload1 5 dX5_bestGate_5 ?_
  refine z_iconst 6 (nI 1) dX5_bestGate_6 kI1 ?_
  refine z_bipush 7 (nI 99) dX5_bestGate_7 kB99 ?_
  refine z_S3 (k' := k) 9 sX5_39 dX5_bestGate_9 (m_inI (d - 1) 0) (by omega) (by omega) (Nat.le_of_ble_eq_true rfl) (aft_P ?_)
  refine z_ifeqB 12 23 dX5_bestGate_12 (by decide) (fun c_12 => ?_) (fun c_12 => ?_)
  · refine z_aload0 23 dX5_bestGate_23 ?_
    refine z_iconst 24 (nI 1) dX5_bestGate_24 kI1 ?_
    refine z_V1 (k' := k) 25 vX5_124 dX5_bestGate_25 T.kd (m_fails T.1 (d - 1) 0) (by omega) (by omega) (Nat.le_of_ble_eq_true rfl) (aft_I fun x_1 h_1 hq => ?_)
    obtain ⟨hx, T1⟩ := hq
    have hx : x_1 = nI 0 := hx
    subst hx
    have T := T.trans T1
    refine z_ireturn 28 rfl dX5_bestGate_28 ?_
    exact mdApi_of (c := 1) (v := nI 0) (by unfold a_bestGate; rw [if_pos c_12]) (fun q => by cases q) T rfl e3 e4 e5 e6
  · obtain ⟨c, lo_c, hp_c, rfl⟩ := inI_nat (by omega) (by omega) c_12
    have t_c : tn (nI c) = c := tn_nI (by omega)
    refine z_aload0 15 dX5_bestGate_15 ?_
    refine z_iload1 16 dX5_bestGate_16 ?_
    refine z_V1 (k' := k) 17 vX5_213 dX5_bestGate_17 T.kd (m_gateFor T.1 (by omega) W w7 (by omega) (d - 1) 0 (by omega)) (by omega) (by omega) (Nat.le_of_ble_eq_true rfl) (aft_I fun x_1 h_1 hq => ?_)
    obtain ⟨hx, X1, S1, T1⟩ := hq
    have T := T.trans T1
    refine z_goto 20 28 dX5_bestGate_20 (by decide) ?_
    refine z_ireturn 28 rfl dX5_bestGate_28 ?_
    exact mdApi_look (by unfold a_bestGate; rw [if_neg (by rw [c_12]; decide), t_c]) hx S1 T rfl e3 e4 e5 e6

set_option maxHeartbeats 4000000 in
theorem a_mdays {E : Ev} {h : HP} {m : Nat} {A : Nat → Nat} {S : Sx} {hs : Int64} {c9 : Nat} (T0 : MdL h m A S hs c9) (WS : WFS S) {x : Int32} (d k : Nat) (hd : 6 ≤ d) : Call E yX5_daysToFilter d k [.ref m, .int x] h (MdApi h m A hs (a_days S x)) := by
  obtain ⟨P, SV, n, BF, L⟩ := S
  obtain ⟨X, M, e0, e3, e4, e5, e6⟩ := T0
  have e3 : X 3 = SV := e3
  have e4 : X 4 0 = n := e4
  have e5 : X 5 = BF := e5
  have e6 : X 6 0 = L := e6
  obtain ⟨⟨W, w5, w7⟩, hn6, hL, hB, hsv⟩ := id WS
  have W : WF P := W
  have w5 : P 5 ≤ 999 := w5
  have w7 : P 7 ≤ 16 := w7
  have hn6 : n ≤ 6 := hn6
  have hL : L ≤ 60 := hL
  have hB : ∀ j, j < L → 33 ≤ BF j ∧ BF j ≤ 126 := hB
  have T : MdTo h m A P X hs h := M.to
  refine Call.of [.ref m, .int x] q2473 (by decide) pn_X5 (Nat.le_of_ble_eq_true rfl) rfl ?_
  refine z_aload0 0 dX5_daysToFilter_0 ?_
  refine z_iconst 1 (nI 0) dX5_daysToFilter_1 kI0 ?_
  refine z_put 2 pX5_35 (fun h => by cases h) dX5_daysToFilter_2 T.kd (rfl) (rfl) ?_
  have T := T.putS 0 0 rfl
  refine z_iload1 5 dX5_daysToFilter_5 ?_
  refine z_S1 (k' := k) 6 sX5_121 dX5_daysToFilter_6 (m_isPlace (d - 1) 0 (by omega)) (by omega) (by omega) (Nat.le_of_ble_eq_true rfl) (aft_P ?_)
  refine z_ifeqB 9 20 dX5_daysToFilter_9 (by decide) (fun c_9 => ?_) (fun c_9 => ?_)
  · refine z_aload0 20 dX5_daysToFilter_20 ?_
    refine z_iconst 21 (nI 1) dX5_daysToFilter_21 kI1 ?_
    refine z_V1 (k' := k) 22 vX5_124 dX5_daysToFilter_22 T.kd (m_fails T.1 (d - 1) 0) (by omega) (by omega) (Nat.le_of_ble_eq_true rfl) (aft_I fun x_1 h_1 hq => ?_)
    obtain ⟨hx, T1⟩ := hq
    have hx : x_1 = nI 0 := hx
    subst hx
    have T := T.trans T1
    refine z_ireturn 25 rfl dX5_daysToFilter_25 ?_
    exact mdApi_of (c := 1) (v := nI 0) (by unfold a_days; rw [if_pos c_9]) (fun q => by cases q) T rfl e3 e4 e5 e6
  · obtain ⟨pl, -, hp_pl, rfl⟩ := inI_nat (by decide) (by decide) c_9
    have t_pl : tn (nI pl) = pl := tn_nI (by omega)
    refine z_aload0 12 dX5_daysToFilter_12 ?_
    refine z_iload1 13 dX5_daysToFilter_13 ?_
    refine z_V1 (k' := k) 14 vX5_219 dX5_daysToFilter_14 T.kd (m_untilUsed T.1 (by omega) W (by omega) (d - 1) 0 (by omega)) (by omega) (by omega) (Nat.le_of_ble_eq_true rfl) (aft_I fun x_1 h_1 hq => ?_)
    obtain ⟨hx, X1, S1, T1⟩ := hq
    have T := T.trans T1
    refine z_goto 17 25 dX5_daysToFilter_17 (by decide) ?_
    refine z_ireturn 25 rfl dX5_daysToFilter_25 ?_
    exact mdApi_look (by unfold a_days; rw [if_neg (by rw [c_9]; decide), t_pl]) hx S1 T rfl e3 e4 e5 e6

set_option maxHeartbeats 4000000 in
theorem a_mbestOrder {E : Ev} {h : HP} {m : Nat} {A : Nat → Nat} {S : Sx} {hs : Int64} {c9 : Nat} (T0 : MdL h m A S hs c9) (WS : WFS S) {xn : Int32} (d k : Nat) (hd : 8 ≤ d) : Call E yX5_bestOrder d k [.ref m, .int xn] h (MdApi h m A hs (a_bestOrder S xn)) := by
  obtain ⟨P, SV, n, BF, L⟩ := S
  obtain ⟨X, M, e0, e3, e4, e5, e6⟩ := T0
  have e3 : X 3 = SV := e3
  have e4 : X 4 0 = n := e4
  have e5 : X 5 = BF := e5
  have e6 : X 6 0 = L := e6
  obtain ⟨⟨W, w5, w7⟩, hn6, hL, hB, hsv⟩ := id WS
  have W : WF P := W
  have w5 : P 5 ≤ 999 := w5
  have w7 : P 7 ≤ 16 := w7
  have hn6 : n ≤ 6 := hn6
  have hL : L ≤ 60 := hL
  have hB : ∀ j, j < L → 33 ≤ BF j ∧ BF j ≤ 126 := hB
  have T : MdTo h m A P X hs h := M.to
  refine Call.of [.ref m, .int xn] q2485 (by decide) pn_X5 (Nat.le_of_ble_eq_true rfl) rfl ?_
  refine z_aload0 0 dX5_bestOrder_0 ?_
  refine z_iconst 1 (nI 0) dX5_bestOrder_1 kI0 ?_
  refine z_put 2 pX5_35 (fun h => by cases h) dX5_bestOrder_2 T.kd (rfl) (rfl) ?_
  have T := T.putS 0 0 rfl
  refine z_iload1 5 dX5_bestOrder_5 ?_
  refine z_iconst 6 (nI 1) dX5_bestOrder_6 kI1 ?_
  refine z_bipush 7 (nI 30) dX5_bestOrder_7 kB30 ?_
  refine z_S3 (k' := k) 9 sX5_39 dX5_bestOrder_9 (m_inI (d - 1) 0) (by omega) (by omega) (Nat.le_of_ble_eq_true rfl) (aft_P ?_)
  refine z_ifeqB 12 23 dX5_bestOrder_12 (by decide) (fun c_12 => ?_) (fun c_12 => ?_)
  · refine z_aload0 23 dX5_bestOrder_23 ?_
    refine z_iconst 24 (nI 1) dX5_bestOrder_24 kI1 ?_
    refine z_V1 (k' := k) 25 vX5_124 dX5_bestOrder_25 T.kd (m_fails T.1 (d - 1) 0) (by omega) (by omega) (Nat.le_of_ble_eq_true rfl) (aft_I fun x_1 h_1 hq => ?_)
    obtain ⟨hx, T1⟩ := hq
    have hx : x_1 = nI 0 := hx
    subst hx
    have T := T.trans T1
    refine z_ireturn 28 rfl dX5_bestOrder_28 ?_
    exact mdApi_of (c := 1) (v := nI 0) (by unfold a_bestOrder; rw [if_pos c_12]) (fun q => by cases q) T rfl e3 e4 e5 e6
  · obtain ⟨q, lo_q, hp_q, rfl⟩ := inI_nat (by omega) (by omega) c_12
    have t_q : tn (nI q) = q := tn_nI (by omega)
    refine z_aload0 15 dX5_bestOrder_15 ?_
    refine z_iload1 16 dX5_bestOrder_16 ?_
    refine z_V1 (k' := k) 17 vX5_222 dX5_bestOrder_17 T.kd (m_orderFor (n := q) T.1 W (by omega) (d - 1) 0 (by omega)) (by omega) (by omega) (Nat.le_of_ble_eq_true rfl) (aft_I fun x_1 h_1 hq => ?_)
    obtain ⟨hx, X1, S1, T1⟩ := hq
    have T := T.trans T1
    refine z_goto 20 28 dX5_bestOrder_20 (by decide) ?_
    refine z_ireturn 28 rfl dX5_bestOrder_28 ?_
    exact mdApi_look (by unfold a_bestOrder; rw [if_neg (by rw [c_12]; decide), t_q]) hx S1 T rfl e3 e4 e5 e6

