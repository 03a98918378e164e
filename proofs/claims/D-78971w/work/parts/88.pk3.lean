/-! PARK: freeze -/
def fzL (fz : Bool) (i : Nat) (Q : Nat → Nat) : Nat → Nat := if fz = true then fzS i Q else Q
theorem fzL_P (fz : Bool) (P : Nat → Nat) : itN 8 (fzL fz) P = if fz = true then fzP P else P := by
  cases fz
  · rfl
  · rfl
theorem WF.fzLt {P : Nat → Nat} (W : WF P) (fz : Bool) {pl : Nat} (hp : pl < 8) : WF (fzL fz pl P) := by
  unfold fzL
  split
  · exact W.fzSt hp
  · exact W
set_option maxHeartbeats 4000000 in
theorem c_pkFreeze {E : Ev} {h : HP} {L tg P td : Nat → Nat} {pn : Nat} {fz : Bool} (T0 : Pk h L tg P td pn fz) (W : WF P)  (d k : Nat) (hd : 2 ≤ d) : Call E yX2_freeze d k [.ref (L 0)] h (rV (PkTo h L tg tg (itN 8 (fzL fz) P) td pn fz)) := by
  have T := T0.to
  refine Call.of [.ref (L 0), dum, dum, dum, dum] q1505 (by decide) pn_X2 (Nat.le_of_ble_eq_true rfl) rfl ?_
  refine z_aload0 0 dX2_freeze_0 ?_
  refine z_get 1 gX2_11 dX2_freeze_1 T0.v.k0 (T0.v.2.1.2.1.1) ?_
  refine z_astore1 4 dX2_freeze_4 rfl ?_
  refine z_aload1 5 dX2_freeze_5 ?_
  refine z_len (i := 5) 6 dX2_freeze_6 (by decide) T0.v.k1 T0.v.l1 ?_
  refine z_istore2 7 dX2_freeze_7 rfl ?_
  refine z_iconst 8 (nI 0) dX2_freeze_8 kI0 ?_
  refine z_istore3 9 dX2_freeze_9 rfl ?_
  refine lpB 10 (8) (fzL fz) (P) ((itN 8 (fzL fz) P)) (rfl) (fun i a => [.ref (L 0), .ref (L 1), .int (nI 8), .int (nI i), dum]) (fun i a h9 => PkTo h L tg tg a td pn fz h9) (fun _ Q => WF Q) (fun _ => k) (T) (W) (fun _ _ hi WQ => WQ.fzLt fz hi) (fun h_1 T hJ => ?_) (fun i a h_1 hi_i hJ T ih_i => ?_)
  · have T : PkTo h L tg tg (itN 8 (fzL fz) P) td pn fz h_1 := T
    refine z_iload3 10 dX2_freeze_10 ?_
    refine z_iload2 11 dX2_freeze_11 ?_
    refine z_icgeN 12 74 dX2_freeze_12 (by decide) (by omega) (by omega) (fun c_12 => ?_) (fun c_12 => absurd c_12 (by omega))
    refine z_return 74 rfl dX2_freeze_74 ?_
    exact ⟨rfl, T⟩
  · have T : PkTo h L tg tg a td pn fz h_1 := T
    have b := hJ.pl hi_i
    refine z_iload3 10 dX2_freeze_10 ?_
    refine z_iload2 11 dX2_freeze_11 ?_
    refine z_icgeN 12 74 dX2_freeze_12 (by decide) (by omega) (by omega) (fun c_12 => absurd c_12 (by omega)) (fun c_12 => ?_)
    refine z_aload1 15 dX2_freeze_15 ?_
    refine z_iload3 16 dX2_freeze_16 ?_
    refine z_aald (i := 5) (n := 8) 17 (i) dX2_freeze_17 (by decide) (by decide) T.V.k1 T.V.l1 (rfl) (hi_i) (by decide) (T.V.a1 hi_i) ?_
    refine z_astore4 18 dX2_freeze_18 rfl ?_
    refine z_aload0 20 dX2_freeze_20 ?_
    refine z_get 21 gX2_125 dX2_freeze_21 T.V.k0 T.V.fro ?_
    refine z_ifeqB 24 68 dX2_freeze_24 (by decide) (fun c_24 => ?_) (fun c_24 => ?_)
    · refine z_iinc3 68 ((nI (i + 1))) dX2_freeze_68 (nI_add _ _) rfl ?_
      refine z_goto 71 10 dX2_freeze_71 (by decide) ?_
      refine z_fog 4 ?_
      exact ih_i (a) _ (by unfold fzL; rw [fzS_bu]; grind) T
    · refine z_aload4 27 dX2_freeze_27 ?_
      refine z_get 29 gX2_140 dX2_freeze_29 (T.V.kf hi_i) (T.V.ft hi_i 0 (by decide)) ?_
      refine z_ifeqN 32 68 dX2_freeze_32 (by decide) (by omega) (fun c_32 => ?_) (fun c_32 => ?_)
      · refine z_iinc3 68 ((nI (i + 1))) dX2_freeze_68 (nI_add _ _) rfl ?_
        refine z_goto 71 10 dX2_freeze_71 (by decide) ?_
        refine z_fog 4 ?_
        exact ih_i (a) _ (by unfold fzL; rw [fzS_bu]; grind) T
      · refine z_aload4 35 dX2_freeze_35 ?_
        refine z_get 37 gX2_149 dX2_freeze_37 (T.V.kf hi_i) (T.V.ft hi_i 4 (by decide)) ?_
        refine z_ifneN 40 68 dX2_freeze_40 (by decide) (by omega) (fun c_40 => ?_) (fun c_40 => ?_)
        · refine z_iinc3 68 ((nI (i + 1))) dX2_freeze_68 (nI_add _ _) rfl ?_
          refine z_goto 71 10 dX2_freeze_71 (by decide) ?_
          refine z_fog 4 ?_
          exact ih_i (a) _ (by unfold fzL; rw [fzS_bu]; grind) T
        · refine z_aload4 43 dX2_freeze_43 ?_
          refine z_get 45 gX2_146 dX2_freeze_45 (T.V.kf hi_i) (T.V.ft hi_i 5 (by decide)) ?_
          refine z_ifneN 48 68 dX2_freeze_48 (by decide) (by omega) (fun c_48 => ?_) (fun c_48 => ?_)
          · refine z_iinc3 68 ((nI (i + 1))) dX2_freeze_68 (nI_add _ _) rfl ?_
            refine z_goto 71 10 dX2_freeze_71 (by decide) ?_
            refine z_fog 4 ?_
            exact ih_i (a) _ (by unfold fzL; rw [fzS_bu]; grind) T
          · refine z_aload4 51 dX2_freeze_51 ?_
            refine z_get 53 gX2_143 dX2_freeze_53 (T.V.kf hi_i) (T.V.ft hi_i 6 (by decide)) ?_
            refine z_ifneN 56 68 dX2_freeze_56 (by decide) (by omega) (fun c_56 => ?_) (fun c_56 => ?_)
            · refine z_iinc3 68 ((nI (i + 1))) dX2_freeze_68 (nI_add _ _) rfl ?_
              refine z_goto 71 10 dX2_freeze_71 (by decide) ?_
              refine z_fog 4 ?_
              exact ih_i (a) _ (by unfold fzL; rw [fzS_bu]; grind) T
            · refine z_aload4 59 dX2_freeze_59 ?_
              refine z_aload0 61 dX2_freeze_61 ?_
              refine z_get 62 gX2_103 dX2_freeze_62 T.V.k0 T.V.day ?_
              refine z_V1 (k' := k) 65 vX2_176 dX2_freeze_65 (T.V.kf hi_i) (c_pkBurst T hJ.h6 hi_i (d - 1) 0 (by omega)) (by omega) (by omega) (Nat.le_of_ble_eq_true rfl) (aft_V fun h2 T1 => ?_)
              refine z_iinc3 68 ((nI (i + 1))) dX2_freeze_68 (nI_add _ _) rfl ?_
              refine z_goto 71 10 dX2_freeze_71 (by decide) ?_
              refine z_fog 4 ?_
              exact ih_i (buP a i) _ (by unfold fzL; rw [fzS_bu]; grind) T1

