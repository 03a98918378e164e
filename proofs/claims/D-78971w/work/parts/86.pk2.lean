/-! PARK: give -/
def gvX (fz : Bool) (P td : Nat → Nat) (i wn : Nat) : Nat := if clF fz P i = 0 then gvA P (flP P td) i wn else 0
def gvR (fz : Bool) (P td : Nat → Nat) (i wn : Nat) : Nat → Nat := if clF fz P i = 0 then gvP P (flP P td) i wn else P
def gvT (fz : Bool) (P td : Nat → Nat) (i wn : Nat) : Nat → Nat := if clF fz P i = 0 then upn td i (td i + gvA P (flP P td) i wn) else td
theorem gvP0_c (P FL : Nat → Nat) (pl wn c : Nat) (h : c < 13) : gvP0 P FL pl wn c = P c := gvP0_far P FL pl wn c ⟨fun w hw => by omega, fun w hw => by omega⟩
theorem gvP0_d (P FL : Nat → Nat) (pl wn c : Nat) (h : 141 ≤ c) (hp : pl < 8) : gvP0 P FL pl wn c = P c := gvP0_far P FL pl wn c ⟨fun w hw => by omega, fun w hw => by omega⟩
theorem upn_id (P : Nat → Nat) (c : Nat) : upn P c (P c + 0) = P := by
  funext j; simp only [upn]; split
  · rename_i e; rw [e]; rfl
  · rfl
set_option maxHeartbeats 4000000 in
theorem c_pkGive {E : Ev} {h : HP} {L tg P td : Nat → Nat} {pn : Nat} {fz : Bool} (T0 : Pk h L tg P td pn fz) (W : WF P) {i wn : Nat} (hi : i < 8) (ht : td i ≤ 4 * ofP P i 0) (hw : wn < 1000000) (d k : Nat) (hd : 3 ≤ d) : Call E yX2_give d k [.ref (L 0), .int (nI i), .int (nI wn)] h (rI fun x h' => x = nI (gvX fz P td i wn) ∧ PkTo h L tg tg (gvR fz P td i wn) (gvT fz P td i wn) pn fz h') := by
  have b1 := clF_lt fz P i
  refine Call.of [.ref (L 0), .int (nI i), .int (nI wn), dum] q1698 (by decide) pn_X2 (Nat.le_of_ble_eq_true rfl) rfl ?_
  refine z_aload0 0 dX2_give_0 ?_
  refine z_iload1 1 dX2_give_1 ?_
  refine z_V1 (k' := k) 2 vX2_155 dX2_give_2 T0.v.k0 (c_pkWhy T0.v W hi (d - 1) 0 (by omega)) (by omega) (by omega) (Nat.le_of_ble_eq_true rfl) (aft_P ?_)
  refine z_ifneN 5 25 dX2_give_5 (by decide) (by omega) (fun c_5 => ?_) (fun c_5 => ?_)
  · refine z_iconst 25 (nI 0) dX2_give_25 kI0 ?_
    refine z_istore3 26 dX2_give_26 rfl ?_
    refine z_aload0 27 dX2_give_27 ?_
    refine z_dup 28 dX2_give_28 (rfl) ?_
    refine z_get 29 gX2_122 dX2_give_29 T0.v.k0 (T0.v.sm (by decide) (by decide)) ?_
    refine z_iload3 32 dX2_give_32 ?_
    refine z_iaddN 33 dX2_give_33 ?_
    refine z_put 34 pX2_122 (fun h => by cases h) dX2_give_34 T0.v.k0 (rfl) (rfl) ?_
    have T2 := T0.to.sum (k := 12) (by decide) (by decide) (P 12 + 0) W.h6
    refine z_iload3 37 dX2_give_37 ?_
    refine z_ireturn 38 rfl dX2_give_38 ?_
    rw [upn_id] at T2
    refine ⟨_, rfl, ?_, ?_⟩
    · show _ = nI (if _ then _ else _); rw [if_neg c_5]
    · unfold gvR gvT; rw [if_neg c_5, if_neg c_5]; exact T2
  · refine z_aload0 8 dX2_give_8 ?_
    refine z_get 9 gX2_11 dX2_give_9 T0.v.k0 (T0.v.2.1.2.1.1) ?_
    refine z_iload1 12 dX2_give_12 ?_
    refine z_aald (i := 5) (n := 8) 13 (i) dX2_give_13 (by decide) (by decide) T0.v.k1 T0.v.l1 (rfl) (hi) (by decide) (T0.v.a1 hi) ?_
    refine z_iload2 14 dX2_give_14 ?_
    refine z_aload0 15 dX2_give_15 ?_
    refine z_get 16 gX2_103 dX2_give_16 T0.v.k0 T0.v.day ?_
    refine z_V2 (k' := k) 19 vX2_203 dX2_give_19 (T0.v.kf hi) (c_pkFtGive T0.to W hi ht c_5 hw (d - 1) 0 (by omega)) (by omega) (by omega) (Nat.le_of_ble_eq_true rfl) (aft_I fun x h2 hq => ?_)
    obtain ⟨hx, T1⟩ := hq
    have hx : x = nI (gvA P (flP P td) i wn) := hx
    subst hx
    refine z_goto 22 26 dX2_give_22 (by decide) ?_
    refine z_istore3 26 dX2_give_26 rfl ?_
    refine z_aload0 27 dX2_give_27 ?_
    refine z_dup 28 dX2_give_28 (rfl) ?_
    refine z_get 29 gX2_122 dX2_give_29 T1.V.k0 ((T1.V.sm (k := 12) (by decide) (by decide)).trans (by rw [gvP0_c _ _ _ _ _ (by decide)])) ?_
    refine z_iload3 32 dX2_give_32 ?_
    refine z_iaddN 33 dX2_give_33 ?_
    refine z_put 34 pX2_122 (fun h => by cases h) dX2_give_34 T1.V.k0 (rfl) (rfl) ?_
    have T2 := T1.sum (k := 12) (by decide) (by decide) (P 12 + gvA P (flP P td) i wn) (by rw [gvP0_c _ _ _ _ _ (by decide)]; exact W.h6)
    refine z_iload3 37 dX2_give_37 ?_
    refine z_ireturn 38 rfl dX2_give_38 ?_
    rw [← gvP_12] at T2
    refine ⟨_, rfl, ?_, ?_⟩
    · show _ = nI (if _ then _ else _); rw [if_pos c_5]
    · unfold gvR gvT; rw [if_pos c_5, if_pos c_5]; exact T2

