/-! FOUNTAIN: become, the constructor, build; JOB and OUTING -/
/-- a flag's number -/
def bt01 (x : Int32) : Prop := x = nI 0 ∨ x = nI 1
theorem bt01.n {x : Int32} (h : bt01 x) : narrow .boolean (.int x) = .int x := by rcases h with rfl | rfl <;> decide
theorem bt01.f {x : Int32} (h : bt01 x) : fits .boolean (.int x) = true := by rcases h with rfl | rfl <;> decide
theorem bt01_0 : bt01 (nI 0) := Or.inl rfl
theorem bt01_1 : bt01 (nI 1) := Or.inr rfl
theorem upd_step (R R2 : Nat → Int32) (i : Nat) : upd (fun j => if j < i then R2 j else R j) i (R2 i) = fun j => if j < i + 1 then R2 j else R j := by
  funext j
  by_cases e : j = i
  · subst e; simp [upd]
  · simp only [upd, e, if_false]
    by_cases q : j < i
    · rw [if_pos q, if_pos (by omega)]
    · rw [if_neg q, if_neg (by omega)]
def Z0 : Nat → Int32 := fun _ => nI 0
def N1 : Nat → Int32 := fun _ => -1
theorem nI0 : (0 : Int32) = nI 0 := rfl
def bdF (fl fi he : Int32) : Nat → Int32 := fun j => if j = 0 then nI 1 else if j = 1 then fl else if j = 2 then fi else if j = 4 then he else nI 0
set_option maxHeartbeats 4000000 in
theorem c_become {E : Ev} {h : HP} {f r w f2 r2 w2 : Nat} {F R W F2 R2 W2 : Nat → Int32} (d k : Nat) (hB : ∀ j, j = 0 ∨ j = 4 ∨ j = 5 ∨ j = 6 → bt01 (F2 j)) (hy1 : f2 < h.sz ∧ ¬ FtS f r w f2) (hy2 : r2 < h.sz ∧ ¬ FtS f r w r2) (hy3 : w2 < h.sz ∧ ¬ FtS f r w w2) (X0 : FtAt h f r w F R W) (Y0 : FtAt h f2 r2 w2 F2 R2 W2) : Call E yX3_become d k [.ref f, .ref f2] h (rV (FtTo h f r w F2 R2 W2)) := by
  obtain ⟨kf, gf, g11, g12, kr, lr, gr, kw, lw, gw, hrw⟩ := id X0
  obtain ⟨kf2, gf2, g112, g122, kr2, lr2, gr2, kw2, lw2, gw2, hrw2⟩ := id Y0
  have LOOP := loopZ (σ := Unit) 2 (fun i _ h9 => FtAt h9 f r w F2 (fun j => if j < i then R2 j else R j) (fun j => if j < i then W2 j else W j) ∧ FtAt h9 f2 r2 w2 F2 R2 W2 ∧ Sm (FtS f r w) h h9 ∧ h9.sz = h.sz) (fun i _ h9 => Z E mX3_become d (rV (FtTo h f r w F2 R2 W2)) k h9 90 [.ref f, .ref f2, .int (nI i)] [])
    (fun _ h9 ⟨X0, Y0, M0, z0⟩ => by
      refine z_iload2 90 dX3_become_90 ?_
      refine z_iconst 91 (nI 2) dX3_become_91 kI2 ?_
      refine z_icge 92 125 dX3_become_92 (by decide) (fun _ => ?_) (fun q => absurd (nI_le (Nat.le_refl 2) (by decide)) q)
      refine z_return 125 rfl dX3_become_125 ?_
      exact ⟨rfl, X0.congr (fun _ _ => rfl) (fun j hj => by simp [hj]) (fun j hj => by simp [hj]), M0, z0⟩)
    (fun i _ h9 hi ⟨X0, Y0, M0, z0⟩ ih => by
      obtain ⟨kf, gf, g11, g12, kr, lr, gr, kw, lw, gw, hrw⟩ := id X0
      obtain ⟨kf2, gf2, g112, g122, kr2, lr2, gr2, kw2, lw2, gw2, hrw2⟩ := id Y0
      have ya : f2 < h9.sz ∧ ¬ FtS f r w f2 := by rw [z0]; exact hy1
      have yb : r2 < h9.sz ∧ ¬ FtS f r w r2 := by rw [z0]; exact hy2
      have yc : w2 < h9.sz ∧ ¬ FtS f r w w2 := by rw [z0]; exact hy3
      refine z_iload2 90 dX3_become_90 ?_
      refine z_iconst 91 (nI 2) dX3_become_91 kI2 ?_
      refine z_icge 92 125 dX3_become_92 (by decide) (fun c_92 => by first | exact absurd c_92 (nI_ge hi (by decide)) | exact absurd (nI_ge hi (by decide)) c_92) (fun c_92 => ?_)
      first | refine z_aload0 95 dX3_become_95 ?_ | refine z_aload0N 95 dX3_become_95 ?_ | refine z_aload0o 95 dX3_become_95 ?_
      refine z_get 96 gX3_9 dX3_become_96 kf g11 ?_
      refine z_iload2 99 dX3_become_99 ?_
      first | refine z_aload1 100 dX3_become_100 ?_ | refine z_aload1N 100 dX3_become_100 ?_ | refine z_aload1o 100 dX3_become_100 ?_
      refine z_get 101 gX3_9 dX3_become_101 kf2 g112 ?_
      refine z_iload2 104 dX3_become_104 ?_
      refine z_iald 105 (i) dX3_become_105 kr2 lr2 (rfl) (hi) (by decide) (gr2 i hi) ?_
      refine z_iast 106 (i) dX3_become_106 kr lr (rfl) (hi) (by decide) ?_
      have X1 := X0.putR i (R2 i)
      have Y1 := Y0.keep (Sm.put (S := FtS f r w) (h := h9) (a := r) (k := i) (v := .int (R2 i)) (Or.inr (Or.inl rfl))) ya yb yc
      obtain ⟨kf, gf, g11, g12, kr, lr, gr, kw, lw, gw, hrw⟩ := id X1
      obtain ⟨kf2, gf2, g112, g122, kr2, lr2, gr2, kw2, lw2, gw2, hrw2⟩ := id Y1
      first | refine z_aload0 107 dX3_become_107 ?_ | refine z_aload0N 107 dX3_become_107 ?_ | refine z_aload0o 107 dX3_become_107 ?_
      refine z_get 108 gX3_15 dX3_become_108 kf g12 ?_
      refine z_iload2 111 dX3_become_111 ?_
      first | refine z_aload1 112 dX3_become_112 ?_ | refine z_aload1N 112 dX3_become_112 ?_ | refine z_aload1o 112 dX3_become_112 ?_
      refine z_get 113 gX3_15 dX3_become_113 kf2 g122 ?_
      refine z_iload2 116 dX3_become_116 ?_
      refine z_iald 117 (i) dX3_become_117 kw2 lw2 (rfl) (hi) (by decide) (gw2 i hi) ?_
      refine z_iast 118 (i) dX3_become_118 kw lw (rfl) (hi) (by decide) ?_
      have X2 := X1.putW i (W2 i)
      have Y2 := Y1.keep (Sm.put (S := FtS f r w) (h := h9.put r i (.int (R2 i))) (a := w) (k := i) (v := .int (W2 i)) (Or.inr (Or.inr rfl))) ya yb yc
      refine z_iinc2 119 (nI (i + 1)) dX3_become_119 (nI_1 i) rfl ?_
      refine z_goto 122 90 dX3_become_122 (by decide) ?_
      refine ih () _ ⟨?_, Y2, (M0.putS (Or.inr (Or.inl rfl))).putS (Or.inr (Or.inr rfl)), z0⟩
      rw [upd_step, upd_step] at X2
      exact X2)
  refine Call.of [.ref f, .ref f2, dum] q967 (by decide) pn_X3 (Nat.le_of_ble_eq_true rfl) rfl ?_
  first | refine z_aload0 0 dX3_become_0 ?_ | refine z_aload0N 0 dX3_become_0 ?_ | refine z_aload0o 0 dX3_become_0 ?_
  first | refine z_aload1 1 dX3_become_1 ?_ | refine z_aload1N 1 dX3_become_1 ?_ | refine z_aload1o 1 dX3_become_1 ?_
  refine z_get 2 gX3_18 dX3_become_2 kf2 (gf2 0 (by decide)) ?_
  refine z_put 5 pX3_18 (fun h => by cases h) dX3_become_5 kf ((hB 0 (by decide)).n) ((hB 0 (by decide)).f) ?_
  have X1 := X0.put 0 (by decide) (F2 0)
  have Y1 := Y0.keep (Sm.put (S := FtS f r w) (h := h) (a := f) (k := 0) (v := .int (F2 0)) (Or.inl rfl)) hy1 hy2 hy3
  obtain ⟨kf, gf, g11, g12, kr, lr, gr, kw, lw, gw, hrw⟩ := id X1
  obtain ⟨kf2, gf2, g112, g122, kr2, lr2, gr2, kw2, lw2, gw2, hrw2⟩ := id Y1
  first | refine z_aload0 8 dX3_become_8 ?_ | refine z_aload0N 8 dX3_become_8 ?_ | refine z_aload0o 8 dX3_become_8 ?_
  first | refine z_aload1 9 dX3_become_9 ?_ | refine z_aload1N 9 dX3_become_9 ?_ | refine z_aload1o 9 dX3_become_9 ?_
  refine z_get 10 gX3_22 dX3_become_10 kf2 (gf2 1 (by decide)) ?_
  refine z_put 13 pX3_22 (fun h => by cases h) dX3_become_13 kf (rfl) (rfl) ?_
  have X2 := X1.put 1 (by decide) (F2 1)
  have Y2 := Y1.keep (Sm.put (S := FtS f r w) (h := (h.put f 0 (.int (F2 0)))) (a := f) (k := 1) (v := .int (F2 1)) (Or.inl rfl)) hy1 hy2 hy3
  obtain ⟨kf, gf, g11, g12, kr, lr, gr, kw, lw, gw, hrw⟩ := id X2
  obtain ⟨kf2, gf2, g112, g122, kr2, lr2, gr2, kw2, lw2, gw2, hrw2⟩ := id Y2
  first | refine z_aload0 16 dX3_become_16 ?_ | refine z_aload0N 16 dX3_become_16 ?_ | refine z_aload0o 16 dX3_become_16 ?_
  first | refine z_aload1 17 dX3_become_17 ?_ | refine z_aload1N 17 dX3_become_17 ?_ | refine z_aload1o 17 dX3_become_17 ?_
  refine z_get 18 gX3_26 dX3_become_18 kf2 (gf2 2 (by decide)) ?_
  refine z_put 21 pX3_26 (fun h => by cases h) dX3_become_21 kf (rfl) (rfl) ?_
  have X3 := X2.put 2 (by decide) (F2 2)
  have Y3 := Y2.keep (Sm.put (S := FtS f r w) (h := ((h.put f 0 (.int (F2 0))).put f 1 (.int (F2 1)))) (a := f) (k := 2) (v := .int (F2 2)) (Or.inl rfl)) hy1 hy2 hy3
  obtain ⟨kf, gf, g11, g12, kr, lr, gr, kw, lw, gw, hrw⟩ := id X3
  obtain ⟨kf2, gf2, g112, g122, kr2, lr2, gr2, kw2, lw2, gw2, hrw2⟩ := id Y3
  first | refine z_aload0 24 dX3_become_24 ?_ | refine z_aload0N 24 dX3_become_24 ?_ | refine z_aload0o 24 dX3_become_24 ?_
  first | refine z_aload1 25 dX3_become_25 ?_ | refine z_aload1N 25 dX3_become_25 ?_ | refine z_aload1o 25 dX3_become_25 ?_
  refine z_get 26 gX3_29 dX3_become_26 kf2 (gf2 3 (by decide)) ?_
  refine z_put 29 pX3_29 (fun h => by cases h) dX3_become_29 kf (rfl) (rfl) ?_
  have X4 := X3.put 3 (by decide) (F2 3)
  have Y4 := Y3.keep (Sm.put (S := FtS f r w) (h := (((h.put f 0 (.int (F2 0))).put f 1 (.int (F2 1))).put f 2 (.int (F2 2)))) (a := f) (k := 3) (v := .int (F2 3)) (Or.inl rfl)) hy1 hy2 hy3
  obtain ⟨kf, gf, g11, g12, kr, lr, gr, kw, lw, gw, hrw⟩ := id X4
  obtain ⟨kf2, gf2, g112, g122, kr2, lr2, gr2, kw2, lw2, gw2, hrw2⟩ := id Y4
  first | refine z_aload0 32 dX3_become_32 ?_ | refine z_aload0N 32 dX3_become_32 ?_ | refine z_aload0o 32 dX3_become_32 ?_
  first | refine z_aload1 33 dX3_become_33 ?_ | refine z_aload1N 33 dX3_become_33 ?_ | refine z_aload1o 33 dX3_become_33 ?_
  refine z_get 34 gX3_32 dX3_become_34 kf2 (gf2 4 (by decide)) ?_
  refine z_put 37 pX3_32 (fun h => by cases h) dX3_become_37 kf ((hB 4 (by decide)).n) ((hB 4 (by decide)).f) ?_
  have X5 := X4.put 4 (by decide) (F2 4)
  have Y5 := Y4.keep (Sm.put (S := FtS f r w) (h := ((((h.put f 0 (.int (F2 0))).put f 1 (.int (F2 1))).put f 2 (.int (F2 2))).put f 3 (.int (F2 3)))) (a := f) (k := 4) (v := .int (F2 4)) (Or.inl rfl)) hy1 hy2 hy3
  obtain ⟨kf, gf, g11, g12, kr, lr, gr, kw, lw, gw, hrw⟩ := id X5
  obtain ⟨kf2, gf2, g112, g122, kr2, lr2, gr2, kw2, lw2, gw2, hrw2⟩ := id Y5
  first | refine z_aload0 40 dX3_become_40 ?_ | refine z_aload0N 40 dX3_become_40 ?_ | refine z_aload0o 40 dX3_become_40 ?_
  first | refine z_aload1 41 dX3_become_41 ?_ | refine z_aload1N 41 dX3_become_41 ?_ | refine z_aload1o 41 dX3_become_41 ?_
  refine z_get 42 gX3_35 dX3_become_42 kf2 (gf2 5 (by decide)) ?_
  refine z_put 45 pX3_35 (fun h => by cases h) dX3_become_45 kf ((hB 5 (by decide)).n) ((hB 5 (by decide)).f) ?_
  have X6 := X5.put 5 (by decide) (F2 5)
  have Y6 := Y5.keep (Sm.put (S := FtS f r w) (h := (((((h.put f 0 (.int (F2 0))).put f 1 (.int (F2 1))).put f 2 (.int (F2 2))).put f 3 (.int (F2 3))).put f 4 (.int (F2 4)))) (a := f) (k := 5) (v := .int (F2 5)) (Or.inl rfl)) hy1 hy2 hy3
  obtain ⟨kf, gf, g11, g12, kr, lr, gr, kw, lw, gw, hrw⟩ := id X6
  obtain ⟨kf2, gf2, g112, g122, kr2, lr2, gr2, kw2, lw2, gw2, hrw2⟩ := id Y6
  first | refine z_aload0 48 dX3_become_48 ?_ | refine z_aload0N 48 dX3_become_48 ?_ | refine z_aload0o 48 dX3_become_48 ?_
  first | refine z_aload1 49 dX3_become_49 ?_ | refine z_aload1N 49 dX3_become_49 ?_ | refine z_aload1o 49 dX3_become_49 ?_
  refine z_get 50 gX3_38 dX3_become_50 kf2 (gf2 6 (by decide)) ?_
  refine z_put 53 pX3_38 (fun h => by cases h) dX3_become_53 kf ((hB 6 (by decide)).n) ((hB 6 (by decide)).f) ?_
  have X7 := X6.put 6 (by decide) (F2 6)
  have Y7 := Y6.keep (Sm.put (S := FtS f r w) (h := ((((((h.put f 0 (.int (F2 0))).put f 1 (.int (F2 1))).put f 2 (.int (F2 2))).put f 3 (.int (F2 3))).put f 4 (.int (F2 4))).put f 5 (.int (F2 5)))) (a := f) (k := 6) (v := .int (F2 6)) (Or.inl rfl)) hy1 hy2 hy3
  obtain ⟨kf, gf, g11, g12, kr, lr, gr, kw, lw, gw, hrw⟩ := id X7
  obtain ⟨kf2, gf2, g112, g122, kr2, lr2, gr2, kw2, lw2, gw2, hrw2⟩ := id Y7
  first | refine z_aload0 56 dX3_become_56 ?_ | refine z_aload0N 56 dX3_become_56 ?_ | refine z_aload0o 56 dX3_become_56 ?_
  first | refine z_aload1 57 dX3_become_57 ?_ | refine z_aload1N 57 dX3_become_57 ?_ | refine z_aload1o 57 dX3_become_57 ?_
  refine z_get 58 gX3_41 dX3_become_58 kf2 (gf2 7 (by decide)) ?_
  refine z_put 61 pX3_41 (fun h => by cases h) dX3_become_61 kf (rfl) (rfl) ?_
  have X8 := X7.put 7 (by decide) (F2 7)
  have Y8 := Y7.keep (Sm.put (S := FtS f r w) (h := (((((((h.put f 0 (.int (F2 0))).put f 1 (.int (F2 1))).put f 2 (.int (F2 2))).put f 3 (.int (F2 3))).put f 4 (.int (F2 4))).put f 5 (.int (F2 5))).put f 6 (.int (F2 6)))) (a := f) (k := 7) (v := .int (F2 7)) (Or.inl rfl)) hy1 hy2 hy3
  obtain ⟨kf, gf, g11, g12, kr, lr, gr, kw, lw, gw, hrw⟩ := id X8
  obtain ⟨kf2, gf2, g112, g122, kr2, lr2, gr2, kw2, lw2, gw2, hrw2⟩ := id Y8
  first | refine z_aload0 64 dX3_become_64 ?_ | refine z_aload0N 64 dX3_become_64 ?_ | refine z_aload0o 64 dX3_become_64 ?_
  first | refine z_aload1 65 dX3_become_65 ?_ | refine z_aload1N 65 dX3_become_65 ?_ | refine z_aload1o 65 dX3_become_65 ?_
  refine z_get 66 gX3_44 dX3_become_66 kf2 (gf2 8 (by decide)) ?_
  refine z_put 69 pX3_44 (fun h => by cases h) dX3_become_69 kf (rfl) (rfl) ?_
  have X9 := X8.put 8 (by decide) (F2 8)
  have Y9 := Y8.keep (Sm.put (S := FtS f r w) (h := ((((((((h.put f 0 (.int (F2 0))).put f 1 (.int (F2 1))).put f 2 (.int (F2 2))).put f 3 (.int (F2 3))).put f 4 (.int (F2 4))).put f 5 (.int (F2 5))).put f 6 (.int (F2 6))).put f 7 (.int (F2 7)))) (a := f) (k := 8) (v := .int (F2 8)) (Or.inl rfl)) hy1 hy2 hy3
  obtain ⟨kf, gf, g11, g12, kr, lr, gr, kw, lw, gw, hrw⟩ := id X9
  obtain ⟨kf2, gf2, g112, g122, kr2, lr2, gr2, kw2, lw2, gw2, hrw2⟩ := id Y9
  first | refine z_aload0 72 dX3_become_72 ?_ | refine z_aload0N 72 dX3_become_72 ?_ | refine z_aload0o 72 dX3_become_72 ?_
  first | refine z_aload1 73 dX3_become_73 ?_ | refine z_aload1N 73 dX3_become_73 ?_ | refine z_aload1o 73 dX3_become_73 ?_
  refine z_get 74 gX3_47 dX3_become_74 kf2 (gf2 9 (by decide)) ?_
  refine z_put 77 pX3_47 (fun h => by cases h) dX3_become_77 kf (rfl) (rfl) ?_
  have X10 := X9.put 9 (by decide) (F2 9)
  have Y10 := Y9.keep (Sm.put (S := FtS f r w) (h := (((((((((h.put f 0 (.int (F2 0))).put f 1 (.int (F2 1))).put f 2 (.int (F2 2))).put f 3 (.int (F2 3))).put f 4 (.int (F2 4))).put f 5 (.int (F2 5))).put f 6 (.int (F2 6))).put f 7 (.int (F2 7))).put f 8 (.int (F2 8)))) (a := f) (k := 9) (v := .int (F2 9)) (Or.inl rfl)) hy1 hy2 hy3
  obtain ⟨kf, gf, g11, g12, kr, lr, gr, kw, lw, gw, hrw⟩ := id X10
  obtain ⟨kf2, gf2, g112, g122, kr2, lr2, gr2, kw2, lw2, gw2, hrw2⟩ := id Y10
  first | refine z_aload0 80 dX3_become_80 ?_ | refine z_aload0N 80 dX3_become_80 ?_ | refine z_aload0o 80 dX3_become_80 ?_
  first | refine z_aload1 81 dX3_become_81 ?_ | refine z_aload1N 81 dX3_become_81 ?_ | refine z_aload1o 81 dX3_become_81 ?_
  refine z_get 82 gX3_50 dX3_become_82 kf2 (gf2 10 (by decide)) ?_
  refine z_put 85 pX3_50 (fun h => by cases h) dX3_become_85 kf (rfl) (rfl) ?_
  have X11 := X10.put 10 (by decide) (F2 10)
  have Y11 := Y10.keep (Sm.put (S := FtS f r w) (h := ((((((((((h.put f 0 (.int (F2 0))).put f 1 (.int (F2 1))).put f 2 (.int (F2 2))).put f 3 (.int (F2 3))).put f 4 (.int (F2 4))).put f 5 (.int (F2 5))).put f 6 (.int (F2 6))).put f 7 (.int (F2 7))).put f 8 (.int (F2 8))).put f 9 (.int (F2 9)))) (a := f) (k := 10) (v := .int (F2 10)) (Or.inl rfl)) hy1 hy2 hy3
  obtain ⟨kf, gf, g11, g12, kr, lr, gr, kw, lw, gw, hrw⟩ := id X11
  obtain ⟨kf2, gf2, g112, g122, kr2, lr2, gr2, kw2, lw2, gw2, hrw2⟩ := id Y11
  refine z_iconst 88 (nI 0) dX3_become_88 kI0 ?_
  refine z_istore2 89 dX3_become_89 rfl ?_
  exact LOOP 0 () _ (by decide) ⟨X11.congr (fun k hk => by rcases (by omega : k = 0 ∨ k = 1 ∨ k = 2 ∨ k = 3 ∨ k = 4 ∨ k = 5 ∨ k = 6 ∨ k = 7 ∨ k = 8 ∨ k = 9 ∨ k = 10) with rfl | rfl | rfl | rfl | rfl | rfl | rfl | rfl | rfl | rfl | rfl <;> rfl) (fun _ _ => rfl) (fun _ _ => rfl), Y11, ((((((((((((Sm.refl (FtS f r w) h).putS (Or.inl rfl)).putS (Or.inl rfl)).putS (Or.inl rfl)).putS (Or.inl rfl)).putS (Or.inl rfl)).putS (Or.inl rfl)).putS (Or.inl rfl)).putS (Or.inl rfl)).putS (Or.inl rfl)).putS (Or.inl rfl)).putS (Or.inl rfl)), rfl⟩

set_option maxHeartbeats 4000000 in
theorem c_ftNew {E : Ev} {h : HP} {f : Nat} (d k : Nat) (hd1 : 1 ≤ d) (hk : 2 ≤ k) (hf : h.kd f = 2) (hlt : f < h.sz) (g0 : ∀ j, j ≤ 10 → h.mm f j = .int (nI 0)) : Call E yX3_init d k [.ref f] h (rV (fun h' => FtAt h' f h.sz (h.sz + 1) Z0 N1 Z0 ∧ Sm (fun q => q = f) h h' ∧ h'.sz = h.sz + 2)) := by
  refine Call.of [.ref f] q311 (by decide) pn_X3 (Nat.le_of_ble_eq_true rfl) rfl ?_
  first | refine z_aload0 0 dX3_init_0 ?_ | refine z_aload0N 0 dX3_init_0 ?_ | refine z_aload0o 0 dX3_init_0 ?_
  refine z_objInit 1 q312 q147 q148 dX3_init_1 (by omega) (Nat.le_of_ble_eq_true rfl) ?_
  first | refine z_aload0 4 dX3_init_4 ?_ | refine z_aload0N 4 dX3_init_4 ?_ | refine z_aload0o 4 dX3_init_4 ?_
  refine z_iconst 5 (nI 2) dX3_init_5 kI2 ?_
  refine z_newa (atype := .int) (i := 0) (n := 2) (k' := k - 1) 6 q371 (by decide) rfl dX3_init_6 (rfl) (by decide) (by omega) (fun h1 e1 => ?_)
  have n1 : f ≠ h.sz := by omega
  have k1 : h1.kd h.sz = 100 := by subst e1; simp [kd_mk]
  have l1 : h1.ln h.sz = 2 := by subst e1; simp [ln_mk]
  have k2 : h1.kd f = 2 := by subst e1; simp [kd_mk, n1, hf]
  refine z_dup 8 dX3_init_8 (by first | rfl | exact va_rf_cat _) ?_
  refine z_iconst 9 (nI 0) dX3_init_9 kI0 ?_
  refine z_iconst 10 (-1) dX3_init_10 kIm1 ?_
  refine z_iast 11 (0) dX3_init_11 k1 l1 (rfl) (by decide) (by decide) ?_
  refine z_dup 12 dX3_init_12 (by first | rfl | exact va_rf_cat _) ?_
  refine z_iconst 13 (nI 1) dX3_init_13 kI1 ?_
  refine z_iconst 14 (-1) dX3_init_14 kIm1 ?_
  refine z_iast 15 (1) dX3_init_15 k1 l1 (rfl) (by decide) (by decide) ?_
  refine z_put 16 pX3_9 (fun _ => rfl) dX3_init_16 k2 (rfl) (rfl) ?_
  generalize hg : ((h1.put h.sz 0 (.int (-1))).put h.sz 1 (.int (-1))).put f 11 (.ref h.sz) = h2
  have z2 : h2.sz = h.sz + 1 := by rw [← hg, e1]; rfl
  have k3 : h2.kd f = 2 := by rw [← hg]; exact k2
  first | refine z_aload0 19 dX3_init_19 ?_ | refine z_aload0N 19 dX3_init_19 ?_ | refine z_aload0o 19 dX3_init_19 ?_
  refine z_iconst 20 (nI 2) dX3_init_20 kI2 ?_
  refine z_newa (atype := .int) (i := 0) (n := 2) (k' := k - 2) 21 q371 (by decide) rfl dX3_init_21 (rfl) (by decide) (by omega) (fun h3 e3 => ?_)
  have k4 : h3.kd f = 2 := by subst e3; rw [kd_mk, if_neg (by omega)]; exact k3
  refine z_put 23 pX3_15 (fun _ => rfl) dX3_init_23 k4 (rfl) (rfl) ?_
  refine z_return 26 rfl dX3_init_26 ?_
  have m1 : f ≠ h.sz + 1 := by omega
  have m2 : h.sz ≠ h.sz + 1 := by omega
  subst e3; subst hg; subst e1
  have z3 : ((((h.mk (100 + 0) 2 fun _ => defaultValue (newarray.typeOf .int)).put h.sz 0 (.int (-1))).put h.sz 1 (.int (-1))).put f 11 (.ref h.sz)).sz = h.sz + 1 := z2
  refine ⟨rfl, ⟨?_, fun j hj => ?_, ?_, ?_, ?_, ?_, fun j hj => ?_, ?_, ?_, fun j hj => ?_, by omega⟩, ⟨by simp only [sz_put, sz_mk]; omega, fun q hq => ?_⟩, by rw [sz_put, sz_mk, z3]⟩
  all_goals simp only [kd_put, kd_mk, ln_put, ln_mk, mm_put, mm_mk, sz_put, sz_mk]
  · simp [n1, m1, hf]
  · rw [if_neg (by omega), if_neg (by omega), if_neg (by omega), if_neg (by simp [n1]), if_neg (by simp [n1]), if_neg n1]
    exact g0 j hj
  · simp [n1, m1]
  · simp [m1]
  · simp
  · simp
  · rcases (by omega : j = 0 ∨ j = 1) with rfl | rfl <;> simp [N1, Ne.symm n1]
  · simp
  · simp
  · simp [Z0, Ne.symm m1]; rfl
  · have u1 : q ≠ h.sz := by omega
    have u2 : q ≠ h.sz + 1 := by omega
    refine ⟨by simp [u1, u2], by simp [u1, u2], fun hn => ?_⟩
    funext j
    simp only [mm_put, mm_mk, sz_put, sz_mk]
    simp [hn, u1, u2]

set_option maxHeartbeats 4000000 in
theorem c_build {E : Ev} {h : HP} {f r w : Nat} {F R W : Nat → Int32} {fl fi he : Int32} (d k : Nat) (hd1 : 2 ≤ d) (hk1 : 8 ≤ k) (hlt : f < h.sz ∧ r < h.sz ∧ w < h.sz) (hhe : bt01 he) (X : FtAt h f r w F R W) : Call E yX3_build d k [.ref f, .int fl, .int fi, .int he] h (rV (fun h' => FtAt h' f r w (bdF fl fi he) N1 Z0 ∧ Sm (FtS f r w) h h' ∧ h'.sz = h.sz + 3)) := by
  obtain ⟨lf, lr0, lw0⟩ := hlt
  refine Call.of [.ref f, .int fl, .int fi, .int he] q1896 (by decide) pn_X3 (Nat.le_of_ble_eq_true rfl) rfl ?_
  first | refine z_aload0 0 dX3_build_0 ?_ | refine z_aload0N 0 dX3_build_0 ?_ | refine z_aload0o 0 dX3_build_0 ?_
  refine z_new (k' := k - 4) 1 nX3_10 dX3_build_1 (by omega) (fun h1 e1 => ?_)
  have M1 : Sm (FtS f r w) h h1 := by rw [e1]; exact Sm.mk'
  have z1 : h1.sz = h.sz + 1 := by rw [e1]; rfl
  refine z_dup 4 dX3_build_4 (by first | rfl | exact va_rf_cat _) ?_
  refine z_I0 (k' := k - 4 - 2) 5 iX3_53 dX3_build_5 (c_ftNew 1 2 (by decide) (by decide) (by rw [e1]; simp [kd_mk]) (by rw [z1]; omega) (fun j hj => by rw [e1]; simp only [mm_mk, if_true]; rcases (by omega : j = 0 ∨ j = 1 ∨ j = 2 ∨ j = 3 ∨ j = 4 ∨ j = 5 ∨ j = 6 ∨ j = 7 ∨ j = 8 ∨ j = 9 ∨ j = 10) with rfl | rfl | rfl | rfl | rfl | rfl | rfl | rfl | rfl | rfl | rfl <;> rfl)) (by omega) (by omega) (Nat.le_of_ble_eq_true rfl) (aft_V fun h2 hq => ?_)
  obtain ⟨Y2, M2, z2⟩ := hq
  have M12 : Sm (FtS f r w) h h2 := ⟨by omega, fun q hq => by
    obtain ⟨a1, a2, a3⟩ := M1.2 q hq
    obtain ⟨b1, b2, b3⟩ := M2.2 q (by omega)
    exact ⟨b1.trans a1, b2.trans a2, fun hn => (b3 (by omega)).trans (a3 hn)⟩⟩
  have X2 : FtAt h2 f r w F R W := by
    have M9 : Sm (fun q => h.sz ≤ q) h h2 := ⟨by omega, fun q hq => by
      have a0 : Sm (fun _ => False) h h1 := by rw [e1]; exact Sm.mk'
      obtain ⟨a1, a2, a3⟩ := a0.2 q hq
      obtain ⟨b1, b2, b3⟩ := M2.2 q (by omega)
      exact ⟨b1.trans a1, b2.trans a2, fun _ => (b3 (by omega)).trans (a3 id)⟩⟩
    exact X.keep M9 ⟨lf, by omega⟩ ⟨lr0, by omega⟩ ⟨lw0, by omega⟩
  refine z_V1 (k' := k - 4 - 2) 8 vX3_54 dX3_build_8 X2.1 (c_become 0 0 (fun j _ => bt01_0) ⟨by omega, fun q => by rcases q with q | q | q <;> omega⟩ ⟨by omega, fun q => by rcases q with q | q | q <;> omega⟩ ⟨by omega, fun q => by rcases q with q | q | q <;> omega⟩ X2 Y2) (by omega) (by omega) (Nat.le_of_ble_eq_true rfl) (aft_V fun h3 hq => ?_)
  obtain ⟨X3, M3, z3⟩ := hq
  obtain ⟨kf, gf, g11, g12, kr, lr, gr, kw, lw, gw, hrw⟩ := id X3
  first | refine z_aload0 11 dX3_build_11 ?_ | refine z_aload0N 11 dX3_build_11 ?_ | refine z_aload0o 11 dX3_build_11 ?_
  refine z_iconst 12 (nI 1) dX3_build_12 kI1 ?_
  refine z_put 13 pX3_18 (fun h => by cases h) dX3_build_13 kf (nb1) (fb1) ?_
  have X4 := X3.put 0 (by decide) (nI 1)
  obtain ⟨kf, gf, g11, g12, kr, lr, gr, kw, lw, gw, hrw⟩ := id X4
  first | refine z_aload0 16 dX3_build_16 ?_ | refine z_aload0N 16 dX3_build_16 ?_ | refine z_aload0o 16 dX3_build_16 ?_
  refine z_iload1 17 dX3_build_17 ?_
  refine z_put 18 pX3_22 (fun h => by cases h) dX3_build_18 kf (rfl) (rfl) ?_
  have X5 := X4.put 1 (by decide) fl
  obtain ⟨kf, gf, g11, g12, kr, lr, gr, kw, lw, gw, hrw⟩ := id X5
  first | refine z_aload0 21 dX3_build_21 ?_ | refine z_aload0N 21 dX3_build_21 ?_ | refine z_aload0o 21 dX3_build_21 ?_
  refine z_iload2 22 dX3_build_22 ?_
  refine z_put 23 pX3_26 (fun h => by cases h) dX3_build_23 kf (rfl) (rfl) ?_
  have X6 := X5.put 2 (by decide) fi
  obtain ⟨kf, gf, g11, g12, kr, lr, gr, kw, lw, gw, hrw⟩ := id X6
  first | refine z_aload0 26 dX3_build_26 ?_ | refine z_aload0N 26 dX3_build_26 ?_ | refine z_aload0o 26 dX3_build_26 ?_
  refine z_iload3 27 dX3_build_27 ?_
  refine z_put 28 pX3_32 (fun h => by cases h) dX3_build_28 kf (hhe.n) (hhe.f) ?_
  have X7 := X6.put 4 (by decide) he
  obtain ⟨kf, gf, g11, g12, kr, lr, gr, kw, lw, gw, hrw⟩ := id X7
  refine z_return 31 rfl dX3_build_31 ?_
  refine ⟨rfl, X7.congr (fun k hk => ?_) (fun _ _ => rfl) (fun _ _ => rfl), ((((M12.trans M3).putS (Or.inl rfl)).putS (Or.inl rfl)).putS (Or.inl rfl)).putS (Or.inl rfl), by simp only [sz_put]; omega⟩
  rcases (by omega : k = 0 ∨ k = 1 ∨ k = 2 ∨ k = 3 ∨ k = 4 ∨ k = 5 ∨ k = 6 ∨ k = 7 ∨ k = 8 ∨ k = 9 ∨ k = 10) with rfl | rfl | rfl | rfl | rfl | rfl | rfl | rfl | rfl | rfl | rfl <;> rfl
