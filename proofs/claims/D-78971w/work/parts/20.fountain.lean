/-! FOUNTAIN, JOB, OUTING: small objects -/
theorem va_rf_cat (r : Option Nat) : (va_rf r).category = 1 := by cases r <;> rfl
theorem va_rf_or2 (r : Option Nat) : va_rf r = .null ∨ ∃ a, va_rf r = .ref a := by
  cases r with
  | none => exact Or.inl rfl
  | some a => exact Or.inr ⟨a, rfl⟩
theorem z_mmin {E : Ev} {mt : Mth} {d k : Nat} {Q : Res → HP → Prop} {h : HP} {ls st : List Value} {idx : Nat} {x y : Int32} (pc : Nat) (q1 : Cond.methodLink mt.1.cls idx Lib.Math.min.name ∈ lw_all) (q2 : Cond.static Lib.Math.min.name ∈ lw_all) (q3 : Cond.initialized "java/lang/Math" ∈ lw_all) (q4 : Cond.code Lib.Math.min.name Lib.Math.min.code 2 (some .int) ∈ lw_all) (hd : decode mt.2.1 pc = .ok (.invokestatic idx, 3)) (hd1 : 1 ≤ d) (hst : (st.map fun v => v.category).sum ≤ 8) (kk : Z E mt d Q k h (pc + 3) ls (.int (if y < x then y else x) :: st)) : Z E mt d Q k h pc ls (.int y :: .int x :: st) := by
  intro p e s m args below meth c K H locs cells slots la hc h1 h2 hP hS hl
  have kk := kk p e s m args below meth c K H locs cells slots la hc h1 h2 hP hS hl
  exact va_mmin hc.x hc.c (by rw [hc.ml]; exact hl.1.symm) hc.own (hc.ts args _ q1) (hc.ts args _ q2) (hc.ts args _ q3) (hc.ts args _ q4) hd1 (by show _ ≤ 200 * d; omega) (by show cells ≤ K; omega) (by show slots ≤ 4 * K; omega) hd kk
theorem z_mmax {E : Ev} {mt : Mth} {d k : Nat} {Q : Res → HP → Prop} {h : HP} {ls st : List Value} {idx : Nat} {x y : Int32} (pc : Nat) (q1 : Cond.methodLink mt.1.cls idx Lib.Math.max.name ∈ lw_all) (q2 : Cond.static Lib.Math.max.name ∈ lw_all) (q3 : Cond.initialized "java/lang/Math" ∈ lw_all) (q4 : Cond.code Lib.Math.max.name Lib.Math.max.code 2 (some .int) ∈ lw_all) (hd : decode mt.2.1 pc = .ok (.invokestatic idx, 3)) (hd1 : 1 ≤ d) (hst : (st.map fun v => v.category).sum ≤ 8) (kk : Z E mt d Q k h (pc + 3) ls (.int (if x < y then y else x) :: st)) : Z E mt d Q k h pc ls (.int y :: .int x :: st) := by
  intro p e s m args below meth c K H locs cells slots la hc h1 h2 hP hS hl
  have kk := kk p e s m args below meth c K H locs cells slots la hc h1 h2 hP hS hl
  exact va_mmax hc.x hc.c (by rw [hc.ml]; exact hl.1.symm) hc.own (hc.ts args _ q1) (hc.ts args _ q2) (hc.ts args _ q3) (hc.ts args _ q4) hd1 (by show _ ≤ 200 * d; omega) (by show cells ≤ K; omega) (by show slots ≤ 4 * K; omega) hd kk
/-- the same but inside S: what was there keeps its kind and length, and outside S its contents -/
def Sm (S : Nat → Prop) (h h' : HP) : Prop := h.sz ≤ h'.sz ∧ ∀ a, a < h.sz → h'.kd a = h.kd a ∧ h'.ln a = h.ln a ∧ (¬ S a → h'.mm a = h.mm a)
theorem Sm.refl (S : Nat → Prop) (h : HP) : Sm S h h := ⟨Nat.le_refl _, fun _ _ => ⟨rfl, rfl, fun _ => rfl⟩⟩
theorem Sm.trans {S : Nat → Prop} {h1 h2 h3 : HP} (a : Sm S h1 h2) (b : Sm S h2 h3) : Sm S h1 h3 :=
  ⟨Nat.le_trans a.1 b.1, fun q hq => by
    obtain ⟨x1, x2, x3⟩ := a.2 q hq
    obtain ⟨y1, y2, y3⟩ := b.2 q (Nat.lt_of_lt_of_le hq a.1)
    exact ⟨y1.trans x1, y2.trans x2, fun h => (y3 h).trans (x3 h)⟩⟩
theorem Sm.mono {S S' : Nat → Prop} {h h' : HP} (a : Sm S h h') (hs : ∀ q, q < h.sz → S q → S' q) : Sm S' h h' :=
  ⟨a.1, fun q hq => ⟨(a.2 q hq).1, (a.2 q hq).2.1, fun hn => (a.2 q hq).2.2 fun z => hn (hs q hq z)⟩⟩
theorem Sm.put {S : Nat → Prop} {h : HP} {a k : Nat} {v : Value} (ha : S a) : Sm S h (h.put a k v) :=
  ⟨Nat.le_refl _, fun q _ => ⟨rfl, rfl, fun hn => by funext j; exact mm_nea h a k v j (fun e => hn (by rw [e]; exact ha))⟩⟩
theorem Sm.mk' {S : Nat → Prop} {h : HP} {c n : Nat} {f : Nat → Value} : Sm S h (h.mk c n f) :=
  ⟨Nat.le_succ _, fun q hq => by
    have e : q ≠ h.sz := by omega
    exact ⟨by simp [kd_mk, e], by simp [ln_mk, e], fun _ => by funext j; simp [mm_mk, e]⟩⟩
/-- a fountain at f with its two arrays -/
def FtAt (h : HP) (f r w : Nat) (F R W : Nat → Int32) : Prop := h.kd f = 2 ∧ (∀ k, k ≤ 10 → h.mm f k = .int (F k)) ∧ h.mm f 11 = .ref r ∧ h.mm f 12 = .ref w ∧ h.kd r = 100 ∧ h.ln r = 2 ∧ (∀ k, k < 2 → h.mm r k = .int (R k)) ∧ h.kd w = 100 ∧ h.ln w = 2 ∧ (∀ k, k < 2 → h.mm w k = .int (W k)) ∧ r ≠ w
theorem FtAt.ne {h : HP} {f r w : Nat} {F R W : Nat → Int32} (X : FtAt h f r w F R W) : f ≠ r ∧ f ≠ w ∧ r ≠ w := by
  obtain ⟨kf, gf, g11, g12, kr, lr, gr, kw, lw, gw, hrw⟩ := X
  exact ⟨fun e => (by rw [e, kr] at kf; cases kf), fun e => (by rw [e, kw] at kf; cases kf), hrw⟩
theorem FtAt.put {h : HP} {f r w : Nat} {F R W : Nat → Int32} (X : FtAt h f r w F R W) (k : Nat) (hk : k ≤ 10) (x : Int32) : FtAt (h.put f k (.int x)) f r w (upd F k x) R W := by
  obtain ⟨n1, n2, -⟩ := X.ne
  obtain ⟨kf, gf, g11, g12, kr, lr, gr, kw, lw, gw, hrw⟩ := X
  refine ⟨kf, fun j hj => ?_, ?_, ?_, kr, lr, fun j hj => ?_, kw, lw, fun j hj => ?_, hrw⟩
  · by_cases e : j = k
    · subst e; rw [mm_self]; simp [upd]
    · rw [mm_nek _ _ _ _ _ e, gf j hj]; simp [upd, e]
  · rw [mm_nek _ _ _ _ _ (by omega)]; exact g11
  · rw [mm_nek _ _ _ _ _ (by omega)]; exact g12
  · rw [mm_nea _ _ _ _ _ (Ne.symm n1)]; exact gr j hj
  · rw [mm_nea _ _ _ _ _ (Ne.symm n2)]; exact gw j hj
theorem FtAt.putR {h : HP} {f r w : Nat} {F R W : Nat → Int32} (X : FtAt h f r w F R W) (k : Nat) (x : Int32) : FtAt (h.put r k (.int x)) f r w F (upd R k x) W := by
  obtain ⟨n1, n2, n3⟩ := X.ne
  obtain ⟨kf, gf, g11, g12, kr, lr, gr, kw, lw, gw, hrw⟩ := X
  refine ⟨kf, fun j hj => ?_, ?_, ?_, kr, lr, fun j hj => ?_, kw, lw, fun j hj => ?_, hrw⟩
  · rw [mm_nea _ _ _ _ _ n1]; exact gf j hj
  · rw [mm_nea _ _ _ _ _ n1]; exact g11
  · rw [mm_nea _ _ _ _ _ n1]; exact g12
  · by_cases e : j = k
    · subst e; rw [mm_self]; simp [upd]
    · rw [mm_nek _ _ _ _ _ e, gr j hj]; simp [upd, e]
  · rw [mm_nea _ _ _ _ _ (Ne.symm n3)]; exact gw j hj
theorem FtAt.putW {h : HP} {f r w : Nat} {F R W : Nat → Int32} (X : FtAt h f r w F R W) (k : Nat) (x : Int32) : FtAt (h.put w k (.int x)) f r w F R (upd W k x) := by
  obtain ⟨n1, n2, n3⟩ := X.ne
  obtain ⟨kf, gf, g11, g12, kr, lr, gr, kw, lw, gw, hrw⟩ := X
  refine ⟨kf, fun j hj => ?_, ?_, ?_, kr, lr, fun j hj => ?_, kw, lw, fun j hj => ?_, hrw⟩
  · rw [mm_nea _ _ _ _ _ n2]; exact gf j hj
  · rw [mm_nea _ _ _ _ _ n2]; exact g11
  · rw [mm_nea _ _ _ _ _ n2]; exact g12
  · rw [mm_nea _ _ _ _ _ n3]; exact gr j hj
  · by_cases e : j = k
    · subst e; rw [mm_self]; simp [upd]
    · rw [mm_nek _ _ _ _ _ e, gw j hj]; simp [upd, e]
def FtS (f r w : Nat) : Nat → Prop := fun q => q = f ∨ q = r ∨ q = w
theorem nb1 : narrow .boolean (.int (nI 1)) = .int (nI 1) := by decide
theorem nb0 : narrow .boolean (.int (nI 0)) = .int (nI 0) := by decide
theorem fb1 : fits .boolean (.int (nI 1)) = true := by decide
theorem fb0 : fits .boolean (.int (nI 0)) = true := by decide
def FtTo (h : HP) (f r w : Nat) (F R W : Nat → Int32) : HP → Prop := fun h' => FtAt h' f r w F R W ∧ Sm (FtS f r w) h h' ∧ h'.sz = h.sz
theorem FtAt.congr {h : HP} {f r w : Nat} {F R W F' R' W' : Nat → Int32} (X : FtAt h f r w F R W) (hF : ∀ k, k ≤ 10 → F k = F' k) (hR : ∀ k, k < 2 → R k = R' k) (hW : ∀ k, k < 2 → W k = W' k) : FtAt h f r w F' R' W' := by
  obtain ⟨kf, gf, g11, g12, kr, lr, gr, kw, lw, gw, hrw⟩ := X
  exact ⟨kf, fun k hk => by rw [gf k hk, hF k hk], g11, g12, kr, lr, fun k hk => by rw [gr k hk, hR k hk], kw, lw, fun k hk => by rw [gw k hk, hW k hk], hrw⟩
theorem FtAt.keep {h h' : HP} {f r w : Nat} {F R W : Nat → Int32} {S : Nat → Prop} (X : FtAt h f r w F R W) (M : Sm S h h') (hf : f < h.sz ∧ ¬ S f) (hr : r < h.sz ∧ ¬ S r) (hw : w < h.sz ∧ ¬ S w) : FtAt h' f r w F R W := by
  obtain ⟨kf, gf, g11, g12, kr, lr, gr, kw, lw, gw, hrw⟩ := X
  obtain ⟨a1, a2, a3⟩ := M.2 f hf.1
  obtain ⟨b1, b2, b3⟩ := M.2 r hr.1
  obtain ⟨c1, c2, c3⟩ := M.2 w hw.1
  rw [← a1] at kf; rw [← a3 hf.2] at gf g11 g12; rw [← b1] at kr; rw [← b2] at lr; rw [← b3 hr.2] at gr; rw [← c1] at kw; rw [← c2] at lw; rw [← c3 hw.2] at gw
  exact ⟨kf, gf, g11, g12, kr, lr, gr, kw, lw, gw, hrw⟩
theorem Sm.putS {S : Nat → Prop} {h0 h : HP} {a k : Nat} {v : Value} (M : Sm S h0 h) (ha : S a) : Sm S h0 (h.put a k v) := M.trans (Sm.put ha)
/-- a counting loop of a walk -/
theorem loopZ {σ : Type} (n : Nat) (I : Nat → σ → HP → Prop) (Zf : Nat → σ → HP → Prop) (fin : ∀ s h, I n s h → Zf n s h) (step : ∀ i s h, i < n → I i s h → (∀ s' h', I (i + 1) s' h' → Zf (i + 1) s' h') → Zf i s h) : ∀ i s h, i ≤ n → I i s h → Zf i s h := by
  intro i
  generalize hm : n - i = m
  induction m generalizing i with
  | zero =>
    intro s h hi hI
    have e : i = n := by omega
    subst e
    exact fin s h hI
  | succ m ih =>
    intro s h hi hI
    exact step i s h (by omega) hI (fun s' h' hI' => ih (i + 1) (by omega) s' h' (by omega) hI')
theorem nI_lt2 {j n : Nat} (h : j < n) (hn : n < 2147483648) : ¬ nI n ≤ nI j := nI_ge h hn
/-- how much a fountain gives -/
def gvN (F : Nat → Int32) (wn : Int32) : Int32 := let i := if nI 4 * F 2 - F 3 < nI 4 * F 1 - F 10 then nI 4 * F 2 - F 3 else nI 4 * F 1 - F 10; if i < wn then i else wn
def gvF (F : Nat → Int32) (n : Int32) : Nat → Int32 := upd (upd (upd F 10 (F 10 + n)) 3 (F 3 + n)) 7 (F 7 + n)
def gvB (F : Nat → Int32) (n : Int32) : Prop := 0 < n ∧ nI 4 * F 2 ≤ F 3 + n
set_option maxHeartbeats 4000000 in
theorem c_isUsedUp {E : Ev} {h : HP} {f r w : Nat} {F R W : Nat → Int32} (d k : Nat) (X : FtAt h f r w F R W) : Call E yX3_isUsedUp d k [.ref f] h (rI fun x h' => h' = h ∧ x = if nI 4 * F 2 ≤ F 3 then nI 1 else nI 0) := by
  obtain ⟨kf, gf, g11, g12, kr, lr, gr, kw, lw, gw, hrw⟩ := id X
  refine Call.of [.ref f] q920 (by decide) pn_X3 (Nat.le_of_ble_eq_true rfl) rfl ?_
  first | refine z_aload0 0 dX3_isUsedUp_0 ?_ | refine z_aload0N 0 dX3_isUsedUp_0 ?_ | refine z_aload0o 0 dX3_isUsedUp_0 ?_
  refine z_get 1 gX3_29 dX3_isUsedUp_1 kf (gf 3 (by decide)) ?_
  refine z_iconst 4 (nI 4) dX3_isUsedUp_4 kI4 ?_
  first | refine z_aload0 5 dX3_isUsedUp_5 ?_ | refine z_aload0N 5 dX3_isUsedUp_5 ?_ | refine z_aload0o 5 dX3_isUsedUp_5 ?_
  refine z_get 6 gX3_26 dX3_isUsedUp_6 kf (gf 2 (by decide)) ?_
  refine z_imul 9 dX3_isUsedUp_9 ?_
  refine z_iclt 10 17 dX3_isUsedUp_10 (by decide) (fun c_10 => ?_) (fun c_10 => ?_)
  · refine z_iconst 17 (nI 0) dX3_isUsedUp_17 kI0 ?_
    refine z_zreturn 18 rfl (rfl) dX3_isUsedUp_18 ?_
    exact ⟨_, rfl, rfl, by first | (rw [if_pos (by assumption)]; done) | (rw [if_pos (k2_le (by assumption))]; done) | (rw [if_neg (k2_nle (by assumption))]; done)⟩
  · refine z_iconst 13 (nI 1) dX3_isUsedUp_13 kI1 ?_
    refine z_goto 14 18 dX3_isUsedUp_14 (by decide) ?_
    refine z_zreturn 18 rfl (rfl) dX3_isUsedUp_18 ?_
    exact ⟨_, rfl, rfl, by first | (rw [if_pos (by assumption)]; done) | (rw [if_pos (k2_le (by assumption))]; done) | (rw [if_neg (k2_nle (by assumption))]; done)⟩

set_option maxHeartbeats 4000000 in
theorem c_jobs {E : Ev} {h : HP} {f r w : Nat} {F R W : Nat → Int32} (d k : Nat) (X : FtAt h f r w F R W) : Call E yX3_jobs d k [.ref f] h (rI fun x h' => h' = h ∧ x = (if R 0 = -1 then nI 0 else nI 1) + (if R 1 = -1 then nI 0 else nI 1)) := by
  obtain ⟨kf, gf, g11, g12, kr, lr, gr, kw, lw, gw, hrw⟩ := id X
  refine Call.of [.ref f] q928 (by decide) pn_X3 (Nat.le_of_ble_eq_true rfl) rfl ?_
  first | refine z_aload0 0 dX3_jobs_0 ?_ | refine z_aload0N 0 dX3_jobs_0 ?_ | refine z_aload0o 0 dX3_jobs_0 ?_
  refine z_get 1 gX3_9 dX3_jobs_1 kf g11 ?_
  refine z_iconst 4 (nI 0) dX3_jobs_4 kI0 ?_
  refine z_iald 5 (0) dX3_jobs_5 kr lr (rfl) (by decide) (by decide) (gr 0 (by decide)) ?_
  refine z_iconst 6 (-1) dX3_jobs_6 kIm1 ?_
  refine z_icne 7 14 dX3_jobs_7 (by decide) (fun c_7 => ?_) (fun c_7 => ?_)
  · refine z_iconst 14 (nI 1) dX3_jobs_14 kI1 ?_
    first | refine z_aload0 15 dX3_jobs_15 ?_ | refine z_aload0N 15 dX3_jobs_15 ?_ | refine z_aload0o 15 dX3_jobs_15 ?_
    refine z_get 16 gX3_9 dX3_jobs_16 kf g11 ?_
    refine z_iconst 19 (nI 1) dX3_jobs_19 kI1 ?_
    refine z_iald 20 (1) dX3_jobs_20 kr lr (rfl) (by decide) (by decide) (gr 1 (by decide)) ?_
    refine z_iconst 21 (-1) dX3_jobs_21 kIm1 ?_
    refine z_icne 22 29 dX3_jobs_22 (by decide) (fun c_22 => ?_) (fun c_22 => ?_)
    · refine z_iconst 29 (nI 1) dX3_jobs_29 kI1 ?_
      refine z_iadd 30 dX3_jobs_30 ?_
      refine z_ireturn 31 rfl dX3_jobs_31 ?_
      exact ⟨_, rfl, rfl, by simp only [*, if_true, if_false]⟩
    · refine z_iconst 25 (nI 0) dX3_jobs_25 kI0 ?_
      refine z_goto 26 30 dX3_jobs_26 (by decide) ?_
      refine z_iadd 30 dX3_jobs_30 ?_
      refine z_ireturn 31 rfl dX3_jobs_31 ?_
      exact ⟨_, rfl, rfl, by simp only [*, if_true, if_false]⟩
  · refine z_iconst 10 (nI 0) dX3_jobs_10 kI0 ?_
    refine z_goto 11 15 dX3_jobs_11 (by decide) ?_
    first | refine z_aload0 15 dX3_jobs_15 ?_ | refine z_aload0N 15 dX3_jobs_15 ?_ | refine z_aload0o 15 dX3_jobs_15 ?_
    refine z_get 16 gX3_9 dX3_jobs_16 kf g11 ?_
    refine z_iconst 19 (nI 1) dX3_jobs_19 kI1 ?_
    refine z_iald 20 (1) dX3_jobs_20 kr lr (rfl) (by decide) (by decide) (gr 1 (by decide)) ?_
    refine z_iconst 21 (-1) dX3_jobs_21 kIm1 ?_
    refine z_icne 22 29 dX3_jobs_22 (by decide) (fun c_22 => ?_) (fun c_22 => ?_)
    · refine z_iconst 29 (nI 1) dX3_jobs_29 kI1 ?_
      refine z_iadd 30 dX3_jobs_30 ?_
      refine z_ireturn 31 rfl dX3_jobs_31 ?_
      exact ⟨_, rfl, rfl, by simp only [*, if_true, if_false]⟩
    · refine z_iconst 25 (nI 0) dX3_jobs_25 kI0 ?_
      refine z_goto 26 30 dX3_jobs_26 (by decide) ?_
      refine z_iadd 30 dX3_jobs_30 ?_
      refine z_ireturn 31 rfl dX3_jobs_31 ?_
      exact ⟨_, rfl, rfl, by simp only [*, if_true, if_false]⟩

set_option maxHeartbeats 4000000 in
theorem c_report {E : Ev} {h : HP} {f r w : Nat} {F R W : Nat → Int32} (d k : Nat) {j : Nat} {dy : Int32} (hj : j < 2) (X : FtAt h f r w F R W) : Call E yX3_report d k [.ref f, .int (nI j), .int dy] h (rV (FtTo h f r w F (upd R j dy) (upd W j (nI 0)))) := by
  obtain ⟨kf, gf, g11, g12, kr, lr, gr, kw, lw, gw, hrw⟩ := id X
  refine Call.of [.ref f, .int (nI j), .int dy] q1513 (by decide) pn_X3 (Nat.le_of_ble_eq_true rfl) rfl ?_
  first | refine z_aload0 0 dX3_report_0 ?_ | refine z_aload0N 0 dX3_report_0 ?_ | refine z_aload0o 0 dX3_report_0 ?_
  refine z_get 1 gX3_9 dX3_report_1 kf g11 ?_
  refine z_iload1 4 dX3_report_4 ?_
  refine z_iload2 5 dX3_report_5 ?_
  refine z_iast 6 (j) dX3_report_6 kr lr (rfl) (hj) (by decide) ?_
  have X1 := X.putR j dy
  obtain ⟨kf, gf, g11, g12, kr, lr, gr, kw, lw, gw, hrw⟩ := id X1
  first | refine z_aload0 7 dX3_report_7 ?_ | refine z_aload0N 7 dX3_report_7 ?_ | refine z_aload0o 7 dX3_report_7 ?_
  refine z_get 8 gX3_15 dX3_report_8 kf g12 ?_
  refine z_iload1 11 dX3_report_11 ?_
  refine z_iconst 12 (nI 0) dX3_report_12 kI0 ?_
  refine z_iast 13 (j) dX3_report_13 kw lw (rfl) (hj) (by decide) ?_
  have X2 := X1.putW j (nI 0)
  obtain ⟨kf, gf, g11, g12, kr, lr, gr, kw, lw, gw, hrw⟩ := id X2
  refine z_return 14 rfl dX3_report_14 ?_
  exact ⟨rfl, X2, ((Sm.refl _ h).putS (Or.inr (Or.inl rfl))).putS (Or.inr (Or.inr rfl)), rfl⟩

set_option maxHeartbeats 4000000 in
theorem c_burst {E : Ev} {h : HP} {f r w : Nat} {F R W : Nat → Int32} (d k : Nat) {dy : Int32} (hd1 : 1 ≤ d) (X : FtAt h f r w F R W) : Call E yX3_burst d k [.ref f, .int dy] h (rV (FtTo h f r w (upd (upd F 6 (nI 1)) 9 (F 9 + nI 1)) (upd R 0 dy) (upd W 0 (nI 0)))) := by
  obtain ⟨kf, gf, g11, g12, kr, lr, gr, kw, lw, gw, hrw⟩ := id X
  refine Call.of [.ref f, .int dy] q1509 (by decide) pn_X3 (Nat.le_of_ble_eq_true rfl) rfl ?_
  first | refine z_aload0 0 dX3_burst_0 ?_ | refine z_aload0N 0 dX3_burst_0 ?_ | refine z_aload0o 0 dX3_burst_0 ?_
  refine z_iconst 1 (nI 1) dX3_burst_1 kI1 ?_
  refine z_put 2 pX3_38 (fun h => by cases h) dX3_burst_2 kf (nb1) (fb1) ?_
  have X1 := X.put 6 (by decide) (nI 1)
  obtain ⟨kf, gf, g11, g12, kr, lr, gr, kw, lw, gw, hrw⟩ := id X1
  first | refine z_aload0 5 dX3_burst_5 ?_ | refine z_aload0N 5 dX3_burst_5 ?_ | refine z_aload0o 5 dX3_burst_5 ?_
  refine z_dup 6 dX3_burst_6 (by first | rfl | exact va_rf_cat _) ?_
  refine z_get 7 gX3_47 dX3_burst_7 kf (gf 9 (by decide)) ?_
  refine z_iconst 10 (nI 1) dX3_burst_10 kI1 ?_
  refine z_iadd 11 dX3_burst_11 ?_
  refine z_put 12 pX3_47 (fun h => by cases h) dX3_burst_12 kf (rfl) (rfl) ?_
  have X2 := X1.put 9 (by decide) (F 9 + nI 1)
  obtain ⟨kf, gf, g11, g12, kr, lr, gr, kw, lw, gw, hrw⟩ := id X2
  first | refine z_aload0 15 dX3_burst_15 ?_ | refine z_aload0N 15 dX3_burst_15 ?_ | refine z_aload0o 15 dX3_burst_15 ?_
  refine z_iconst 16 (nI 0) dX3_burst_16 kI0 ?_
  refine z_iload1 17 dX3_burst_17 ?_
  refine z_V2 (k' := k) 18 vX3_58 dX3_burst_18 kf (c_report 0 0 (by decide) X2) (by omega) (by omega) (Nat.le_of_ble_eq_true rfl) (aft_V fun h3 hq => ?_)
  obtain ⟨X3, M3, z3⟩ := hq
  refine z_return 21 rfl dX3_burst_21 ?_
  exact ⟨rfl, X3, (((Sm.refl _ h).putS (Or.inl rfl)).putS (Or.inl rfl)).trans (M3.mono fun _ _ q => q), z3⟩

set_option maxHeartbeats 4000000 in
theorem c_give {E : Ev} {h : HP} {f r w : Nat} {F R W : Nat → Int32} (d k : Nat) {wn dy : Int32} (hd1 : 2 ≤ d) (X : FtAt h f r w F R W) : Call E yX3_give d k [.ref f, .int wn, .int dy] h (rI fun x h' => x = gvN F wn ∧ ((gvB F (gvN F wn) ∧ FtTo h f r w (gvF F (gvN F wn)) (upd R 1 dy) (upd W 1 (nI 0)) h') ∨ (¬ gvB F (gvN F wn) ∧ FtTo h f r w (gvF F (gvN F wn)) R W h'))) := by
  obtain ⟨kf, gf, g11, g12, kr, lr, gr, kw, lw, gw, hrw⟩ := id X
  refine Call.of [.ref f, .int wn, .int dy, dum] q1702 (by decide) pn_X3 (Nat.le_of_ble_eq_true rfl) rfl ?_
  refine z_iload1 0 dX3_give_0 ?_
  refine z_iconst 1 (nI 4) dX3_give_1 kI4 ?_
  first | refine z_aload0 2 dX3_give_2 ?_ | refine z_aload0N 2 dX3_give_2 ?_ | refine z_aload0o 2 dX3_give_2 ?_
  refine z_get 3 gX3_22 dX3_give_3 kf (gf 1 (by decide)) ?_
  refine z_imul 6 dX3_give_6 ?_
  first | refine z_aload0 7 dX3_give_7 ?_ | refine z_aload0N 7 dX3_give_7 ?_ | refine z_aload0o 7 dX3_give_7 ?_
  refine z_get 8 gX3_50 dX3_give_8 kf (gf 10 (by decide)) ?_
  refine z_isub 11 dX3_give_11 ?_
  refine z_iconst 12 (nI 4) dX3_give_12 kI4 ?_
  first | refine z_aload0 13 dX3_give_13 ?_ | refine z_aload0N 13 dX3_give_13 ?_ | refine z_aload0o 13 dX3_give_13 ?_
  refine z_get 14 gX3_26 dX3_give_14 kf (gf 2 (by decide)) ?_
  refine z_imul 17 dX3_give_17 ?_
  first | refine z_aload0 18 dX3_give_18 ?_ | refine z_aload0N 18 dX3_give_18 ?_ | refine z_aload0o 18 dX3_give_18 ?_
  refine z_get 19 gX3_29 dX3_give_19 kf (gf 3 (by decide)) ?_
  refine z_isub 22 dX3_give_22 ?_
  refine z_mmin 23 q1703 q592 q128 q593 dX3_give_23 (by omega) (Nat.le_of_ble_eq_true rfl) ?_
  refine z_mmin 26 q1703 q592 q128 q593 dX3_give_26 (by omega) (Nat.le_of_ble_eq_true rfl) ?_
  show Z E _ d _ k h 29 [.ref f, .int wn, .int dy, dum] [.int (gvN F wn)]
  generalize hn : gvN F wn = n
  refine z_istore3 29 dX3_give_29 rfl ?_
  first | refine z_aload0 30 dX3_give_30 ?_ | refine z_aload0N 30 dX3_give_30 ?_ | refine z_aload0o 30 dX3_give_30 ?_
  refine z_dup 31 dX3_give_31 (by first | rfl | exact va_rf_cat _) ?_
  refine z_get 32 gX3_50 dX3_give_32 kf (gf 10 (by decide)) ?_
  refine z_iload3 35 dX3_give_35 ?_
  refine z_iadd 36 dX3_give_36 ?_
  refine z_put 37 pX3_50 (fun h => by cases h) dX3_give_37 kf (rfl) (rfl) ?_
  have X1 := X.put 10 (by decide) (F 10 + n)
  obtain ⟨kf, gf, g11, g12, kr, lr, gr, kw, lw, gw, hrw⟩ := id X1
  first | refine z_aload0 40 dX3_give_40 ?_ | refine z_aload0N 40 dX3_give_40 ?_ | refine z_aload0o 40 dX3_give_40 ?_
  refine z_dup 41 dX3_give_41 (by first | rfl | exact va_rf_cat _) ?_
  refine z_get 42 gX3_29 dX3_give_42 kf (gf 3 (by decide)) ?_
  refine z_iload3 45 dX3_give_45 ?_
  refine z_iadd 46 dX3_give_46 ?_
  refine z_put 47 pX3_29 (fun h => by cases h) dX3_give_47 kf (rfl) (rfl) ?_
  have X2 := X1.put 3 (by decide) (F 3 + n)
  obtain ⟨kf, gf, g11, g12, kr, lr, gr, kw, lw, gw, hrw⟩ := id X2
  first | refine z_aload0 50 dX3_give_50 ?_ | refine z_aload0N 50 dX3_give_50 ?_ | refine z_aload0o 50 dX3_give_50 ?_
  refine z_dup 51 dX3_give_51 (by first | rfl | exact va_rf_cat _) ?_
  refine z_get 52 gX3_41 dX3_give_52 kf (gf 7 (by decide)) ?_
  refine z_iload3 55 dX3_give_55 ?_
  refine z_iadd 56 dX3_give_56 ?_
  refine z_put 57 pX3_41 (fun h => by cases h) dX3_give_57 kf (rfl) (rfl) ?_
  have X3 := X2.put 7 (by decide) (F 7 + n)
  obtain ⟨kf, gf, g11, g12, kr, lr, gr, kw, lw, gw, hrw⟩ := id X3
  refine z_iload3 60 dX3_give_60 ?_
  refine z_ifle 61 77 dX3_give_61 (by decide) (fun c_61 => ?_) (fun c_61 => ?_)
  · have hb : ¬ gvB F n := fun q => absurd q.1 (k2_nlt c_61)
    refine z_iload3 77 dX3_give_77 ?_
    refine z_ireturn 78 rfl dX3_give_78 ?_
    first | exact ⟨_, rfl, rfl, Or.inr ⟨hb, X3, ((((Sm.refl _ h).putS (Or.inl rfl)).putS (Or.inl rfl)).putS (Or.inl rfl)), rfl⟩⟩ | exact ⟨_, rfl, rfl, Or.inl ⟨hb, X5, (((((Sm.refl _ h).putS (Or.inl rfl)).putS (Or.inl rfl)).putS (Or.inl rfl))).trans (M5.mono fun _ _ q => q), z5⟩⟩
  · first | refine z_aload0 64 dX3_give_64 ?_ | refine z_aload0N 64 dX3_give_64 ?_ | refine z_aload0o 64 dX3_give_64 ?_
    refine z_V0 (k' := k) 65 vX3_68 dX3_give_65 kf (c_isUsedUp 0 0 X3) (by omega) (by omega) (Nat.le_of_ble_eq_true rfl) (aft_I fun x h4 hq => ?_)
    obtain ⟨rfl, hx⟩ := hq
    have hx : x = if nI 4 * F 2 ≤ F 3 + n then nI 1 else nI 0 := hx
    subst hx
    refine z_ifeq 68 77 dX3_give_68 (by decide) (fun c_68 => ?_) (fun c_68 => ?_)
    · have hb : ¬ gvB F n := fun q => by rw [if_pos q.2] at c_68; exact absurd c_68 (by decide)
      refine z_iload3 77 dX3_give_77 ?_
      refine z_ireturn 78 rfl dX3_give_78 ?_
      first | exact ⟨_, rfl, rfl, Or.inr ⟨hb, X3, ((((Sm.refl _ h).putS (Or.inl rfl)).putS (Or.inl rfl)).putS (Or.inl rfl)), rfl⟩⟩ | exact ⟨_, rfl, rfl, Or.inl ⟨hb, X5, (((((Sm.refl _ h).putS (Or.inl rfl)).putS (Or.inl rfl)).putS (Or.inl rfl))).trans (M5.mono fun _ _ q => q), z5⟩⟩
    · have hb : gvB F n := ⟨k2_lt c_61, Classical.byContradiction fun q => c_68 (by rw [if_neg q]; rfl)⟩
      first | refine z_aload0 71 dX3_give_71 ?_ | refine z_aload0N 71 dX3_give_71 ?_ | refine z_aload0o 71 dX3_give_71 ?_
      refine z_iconst 72 (nI 1) dX3_give_72 kI1 ?_
      refine z_iload2 73 dX3_give_73 ?_
      refine z_V2 (k' := k) 74 vX3_58 dX3_give_74 kf (c_report 0 0 (by decide) X3) (by omega) (by omega) (Nat.le_of_ble_eq_true rfl) (aft_V fun h5 hq => ?_)
      obtain ⟨X5, M5, z5⟩ := hq
      refine z_iload3 77 dX3_give_77 ?_
      refine z_ireturn 78 rfl dX3_give_78 ?_
      first | exact ⟨_, rfl, rfl, Or.inr ⟨hb, X3, ((((Sm.refl _ h).putS (Or.inl rfl)).putS (Or.inl rfl)).putS (Or.inl rfl)), rfl⟩⟩ | exact ⟨_, rfl, rfl, Or.inl ⟨hb, X5, (((((Sm.refl _ h).putS (Or.inl rfl)).putS (Or.inl rfl)).putS (Or.inl rfl))).trans (M5.mono fun _ _ q => q), z5⟩⟩

set_option maxHeartbeats 4000000 in
theorem c_done0 {E : Ev} {h : HP} {f r w : Nat} {F R W : Nat → Int32} (d k : Nat) (X : FtAt h f r w F R W) : Call E yX3_done d k [.ref f, .int (nI 0)] h (rV (FtTo h f r w (upd F 6 (nI 0)) (upd R 0 (-1)) W)) := by
  obtain ⟨kf, gf, g11, g12, kr, lr, gr, kw, lw, gw, hrw⟩ := id X
  refine Call.of [.ref f, .int (nI 0)] q1633 (by decide) pn_X3 (Nat.le_of_ble_eq_true rfl) rfl ?_
  first | refine z_aload0 0 dX3_done_0 ?_ | refine z_aload0N 0 dX3_done_0 ?_ | refine z_aload0o 0 dX3_done_0 ?_
  refine z_get 1 gX3_9 dX3_done_1 kf g11 ?_
  refine z_iload1 4 dX3_done_4 ?_
  refine z_iconst 5 (-1) dX3_done_5 kIm1 ?_
  refine z_iast 6 (0) dX3_done_6 kr lr (rfl) (by decide) (by decide) ?_
  have X1 := X.putR 0 (-1)
  obtain ⟨kf, gf, g11, g12, kr, lr, gr, kw, lw, gw, hrw⟩ := id X1
  refine z_iload1 7 dX3_done_7 ?_
  refine z_ifne 8 19 dX3_done_8 (by decide) (fun c_8 => by first | exact absurd c_8 (rfl) | exact absurd (rfl) c_8) (fun c_8 => ?_)
  first | refine z_aload0 11 dX3_done_11 ?_ | refine z_aload0N 11 dX3_done_11 ?_ | refine z_aload0o 11 dX3_done_11 ?_
  refine z_iconst 12 (nI 0) dX3_done_12 kI0 ?_
  refine z_put 13 pX3_38 (fun h => by cases h) dX3_done_13 kf (nb0) (fb0) ?_
  have X2 := X1.put 6 (by decide) (nI 0)
  obtain ⟨kf, gf, g11, g12, kr, lr, gr, kw, lw, gw, hrw⟩ := id X2
  refine z_goto 16 34 dX3_done_16 (by decide) ?_
  refine z_return 34 rfl dX3_done_34 ?_
  exact ⟨rfl, X2, ((Sm.refl _ h).putS (Or.inr (Or.inl rfl))).putS (Or.inl rfl), rfl⟩

set_option maxHeartbeats 4000000 in
theorem c_done1 {E : Ev} {h : HP} {f r w : Nat} {F R W : Nat → Int32} (d k : Nat) (X : FtAt h f r w F R W) : Call E yX3_done d k [.ref f, .int (nI 1)] h (rV (FtTo h f r w (upd (upd F 3 (nI 0)) 8 (F 8 + nI 1)) (upd R 1 (-1)) W)) := by
  obtain ⟨kf, gf, g11, g12, kr, lr, gr, kw, lw, gw, hrw⟩ := id X
  refine Call.of [.ref f, .int (nI 1)] q1633 (by decide) pn_X3 (Nat.le_of_ble_eq_true rfl) rfl ?_
  first | refine z_aload0 0 dX3_done_0 ?_ | refine z_aload0N 0 dX3_done_0 ?_ | refine z_aload0o 0 dX3_done_0 ?_
  refine z_get 1 gX3_9 dX3_done_1 kf g11 ?_
  refine z_iload1 4 dX3_done_4 ?_
  refine z_iconst 5 (-1) dX3_done_5 kIm1 ?_
  refine z_iast 6 (1) dX3_done_6 kr lr (rfl) (by decide) (by decide) ?_
  have X1 := X.putR 1 (-1)
  obtain ⟨kf, gf, g11, g12, kr, lr, gr, kw, lw, gw, hrw⟩ := id X1
  refine z_iload1 7 dX3_done_7 ?_
  refine z_ifne 8 19 dX3_done_8 (by decide) (fun c_8 => ?_) (fun c_8 => by first | exact absurd c_8 (by decide) | exact absurd (by decide) c_8)
  first | refine z_aload0 19 dX3_done_19 ?_ | refine z_aload0N 19 dX3_done_19 ?_ | refine z_aload0o 19 dX3_done_19 ?_
  refine z_iconst 20 (nI 0) dX3_done_20 kI0 ?_
  refine z_put 21 pX3_29 (fun h => by cases h) dX3_done_21 kf (rfl) (rfl) ?_
  have X2 := X1.put 3 (by decide) (nI 0)
  obtain ⟨kf, gf, g11, g12, kr, lr, gr, kw, lw, gw, hrw⟩ := id X2
  first | refine z_aload0 24 dX3_done_24 ?_ | refine z_aload0N 24 dX3_done_24 ?_ | refine z_aload0o 24 dX3_done_24 ?_
  refine z_dup 25 dX3_done_25 (by first | rfl | exact va_rf_cat _) ?_
  refine z_get 26 gX3_44 dX3_done_26 kf (gf 8 (by decide)) ?_
  refine z_iconst 29 (nI 1) dX3_done_29 kI1 ?_
  refine z_iadd 30 dX3_done_30 ?_
  refine z_put 31 pX3_44 (fun h => by cases h) dX3_done_31 kf (rfl) (rfl) ?_
  have X3 := X2.put 8 (by decide) (F 8 + nI 1)
  obtain ⟨kf, gf, g11, g12, kr, lr, gr, kw, lw, gw, hrw⟩ := id X3
  refine z_return 34 rfl dX3_done_34 ?_
  exact ⟨rfl, X3, (((Sm.refl _ h).putS (Or.inr (Or.inl rfl))).putS (Or.inl rfl)).putS (Or.inl rfl), rfl⟩
