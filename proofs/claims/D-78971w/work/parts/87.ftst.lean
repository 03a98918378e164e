/-! PARK: bursting, ending a job -/
def buP (P : Nat → Nat) (i : Nat) : Nat → Nat := rpP (lyP (lyP P i 5 1) i 9 (ofP P i 9 + 1)) (2 * i)
theorem fzS_bu (P : Nat → Nat) (i : Nat) : fzS i P = if ofP P i 6 = 1 ∧ ofP P i 3 + ofP P i 4 + ofP P i 5 = 0 then buP P i else P := by
  have e1 : ofP (lyP P i 5 1) i 9 = ofP P i 9 := upn_n _ _ (by omega)
  unfold fzS buP
  rw [e1]
theorem lyP_of (P : Nat → Nat) (i v w u : Nat) : ofP (lyP P i v u) i w = if w = v then u else ofP P i w := by
  simp only [lyP, ofP, upn]
  by_cases c : w = v
  · simp [c]
  · rw [if_neg (by omega), if_neg c]
theorem lyP_jb (P : Nat → Nat) (i v u j w : Nat) (hi : i < 8) (hv : v < 10) : jbP (lyP P i v u) j w = jbP P j w := upn_n _ _ (by omega)
theorem lyP_c (P : Nat → Nat) (i v u c : Nat) (h : c ≠ 13 + 10 * i + v) : lyP P i v u c = P c := upn_n _ _ h
theorem rpP_c (P : Nat → Nat) (j c : Nat) (h : ∀ w, w < 3 → c ≠ 93 + 3 * j + w) : rpP P j c = P c := by
  unfold rpP
  rw [upn_n _ _ (h 2 (by decide)), upn_n _ _ (h 1 (by decide)), upn_n _ _ (h 0 (by decide))]
theorem enP_c (P : Nat → Nat) (j c : Nat) (h : ∀ w, w < 3 → c ≠ 93 + 3 * j + w) : enP P j c = P c := by
  show upn (upn (upn P (93 + 3 * j + 0) 0) (93 + 3 * j + 1) 0) (93 + 3 * j + 2) 0 c = P c
  rw [upn_n _ _ (h 2 (by decide)), upn_n _ _ (h 1 (by decide)), upn_n _ _ (h 0 (by decide))]
theorem enP_s (P : Nat → Nat) (j w : Nat) (hw : w < 3) : jbP (enP P j) j w = 0 := by
  show upn (upn (upn P (93 + 3 * j + 0) 0) (93 + 3 * j + 1) 0) (93 + 3 * j + 2) 0 (93 + 3 * j + w) = 0
  simp only [upn]
  have : w = 0 ∨ w = 1 ∨ w = 2 := by omega
  rcases this with e | e | e <;> subst e <;> simp
theorem ftF_all {F : Nat → Int32} {P : Nat → Nat} {t i : Nat} (h0 : F 0 = nI (ofP P i 6)) (h1 : F 1 = nI (ofP P i 0)) (h2 : F 2 = nI (ofP P i 1)) (h3 : F 3 = nI (ofP P i 2)) (h4 : F 4 = nI (ofP P i 3)) (h5 : F 5 = nI (ofP P i 4)) (h6 : F 6 = nI (ofP P i 5)) (h7 : F 7 = nI (ofP P i 7)) (h8 : F 8 = nI (ofP P i 8)) (h9 : F 9 = nI (ofP P i 9)) (h10 : F 10 = nI t) : ∀ k, k ≤ 10 → F k = ftF P t i k := by
  intro k hk
  have hk2 : k = 0 ∨ k = 1 ∨ k = 2 ∨ k = 3 ∨ k = 4 ∨ k = 5 ∨ k = 6 ∨ k = 7 ∨ k = 8 ∨ k = 9 ∨ k = 10 := by omega
  rcases hk2 with e | e | e | e | e | e | e | e | e | e | e <;> subst e <;> assumption
theorem c_pkBurst {E : Ev} {h0 h : HP} {L tg0 tg P td : Nat → Nat} {pn : Nat} {fz : Bool} (T : PkTo h0 L tg0 tg P td pn fz h) (h6 : P 6 ≤ 6) {i : Nat} (hi : i < 8) (d k : Nat) (hd : 1 ≤ d) : Call E yX3_burst d k [.ref (L (10 + i)), .int (nI (P 5))] h (rV (PkTo h0 L tg0 tg (buP P i) td pn fz)) := by
  obtain ⟨w, x, x2⟩ := T.V.2.2.2 i hi
  refine (c_burst d k hd x).mono (fun r h' q => ⟨q.1, ?_⟩)
  have ho : ∀ v, v < 10 → ofP (buP P i) i v = if v = 9 then ofP P i 9 + 1 else if v = 5 then 1 else ofP P i v := fun v hv => by
    unfold buP; rw [rpP_of _ _ _ _ hi hv, lyP_of, lyP_of]
  have j1 : ∀ v, v < 3 → jbP (buP P i) (2 * i + 1) v = jbP P (2 * i + 1) v := fun v hv => by unfold buP; rw [rpP_jn _ (by omega) hv, lyP_jb _ _ _ _ _ _ hi (by decide), lyP_jb _ _ _ _ _ _ hi (by decide)]
  have j0 := rpP_js (lyP (lyP P i 5 1) i 9 (ofP P i 9 + 1)) (2 * i)
  rw [show lyP (lyP P i 5 1) i 9 (ofP P i 9 + 1) 5 = P 5 from by rw [lyP_c _ _ _ _ _ (by omega), lyP_c _ _ _ _ _ (by omega)]] at j0
  have j0 : jbP (buP P i) (2 * i) 0 = 1 ∧ jbP (buP P i) (2 * i) 1 = P 5 ∧ jbP (buP P i) (2 * i) 2 = 0 := j0
  refine T.ft hi q.2 (ftF_all ?_ ?_ ?_ ?_ ?_ ?_ ?_ ?_ ?_ ?_ rfl) (fun k hk => ?_) (fun k hk q => ?_) (fun c hc => ?_) (fun _ _ => rfl) h6
  · rw [ho 6 (by decide)]; rfl
  · rw [ho 0 (by decide)]; rfl
  · rw [ho 1 (by decide)]; rfl
  · rw [ho 2 (by decide)]; rfl
  · rw [ho 3 (by decide)]; rfl
  · rw [ho 4 (by decide)]; rfl
  · rw [ho 5 (by decide)]; rfl
  · rw [ho 7 (by decide)]; rfl
  · rw [ho 8 (by decide)]; rfl
  · rw [ho 9 (by decide)]; show nI (ofP P i 9) + nI 1 = _; rw [nI_add]; rfl
  · have hk2 : k = 0 ∨ k = 1 := by omega
    rcases hk2 with e | e <;> subst e
    · show nI (P 5) = if jbP (buP P i) (2 * i) 0 = 1 then nI (jbP (buP P i) (2 * i) 1) else -1
      rw [if_pos j0.1]; exact congrArg nI j0.2.1.symm
    · show ftR P i 1 = ftR _ i 1
      unfold ftR; rw [j1 0 (by decide), j1 1 (by decide)]
  · have hk2 : k = 0 ∨ k = 1 := by omega
    rcases hk2 with e | e <;> subst e
    · show nI 0 = nI (jbP (buP P i) (2 * i) 2); exact congrArg nI j0.2.2.symm
    · rw [j1 0 (by decide)] at q; rw [j1 2 (by decide)]; exact x2 1 (by decide) q
  · unfold buP
    rw [rpP_c _ _ _ (fun v hv => by have := hc.2 v (by omega); omega), lyP_c _ _ _ _ _ (hc.1 9 (by decide)), lyP_c _ _ _ _ _ (hc.1 5 (by decide))]
theorem fiP_0 (P : Nat → Nat) (i : Nat) : fiP P (2 * i) = enP (lyP P i 5 0) (2 * i) := by
  unfold fiP
  rw [if_pos (by omega), show 2 * i / 2 = i from by omega]
theorem fiP_1 (P : Nat → Nat) (i : Nat) : fiP P (2 * i + 1) = enP (lyP (lyP P i 2 0) i 8 (ofP P i 8 + 1)) (2 * i + 1) := by
  have e1 : ofP (lyP P i 2 0) i 8 = ofP P i 8 := upn_n _ _ (by omega)
  unfold fiP
  rw [if_neg (by omega), show (2 * i + 1) / 2 = i from by omega, e1]
theorem enP_of (P : Nat → Nat) (j pl w : Nat) (hp : pl < 8) (hw : w < 10) : ofP (enP P j) pl w = ofP P pl w := enP_c _ _ _ (fun v hv => by omega)
theorem enP_jn (P : Nat → Nat) {j i w : Nat} (e : i ≠ j) (hw : w < 3) : jbP (enP P j) i w = jbP P i w := enP_c _ _ _ (fun v hv => by omega)
theorem c_pkDone0 {E : Ev} {h0 h : HP} {L tg0 tg P td : Nat → Nat} {pn : Nat} {fz : Bool} (T : PkTo h0 L tg0 tg P td pn fz h) (h6 : P 6 ≤ 6) {i : Nat} (hi : i < 8) (d k : Nat) : Call E yX3_done d k [.ref (L (10 + i)), .int (nI 0)] h (rV (fun h' => PkTo h0 L tg0 tg (fiP P (2 * i)) td pn fz h' ∧ Sm (FtS (L (10 + i)) (L (20 + i)) (L (30 + i))) h h')) := by
  obtain ⟨w, x, x2⟩ := T.V.2.2.2 i hi
  refine (c_done0 d k x).mono (fun r h' q => ⟨q.1, ?_, q.2.2.1⟩)
  rw [fiP_0]
  have ho : ∀ v, v < 10 → ofP (enP (lyP P i 5 0) (2 * i)) i v = if v = 5 then 0 else ofP P i v := fun v hv => by rw [enP_of _ _ _ _ hi hv, lyP_of]
  have j1 : ∀ v, v < 3 → jbP (enP (lyP P i 5 0) (2 * i)) (2 * i + 1) v = jbP P (2 * i + 1) v := fun v hv => by rw [enP_jn _ (by omega) hv, lyP_jb _ _ _ _ _ _ hi (by decide)]
  have j0 : jbP (enP (lyP P i 5 0) (2 * i)) (2 * i) 0 = 0 := enP_s _ _ 0 (by decide)
  refine T.ft hi q.2 (ftF_all ?_ ?_ ?_ ?_ ?_ ?_ ?_ ?_ ?_ ?_ rfl) (fun k hk => ?_) (fun k hk q => ?_) (fun c hc => ?_) (fun _ _ => rfl) h6
  · rw [ho 6 (by decide)]; rfl
  · rw [ho 0 (by decide)]; rfl
  · rw [ho 1 (by decide)]; rfl
  · rw [ho 2 (by decide)]; rfl
  · rw [ho 3 (by decide)]; rfl
  · rw [ho 4 (by decide)]; rfl
  · rw [ho 5 (by decide)]; rfl
  · rw [ho 7 (by decide)]; rfl
  · rw [ho 8 (by decide)]; rfl
  · rw [ho 9 (by decide)]; rfl
  · have hk2 : k = 0 ∨ k = 1 := by omega
    rcases hk2 with e | e <;> subst e
    · show (-1 : Int32) = if jbP (enP (lyP P i 5 0) (2 * i)) (2 * i) 0 = 1 then nI (jbP (enP (lyP P i 5 0) (2 * i)) (2 * i) 1) else -1
      rw [if_neg (by omega)]
    · show ftR P i 1 = ftR _ i 1
      unfold ftR; rw [j1 0 (by decide), j1 1 (by decide)]
  · have hk2 : k = 0 ∨ k = 1 := by omega
    rcases hk2 with e | e <;> subst e
    · exact absurd (show jbP (enP (lyP P i 5 0) (2 * i)) (2 * i) 0 = 1 from q) (by omega)
    · rw [j1 0 (by decide)] at q; rw [j1 2 (by decide)]; exact x2 1 (by decide) q
  · rw [enP_c _ _ _ (fun v hv => by have := hc.2 v (by omega); omega), lyP_c _ _ _ _ _ (hc.1 5 (by decide))]
theorem c_pkDone1 {E : Ev} {h0 h : HP} {L tg0 tg P td : Nat → Nat} {pn : Nat} {fz : Bool} (T : PkTo h0 L tg0 tg P td pn fz h) (h6 : P 6 ≤ 6) {i : Nat} (hi : i < 8) (d k : Nat) : Call E yX3_done d k [.ref (L (10 + i)), .int (nI 1)] h (rV (fun h' => PkTo h0 L tg0 tg (fiP P (2 * i + 1)) td pn fz h' ∧ Sm (FtS (L (10 + i)) (L (20 + i)) (L (30 + i))) h h')) := by
  obtain ⟨w, x, x2⟩ := T.V.2.2.2 i hi
  refine (c_done1 d k x).mono (fun r h' q => ⟨q.1, ?_, q.2.2.1⟩)
  rw [fiP_1]
  have ho : ∀ v, v < 10 → ofP (enP (lyP (lyP P i 2 0) i 8 (ofP P i 8 + 1)) (2 * i + 1)) i v = if v = 8 then ofP P i 8 + 1 else if v = 2 then 0 else ofP P i v := fun v hv => by rw [enP_of _ _ _ _ hi hv, lyP_of, lyP_of]
  have j1 : ∀ v, v < 3 → jbP (enP (lyP (lyP P i 2 0) i 8 (ofP P i 8 + 1)) (2 * i + 1)) (2 * i + 0) v = jbP P (2 * i + 0) v := fun v hv => by rw [enP_jn _ (by omega) hv, lyP_jb _ _ _ _ _ _ hi (by decide), lyP_jb _ _ _ _ _ _ hi (by decide)]
  have j0 : jbP (enP (lyP (lyP P i 2 0) i 8 (ofP P i 8 + 1)) (2 * i + 1)) (2 * i + 1) 0 = 0 := enP_s _ _ 0 (by decide)
  refine T.ft hi q.2 (ftF_all ?_ ?_ ?_ ?_ ?_ ?_ ?_ ?_ ?_ ?_ rfl) (fun k hk => ?_) (fun k hk q => ?_) (fun c hc => ?_) (fun _ _ => rfl) h6
  · rw [ho 6 (by decide)]; rfl
  · rw [ho 0 (by decide)]; rfl
  · rw [ho 1 (by decide)]; rfl
  · rw [ho 2 (by decide)]; rfl
  · rw [ho 3 (by decide)]; rfl
  · rw [ho 4 (by decide)]; rfl
  · rw [ho 5 (by decide)]; rfl
  · rw [ho 7 (by decide)]; rfl
  · rw [ho 8 (by decide)]; show nI (ofP P i 8) + nI 1 = _; rw [nI_add]; rfl
  · rw [ho 9 (by decide)]; rfl
  · have hk2 : k = 0 ∨ k = 1 := by omega
    rcases hk2 with e | e <;> subst e
    · show ftR P i 0 = ftR _ i 0
      unfold ftR; rw [j1 0 (by decide), j1 1 (by decide)]
    · show (-1 : Int32) = if jbP (enP (lyP (lyP P i 2 0) i 8 (ofP P i 8 + 1)) (2 * i + 1)) (2 * i + 1) 0 = 1 then nI (jbP (enP (lyP (lyP P i 2 0) i 8 (ofP P i 8 + 1)) (2 * i + 1)) (2 * i + 1) 1) else -1
      rw [if_neg (by omega)]
  · have hk2 : k = 0 ∨ k = 1 := by omega
    rcases hk2 with e | e <;> subst e
    · rw [j1 0 (by decide)] at q; rw [j1 2 (by decide)]; exact x2 0 (by decide) q
    · exact absurd q (by omega)
  · rw [enP_c _ _ _ (fun v hv => by have := hc.2 (3 + v) (by omega); omega), lyP_c _ _ _ _ _ (hc.1 8 (by decide)), lyP_c _ _ _ _ _ (hc.1 2 (by decide))]
