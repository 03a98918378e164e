/-! TREEMAP: fixAfterDeletion -/
section TWlf
variable {S : Nat → Prop} {lt : Nat → Nat → Prop} {L R P : Nat → Option Nat} {rt : Option Nat} {D : Nat → Nat → Prop}
theorem TW.lf (h : TW S lt L R P rt D) {q r w : Nat} (hq : S q) (hr : R q = some r) (l1 : L w = none) (l2 : R w = none) (hne : ¬ w = r) : tL L P q r w = none ∧ tR L R P q r w = none := by
  have hn : ∀ {X : Prop}, P q = some w → X := fun e => by
    rcases (h.up hq e).2.2.2 with e2 | e2
    · rw [l1] at e2; cases e2
    · rw [l2] at e2; cases e2
  have hwq : ¬ w = q := fun e => by subst e; rw [l2] at hr; cases hr
  refine ⟨?_, ?_⟩
  · unfold tL; rw [if_neg hne, if_neg (fun e => hn e.1)]; exact l1
  · unfold tR; rw [if_neg hwq, if_neg (fun e => hn e.1)]; exact l2
theorem TW.aLR (h : TW S lt L R P rt D) {p x s w c : Nat} (hp : S p) (hL : L p = some x) (hR : R p = some s) (hw : D x w) (hc : D s c) : ¬ w = c := by
  intro e
  subst e
  have h1 := ((h.2.2.2.1 p hp x hL).2.2 w).mp hw
  have h2 := ((h.2.2.2.2.2.1 p hp s hR).2.2 w).mp hc
  exact h.irr hp (h.2.2.2.2.2.2.2.2.2.2.2.1 p w p hp (h.1 _ _ hw).2 hp h2.2 h1.2)
theorem tD_o {q r a c : Nat} (h1 : ¬ a = q) (h2 : ¬ a = r) (h : D a c) : tD lt D q r a c := by unfold tD; rw [if_neg h2, if_neg h1]; exact h
theorem tR_q {q r : Nat} : tR L R P q r q = L r := by unfold tR; rw [if_pos rfl]
theorem tL_o {q r a : Nat} (h : ¬ a = r) (h1 : ¬ P q = some a) : tL L P q r a = L a := by unfold tL; rw [if_neg h, if_neg (fun e => h1 e.1)]
end TWlf
theorem clO_nn {cl : Nat → Int32} {o : Option Nat} (h : ¬ clO cl o = nI 1) : ∃ a, o = some a := by
  cases o with
  | none => exact absurd rfl h
  | some a => exact ⟨a, rfl⟩
theorem nI10 : ¬ (nI 0 : Int32) = nI 1 := by decide
set_option maxHeartbeats 8000000 in
/-- fixAfterDeletion: the same nodes in the same order, other links; a leaf x0 stays one -/
theorem c_fixDel {E : Ev} {h0 : HP} {t : Nat} {S : Nat → Prop} {lt : Nat → Nat → Prop} {ke va : Nat → Nat} {n mc : Int32} {ks : Option Nat} {L0 R0 P0 : Nat → Option Nat} {rt0 : Option Nat} {D0 : Nat → Nat → Prop} {cl0 : Nat → Int32} {w : Nat} {xs : List Nat} (lf : Prop) (d k : Nat) (hd1 : 1 ≤ d) (hxs9 : ∀ a, S a → a ∈ xs) (I0 : IV h0 t S lt ke va n mc ks h0 L0 R0 P0 rt0 D0 cl0) (hw : S w) (hlf0 : lf → L0 w = none ∧ R0 w = none) :
    Call E yJ8_fixAfterDeletion d k [.ref t, .ref w] h0 (rV (fun h' => ∃ (L R P : Nat → Option Nat) (rt : Option Nat) (D : Nat → Nat → Prop) (cl : Nat → Int32), IV h0 t S lt ke va n mc ks h' L R P rt D cl ∧ (lf → L w = none ∧ R w = none))) := by
  have EX : ∀ (L R P : Nat → Option Nat) (rt : Option Nat) (D : Nat → Nat → Prop) (cl : Nat → Int32) (x : Nat) (v2 : Value) (h : HP), IV h0 t S lt ke va n mc ks h L R P rt D cl → D x w → (lf → L w = none ∧ R w = none) → Z E mJ8_fixAfterDeletion d (rV (fun h' => ∃ (L R P : Nat → Option Nat) (rt : Option Nat) (D : Nat → Nat → Prop) (cl : Nat → Int32), IV h0 t S lt ke va n mc ks h' L R P rt D cl ∧ (lf → L w = none ∧ R w = none))) k h 345 [.ref t, .ref x, v2] [] := by
    intro L R P rt D cl x v2 h I hD hlf
    have hx := (I.1.1 _ _ hD).1
    first | refine z_aload1 345 dJ8_fixAfterDeletion_345 ?_ | refine z_aload1N 345 dJ8_fixAfterDeletion_345 ?_ | refine z_aload1o 345 dJ8_fixAfterDeletion_345 ?_
    refine z_iconst 346 (nI 1) dJ8_fixAfterDeletion_346 kI1 ?_
    refine z_S2 (k' := k) 347 sJ8_307 dJ8_fixAfterDeletion_347 (c_setI I 0 0 (some x) bt01_1 ((fun a e => by cases e; exact hx))) (by omega) (by omega) (Nat.le_of_ble_eq_true rfl) (aft_V fun h' I1 => ?_)
    skip
    refine z_return 350 rfl dJ8_fixAfterDeletion_350 ?_
    exact ⟨rfl, _, _, _, _, _, _, I1, hlf⟩
  have HX : ∀ (L R P : Nat → Option Nat) (rt : Option Nat) (D : Nat → Nat → Prop) (cl : Nat → Int32) (x : Nat) (v2 : Value) (h : HP), IV h0 t S lt ke va n mc ks h L R P rt D cl → D x w → (lf → L w = none ∧ R w = none) → (rt = some x ∨ ¬ cl x = nI 1) → Z E mJ8_fixAfterDeletion d (rV (fun h' => ∃ (L R P : Nat → Option Nat) (rt : Option Nat) (D : Nat → Nat → Prop) (cl : Nat → Int32), IV h0 t S lt ke va n mc ks h' L R P rt D cl ∧ (lf → L w = none ∧ R w = none))) k h 0 [.ref t, .ref x, v2] [] := by
    intro L R P rt D cl x v2 h I hD hlf hend
    have hx := (I.1.1 _ _ hD).1
    first | refine z_aload1 0 dJ8_fixAfterDeletion_0 ?_ | refine z_aload1N 0 dJ8_fixAfterDeletion_0 ?_ | refine z_aload1o 0 dJ8_fixAfterDeletion_0 ?_
    first | refine z_aload0 1 dJ8_fixAfterDeletion_1 ?_ | refine z_aload0N 1 dJ8_fixAfterDeletion_1 ?_ | refine z_aload0o 1 dJ8_fixAfterDeletion_1 ?_
    refine z_get 2 gJ8_101 dJ8_fixAfterDeletion_2 I.2.2.1.1 I.2.2.1.2.2.1 ?_
    refine z_aceq (some x) rt 5 345 dJ8_fixAfterDeletion_5 (by decide) (fun c5 => ?_) (fun c5 => ?_)
    · exact EX _ _ _ _ _ _ _ _ _ I hD hlf
    · first | refine z_aload1 8 dJ8_fixAfterDeletion_8 ?_ | refine z_aload1N 8 dJ8_fixAfterDeletion_8 ?_ | refine z_aload1o 8 dJ8_fixAfterDeletion_8 ?_
      refine z_S1 (k' := k) 9 sJ8_303 dJ8_fixAfterDeletion_9 (c_colI I 0 0 (some x) ((fun a e => by cases e; exact hx))) (by omega) (by omega) (Nat.le_of_ble_eq_true rfl) (aft_I fun o9 h' hq => ?_)
      obtain ⟨rfl, rfl⟩ := hq
      refine z_iconst 12 (nI 1) dJ8_fixAfterDeletion_12 kI1 ?_
      refine z_icne 13 345 dJ8_fixAfterDeletion_13 (by decide) (fun c13 => ?_) (fun d13 => ?_)
      · exact EX _ _ _ _ _ _ _ _ _ I hD hlf
      · exact (hend.elim (fun e => c5 e.symm) (fun e => e (Classical.byContradiction (fun q => by first | exact q d13 | exact d13 q)))).elim
  have TAIL : ∀ (L R P : Nat → Option Nat) (rt : Option Nat) (D : Nat → Nat → Prop) (cl : Nat → Int32) (x : Nat) (p s : Nat) (h : HP), IV h0 t S lt ke va n mc ks h L R P rt D cl → D x w → (lf → L w = none ∧ R w = none) → S p → P x = some p → L p = some x → R p = some s → Z E mJ8_fixAfterDeletion d (rV (fun h' => ∃ (L R P : Nat → Option Nat) (rt : Option Nat) (D : Nat → Nat → Prop) (cl : Nat → Int32), IV h0 t S lt ke va n mc ks h' L R P rt D cl ∧ (lf → L w = none ∧ R w = none))) k h 143 [.ref t, .ref x, .ref s] [] := by
    intro L R P rt D cl x p s h I hD hlf hp hP hLp hRp
    have hx := (I.1.1 _ _ hD).1
    have hsk := I.1.kidR hp hRp
    have hs := hsk.1
    have hne := I.1.aLR hp hLp hRp hD (I.1.2.1 s hs)
    first | refine z_aload2 143 dJ8_fixAfterDeletion_143 ?_ | refine z_aload2N 143 dJ8_fixAfterDeletion_143 ?_ | refine z_aload2o 143 dJ8_fixAfterDeletion_143 ?_
    first | refine z_aload1 144 dJ8_fixAfterDeletion_144 ?_ | refine z_aload1N 144 dJ8_fixAfterDeletion_144 ?_ | refine z_aload1o 144 dJ8_fixAfterDeletion_144 ?_
    refine z_S1 (k' := k) 145 sJ8_294 dJ8_fixAfterDeletion_145 (c_par 0 0 (r := some p) (I.2.1 x hx).1 ((I.2.1 x hx).2.2.2.2.2.1.trans (congrArg va_rf hP))) (by omega) (by omega) (Nat.le_of_ble_eq_true rfl) (aft_A fun o9 h' hq => ?_)
    obtain ⟨rfl, rfl⟩ := hq
    refine z_S1 (k' := k) 148 sJ8_303 dJ8_fixAfterDeletion_148 (c_colI I 0 0 (some p) ((fun a e => by cases e; exact hp))) (by omega) (by omega) (Nat.le_of_ble_eq_true rfl) (aft_I fun o9 h' hq => ?_)
    obtain ⟨rfl, rfl⟩ := hq
    refine z_S2 (k' := k) 151 sJ8_307 dJ8_fixAfterDeletion_151 (c_setI I 0 0 (some s) (I.2.1 p hp).2.2.2.2.2.2.2 ((fun a e => by cases e; exact hs))) (by omega) (by omega) (Nat.le_of_ble_eq_true rfl) (aft_V fun h' I1 => ?_)
    skip
    first | refine z_aload1 154 dJ8_fixAfterDeletion_154 ?_ | refine z_aload1N 154 dJ8_fixAfterDeletion_154 ?_ | refine z_aload1o 154 dJ8_fixAfterDeletion_154 ?_
    refine z_S1 (k' := k) 155 sJ8_294 dJ8_fixAfterDeletion_155 (c_par 0 0 (r := some p) (I1.2.1 x hx).1 ((I1.2.1 x hx).2.2.2.2.2.1.trans (congrArg va_rf hP))) (by omega) (by omega) (Nat.le_of_ble_eq_true rfl) (aft_A fun o9 h' hq => ?_)
    obtain ⟨rfl, rfl⟩ := hq
    refine z_iconst 158 (nI 1) dJ8_fixAfterDeletion_158 kI1 ?_
    refine z_S2 (k' := k) 159 sJ8_307 dJ8_fixAfterDeletion_159 (c_setI I1 0 0 (some p) bt01_1 ((fun a e => by cases e; exact hp))) (by omega) (by omega) (Nat.le_of_ble_eq_true rfl) (aft_V fun h' I2 => ?_)
    skip
    first | refine z_aload2 162 dJ8_fixAfterDeletion_162 ?_ | refine z_aload2N 162 dJ8_fixAfterDeletion_162 ?_ | refine z_aload2o 162 dJ8_fixAfterDeletion_162 ?_
    refine z_S1 (k' := k) 163 sJ8_300 dJ8_fixAfterDeletion_163 (c_rig 0 0 (r := R s) (I2.2.1 s hs).1 ((I2.2.1 s hs).2.2.2.2.1.trans (congrArg va_rf rfl))) (by omega) (by omega) (Nat.le_of_ble_eq_true rfl) (aft_A fun o9 h' hq => ?_)
    obtain ⟨rfl, rfl⟩ := hq
    refine z_iconst 166 (nI 1) dJ8_fixAfterDeletion_166 kI1 ?_
    refine z_S2 (k' := k) 167 sJ8_307 dJ8_fixAfterDeletion_167 (c_setI I2 0 0 (R s) bt01_1 ((fun a e => (I.1.kidR hs e).1))) (by omega) (by omega) (Nat.le_of_ble_eq_true rfl) (aft_V fun h' I3 => ?_)
    skip
    first | refine z_aload0 170 dJ8_fixAfterDeletion_170 ?_ | refine z_aload0N 170 dJ8_fixAfterDeletion_170 ?_ | refine z_aload0o 170 dJ8_fixAfterDeletion_170 ?_
    first | refine z_aload1 171 dJ8_fixAfterDeletion_171 ?_ | refine z_aload1N 171 dJ8_fixAfterDeletion_171 ?_ | refine z_aload1o 171 dJ8_fixAfterDeletion_171 ?_
    refine z_S1 (k' := k) 172 sJ8_294 dJ8_fixAfterDeletion_172 (c_par 0 0 (r := some p) (I3.2.1 x hx).1 ((I3.2.1 x hx).2.2.2.2.2.1.trans (congrArg va_rf hP))) (by omega) (by omega) (Nat.le_of_ble_eq_true rfl) (aft_A fun o9 h' hq => ?_)
    obtain ⟨rfl, rfl⟩ := hq
    refine z_V1 (k' := k) 175 vJ8_311 dJ8_fixAfterDeletion_175 I3.2.2.1.1 (c_rotLI I3 0 0 hp hRp) (by omega) (by omega) (Nat.le_of_ble_eq_true rfl) (aft_V fun h' I4 => ?_)
    obtain ⟨r9, hr9⟩ : ∃ r9, tRt P rt p s = some r9 := by
      cases e : tRt P rt p s with
      | none => exact absurd hx (I4.1.2.2.2.2.2.2.1 e x)
      | some r9 => exact ⟨r9, rfl⟩
    first | refine z_aload0 178 dJ8_fixAfterDeletion_178 ?_ | refine z_aload0N 178 dJ8_fixAfterDeletion_178 ?_ | refine z_aload0o 178 dJ8_fixAfterDeletion_178 ?_
    refine z_get 179 gJ8_101 dJ8_fixAfterDeletion_179 I4.2.2.1.1 (show HP.mm _ t 3 = .ref r9 from by rw [I4.2.2.1.2.2.1, hr9]; rfl) ?_
    first | refine z_astore1 182 dJ8_fixAfterDeletion_182 rfl ?_ | refine z_astore1N 182 dJ8_fixAfterDeletion_182 rfl ?_ | refine z_astore1o 182 dJ8_fixAfterDeletion_182 rfl ?_
    refine z_goto 183 0 dJ8_fixAfterDeletion_183 (by decide) ?_
    exact HX _ _ _ _ _ _ _ _ _ I4 ((I4.1.2.2.2.2.2.2.2.1 r9 hr9).2.2 w (I.1.1 _ _ hD).2) (fun f => I.1.lf hp hRp (hlf f).1 (hlf f).2 hne) (Or.inl hr9)
  have MID : ∀ (m : Nat), (∀ (L R P : Nat → Option Nat) (rt : Option Nat) (D : Nat → Nat → Prop) (cl : Nat → Int32) (x : Nat) (v2 : Value) (h : HP), IV h0 t S lt ke va n mc ks h L R P rt D cl → D x w → (lf → L w = none ∧ R w = none) → xs.length - cnD D xs x < m → Z E mJ8_fixAfterDeletion d (rV (fun h' => ∃ (L R P : Nat → Option Nat) (rt : Option Nat) (D : Nat → Nat → Prop) (cl : Nat → Int32), IV h0 t S lt ke va n mc ks h' L R P rt D cl ∧ (lf → L w = none ∧ R w = none))) k h 0 [.ref t, .ref x, v2] []) → ∀ (L R P : Nat → Option Nat) (rt : Option Nat) (D : Nat → Nat → Prop) (cl : Nat → Int32) (x : Nat) (p : Nat) (h : HP), IV h0 t S lt ke va n mc ks h L R P rt D cl → D x w → (lf → L w = none ∧ R w = none) → S p → P x = some p → L p = some x → (xs.length - cnD D xs p < m ∨ cl p = nI 0) → Z E mJ8_fixAfterDeletion d (rV (fun h' => ∃ (L R P : Nat → Option Nat) (rt : Option Nat) (D : Nat → Nat → Prop) (cl : Nat → Int32), IV h0 t S lt ke va n mc ks h' L R P rt D cl ∧ (lf → L w = none ∧ R w = none))) k h 71 [.ref t, .ref x, va_rf (R p)] [] := by
    intro m ih L R P rt D cl x p h I hD hlf hp hP hLp hm
    have hx := (I.1.1 _ _ hD).1
    have hxk := I.1.kidL hp hLp
    have hDp : D p w := I.1.2.2.2.2.2.2.2.2.2.2.2.2.2.1 p x w hxk.2.2.1 hD
    rcases hRp : R p with _ | s
    · skip
      refine z_aload2N 71 dJ8_fixAfterDeletion_71 ?_
      refine z_S1 (k' := k) 72 sJ8_297 dJ8_fixAfterDeletion_72 (c_lefN 0 0) (by omega) (by omega) (Nat.le_of_ble_eq_true rfl) (aft_A fun o9 h' hq => ?_)
      obtain ⟨rfl, rfl⟩ := hq
      refine z_S1 (k' := k) 75 sJ8_303 dJ8_fixAfterDeletion_75 (c_colI I 0 0 (none) ((fun a e => nomatch e))) (by omega) (by omega) (Nat.le_of_ble_eq_true rfl) (aft_I fun o9 h' hq => ?_)
      obtain ⟨rfl, rfl⟩ := hq
      refine z_iconst 78 (nI 1) dJ8_fixAfterDeletion_78 kI1 ?_
      refine z_icne 79 106 dJ8_fixAfterDeletion_79 (by decide) (fun c79 => by first | exact absurd c79 (fun e => e rfl) | exact absurd (fun e => e rfl) c79) (fun c79 => ?_)
      refine z_aload2N 82 dJ8_fixAfterDeletion_82 ?_
      refine z_S1 (k' := k) 83 sJ8_300 dJ8_fixAfterDeletion_83 (c_rigN 0 0) (by omega) (by omega) (Nat.le_of_ble_eq_true rfl) (aft_A fun o9 h' hq => ?_)
      obtain ⟨rfl, rfl⟩ := hq
      refine z_S1 (k' := k) 86 sJ8_303 dJ8_fixAfterDeletion_86 (c_colI I 0 0 (none) ((fun a e => nomatch e))) (by omega) (by omega) (Nat.le_of_ble_eq_true rfl) (aft_I fun o9 h' hq => ?_)
      obtain ⟨rfl, rfl⟩ := hq
      refine z_iconst 89 (nI 1) dJ8_fixAfterDeletion_89 kI1 ?_
      refine z_icne 90 106 dJ8_fixAfterDeletion_90 (by decide) (fun c79 => by first | exact absurd c79 (fun e => e rfl) | exact absurd (fun e => e rfl) c79) (fun c79 => ?_)
      refine z_aload2N 93 dJ8_fixAfterDeletion_93 ?_
      refine z_iconst 94 (nI 0) dJ8_fixAfterDeletion_94 kI0 ?_
      refine z_S2 (k' := k) 95 sJ8_307 dJ8_fixAfterDeletion_95 (c_setI I 0 0 (none) bt01_0 ((fun a e => nomatch e))) (by omega) (by omega) (Nat.le_of_ble_eq_true rfl) (aft_V fun h' I1 => ?_)
      skip
      first | refine z_aload1 98 dJ8_fixAfterDeletion_98 ?_ | refine z_aload1N 98 dJ8_fixAfterDeletion_98 ?_ | refine z_aload1o 98 dJ8_fixAfterDeletion_98 ?_
      refine z_S1 (k' := k) 99 sJ8_294 dJ8_fixAfterDeletion_99 (c_par 0 0 (r := some p) (I1.2.1 x hx).1 ((I1.2.1 x hx).2.2.2.2.2.1.trans (congrArg va_rf hP))) (by omega) (by omega) (Nat.le_of_ble_eq_true rfl) (aft_A fun o9 h' hq => ?_)
      obtain ⟨rfl, rfl⟩ := hq
      first | refine z_astore1 102 dJ8_fixAfterDeletion_102 rfl ?_ | refine z_astore1N 102 dJ8_fixAfterDeletion_102 rfl ?_ | refine z_astore1o 102 dJ8_fixAfterDeletion_102 rfl ?_
      refine z_goto 103 183 dJ8_fixAfterDeletion_103 (by decide) ?_
      refine z_goto 183 0 dJ8_fixAfterDeletion_183 (by decide) ?_
      exact hm.elim (fun q => ih _ _ _ _ _ _ _ _ _ I1 hDp hlf q) (fun q => HX _ _ _ _ _ _ _ _ _ I1 hDp hlf (Or.inr (fun e => nI10 ((show _ = _ from by simp [q]).symm.trans e))))
    · have hsk := I.1.kidR hp hRp
      have hs := hsk.1
      have hne := I.1.aLR hp hLp hRp hD (I.1.2.1 s hs)
      refine z_aload2 71 dJ8_fixAfterDeletion_71 ?_
      refine z_S1 (k' := k) 72 sJ8_297 dJ8_fixAfterDeletion_72 (c_lef 0 0 (r := L s) (I.2.1 s hs).1 ((I.2.1 s hs).2.2.2.1.trans (congrArg va_rf rfl))) (by omega) (by omega) (Nat.le_of_ble_eq_true rfl) (aft_A fun o9 h' hq => ?_)
      obtain ⟨rfl, rfl⟩ := hq
      refine z_S1 (k' := k) 75 sJ8_303 dJ8_fixAfterDeletion_75 (c_colI I 0 0 (L s) ((fun a e => (I.1.kidL hs e).1))) (by omega) (by omega) (Nat.le_of_ble_eq_true rfl) (aft_I fun o9 h' hq => ?_)
      obtain ⟨rfl, rfl⟩ := hq
      refine z_iconst 78 (nI 1) dJ8_fixAfterDeletion_78 kI1 ?_
      refine z_icne 79 106 dJ8_fixAfterDeletion_79 (by decide) (fun c79 => ?_) (fun d79 => ?_)
      · obtain ⟨l, hl⟩ := clO_nn c79
        have hlk := I.1.kidL hs hl
        have hlS := hlk.1
        first | refine z_aload2 106 dJ8_fixAfterDeletion_106 ?_ | refine z_aload2N 106 dJ8_fixAfterDeletion_106 ?_ | refine z_aload2o 106 dJ8_fixAfterDeletion_106 ?_
        refine z_S1 (k' := k) 107 sJ8_300 dJ8_fixAfterDeletion_107 (c_rig 0 0 (r := R s) (I.2.1 s hs).1 ((I.2.1 s hs).2.2.2.2.1.trans (congrArg va_rf rfl))) (by omega) (by omega) (Nat.le_of_ble_eq_true rfl) (aft_A fun o9 h' hq => ?_)
        obtain ⟨rfl, rfl⟩ := hq
        refine z_S1 (k' := k) 110 sJ8_303 dJ8_fixAfterDeletion_110 (c_colI I 0 0 (R s) ((fun a e => (I.1.kidR hs e).1))) (by omega) (by omega) (Nat.le_of_ble_eq_true rfl) (aft_I fun o9 h' hq => ?_)
        obtain ⟨rfl, rfl⟩ := hq
        refine z_iconst 113 (nI 1) dJ8_fixAfterDeletion_113 kI1 ?_
        refine z_icne 114 143 dJ8_fixAfterDeletion_114 (by decide) (fun c114 => ?_) (fun c114 => ?_)
        · exact TAIL _ _ _ _ _ _ _ _ _ _ I hD hlf hp hP hLp hRp
        · first | refine z_aload2 117 dJ8_fixAfterDeletion_117 ?_ | refine z_aload2N 117 dJ8_fixAfterDeletion_117 ?_ | refine z_aload2o 117 dJ8_fixAfterDeletion_117 ?_
          refine z_S1 (k' := k) 118 sJ8_297 dJ8_fixAfterDeletion_118 (c_lef 0 0 (r := some l) (I.2.1 s hs).1 ((I.2.1 s hs).2.2.2.1.trans (congrArg va_rf hl))) (by omega) (by omega) (Nat.le_of_ble_eq_true rfl) (aft_A fun o9 h' hq => ?_)
          obtain ⟨rfl, rfl⟩ := hq
          refine z_iconst 121 (nI 1) dJ8_fixAfterDeletion_121 kI1 ?_
          refine z_S2 (k' := k) 122 sJ8_307 dJ8_fixAfterDeletion_122 (c_setI I 0 0 (some l) bt01_1 ((fun a e => by cases e; exact hlS))) (by omega) (by omega) (Nat.le_of_ble_eq_true rfl) (aft_V fun h' I1 => ?_)
          skip
          first | refine z_aload2 125 dJ8_fixAfterDeletion_125 ?_ | refine z_aload2N 125 dJ8_fixAfterDeletion_125 ?_ | refine z_aload2o 125 dJ8_fixAfterDeletion_125 ?_
          refine z_iconst 126 (nI 0) dJ8_fixAfterDeletion_126 kI0 ?_
          refine z_S2 (k' := k) 127 sJ8_307 dJ8_fixAfterDeletion_127 (c_setI I1 0 0 (some s) bt01_0 ((fun a e => by cases e; exact hs))) (by omega) (by omega) (Nat.le_of_ble_eq_true rfl) (aft_V fun h' I2 => ?_)
          skip
          first | refine z_aload0 130 dJ8_fixAfterDeletion_130 ?_ | refine z_aload0N 130 dJ8_fixAfterDeletion_130 ?_ | refine z_aload0o 130 dJ8_fixAfterDeletion_130 ?_
          first | refine z_aload2 131 dJ8_fixAfterDeletion_131 ?_ | refine z_aload2N 131 dJ8_fixAfterDeletion_131 ?_ | refine z_aload2o 131 dJ8_fixAfterDeletion_131 ?_
          refine z_V1 (k' := k) 132 vJ8_314 dJ8_fixAfterDeletion_132 I2.2.2.1.1 (c_rotRI I2 0 0 hs hl) (by omega) (by omega) (Nat.le_of_ble_eq_true rfl) (aft_V fun h' I3 => ?_)
          have n1 : ¬ x = s := I.1.aLR hp hLp hRp (I.1.2.1 x hx) (I.1.2.1 s hs)
          have n2 : ¬ x = l := I.1.aLR hp hLp hRp (I.1.2.1 x hx) hlk.2.2.1
          have n3 : ¬ R l = some x := fun e => I.1.aLR hp hLp hRp (I.1.2.1 x hx) (I.1.2.2.2.2.2.2.2.2.2.2.2.2.2.1 s l x hlk.2.2.1 (I.1.kidR hlS e).2.2.1) rfl
          have n4 : ¬ p = l := fun e => (I.1.up2 hlS hlk.2.1 hsk.2.1).2.2 e
          have n5 : ¬ p = s := fun e => (I.1.up hs hsk.2.1).2.2.1 e
          have eP : tP R P s l x = some p := (tP_o n1 n2 n3).trans hP
          have eR : tL R P s l p = some l := tL_g n4 hsk.2.1 hRp
          have eL : tR R L P s l p = some x := by unfold tR; rw [if_neg n5, if_neg (fun e => e.2 hRp)]; exact hLp
          first | refine z_aload1 135 dJ8_fixAfterDeletion_135 ?_ | refine z_aload1N 135 dJ8_fixAfterDeletion_135 ?_ | refine z_aload1o 135 dJ8_fixAfterDeletion_135 ?_
          refine z_S1 (k' := k) 136 sJ8_294 dJ8_fixAfterDeletion_136 (c_par 0 0 (r := some p) (I3.2.1 x hx).1 ((I3.2.1 x hx).2.2.2.2.2.1.trans (congrArg va_rf eP))) (by omega) (by omega) (Nat.le_of_ble_eq_true rfl) (aft_A fun o9 h' hq => ?_)
          obtain ⟨rfl, rfl⟩ := hq
          refine z_S1 (k' := k) 139 sJ8_300 dJ8_fixAfterDeletion_139 (c_rig 0 0 (r := some l) (I3.2.1 p hp).1 ((I3.2.1 p hp).2.2.2.2.1.trans (congrArg va_rf eR))) (by omega) (by omega) (Nat.le_of_ble_eq_true rfl) (aft_A fun o9 h' hq => ?_)
          obtain ⟨rfl, rfl⟩ := hq
          first | refine z_astore2 142 dJ8_fixAfterDeletion_142 rfl ?_ | refine z_astore2N 142 dJ8_fixAfterDeletion_142 rfl ?_ | refine z_astore2o 142 dJ8_fixAfterDeletion_142 rfl ?_
          exact TAIL _ _ _ _ _ _ _ _ _ _ I3 (tD_o n1 n2 hD) (fun f => (I.1.mirror.lf hs hl (hlf f).2 (hlf f).1 (I.1.aLR hp hLp hRp hD hlk.2.2.1)).symm) hp eP eL eR
      · first | refine z_aload2 82 dJ8_fixAfterDeletion_82 ?_ | refine z_aload2N 82 dJ8_fixAfterDeletion_82 ?_ | refine z_aload2o 82 dJ8_fixAfterDeletion_82 ?_
        refine z_S1 (k' := k) 83 sJ8_300 dJ8_fixAfterDeletion_83 (c_rig 0 0 (r := R s) (I.2.1 s hs).1 ((I.2.1 s hs).2.2.2.2.1.trans (congrArg va_rf rfl))) (by omega) (by omega) (Nat.le_of_ble_eq_true rfl) (aft_A fun o9 h' hq => ?_)
        obtain ⟨rfl, rfl⟩ := hq
        refine z_S1 (k' := k) 86 sJ8_303 dJ8_fixAfterDeletion_86 (c_colI I 0 0 (R s) ((fun a e => (I.1.kidR hs e).1))) (by omega) (by omega) (Nat.le_of_ble_eq_true rfl) (aft_I fun o9 h' hq => ?_)
        obtain ⟨rfl, rfl⟩ := hq
        refine z_iconst 89 (nI 1) dJ8_fixAfterDeletion_89 kI1 ?_
        refine z_icne 90 106 dJ8_fixAfterDeletion_90 (by decide) (fun c90 => ?_) (fun d90 => ?_)
        · first | refine z_aload2 106 dJ8_fixAfterDeletion_106 ?_ | refine z_aload2N 106 dJ8_fixAfterDeletion_106 ?_ | refine z_aload2o 106 dJ8_fixAfterDeletion_106 ?_
          refine z_S1 (k' := k) 107 sJ8_300 dJ8_fixAfterDeletion_107 (c_rig 0 0 (r := R s) (I.2.1 s hs).1 ((I.2.1 s hs).2.2.2.2.1.trans (congrArg va_rf rfl))) (by omega) (by omega) (Nat.le_of_ble_eq_true rfl) (aft_A fun o9 h' hq => ?_)
          obtain ⟨rfl, rfl⟩ := hq
          refine z_S1 (k' := k) 110 sJ8_303 dJ8_fixAfterDeletion_110 (c_colI I 0 0 (R s) ((fun a e => (I.1.kidR hs e).1))) (by omega) (by omega) (Nat.le_of_ble_eq_true rfl) (aft_I fun o9 h' hq => ?_)
          obtain ⟨rfl, rfl⟩ := hq
          refine z_iconst 113 (nI 1) dJ8_fixAfterDeletion_113 kI1 ?_
          refine z_icne 114 143 dJ8_fixAfterDeletion_114 (by decide) (fun c114 => ?_) (fun c114 => by first | exact absurd c114 (c90) | exact absurd (c90) c114)
          exact TAIL _ _ _ _ _ _ _ _ _ _ I hD hlf hp hP hLp hRp
        · first | refine z_aload2 93 dJ8_fixAfterDeletion_93 ?_ | refine z_aload2N 93 dJ8_fixAfterDeletion_93 ?_ | refine z_aload2o 93 dJ8_fixAfterDeletion_93 ?_
          refine z_iconst 94 (nI 0) dJ8_fixAfterDeletion_94 kI0 ?_
          refine z_S2 (k' := k) 95 sJ8_307 dJ8_fixAfterDeletion_95 (c_setI I 0 0 (some s) bt01_0 ((fun a e => by cases e; exact hs))) (by omega) (by omega) (Nat.le_of_ble_eq_true rfl) (aft_V fun h' I1 => ?_)
          skip
          first | refine z_aload1 98 dJ8_fixAfterDeletion_98 ?_ | refine z_aload1N 98 dJ8_fixAfterDeletion_98 ?_ | refine z_aload1o 98 dJ8_fixAfterDeletion_98 ?_
          refine z_S1 (k' := k) 99 sJ8_294 dJ8_fixAfterDeletion_99 (c_par 0 0 (r := some p) (I1.2.1 x hx).1 ((I1.2.1 x hx).2.2.2.2.2.1.trans (congrArg va_rf hP))) (by omega) (by omega) (Nat.le_of_ble_eq_true rfl) (aft_A fun o9 h' hq => ?_)
          obtain ⟨rfl, rfl⟩ := hq
          first | refine z_astore1 102 dJ8_fixAfterDeletion_102 rfl ?_ | refine z_astore1N 102 dJ8_fixAfterDeletion_102 rfl ?_ | refine z_astore1o 102 dJ8_fixAfterDeletion_102 rfl ?_
          refine z_goto 103 183 dJ8_fixAfterDeletion_103 (by decide) ?_
          refine z_goto 183 0 dJ8_fixAfterDeletion_183 (by decide) ?_
          exact hm.elim (fun q => ih _ _ _ _ _ _ _ _ _ I1 hDp hlf q) (fun q => HX _ _ _ _ _ _ _ _ _ I1 hDp hlf (Or.inr (fun e => nI10 ((show _ = _ from by simp [q]).symm.trans e))))
  have TAILM : ∀ (L R P : Nat → Option Nat) (rt : Option Nat) (D : Nat → Nat → Prop) (cl : Nat → Int32) (x : Nat) (p s : Nat) (h : HP), IV h0 t S lt ke va n mc ks h L R P rt D cl → D x w → (lf → L w = none ∧ R w = none) → S p → P x = some p → R p = some x → L p = some s → Z E mJ8_fixAfterDeletion d (rV (fun h' => ∃ (L R P : Nat → Option Nat) (rt : Option Nat) (D : Nat → Nat → Prop) (cl : Nat → Int32), IV h0 t S lt ke va n mc ks h' L R P rt D cl ∧ (lf → L w = none ∧ R w = none))) k h 302 [.ref t, .ref x, .ref s] [] := by
    intro L R P rt D cl x p s h I hD hlf hp hP hLp hRp
    have hx := (I.1.1 _ _ hD).1
    have hsk := I.1.kidL hp hRp
    have hs := hsk.1
    have hne := I.1.mirror.aLR hp hLp hRp hD (I.1.2.1 s hs)
    first | refine z_aload2 302 dJ8_fixAfterDeletion_302 ?_ | refine z_aload2N 302 dJ8_fixAfterDeletion_302 ?_ | refine z_aload2o 302 dJ8_fixAfterDeletion_302 ?_
    first | refine z_aload1 303 dJ8_fixAfterDeletion_303 ?_ | refine z_aload1N 303 dJ8_fixAfterDeletion_303 ?_ | refine z_aload1o 303 dJ8_fixAfterDeletion_303 ?_
    refine z_S1 (k' := k) 304 sJ8_294 dJ8_fixAfterDeletion_304 (c_par 0 0 (r := some p) (I.2.1 x hx).1 ((I.2.1 x hx).2.2.2.2.2.1.trans (congrArg va_rf hP))) (by omega) (by omega) (Nat.le_of_ble_eq_true rfl) (aft_A fun o9 h' hq => ?_)
    obtain ⟨rfl, rfl⟩ := hq
    refine z_S1 (k' := k) 307 sJ8_303 dJ8_fixAfterDeletion_307 (c_colI I 0 0 (some p) ((fun a e => by cases e; exact hp))) (by omega) (by omega) (Nat.le_of_ble_eq_true rfl) (aft_I fun o9 h' hq => ?_)
    obtain ⟨rfl, rfl⟩ := hq
    refine z_S2 (k' := k) 310 sJ8_307 dJ8_fixAfterDeletion_310 (c_setI I 0 0 (some s) (I.2.1 p hp).2.2.2.2.2.2.2 ((fun a e => by cases e; exact hs))) (by omega) (by omega) (Nat.le_of_ble_eq_true rfl) (aft_V fun h' I1 => ?_)
    skip
    first | refine z_aload1 313 dJ8_fixAfterDeletion_313 ?_ | refine z_aload1N 313 dJ8_fixAfterDeletion_313 ?_ | refine z_aload1o 313 dJ8_fixAfterDeletion_313 ?_
    refine z_S1 (k' := k) 314 sJ8_294 dJ8_fixAfterDeletion_314 (c_par 0 0 (r := some p) (I1.2.1 x hx).1 ((I1.2.1 x hx).2.2.2.2.2.1.trans (congrArg va_rf hP))) (by omega) (by omega) (Nat.le_of_ble_eq_true rfl) (aft_A fun o9 h' hq => ?_)
    obtain ⟨rfl, rfl⟩ := hq
    refine z_iconst 317 (nI 1) dJ8_fixAfterDeletion_317 kI1 ?_
    refine z_S2 (k' := k) 318 sJ8_307 dJ8_fixAfterDeletion_318 (c_setI I1 0 0 (some p) bt01_1 ((fun a e => by cases e; exact hp))) (by omega) (by omega) (Nat.le_of_ble_eq_true rfl) (aft_V fun h' I2 => ?_)
    skip
    first | refine z_aload2 321 dJ8_fixAfterDeletion_321 ?_ | refine z_aload2N 321 dJ8_fixAfterDeletion_321 ?_ | refine z_aload2o 321 dJ8_fixAfterDeletion_321 ?_
    refine z_S1 (k' := k) 322 sJ8_297 dJ8_fixAfterDeletion_322 (c_lef 0 0 (r := L s) (I2.2.1 s hs).1 ((I2.2.1 s hs).2.2.2.1.trans (congrArg va_rf rfl))) (by omega) (by omega) (Nat.le_of_ble_eq_true rfl) (aft_A fun o9 h' hq => ?_)
    obtain ⟨rfl, rfl⟩ := hq
    refine z_iconst 325 (nI 1) dJ8_fixAfterDeletion_325 kI1 ?_
    refine z_S2 (k' := k) 326 sJ8_307 dJ8_fixAfterDeletion_326 (c_setI I2 0 0 (L s) bt01_1 ((fun a e => (I.1.kidL hs e).1))) (by omega) (by omega) (Nat.le_of_ble_eq_true rfl) (aft_V fun h' I3 => ?_)
    skip
    first | refine z_aload0 329 dJ8_fixAfterDeletion_329 ?_ | refine z_aload0N 329 dJ8_fixAfterDeletion_329 ?_ | refine z_aload0o 329 dJ8_fixAfterDeletion_329 ?_
    first | refine z_aload1 330 dJ8_fixAfterDeletion_330 ?_ | refine z_aload1N 330 dJ8_fixAfterDeletion_330 ?_ | refine z_aload1o 330 dJ8_fixAfterDeletion_330 ?_
    refine z_S1 (k' := k) 331 sJ8_294 dJ8_fixAfterDeletion_331 (c_par 0 0 (r := some p) (I3.2.1 x hx).1 ((I3.2.1 x hx).2.2.2.2.2.1.trans (congrArg va_rf hP))) (by omega) (by omega) (Nat.le_of_ble_eq_true rfl) (aft_A fun o9 h' hq => ?_)
    obtain ⟨rfl, rfl⟩ := hq
    refine z_V1 (k' := k) 334 vJ8_314 dJ8_fixAfterDeletion_334 I3.2.2.1.1 (c_rotRI I3 0 0 hp hRp) (by omega) (by omega) (Nat.le_of_ble_eq_true rfl) (aft_V fun h' I4 => ?_)
    obtain ⟨r9, hr9⟩ : ∃ r9, tRt P rt p s = some r9 := by
      cases e : tRt P rt p s with
      | none => exact absurd hx (I4.1.2.2.2.2.2.2.1 e x)
      | some r9 => exact ⟨r9, rfl⟩
    first | refine z_aload0 337 dJ8_fixAfterDeletion_337 ?_ | refine z_aload0N 337 dJ8_fixAfterDeletion_337 ?_ | refine z_aload0o 337 dJ8_fixAfterDeletion_337 ?_
    refine z_get 338 gJ8_101 dJ8_fixAfterDeletion_338 I4.2.2.1.1 (show HP.mm _ t 3 = .ref r9 from by rw [I4.2.2.1.2.2.1, hr9]; rfl) ?_
    first | refine z_astore1 341 dJ8_fixAfterDeletion_341 rfl ?_ | refine z_astore1N 341 dJ8_fixAfterDeletion_341 rfl ?_ | refine z_astore1o 341 dJ8_fixAfterDeletion_341 rfl ?_
    refine z_goto 342 0 dJ8_fixAfterDeletion_342 (by decide) ?_
    exact HX _ _ _ _ _ _ _ _ _ I4 ((I4.1.2.2.2.2.2.2.2.1 r9 hr9).2.2 w (I.1.1 _ _ hD).2) (fun f => (I.1.mirror.lf hp hRp (hlf f).2 (hlf f).1 hne).symm) (Or.inl hr9)
  have MIDM : ∀ (m : Nat), (∀ (L R P : Nat → Option Nat) (rt : Option Nat) (D : Nat → Nat → Prop) (cl : Nat → Int32) (x : Nat) (v2 : Value) (h : HP), IV h0 t S lt ke va n mc ks h L R P rt D cl → D x w → (lf → L w = none ∧ R w = none) → xs.length - cnD D xs x < m → Z E mJ8_fixAfterDeletion d (rV (fun h' => ∃ (L R P : Nat → Option Nat) (rt : Option Nat) (D : Nat → Nat → Prop) (cl : Nat → Int32), IV h0 t S lt ke va n mc ks h' L R P rt D cl ∧ (lf → L w = none ∧ R w = none))) k h 0 [.ref t, .ref x, v2] []) → ∀ (L R P : Nat → Option Nat) (rt : Option Nat) (D : Nat → Nat → Prop) (cl : Nat → Int32) (x : Nat) (p : Nat) (h : HP), IV h0 t S lt ke va n mc ks h L R P rt D cl → D x w → (lf → L w = none ∧ R w = none) → S p → P x = some p → R p = some x → (xs.length - cnD D xs p < m ∨ cl p = nI 0) → Z E mJ8_fixAfterDeletion d (rV (fun h' => ∃ (L R P : Nat → Option Nat) (rt : Option Nat) (D : Nat → Nat → Prop) (cl : Nat → Int32), IV h0 t S lt ke va n mc ks h' L R P rt D cl ∧ (lf → L w = none ∧ R w = none))) k h 230 [.ref t, .ref x, va_rf (L p)] [] := by
    intro m ih L R P rt D cl x p h I hD hlf hp hP hLp hm
    have hx := (I.1.1 _ _ hD).1
    have hxk := I.1.kidR hp hLp
    have hDp : D p w := I.1.2.2.2.2.2.2.2.2.2.2.2.2.2.1 p x w hxk.2.2.1 hD
    rcases hRp : L p with _ | s
    · skip
      refine z_aload2N 230 dJ8_fixAfterDeletion_230 ?_
      refine z_S1 (k' := k) 231 sJ8_300 dJ8_fixAfterDeletion_231 (c_rigN 0 0) (by omega) (by omega) (Nat.le_of_ble_eq_true rfl) (aft_A fun o9 h' hq => ?_)
      obtain ⟨rfl, rfl⟩ := hq
      refine z_S1 (k' := k) 234 sJ8_303 dJ8_fixAfterDeletion_234 (c_colI I 0 0 (none) ((fun a e => nomatch e))) (by omega) (by omega) (Nat.le_of_ble_eq_true rfl) (aft_I fun o9 h' hq => ?_)
      obtain ⟨rfl, rfl⟩ := hq
      refine z_iconst 237 (nI 1) dJ8_fixAfterDeletion_237 kI1 ?_
      refine z_icne 238 265 dJ8_fixAfterDeletion_238 (by decide) (fun c79 => by first | exact absurd c79 (fun e => e rfl) | exact absurd (fun e => e rfl) c79) (fun c79 => ?_)
      refine z_aload2N 241 dJ8_fixAfterDeletion_241 ?_
      refine z_S1 (k' := k) 242 sJ8_297 dJ8_fixAfterDeletion_242 (c_lefN 0 0) (by omega) (by omega) (Nat.le_of_ble_eq_true rfl) (aft_A fun o9 h' hq => ?_)
      obtain ⟨rfl, rfl⟩ := hq
      refine z_S1 (k' := k) 245 sJ8_303 dJ8_fixAfterDeletion_245 (c_colI I 0 0 (none) ((fun a e => nomatch e))) (by omega) (by omega) (Nat.le_of_ble_eq_true rfl) (aft_I fun o9 h' hq => ?_)
      obtain ⟨rfl, rfl⟩ := hq
      refine z_iconst 248 (nI 1) dJ8_fixAfterDeletion_248 kI1 ?_
      refine z_icne 249 265 dJ8_fixAfterDeletion_249 (by decide) (fun c79 => by first | exact absurd c79 (fun e => e rfl) | exact absurd (fun e => e rfl) c79) (fun c79 => ?_)
      refine z_aload2N 252 dJ8_fixAfterDeletion_252 ?_
      refine z_iconst 253 (nI 0) dJ8_fixAfterDeletion_253 kI0 ?_
      refine z_S2 (k' := k) 254 sJ8_307 dJ8_fixAfterDeletion_254 (c_setI I 0 0 (none) bt01_0 ((fun a e => nomatch e))) (by omega) (by omega) (Nat.le_of_ble_eq_true rfl) (aft_V fun h' I1 => ?_)
      skip
      first | refine z_aload1 257 dJ8_fixAfterDeletion_257 ?_ | refine z_aload1N 257 dJ8_fixAfterDeletion_257 ?_ | refine z_aload1o 257 dJ8_fixAfterDeletion_257 ?_
      refine z_S1 (k' := k) 258 sJ8_294 dJ8_fixAfterDeletion_258 (c_par 0 0 (r := some p) (I1.2.1 x hx).1 ((I1.2.1 x hx).2.2.2.2.2.1.trans (congrArg va_rf hP))) (by omega) (by omega) (Nat.le_of_ble_eq_true rfl) (aft_A fun o9 h' hq => ?_)
      obtain ⟨rfl, rfl⟩ := hq
      first | refine z_astore1 261 dJ8_fixAfterDeletion_261 rfl ?_ | refine z_astore1N 261 dJ8_fixAfterDeletion_261 rfl ?_ | refine z_astore1o 261 dJ8_fixAfterDeletion_261 rfl ?_
      refine z_goto 262 342 dJ8_fixAfterDeletion_262 (by decide) ?_
      refine z_goto 342 0 dJ8_fixAfterDeletion_342 (by decide) ?_
      exact hm.elim (fun q => ih _ _ _ _ _ _ _ _ _ I1 hDp hlf q) (fun q => HX _ _ _ _ _ _ _ _ _ I1 hDp hlf (Or.inr (fun e => nI10 ((show _ = _ from by simp [q]).symm.trans e))))
    · have hsk := I.1.kidL hp hRp
      have hs := hsk.1
      have hne := I.1.mirror.aLR hp hLp hRp hD (I.1.2.1 s hs)
      refine z_aload2 230 dJ8_fixAfterDeletion_230 ?_
      refine z_S1 (k' := k) 231 sJ8_300 dJ8_fixAfterDeletion_231 (c_rig 0 0 (r := R s) (I.2.1 s hs).1 ((I.2.1 s hs).2.2.2.2.1.trans (congrArg va_rf rfl))) (by omega) (by omega) (Nat.le_of_ble_eq_true rfl) (aft_A fun o9 h' hq => ?_)
      obtain ⟨rfl, rfl⟩ := hq
      refine z_S1 (k' := k) 234 sJ8_303 dJ8_fixAfterDeletion_234 (c_colI I 0 0 (R s) ((fun a e => (I.1.kidR hs e).1))) (by omega) (by omega) (Nat.le_of_ble_eq_true rfl) (aft_I fun o9 h' hq => ?_)
      obtain ⟨rfl, rfl⟩ := hq
      refine z_iconst 237 (nI 1) dJ8_fixAfterDeletion_237 kI1 ?_
      refine z_icne 238 265 dJ8_fixAfterDeletion_238 (by decide) (fun c79 => ?_) (fun d79 => ?_)
      · obtain ⟨l, hl⟩ := clO_nn c79
        have hlk := I.1.kidR hs hl
        have hlS := hlk.1
        first | refine z_aload2 265 dJ8_fixAfterDeletion_265 ?_ | refine z_aload2N 265 dJ8_fixAfterDeletion_265 ?_ | refine z_aload2o 265 dJ8_fixAfterDeletion_265 ?_
        refine z_S1 (k' := k) 266 sJ8_297 dJ8_fixAfterDeletion_266 (c_lef 0 0 (r := L s) (I.2.1 s hs).1 ((I.2.1 s hs).2.2.2.1.trans (congrArg va_rf rfl))) (by omega) (by omega) (Nat.le_of_ble_eq_true rfl) (aft_A fun o9 h' hq => ?_)
        obtain ⟨rfl, rfl⟩ := hq
        refine z_S1 (k' := k) 269 sJ8_303 dJ8_fixAfterDeletion_269 (c_colI I 0 0 (L s) ((fun a e => (I.1.kidL hs e).1))) (by omega) (by omega) (Nat.le_of_ble_eq_true rfl) (aft_I fun o9 h' hq => ?_)
        obtain ⟨rfl, rfl⟩ := hq
        refine z_iconst 272 (nI 1) dJ8_fixAfterDeletion_272 kI1 ?_
        refine z_icne 273 302 dJ8_fixAfterDeletion_273 (by decide) (fun c114 => ?_) (fun c114 => ?_)
        · exact TAILM _ _ _ _ _ _ _ _ _ _ I hD hlf hp hP hLp hRp
        · first | refine z_aload2 276 dJ8_fixAfterDeletion_276 ?_ | refine z_aload2N 276 dJ8_fixAfterDeletion_276 ?_ | refine z_aload2o 276 dJ8_fixAfterDeletion_276 ?_
          refine z_S1 (k' := k) 277 sJ8_300 dJ8_fixAfterDeletion_277 (c_rig 0 0 (r := some l) (I.2.1 s hs).1 ((I.2.1 s hs).2.2.2.2.1.trans (congrArg va_rf hl))) (by omega) (by omega) (Nat.le_of_ble_eq_true rfl) (aft_A fun o9 h' hq => ?_)
          obtain ⟨rfl, rfl⟩ := hq
          refine z_iconst 280 (nI 1) dJ8_fixAfterDeletion_280 kI1 ?_
          refine z_S2 (k' := k) 281 sJ8_307 dJ8_fixAfterDeletion_281 (c_setI I 0 0 (some l) bt01_1 ((fun a e => by cases e; exact hlS))) (by omega) (by omega) (Nat.le_of_ble_eq_true rfl) (aft_V fun h' I1 => ?_)
          skip
          first | refine z_aload2 284 dJ8_fixAfterDeletion_284 ?_ | refine z_aload2N 284 dJ8_fixAfterDeletion_284 ?_ | refine z_aload2o 284 dJ8_fixAfterDeletion_284 ?_
          refine z_iconst 285 (nI 0) dJ8_fixAfterDeletion_285 kI0 ?_
          refine z_S2 (k' := k) 286 sJ8_307 dJ8_fixAfterDeletion_286 (c_setI I1 0 0 (some s) bt01_0 ((fun a e => by cases e; exact hs))) (by omega) (by omega) (Nat.le_of_ble_eq_true rfl) (aft_V fun h' I2 => ?_)
          skip
          first | refine z_aload0 289 dJ8_fixAfterDeletion_289 ?_ | refine z_aload0N 289 dJ8_fixAfterDeletion_289 ?_ | refine z_aload0o 289 dJ8_fixAfterDeletion_289 ?_
          first | refine z_aload2 290 dJ8_fixAfterDeletion_290 ?_ | refine z_aload2N 290 dJ8_fixAfterDeletion_290 ?_ | refine z_aload2o 290 dJ8_fixAfterDeletion_290 ?_
          refine z_V1 (k' := k) 291 vJ8_311 dJ8_fixAfterDeletion_291 I2.2.2.1.1 (c_rotLI I2 0 0 hs hl) (by omega) (by omega) (Nat.le_of_ble_eq_true rfl) (aft_V fun h' I3 => ?_)
          have n1 : ¬ x = s := I.1.mirror.aLR hp hLp hRp (I.1.2.1 x hx) (I.1.2.1 s hs)
          have n2 : ¬ x = l := I.1.mirror.aLR hp hLp hRp (I.1.2.1 x hx) hlk.2.2.1
          have n3 : ¬ L l = some x := fun e => I.1.mirror.aLR hp hLp hRp (I.1.2.1 x hx) (I.1.2.2.2.2.2.2.2.2.2.2.2.2.2.1 s l x hlk.2.2.1 (I.1.kidL hlS e).2.2.1) rfl
          have n4 : ¬ p = l := fun e => (I.1.up2 hlS hlk.2.1 hsk.2.1).2.2 e
          have n5 : ¬ p = s := fun e => (I.1.up hs hsk.2.1).2.2.1 e
          have eP : tP L P s l x = some p := (tP_o n1 n2 n3).trans hP
          have eR : tL L P s l p = some l := tL_g n4 hsk.2.1 hRp
          have eL : tR L R P s l p = some x := by unfold tR; rw [if_neg n5, if_neg (fun e => e.2 hRp)]; exact hLp
          first | refine z_aload1 294 dJ8_fixAfterDeletion_294 ?_ | refine z_aload1N 294 dJ8_fixAfterDeletion_294 ?_ | refine z_aload1o 294 dJ8_fixAfterDeletion_294 ?_
          refine z_S1 (k' := k) 295 sJ8_294 dJ8_fixAfterDeletion_295 (c_par 0 0 (r := some p) (I3.2.1 x hx).1 ((I3.2.1 x hx).2.2.2.2.2.1.trans (congrArg va_rf eP))) (by omega) (by omega) (Nat.le_of_ble_eq_true rfl) (aft_A fun o9 h' hq => ?_)
          obtain ⟨rfl, rfl⟩ := hq
          refine z_S1 (k' := k) 298 sJ8_297 dJ8_fixAfterDeletion_298 (c_lef 0 0 (r := some l) (I3.2.1 p hp).1 ((I3.2.1 p hp).2.2.2.1.trans (congrArg va_rf eR))) (by omega) (by omega) (Nat.le_of_ble_eq_true rfl) (aft_A fun o9 h' hq => ?_)
          obtain ⟨rfl, rfl⟩ := hq
          first | refine z_astore2 301 dJ8_fixAfterDeletion_301 rfl ?_ | refine z_astore2N 301 dJ8_fixAfterDeletion_301 rfl ?_ | refine z_astore2o 301 dJ8_fixAfterDeletion_301 rfl ?_
          exact TAILM _ _ _ _ _ _ _ _ _ _ I3 (tD_o n1 n2 hD) (fun f => I.1.lf hs hl (hlf f).1 (hlf f).2 (I.1.mirror.aLR hp hLp hRp hD hlk.2.2.1)) hp eP eL eR
      · first | refine z_aload2 241 dJ8_fixAfterDeletion_241 ?_ | refine z_aload2N 241 dJ8_fixAfterDeletion_241 ?_ | refine z_aload2o 241 dJ8_fixAfterDeletion_241 ?_
        refine z_S1 (k' := k) 242 sJ8_297 dJ8_fixAfterDeletion_242 (c_lef 0 0 (r := L s) (I.2.1 s hs).1 ((I.2.1 s hs).2.2.2.1.trans (congrArg va_rf rfl))) (by omega) (by omega) (Nat.le_of_ble_eq_true rfl) (aft_A fun o9 h' hq => ?_)
        obtain ⟨rfl, rfl⟩ := hq
        refine z_S1 (k' := k) 245 sJ8_303 dJ8_fixAfterDeletion_245 (c_colI I 0 0 (L s) ((fun a e => (I.1.kidL hs e).1))) (by omega) (by omega) (Nat.le_of_ble_eq_true rfl) (aft_I fun o9 h' hq => ?_)
        obtain ⟨rfl, rfl⟩ := hq
        refine z_iconst 248 (nI 1) dJ8_fixAfterDeletion_248 kI1 ?_
        refine z_icne 249 265 dJ8_fixAfterDeletion_249 (by decide) (fun c90 => ?_) (fun d90 => ?_)
        · first | refine z_aload2 265 dJ8_fixAfterDeletion_265 ?_ | refine z_aload2N 265 dJ8_fixAfterDeletion_265 ?_ | refine z_aload2o 265 dJ8_fixAfterDeletion_265 ?_
          refine z_S1 (k' := k) 266 sJ8_297 dJ8_fixAfterDeletion_266 (c_lef 0 0 (r := L s) (I.2.1 s hs).1 ((I.2.1 s hs).2.2.2.1.trans (congrArg va_rf rfl))) (by omega) (by omega) (Nat.le_of_ble_eq_true rfl) (aft_A fun o9 h' hq => ?_)
          obtain ⟨rfl, rfl⟩ := hq
          refine z_S1 (k' := k) 269 sJ8_303 dJ8_fixAfterDeletion_269 (c_colI I 0 0 (L s) ((fun a e => (I.1.kidL hs e).1))) (by omega) (by omega) (Nat.le_of_ble_eq_true rfl) (aft_I fun o9 h' hq => ?_)
          obtain ⟨rfl, rfl⟩ := hq
          refine z_iconst 272 (nI 1) dJ8_fixAfterDeletion_272 kI1 ?_
          refine z_icne 273 302 dJ8_fixAfterDeletion_273 (by decide) (fun c114 => ?_) (fun c114 => by first | exact absurd c114 (c90) | exact absurd (c90) c114)
          exact TAILM _ _ _ _ _ _ _ _ _ _ I hD hlf hp hP hLp hRp
        · first | refine z_aload2 252 dJ8_fixAfterDeletion_252 ?_ | refine z_aload2N 252 dJ8_fixAfterDeletion_252 ?_ | refine z_aload2o 252 dJ8_fixAfterDeletion_252 ?_
          refine z_iconst 253 (nI 0) dJ8_fixAfterDeletion_253 kI0 ?_
          refine z_S2 (k' := k) 254 sJ8_307 dJ8_fixAfterDeletion_254 (c_setI I 0 0 (some s) bt01_0 ((fun a e => by cases e; exact hs))) (by omega) (by omega) (Nat.le_of_ble_eq_true rfl) (aft_V fun h' I1 => ?_)
          skip
          first | refine z_aload1 257 dJ8_fixAfterDeletion_257 ?_ | refine z_aload1N 257 dJ8_fixAfterDeletion_257 ?_ | refine z_aload1o 257 dJ8_fixAfterDeletion_257 ?_
          refine z_S1 (k' := k) 258 sJ8_294 dJ8_fixAfterDeletion_258 (c_par 0 0 (r := some p) (I1.2.1 x hx).1 ((I1.2.1 x hx).2.2.2.2.2.1.trans (congrArg va_rf hP))) (by omega) (by omega) (Nat.le_of_ble_eq_true rfl) (aft_A fun o9 h' hq => ?_)
          obtain ⟨rfl, rfl⟩ := hq
          first | refine z_astore1 261 dJ8_fixAfterDeletion_261 rfl ?_ | refine z_astore1N 261 dJ8_fixAfterDeletion_261 rfl ?_ | refine z_astore1o 261 dJ8_fixAfterDeletion_261 rfl ?_
          refine z_goto 262 342 dJ8_fixAfterDeletion_262 (by decide) ?_
          refine z_goto 342 0 dJ8_fixAfterDeletion_342 (by decide) ?_
          exact hm.elim (fun q => ih _ _ _ _ _ _ _ _ _ I1 hDp hlf q) (fun q => HX _ _ _ _ _ _ _ _ _ I1 hDp hlf (Or.inr (fun e => nI10 ((show _ = _ from by simp [q]).symm.trans e))))
  have LOOP : ∀ (m : Nat) (L R P : Nat → Option Nat) (rt : Option Nat) (D : Nat → Nat → Prop) (cl : Nat → Int32) (x : Nat) (v2 : Value) (h : HP), IV h0 t S lt ke va n mc ks h L R P rt D cl → D x w → (lf → L w = none ∧ R w = none) → xs.length - cnD D xs x < m → Z E mJ8_fixAfterDeletion d (rV (fun h' => ∃ (L R P : Nat → Option Nat) (rt : Option Nat) (D : Nat → Nat → Prop) (cl : Nat → Int32), IV h0 t S lt ke va n mc ks h' L R P rt D cl ∧ (lf → L w = none ∧ R w = none))) k h 0 [.ref t, .ref x, v2] [] := by
    intro m
    induction m with
    | zero => exact fun _ _ _ _ _ _ _ _ _ _ _ _ q => absurd q (Nat.not_lt_zero _)
    | succ m ih =>
      intro L R P rt D cl x v2 h I hD hlf hm
      have hx := (I.1.1 _ _ hD).1
      first | refine z_aload1 0 dJ8_fixAfterDeletion_0 ?_ | refine z_aload1N 0 dJ8_fixAfterDeletion_0 ?_ | refine z_aload1o 0 dJ8_fixAfterDeletion_0 ?_
      first | refine z_aload0 1 dJ8_fixAfterDeletion_1 ?_ | refine z_aload0N 1 dJ8_fixAfterDeletion_1 ?_ | refine z_aload0o 1 dJ8_fixAfterDeletion_1 ?_
      refine z_get 2 gJ8_101 dJ8_fixAfterDeletion_2 I.2.2.1.1 I.2.2.1.2.2.1 ?_
      refine z_aceq (some x) rt 5 345 dJ8_fixAfterDeletion_5 (by decide) (fun c5 => ?_) (fun c5 => ?_)
      · exact EX _ _ _ _ _ _ _ _ _ I hD hlf
      · first | refine z_aload1 8 dJ8_fixAfterDeletion_8 ?_ | refine z_aload1N 8 dJ8_fixAfterDeletion_8 ?_ | refine z_aload1o 8 dJ8_fixAfterDeletion_8 ?_
        refine z_S1 (k' := k) 9 sJ8_303 dJ8_fixAfterDeletion_9 (c_colI I 0 0 (some x) ((fun a e => by cases e; exact hx))) (by omega) (by omega) (Nat.le_of_ble_eq_true rfl) (aft_I fun o9 h' hq => ?_)
        obtain ⟨rfl, rfl⟩ := hq
        refine z_iconst 12 (nI 1) dJ8_fixAfterDeletion_12 kI1 ?_
        refine z_icne 13 345 dJ8_fixAfterDeletion_13 (by decide) (fun c13 => ?_) (fun d13 => ?_)
        · exact EX _ _ _ _ _ _ _ _ _ I hD hlf
        · skip
          obtain ⟨p, hP⟩ : ∃ p, P x = some p := by
            cases e : P x with
            | none => exact absurd (I.1.2.2.2.2.2.2.2.2.1 x hx e).symm c5
            | some p => exact ⟨p, rfl⟩
          have hpu := I.1.up hx hP
          have hp := hpu.1
          have hm2 : xs.length - cnD D xs p < m := by
            have := I.1.cnt hxs9 hpu.2.1 hpu.2.2.1
            have := cnD_le D xs p
            omega
          first | refine z_aload1 16 dJ8_fixAfterDeletion_16 ?_ | refine z_aload1N 16 dJ8_fixAfterDeletion_16 ?_ | refine z_aload1o 16 dJ8_fixAfterDeletion_16 ?_
          first | refine z_aload1 17 dJ8_fixAfterDeletion_17 ?_ | refine z_aload1N 17 dJ8_fixAfterDeletion_17 ?_ | refine z_aload1o 17 dJ8_fixAfterDeletion_17 ?_
          refine z_S1 (k' := k) 18 sJ8_294 dJ8_fixAfterDeletion_18 (c_par 0 0 (r := some p) (I.2.1 x hx).1 ((I.2.1 x hx).2.2.2.2.2.1.trans (congrArg va_rf hP))) (by omega) (by omega) (Nat.le_of_ble_eq_true rfl) (aft_A fun o9 h' hq => ?_)
          obtain ⟨rfl, rfl⟩ := hq
          refine z_S1 (k' := k) 21 sJ8_297 dJ8_fixAfterDeletion_21 (c_lef 0 0 (r := L p) (I.2.1 p hp).1 ((I.2.1 p hp).2.2.2.1.trans (congrArg va_rf rfl))) (by omega) (by omega) (Nat.le_of_ble_eq_true rfl) (aft_A fun o9 h' hq => ?_)
          obtain ⟨rfl, rfl⟩ := hq
          refine z_acne (some x) (L p) 24 186 dJ8_fixAfterDeletion_24 (by decide) (fun c24 => ?_) (fun c24 => ?_)
          · have hLp : R p = some x := hpu.2.2.2.elim (fun e => absurd e.symm c24) (fun e => e)
            first | refine z_aload1 186 dJ8_fixAfterDeletion_186 ?_ | refine z_aload1N 186 dJ8_fixAfterDeletion_186 ?_ | refine z_aload1o 186 dJ8_fixAfterDeletion_186 ?_
            refine z_S1 (k' := k) 187 sJ8_294 dJ8_fixAfterDeletion_187 (c_par 0 0 (r := some p) (I.2.1 x hx).1 ((I.2.1 x hx).2.2.2.2.2.1.trans (congrArg va_rf hP))) (by omega) (by omega) (Nat.le_of_ble_eq_true rfl) (aft_A fun o9 h' hq => ?_)
            obtain ⟨rfl, rfl⟩ := hq
            refine z_S1 (k' := k) 190 sJ8_297 dJ8_fixAfterDeletion_190 (c_lef 0 0 (r := L p) (I.2.1 p hp).1 ((I.2.1 p hp).2.2.2.1.trans (congrArg va_rf rfl))) (by omega) (by omega) (Nat.le_of_ble_eq_true rfl) (aft_A fun o9 h' hq => ?_)
            obtain ⟨rfl, rfl⟩ := hq
            refine z_astore2o 193 dJ8_fixAfterDeletion_193 rfl ?_
            refine z_aload2o 194 dJ8_fixAfterDeletion_194 ?_
            refine z_S1 (k' := k) 195 sJ8_303 dJ8_fixAfterDeletion_195 (c_colI I 0 0 (L p) ((fun a e => (I.1.kidL hp e).1))) (by omega) (by omega) (Nat.le_of_ble_eq_true rfl) (aft_I fun o9 h' hq => ?_)
            obtain ⟨rfl, rfl⟩ := hq
            refine z_ifne 198 230 dJ8_fixAfterDeletion_198 (by decide) (fun c39 => ?_) (fun d39 => ?_)
            · exact MIDM m ih _ _ _ _ _ _ _ _ _ I hD hlf hp hP hLp (Or.inl hm2)
            · rcases hRp : L p with _ | s
              · rw [hRp] at d39; exact absurd d39 nI01
              have hsk := I.1.kidL hp hRp
              have hs := hsk.1
              have hne := I.1.mirror.aLR hp hLp hRp hD (I.1.2.1 s hs)
              refine z_aload2 201 dJ8_fixAfterDeletion_201 ?_
              refine z_iconst 202 (nI 1) dJ8_fixAfterDeletion_202 kI1 ?_
              refine z_S2 (k' := k) 203 sJ8_307 dJ8_fixAfterDeletion_203 (c_setI I 0 0 (some s) bt01_1 ((fun a e => by cases e; exact hs))) (by omega) (by omega) (Nat.le_of_ble_eq_true rfl) (aft_V fun h' I1 => ?_)
              skip
              first | refine z_aload1 206 dJ8_fixAfterDeletion_206 ?_ | refine z_aload1N 206 dJ8_fixAfterDeletion_206 ?_ | refine z_aload1o 206 dJ8_fixAfterDeletion_206 ?_
              refine z_S1 (k' := k) 207 sJ8_294 dJ8_fixAfterDeletion_207 (c_par 0 0 (r := some p) (I1.2.1 x hx).1 ((I1.2.1 x hx).2.2.2.2.2.1.trans (congrArg va_rf hP))) (by omega) (by omega) (Nat.le_of_ble_eq_true rfl) (aft_A fun o9 h' hq => ?_)
              obtain ⟨rfl, rfl⟩ := hq
              refine z_iconst 210 (nI 0) dJ8_fixAfterDeletion_210 kI0 ?_
              refine z_S2 (k' := k) 211 sJ8_307 dJ8_fixAfterDeletion_211 (c_setI I1 0 0 (some p) bt01_0 ((fun a e => by cases e; exact hp))) (by omega) (by omega) (Nat.le_of_ble_eq_true rfl) (aft_V fun h' I2 => ?_)
              skip
              first | refine z_aload0 214 dJ8_fixAfterDeletion_214 ?_ | refine z_aload0N 214 dJ8_fixAfterDeletion_214 ?_ | refine z_aload0o 214 dJ8_fixAfterDeletion_214 ?_
              first | refine z_aload1 215 dJ8_fixAfterDeletion_215 ?_ | refine z_aload1N 215 dJ8_fixAfterDeletion_215 ?_ | refine z_aload1o 215 dJ8_fixAfterDeletion_215 ?_
              refine z_S1 (k' := k) 216 sJ8_294 dJ8_fixAfterDeletion_216 (c_par 0 0 (r := some p) (I2.2.1 x hx).1 ((I2.2.1 x hx).2.2.2.2.2.1.trans (congrArg va_rf hP))) (by omega) (by omega) (Nat.le_of_ble_eq_true rfl) (aft_A fun o9 h' hq => ?_)
              obtain ⟨rfl, rfl⟩ := hq
              refine z_V1 (k' := k) 219 vJ8_314 dJ8_fixAfterDeletion_219 I2.2.2.1.1 (c_rotRI I2 0 0 hp hRp) (by omega) (by omega) (Nat.le_of_ble_eq_true rfl) (aft_V fun h' I3 => ?_)
              have n1 : ¬ x = p := fun e => (I.1.up hx hP).2.2.1 e.symm
              have n2 : ¬ x = s := I.1.mirror.aLR hp hLp hRp (I.1.2.1 x hx) (I.1.2.1 s hs)
              have n3 : ¬ R s = some x := fun e => I.1.mirror.aLR hp hLp hRp (I.1.2.1 x hx) (I.1.kidR hs e).2.2.1 rfl
              have n5 : ¬ p = s := fun e => (I.1.up hs hsk.2.1).2.2.1 e
              have eP : tP R P p s x = some p := (tP_o n1 n2 n3).trans hP
              have eL : tL R P p s p = some x := (tL_o n5 (fun e => (I.1.up hp e).2.2.1 rfl)).trans hLp
              have eR : tR R L P p s p = R s := tR_q
              first | refine z_aload1 222 dJ8_fixAfterDeletion_222 ?_ | refine z_aload1N 222 dJ8_fixAfterDeletion_222 ?_ | refine z_aload1o 222 dJ8_fixAfterDeletion_222 ?_
              refine z_S1 (k' := k) 223 sJ8_294 dJ8_fixAfterDeletion_223 (c_par 0 0 (r := some p) (I3.2.1 x hx).1 ((I3.2.1 x hx).2.2.2.2.2.1.trans (congrArg va_rf eP))) (by omega) (by omega) (Nat.le_of_ble_eq_true rfl) (aft_A fun o9 h' hq => ?_)
              obtain ⟨rfl, rfl⟩ := hq
              refine z_S1 (k' := k) 226 sJ8_297 dJ8_fixAfterDeletion_226 (c_lef 0 0 (r := tR R L P p s p) (I3.2.1 p hp).1 ((I3.2.1 p hp).2.2.2.1.trans (congrArg va_rf rfl))) (by omega) (by omega) (Nat.le_of_ble_eq_true rfl) (aft_A fun o9 h' hq => ?_)
              obtain ⟨rfl, rfl⟩ := hq
              refine z_astore2o 229 dJ8_fixAfterDeletion_229 rfl ?_
              exact MIDM m ih _ _ _ _ _ _ _ _ _ I3 (tD_o n1 n2 hD) (fun f => (I.1.mirror.lf hp hRp (hlf f).2 (hlf f).1 hne).symm) hp eP eL (Or.inr (by simp))
          · have hLp : L p = some x := c24.symm
            first | refine z_aload1 27 dJ8_fixAfterDeletion_27 ?_ | refine z_aload1N 27 dJ8_fixAfterDeletion_27 ?_ | refine z_aload1o 27 dJ8_fixAfterDeletion_27 ?_
            refine z_S1 (k' := k) 28 sJ8_294 dJ8_fixAfterDeletion_28 (c_par 0 0 (r := some p) (I.2.1 x hx).1 ((I.2.1 x hx).2.2.2.2.2.1.trans (congrArg va_rf hP))) (by omega) (by omega) (Nat.le_of_ble_eq_true rfl) (aft_A fun o9 h' hq => ?_)
            obtain ⟨rfl, rfl⟩ := hq
            refine z_S1 (k' := k) 31 sJ8_300 dJ8_fixAfterDeletion_31 (c_rig 0 0 (r := R p) (I.2.1 p hp).1 ((I.2.1 p hp).2.2.2.2.1.trans (congrArg va_rf rfl))) (by omega) (by omega) (Nat.le_of_ble_eq_true rfl) (aft_A fun o9 h' hq => ?_)
            obtain ⟨rfl, rfl⟩ := hq
            refine z_astore2o 34 dJ8_fixAfterDeletion_34 rfl ?_
            refine z_aload2o 35 dJ8_fixAfterDeletion_35 ?_
            refine z_S1 (k' := k) 36 sJ8_303 dJ8_fixAfterDeletion_36 (c_colI I 0 0 (R p) ((fun a e => (I.1.kidR hp e).1))) (by omega) (by omega) (Nat.le_of_ble_eq_true rfl) (aft_I fun o9 h' hq => ?_)
            obtain ⟨rfl, rfl⟩ := hq
            refine z_ifne 39 71 dJ8_fixAfterDeletion_39 (by decide) (fun c39 => ?_) (fun d39 => ?_)
            · exact MID m ih _ _ _ _ _ _ _ _ _ I hD hlf hp hP hLp (Or.inl hm2)
            · rcases hRp : R p with _ | s
              · rw [hRp] at d39; exact absurd d39 nI01
              have hsk := I.1.kidR hp hRp
              have hs := hsk.1
              have hne := I.1.aLR hp hLp hRp hD (I.1.2.1 s hs)
              refine z_aload2 42 dJ8_fixAfterDeletion_42 ?_
              refine z_iconst 43 (nI 1) dJ8_fixAfterDeletion_43 kI1 ?_
              refine z_S2 (k' := k) 44 sJ8_307 dJ8_fixAfterDeletion_44 (c_setI I 0 0 (some s) bt01_1 ((fun a e => by cases e; exact hs))) (by omega) (by omega) (Nat.le_of_ble_eq_true rfl) (aft_V fun h' I1 => ?_)
              skip
              first | refine z_aload1 47 dJ8_fixAfterDeletion_47 ?_ | refine z_aload1N 47 dJ8_fixAfterDeletion_47 ?_ | refine z_aload1o 47 dJ8_fixAfterDeletion_47 ?_
              refine z_S1 (k' := k) 48 sJ8_294 dJ8_fixAfterDeletion_48 (c_par 0 0 (r := some p) (I1.2.1 x hx).1 ((I1.2.1 x hx).2.2.2.2.2.1.trans (congrArg va_rf hP))) (by omega) (by omega) (Nat.le_of_ble_eq_true rfl) (aft_A fun o9 h' hq => ?_)
              obtain ⟨rfl, rfl⟩ := hq
              refine z_iconst 51 (nI 0) dJ8_fixAfterDeletion_51 kI0 ?_
              refine z_S2 (k' := k) 52 sJ8_307 dJ8_fixAfterDeletion_52 (c_setI I1 0 0 (some p) bt01_0 ((fun a e => by cases e; exact hp))) (by omega) (by omega) (Nat.le_of_ble_eq_true rfl) (aft_V fun h' I2 => ?_)
              skip
              first | refine z_aload0 55 dJ8_fixAfterDeletion_55 ?_ | refine z_aload0N 55 dJ8_fixAfterDeletion_55 ?_ | refine z_aload0o 55 dJ8_fixAfterDeletion_55 ?_
              first | refine z_aload1 56 dJ8_fixAfterDeletion_56 ?_ | refine z_aload1N 56 dJ8_fixAfterDeletion_56 ?_ | refine z_aload1o 56 dJ8_fixAfterDeletion_56 ?_
              refine z_S1 (k' := k) 57 sJ8_294 dJ8_fixAfterDeletion_57 (c_par 0 0 (r := some p) (I2.2.1 x hx).1 ((I2.2.1 x hx).2.2.2.2.2.1.trans (congrArg va_rf hP))) (by omega) (by omega) (Nat.le_of_ble_eq_true rfl) (aft_A fun o9 h' hq => ?_)
              obtain ⟨rfl, rfl⟩ := hq
              refine z_V1 (k' := k) 60 vJ8_311 dJ8_fixAfterDeletion_60 I2.2.2.1.1 (c_rotLI I2 0 0 hp hRp) (by omega) (by omega) (Nat.le_of_ble_eq_true rfl) (aft_V fun h' I3 => ?_)
              have n1 : ¬ x = p := fun e => (I.1.up hx hP).2.2.1 e.symm
              have n2 : ¬ x = s := I.1.aLR hp hLp hRp (I.1.2.1 x hx) (I.1.2.1 s hs)
              have n3 : ¬ L s = some x := fun e => I.1.aLR hp hLp hRp (I.1.2.1 x hx) (I.1.kidL hs e).2.2.1 rfl
              have n5 : ¬ p = s := fun e => (I.1.up hs hsk.2.1).2.2.1 e
              have eP : tP L P p s x = some p := (tP_o n1 n2 n3).trans hP
              have eL : tL L P p s p = some x := (tL_o n5 (fun e => (I.1.up hp e).2.2.1 rfl)).trans hLp
              have eR : tR L R P p s p = L s := tR_q
              first | refine z_aload1 63 dJ8_fixAfterDeletion_63 ?_ | refine z_aload1N 63 dJ8_fixAfterDeletion_63 ?_ | refine z_aload1o 63 dJ8_fixAfterDeletion_63 ?_
              refine z_S1 (k' := k) 64 sJ8_294 dJ8_fixAfterDeletion_64 (c_par 0 0 (r := some p) (I3.2.1 x hx).1 ((I3.2.1 x hx).2.2.2.2.2.1.trans (congrArg va_rf eP))) (by omega) (by omega) (Nat.le_of_ble_eq_true rfl) (aft_A fun o9 h' hq => ?_)
              obtain ⟨rfl, rfl⟩ := hq
              refine z_S1 (k' := k) 67 sJ8_300 dJ8_fixAfterDeletion_67 (c_rig 0 0 (r := tR L R P p s p) (I3.2.1 p hp).1 ((I3.2.1 p hp).2.2.2.2.1.trans (congrArg va_rf rfl))) (by omega) (by omega) (Nat.le_of_ble_eq_true rfl) (aft_A fun o9 h' hq => ?_)
              obtain ⟨rfl, rfl⟩ := hq
              refine z_astore2o 70 dJ8_fixAfterDeletion_70 rfl ?_
              exact MID m ih _ _ _ _ _ _ _ _ _ I3 (tD_o n1 n2 hD) (fun f => I.1.lf hp hRp (hlf f).1 (hlf f).2 hne) hp eP eL (Or.inr (by simp))
  refine Call.of [.ref t, .ref w, dum] q1690 (by decide) pn_J8 (Nat.le_of_ble_eq_true rfl) rfl ?_
  exact LOOP _ _ _ _ _ _ _ _ _ _ I0 (I0.1.2.1 w hw) hlf0 (Nat.lt_succ_self _)
