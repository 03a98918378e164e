/-! TREEMAP: pictures of a map and its entries; the small helpers; rotating -/
theorem nrO (n : String) (o : Option Nat) : narrow (.object n) (va_rf o) = va_rf o := by cases o <;> rfl
theorem ftO (n : String) (o : Option Nat) : fits (.object n) (va_rf o) = true := by cases o <;> rfl
theorem va_rf_some (a : Nat) : va_rf (some a) = .ref a := rfl
theorem va_rf_none : va_rf none = .null := rfl
theorem va_rf_inj {x y : Option Nat} (h : va_rf x = va_rf y) : x = y := by
  cases x <;> cases y <;> simp_all [va_rf]
/-- the entries S: links, keys, values, colours -/
def EnS (h : HP) (S : Nat → Prop) (L R P : Nat → Option Nat) (ke va : Nat → Nat) (cl : Nat → Int32) : Prop := ∀ a, S a → h.kd a = 8 ∧ h.mm a 0 = .ref (ke a) ∧ h.mm a 1 = .ref (va a) ∧ h.mm a 2 = va_rf (L a) ∧ h.mm a 3 = va_rf (R a) ∧ h.mm a 4 = va_rf (P a) ∧ h.mm a 5 = .int (cl a) ∧ bt01 (cl a)
/-- the map itself: root, size, modCount, key set -/
def MapO (h : HP) (t : Nat) (rt : Option Nat) (n mc : Int32) (ks : Option Nat) : Prop := h.kd t = 7 ∧ h.mm t 2 = .null ∧ h.mm t 3 = va_rf rt ∧ h.mm t 4 = .int n ∧ h.mm t 5 = .int mc ∧ h.mm t 7 = va_rf ks
set_option maxHeartbeats 4000000 in
theorem c_parentOf {E : Ev} {h : HP} {o : Option Nat} {f : Nat → Option Nat} (d k : Nat) (X : ∀ a, o = some a → h.kd a = 8 ∧ h.mm a 4 = va_rf (f a)) : Call E yJ8_parentOf d k [va_rf o] h (rA (fun x h' => h' = h ∧ x = o.bind f)) := by
  rcases o with _ | a
  · refine Call.of [.null] q1413 (by decide) pn_J8 (Nat.le_of_ble_eq_true rfl) rfl ?_
    first | refine z_aload0 0 dJ8_parentOf_0 ?_ | refine z_aload0N 0 dJ8_parentOf_0 ?_ | refine z_aload0o 0 dJ8_parentOf_0 ?_
    refine z_ifnonnullN 1 dJ8_parentOf_1 ?_
    refine z_null 4 dJ8_parentOf_4 ?_
    refine z_goto 5 12 dJ8_parentOf_5 (by decide) ?_
    refine z_areturn 12 rfl (Or.inl ⟨_, rfl⟩) (by first | exact Or.inl rfl | exact Or.inr ⟨_, rfl⟩ | exact va_rf_or _) dJ8_parentOf_12 ?_
    exact ⟨none, rfl, rfl, rfl⟩
  · obtain ⟨xk, xv⟩ := X a rfl
    refine Call.of [.ref a] q1413 (by decide) pn_J8 (Nat.le_of_ble_eq_true rfl) rfl ?_
    first | refine z_aload0 0 dJ8_parentOf_0 ?_ | refine z_aload0N 0 dJ8_parentOf_0 ?_ | refine z_aload0o 0 dJ8_parentOf_0 ?_
    refine z_ifnonnull 1 8 dJ8_parentOf_1 (by decide) ?_
    first | refine z_aload0 8 dJ8_parentOf_8 ?_ | refine z_aload0N 8 dJ8_parentOf_8 ?_ | refine z_aload0o 8 dJ8_parentOf_8 ?_
    refine z_get 9 gJ8_124 dJ8_parentOf_9 xk xv ?_
    refine z_areturn 12 rfl (Or.inl ⟨_, rfl⟩) (va_rf_or2 _) dJ8_parentOf_12 ?_
    exact ⟨_, rfl, rfl, rfl⟩

set_option maxHeartbeats 4000000 in
theorem c_leftOf {E : Ev} {h : HP} {o : Option Nat} {f : Nat → Option Nat} (d k : Nat) (X : ∀ a, o = some a → h.kd a = 8 ∧ h.mm a 2 = va_rf (f a)) : Call E yJ8_leftOf d k [va_rf o] h (rA (fun x h' => h' = h ∧ x = o.bind f)) := by
  rcases o with _ | a
  · refine Call.of [.null] q1416 (by decide) pn_J8 (Nat.le_of_ble_eq_true rfl) rfl ?_
    first | refine z_aload0 0 dJ8_leftOf_0 ?_ | refine z_aload0N 0 dJ8_leftOf_0 ?_ | refine z_aload0o 0 dJ8_leftOf_0 ?_
    refine z_ifnonnullN 1 dJ8_leftOf_1 ?_
    refine z_null 4 dJ8_leftOf_4 ?_
    refine z_goto 5 12 dJ8_leftOf_5 (by decide) ?_
    refine z_areturn 12 rfl (Or.inl ⟨_, rfl⟩) (by first | exact Or.inl rfl | exact Or.inr ⟨_, rfl⟩ | exact va_rf_or _) dJ8_leftOf_12 ?_
    exact ⟨none, rfl, rfl, rfl⟩
  · obtain ⟨xk, xv⟩ := X a rfl
    refine Call.of [.ref a] q1416 (by decide) pn_J8 (Nat.le_of_ble_eq_true rfl) rfl ?_
    first | refine z_aload0 0 dJ8_leftOf_0 ?_ | refine z_aload0N 0 dJ8_leftOf_0 ?_ | refine z_aload0o 0 dJ8_leftOf_0 ?_
    refine z_ifnonnull 1 8 dJ8_leftOf_1 (by decide) ?_
    first | refine z_aload0 8 dJ8_leftOf_8 ?_ | refine z_aload0N 8 dJ8_leftOf_8 ?_ | refine z_aload0o 8 dJ8_leftOf_8 ?_
    refine z_get 9 gJ8_111 dJ8_leftOf_9 xk xv ?_
    refine z_areturn 12 rfl (Or.inl ⟨_, rfl⟩) (va_rf_or2 _) dJ8_leftOf_12 ?_
    exact ⟨_, rfl, rfl, rfl⟩

set_option maxHeartbeats 4000000 in
theorem c_rightOf {E : Ev} {h : HP} {o : Option Nat} {f : Nat → Option Nat} (d k : Nat) (X : ∀ a, o = some a → h.kd a = 8 ∧ h.mm a 3 = va_rf (f a)) : Call E yJ8_rightOf d k [va_rf o] h (rA (fun x h' => h' = h ∧ x = o.bind f)) := by
  rcases o with _ | a
  · refine Call.of [.null] q1419 (by decide) pn_J8 (Nat.le_of_ble_eq_true rfl) rfl ?_
    first | refine z_aload0 0 dJ8_rightOf_0 ?_ | refine z_aload0N 0 dJ8_rightOf_0 ?_ | refine z_aload0o 0 dJ8_rightOf_0 ?_
    refine z_ifnonnullN 1 dJ8_rightOf_1 ?_
    refine z_null 4 dJ8_rightOf_4 ?_
    refine z_goto 5 12 dJ8_rightOf_5 (by decide) ?_
    refine z_areturn 12 rfl (Or.inl ⟨_, rfl⟩) (by first | exact Or.inl rfl | exact Or.inr ⟨_, rfl⟩ | exact va_rf_or _) dJ8_rightOf_12 ?_
    exact ⟨none, rfl, rfl, rfl⟩
  · obtain ⟨xk, xv⟩ := X a rfl
    refine Call.of [.ref a] q1419 (by decide) pn_J8 (Nat.le_of_ble_eq_true rfl) rfl ?_
    first | refine z_aload0 0 dJ8_rightOf_0 ?_ | refine z_aload0N 0 dJ8_rightOf_0 ?_ | refine z_aload0o 0 dJ8_rightOf_0 ?_
    refine z_ifnonnull 1 8 dJ8_rightOf_1 (by decide) ?_
    first | refine z_aload0 8 dJ8_rightOf_8 ?_ | refine z_aload0N 8 dJ8_rightOf_8 ?_ | refine z_aload0o 8 dJ8_rightOf_8 ?_
    refine z_get 9 gJ8_114 dJ8_rightOf_9 xk xv ?_
    refine z_areturn 12 rfl (Or.inl ⟨_, rfl⟩) (va_rf_or2 _) dJ8_rightOf_12 ?_
    exact ⟨_, rfl, rfl, rfl⟩

def clO (cl : Nat → Int32) (o : Option Nat) : Int32 := match o with
  | none => nI 1
  | some a => cl a
set_option maxHeartbeats 4000000 in
theorem c_colorOf {E : Ev} {h : HP} {o : Option Nat} {f : Nat → Int32} (d k : Nat) (X : ∀ a, o = some a → h.kd a = 8 ∧ h.mm a 5 = .int (f a) ∧ bt01 (f a)) : Call E yJ8_colorOf d k [va_rf o] h (rI (fun x h' => h' = h ∧ x = clO f o)) := by
  rcases o with _ | a
  · refine Call.of [.null] q1422 (by decide) pn_J8 (Nat.le_of_ble_eq_true rfl) rfl ?_
    first | refine z_aload0 0 dJ8_colorOf_0 ?_ | refine z_aload0N 0 dJ8_colorOf_0 ?_ | refine z_aload0o 0 dJ8_colorOf_0 ?_
    refine z_ifnonnullN 1 dJ8_colorOf_1 ?_
    refine z_iconst 4 (nI 1) dJ8_colorOf_4 kI1 ?_
    refine z_goto 5 12 dJ8_colorOf_5 (by decide) ?_
    refine z_zreturn 12 rfl (nb1) dJ8_colorOf_12 ?_
    exact ⟨_, rfl, rfl, rfl⟩
  · obtain ⟨xk, xv⟩ := X a rfl
    refine Call.of [.ref a] q1422 (by decide) pn_J8 (Nat.le_of_ble_eq_true rfl) rfl ?_
    first | refine z_aload0 0 dJ8_colorOf_0 ?_ | refine z_aload0N 0 dJ8_colorOf_0 ?_ | refine z_aload0o 0 dJ8_colorOf_0 ?_
    refine z_ifnonnull 1 8 dJ8_colorOf_1 (by decide) ?_
    first | refine z_aload0 8 dJ8_colorOf_8 ?_ | refine z_aload0N 8 dJ8_colorOf_8 ?_ | refine z_aload0o 8 dJ8_colorOf_8 ?_
    refine z_get 9 gJ8_290 dJ8_colorOf_9 xk xv.1 ?_
    refine z_zreturn 12 rfl (xv.2.n) dJ8_colorOf_12 ?_
    exact ⟨_, rfl, rfl, rfl⟩

def scO (h : HP) (o : Option Nat) (c : Int32) : HP := match o with
  | none => h
  | some a => h.put a 5 (.int c)
set_option maxHeartbeats 4000000 in
theorem c_setColor {E : Ev} {h : HP} {o : Option Nat} {c : Int32} (d k : Nat) (hc : bt01 c) (X : ∀ a, o = some a → h.kd a = 8 ∧ True) : Call E yJ8_setColor d k [va_rf o, .int c] h (rV (fun h' => h' = scO h o c)) := by
  rcases o with _ | a
  · refine Call.of [.null, .int c] q1425 (by decide) pn_J8 (Nat.le_of_ble_eq_true rfl) rfl ?_
    first | refine z_aload0 0 dJ8_setColor_0 ?_ | refine z_aload0N 0 dJ8_setColor_0 ?_ | refine z_aload0o 0 dJ8_setColor_0 ?_
    refine z_ifnullN 1 9 dJ8_setColor_1 (by decide) ?_
    refine z_return 9 rfl dJ8_setColor_9 ?_
    exact ⟨rfl, rfl⟩
  · obtain ⟨xk, xv⟩ := X a rfl
    refine Call.of [.ref a, .int c] q1425 (by decide) pn_J8 (Nat.le_of_ble_eq_true rfl) rfl ?_
    first | refine z_aload0 0 dJ8_setColor_0 ?_ | refine z_aload0N 0 dJ8_setColor_0 ?_ | refine z_aload0o 0 dJ8_setColor_0 ?_
    refine z_ifnull 1 dJ8_setColor_1 ?_
    first | refine z_aload0 4 dJ8_setColor_4 ?_ | refine z_aload0N 4 dJ8_setColor_4 ?_ | refine z_aload0o 4 dJ8_setColor_4 ?_
    refine z_iload1 5 dJ8_setColor_5 ?_
    refine z_put 6 pJ8_290 (fun h => by cases h) dJ8_setColor_6 xk (hc.n) (hc.f) ?_
    refine z_return 9 rfl dJ8_setColor_9 ?_
    exact ⟨rfl, rfl⟩

set_option maxHeartbeats 4000000 in
theorem c_rotL {E : Ev} {h : HP} {S : Nat → Prop} {lt : Nat → Nat → Prop} {L R P : Nat → Option Nat} {rt : Option Nat} {D : Nat → Nat → Prop} {ke va : Nat → Nat} {cl : Nat → Int32} {n mc : Int32} {ks : Option Nat} {t q r : Nat} (d k : Nat) (T : TW S lt L R P rt D) (X : EnS h S L R P ke va cl) (M : MapO h t rt n mc ks) (hq : S q) (hr : R q = some r) : Call E yJ8_rotateLeft d k [.ref t, .ref q] h (rV (fun h' => EnS h' S (tL L P q r) (tR L R P q r) (tP L P q r) ke va cl ∧ MapO h' t (tRt P rt q r) n mc ks ∧ Sm (fun a => S a ∨ a = t) h h' ∧ h'.sz = h.sz)) := by
  obtain ⟨g1, g2, g3⟩ := T.2.2.2.2.2.1 q hq r hr
  obtain ⟨xqk, xqa, xqb, xq2, xq3, xq4, xq5, xqc⟩ := X q hq
  obtain ⟨xrk, xra, xrb, xr2, xr3, xr4, xr5, xrc⟩ := X r g1
  obtain ⟨mk, m2, m3, m4, m5, m7⟩ := M
  have hqr : ¬ q = r := fun e => T.2.2.2.2.2.2.2.2.2.2.1 q hq (by have := ((g3 r).mp (T.2.1 r g1)).2; rw [← e] at this; exact this)
  have htq : ¬ t = q := fun e => by rw [← e, mk] at xqk; cases xqk
  have htr : ¬ t = r := fun e => by rw [← e, mk] at xrk; cases xrk
  have hl9 : ∀ l, L r = some l → h.kd l = 8 ∧ ¬ l = q ∧ ¬ l = r ∧ ¬ l = t ∧ S l ∧ P l = some r := fun l e => by
    obtain ⟨a1, a2, a3⟩ := T.2.2.2.1 r g1 l e
    refine ⟨(X l a1).1, fun e2 => ?_, fun e2 => ?_, fun e2 => (by have := (X l a1).1; rw [e2, mk] at this; cases this), a1, a2⟩
    · subst e2; exact T.2.2.2.2.2.2.2.2.2.2.1 l hq ((g3 l).mp ((a3 l).mp (T.2.1 l a1)).1).2
    · subst e2; exact T.2.2.2.2.2.2.2.2.2.2.1 l g1 ((a3 l).mp (T.2.1 l a1)).2
  have hg9 : ∀ g, P q = some g → h.kd g = 8 ∧ ¬ g = q ∧ ¬ g = r ∧ ¬ g = t ∧ S g ∧ h.mm g 2 = va_rf (L g) ∧ (∀ l, L r = some l → ¬ g = l) := fun g e => by
    obtain ⟨a1, a2⟩ := T.2.2.2.2.2.2.2.2.2.1 q hq g e
    have hDq : D g q ∧ ¬ g = q := by
      rcases a2 with a2 | a2
      · have := ((T.2.2.2.1 g a1 q a2).2.2 q).mp (T.2.1 q hq)
        exact ⟨this.1, fun e2 => T.2.2.2.2.2.2.2.2.2.2.1 q hq (by have := this.2; rw [e2] at this; exact this)⟩
      · have := ((T.2.2.2.2.2.1 g a1 q a2).2.2 q).mp (T.2.1 q hq)
        exact ⟨this.1, fun e2 => T.2.2.2.2.2.2.2.2.2.2.1 q hq (by have := this.2; rw [e2] at this; exact this)⟩
    have hno : ∀ c, D q c → ¬ g = c := fun c hc e2 => hDq.2 (T.anti hDq.1 (by rw [e2]; exact hc))
    have hrc : D q r := ((g3 r).mp (T.2.1 r g1)).1
    refine ⟨(X g a1).1, hDq.2, hno r hrc, fun e2 => (by have := (X g a1).1; rw [e2, mk] at this; cases this), a1, (X g a1).2.2.2.1, fun l el => hno l ?_⟩
    have a3 := T.2.2.2.1 r g1 l el
    exact T.2.2.2.2.2.2.2.2.2.2.2.2.2.1 q r l hrc ((a3.2.2 l).mp (T.2.1 l a3.1)).1
  refine Call.of [.ref t, .ref q, dum] q1429 (by decide) pn_J8 (Nat.le_of_ble_eq_true rfl) rfl ?_
  first | refine z_aload1 0 dJ8_rotateLeft_0 ?_ | refine z_aload1N 0 dJ8_rotateLeft_0 ?_ | refine z_aload1o 0 dJ8_rotateLeft_0 ?_
  refine z_ifnull 1 dJ8_rotateLeft_1 ?_
  first | refine z_aload1 4 dJ8_rotateLeft_4 ?_ | refine z_aload1N 4 dJ8_rotateLeft_4 ?_ | refine z_aload1o 4 dJ8_rotateLeft_4 ?_
  refine z_get 5 gJ8_114 dJ8_rotateLeft_5 xqk (show HP.mm _ q 3 = .ref r from by rw [xq3, hr]; rfl) ?_
  first | refine z_astore2 8 dJ8_rotateLeft_8 rfl ?_ | refine z_astore2N 8 dJ8_rotateLeft_8 rfl ?_ | refine z_astore2o 8 dJ8_rotateLeft_8 rfl ?_
  first | refine z_aload1 9 dJ8_rotateLeft_9 ?_ | refine z_aload1N 9 dJ8_rotateLeft_9 ?_ | refine z_aload1o 9 dJ8_rotateLeft_9 ?_
  first | refine z_aload2 10 dJ8_rotateLeft_10 ?_ | refine z_aload2N 10 dJ8_rotateLeft_10 ?_ | refine z_aload2o 10 dJ8_rotateLeft_10 ?_
  refine z_get 11 gJ8_111 dJ8_rotateLeft_11 xrk xr2 ?_
  refine z_put 14 pJ8_114 (fun h => by cases h) dJ8_rotateLeft_14 xqk (nrO _ _) (ftO _ _) ?_
  first | refine z_aload2 17 dJ8_rotateLeft_17 ?_ | refine z_aload2N 17 dJ8_rotateLeft_17 ?_ | refine z_aload2o 17 dJ8_rotateLeft_17 ?_
  refine z_get 18 gJ8_111 dJ8_rotateLeft_18 xrk (show HP.mm _ r 2 = va_rf (L r) from by simp only [mm_put]; grind) ?_
  rcases hl : L r with _ | l
  · skip
    refine z_ifnullN 21 32 dJ8_rotateLeft_21 (by decide) ?_
    first | refine z_aload2 32 dJ8_rotateLeft_32 ?_ | refine z_aload2N 32 dJ8_rotateLeft_32 ?_ | refine z_aload2o 32 dJ8_rotateLeft_32 ?_
    first | refine z_aload1 33 dJ8_rotateLeft_33 ?_ | refine z_aload1N 33 dJ8_rotateLeft_33 ?_ | refine z_aload1o 33 dJ8_rotateLeft_33 ?_
    refine z_get 34 gJ8_124 dJ8_rotateLeft_34 xqk (show HP.mm _ q 4 = va_rf (P q) from by simp only [mm_put]; grind) ?_
    refine z_put 37 pJ8_124 (fun h => by cases h) dJ8_rotateLeft_37 xrk (nrO _ _) (ftO _ _) ?_
    first | refine z_aload1 40 dJ8_rotateLeft_40 ?_ | refine z_aload1N 40 dJ8_rotateLeft_40 ?_ | refine z_aload1o 40 dJ8_rotateLeft_40 ?_
    refine z_get 41 gJ8_124 dJ8_rotateLeft_41 xqk (show HP.mm _ q 4 = va_rf (P q) from by simp only [mm_put]; grind) ?_
    rcases hg : P q with _ | g
    · skip
      refine z_ifnonnullN 44 dJ8_rotateLeft_44 ?_
      first | refine z_aload0 47 dJ8_rotateLeft_47 ?_ | refine z_aload0N 47 dJ8_rotateLeft_47 ?_ | refine z_aload0o 47 dJ8_rotateLeft_47 ?_
      first | refine z_aload2 48 dJ8_rotateLeft_48 ?_ | refine z_aload2N 48 dJ8_rotateLeft_48 ?_ | refine z_aload2o 48 dJ8_rotateLeft_48 ?_
      refine z_put 49 pJ8_101 (fun h => by cases h) dJ8_rotateLeft_49 mk (rfl) (rfl) ?_
      refine z_goto 52 85 dJ8_rotateLeft_52 (by decide) ?_
      first | refine z_aload2 85 dJ8_rotateLeft_85 ?_ | refine z_aload2N 85 dJ8_rotateLeft_85 ?_ | refine z_aload2o 85 dJ8_rotateLeft_85 ?_
      first | refine z_aload1 86 dJ8_rotateLeft_86 ?_ | refine z_aload1N 86 dJ8_rotateLeft_86 ?_ | refine z_aload1o 86 dJ8_rotateLeft_86 ?_
      refine z_put 87 pJ8_111 (fun h => by cases h) dJ8_rotateLeft_87 xrk (rfl) (rfl) ?_
      first | refine z_aload1 90 dJ8_rotateLeft_90 ?_ | refine z_aload1N 90 dJ8_rotateLeft_90 ?_ | refine z_aload1o 90 dJ8_rotateLeft_90 ?_
      first | refine z_aload2 91 dJ8_rotateLeft_91 ?_ | refine z_aload2N 91 dJ8_rotateLeft_91 ?_ | refine z_aload2o 91 dJ8_rotateLeft_91 ?_
      refine z_put 92 pJ8_124 (fun h => by cases h) dJ8_rotateLeft_92 xqk (rfl) (rfl) ?_
      refine z_return 95 rfl dJ8_rotateLeft_95 ?_
      refine ⟨rfl, fun a ha => ?_, ⟨?_, ?_, ?_, ?_, ?_, ?_⟩, ?_, rfl⟩
      · obtain ⟨x1, x2, x3, x4, x5, x6, x7, x8⟩ := X a ha
        have e1 : ¬ a = t := fun e => by rw [e, mk] at x1; cases x1
        clear X T hl9 hg9
        refine ⟨x1, ?_, ?_, ?_, ?_, ?_, ?_, x8⟩ <;> simp only [mm_put] <;> (try unfold tL) <;> (try unfold tR) <;> (try unfold tP) <;> grind [va_rf]
      · exact mk
      · simp only [mm_put]; grind
      · simp only [mm_put]; unfold tRt; grind [va_rf]
      · simp only [mm_put]; grind
      · simp only [mm_put]; grind
      · simp only [mm_put]; grind
      · repeat' (first | exact Sm.refl _ _ | refine Sm.putS ?_ (by first | exact Or.inr rfl | exact Or.inl (by assumption)))
    · obtain ⟨gk, gq, gr, gt, gS, gL, gl⟩ := hg9 g hg
      refine z_ifnonnull 44 55 dJ8_rotateLeft_44 (by decide) ?_
      first | refine z_aload1 55 dJ8_rotateLeft_55 ?_ | refine z_aload1N 55 dJ8_rotateLeft_55 ?_ | refine z_aload1o 55 dJ8_rotateLeft_55 ?_
      refine z_get 56 gJ8_124 dJ8_rotateLeft_56 xqk (show HP.mm _ q 4 = .ref g from by simp only [mm_put]; grind [va_rf]) ?_
      refine z_get 59 gJ8_111 dJ8_rotateLeft_59 gk (show HP.mm _ g 2 = va_rf (L g) from by simp only [mm_put]; grind) ?_
      first | refine z_aload1 62 dJ8_rotateLeft_62 ?_ | refine z_aload1N 62 dJ8_rotateLeft_62 ?_ | refine z_aload1o 62 dJ8_rotateLeft_62 ?_
      refine z_acne (L g) (some q) 63 77 dJ8_rotateLeft_63 (by decide) (fun cg => ?_) (fun cg => ?_)
      · first | refine z_aload1 77 dJ8_rotateLeft_77 ?_ | refine z_aload1N 77 dJ8_rotateLeft_77 ?_ | refine z_aload1o 77 dJ8_rotateLeft_77 ?_
        refine z_get 78 gJ8_124 dJ8_rotateLeft_78 xqk (show HP.mm _ q 4 = .ref g from by simp only [mm_put]; grind [va_rf]) ?_
        first | refine z_aload2 81 dJ8_rotateLeft_81 ?_ | refine z_aload2N 81 dJ8_rotateLeft_81 ?_ | refine z_aload2o 81 dJ8_rotateLeft_81 ?_
        refine z_put 82 pJ8_114 (fun h => by cases h) dJ8_rotateLeft_82 gk (rfl) (rfl) ?_
        first | refine z_aload2 85 dJ8_rotateLeft_85 ?_ | refine z_aload2N 85 dJ8_rotateLeft_85 ?_ | refine z_aload2o 85 dJ8_rotateLeft_85 ?_
        first | refine z_aload1 86 dJ8_rotateLeft_86 ?_ | refine z_aload1N 86 dJ8_rotateLeft_86 ?_ | refine z_aload1o 86 dJ8_rotateLeft_86 ?_
        refine z_put 87 pJ8_111 (fun h => by cases h) dJ8_rotateLeft_87 xrk (rfl) (rfl) ?_
        first | refine z_aload1 90 dJ8_rotateLeft_90 ?_ | refine z_aload1N 90 dJ8_rotateLeft_90 ?_ | refine z_aload1o 90 dJ8_rotateLeft_90 ?_
        first | refine z_aload2 91 dJ8_rotateLeft_91 ?_ | refine z_aload2N 91 dJ8_rotateLeft_91 ?_ | refine z_aload2o 91 dJ8_rotateLeft_91 ?_
        refine z_put 92 pJ8_124 (fun h => by cases h) dJ8_rotateLeft_92 xqk (rfl) (rfl) ?_
        refine z_return 95 rfl dJ8_rotateLeft_95 ?_
        refine ⟨rfl, fun a ha => ?_, ⟨?_, ?_, ?_, ?_, ?_, ?_⟩, ?_, rfl⟩
        · obtain ⟨x1, x2, x3, x4, x5, x6, x7, x8⟩ := X a ha
          have e1 : ¬ a = t := fun e => by rw [e, mk] at x1; cases x1
          clear X T hl9 hg9
          refine ⟨x1, ?_, ?_, ?_, ?_, ?_, ?_, x8⟩ <;> simp only [mm_put] <;> (try unfold tL) <;> (try unfold tR) <;> (try unfold tP) <;> grind [va_rf]
        · exact mk
        · simp only [mm_put]; grind
        · simp only [mm_put]; unfold tRt; grind [va_rf]
        · simp only [mm_put]; grind
        · simp only [mm_put]; grind
        · simp only [mm_put]; grind
        · repeat' (first | exact Sm.refl _ _ | refine Sm.putS ?_ (by first | exact Or.inr rfl | exact Or.inl (by assumption)))
      · first | refine z_aload1 66 dJ8_rotateLeft_66 ?_ | refine z_aload1N 66 dJ8_rotateLeft_66 ?_ | refine z_aload1o 66 dJ8_rotateLeft_66 ?_
        refine z_get 67 gJ8_124 dJ8_rotateLeft_67 xqk (show HP.mm _ q 4 = .ref g from by simp only [mm_put]; grind [va_rf]) ?_
        first | refine z_aload2 70 dJ8_rotateLeft_70 ?_ | refine z_aload2N 70 dJ8_rotateLeft_70 ?_ | refine z_aload2o 70 dJ8_rotateLeft_70 ?_
        refine z_put 71 pJ8_111 (fun h => by cases h) dJ8_rotateLeft_71 gk (rfl) (rfl) ?_
        refine z_goto 74 85 dJ8_rotateLeft_74 (by decide) ?_
        first | refine z_aload2 85 dJ8_rotateLeft_85 ?_ | refine z_aload2N 85 dJ8_rotateLeft_85 ?_ | refine z_aload2o 85 dJ8_rotateLeft_85 ?_
        first | refine z_aload1 86 dJ8_rotateLeft_86 ?_ | refine z_aload1N 86 dJ8_rotateLeft_86 ?_ | refine z_aload1o 86 dJ8_rotateLeft_86 ?_
        refine z_put 87 pJ8_111 (fun h => by cases h) dJ8_rotateLeft_87 xrk (rfl) (rfl) ?_
        first | refine z_aload1 90 dJ8_rotateLeft_90 ?_ | refine z_aload1N 90 dJ8_rotateLeft_90 ?_ | refine z_aload1o 90 dJ8_rotateLeft_90 ?_
        first | refine z_aload2 91 dJ8_rotateLeft_91 ?_ | refine z_aload2N 91 dJ8_rotateLeft_91 ?_ | refine z_aload2o 91 dJ8_rotateLeft_91 ?_
        refine z_put 92 pJ8_124 (fun h => by cases h) dJ8_rotateLeft_92 xqk (rfl) (rfl) ?_
        refine z_return 95 rfl dJ8_rotateLeft_95 ?_
        refine ⟨rfl, fun a ha => ?_, ⟨?_, ?_, ?_, ?_, ?_, ?_⟩, ?_, rfl⟩
        · obtain ⟨x1, x2, x3, x4, x5, x6, x7, x8⟩ := X a ha
          have e1 : ¬ a = t := fun e => by rw [e, mk] at x1; cases x1
          clear X T hl9 hg9
          refine ⟨x1, ?_, ?_, ?_, ?_, ?_, ?_, x8⟩ <;> simp only [mm_put] <;> (try unfold tL) <;> (try unfold tR) <;> (try unfold tP) <;> grind [va_rf]
        · exact mk
        · simp only [mm_put]; grind
        · simp only [mm_put]; unfold tRt; grind [va_rf]
        · simp only [mm_put]; grind
        · simp only [mm_put]; grind
        · simp only [mm_put]; grind
        · repeat' (first | exact Sm.refl _ _ | refine Sm.putS ?_ (by first | exact Or.inr rfl | exact Or.inl (by assumption)))
  · obtain ⟨lk, lq, lr, lt9, lS, lP⟩ := hl9 l hl
    refine z_ifnull 21 dJ8_rotateLeft_21 ?_
    first | refine z_aload2 24 dJ8_rotateLeft_24 ?_ | refine z_aload2N 24 dJ8_rotateLeft_24 ?_ | refine z_aload2o 24 dJ8_rotateLeft_24 ?_
    refine z_get 25 gJ8_111 dJ8_rotateLeft_25 xrk (show HP.mm _ r 2 = .ref l from by simp only [mm_put]; grind [va_rf]) ?_
    first | refine z_aload1 28 dJ8_rotateLeft_28 ?_ | refine z_aload1N 28 dJ8_rotateLeft_28 ?_ | refine z_aload1o 28 dJ8_rotateLeft_28 ?_
    refine z_put 29 pJ8_124 (fun h => by cases h) dJ8_rotateLeft_29 lk (rfl) (rfl) ?_
    first | refine z_aload2 32 dJ8_rotateLeft_32 ?_ | refine z_aload2N 32 dJ8_rotateLeft_32 ?_ | refine z_aload2o 32 dJ8_rotateLeft_32 ?_
    first | refine z_aload1 33 dJ8_rotateLeft_33 ?_ | refine z_aload1N 33 dJ8_rotateLeft_33 ?_ | refine z_aload1o 33 dJ8_rotateLeft_33 ?_
    refine z_get 34 gJ8_124 dJ8_rotateLeft_34 xqk (show HP.mm _ q 4 = va_rf (P q) from by simp only [mm_put]; grind) ?_
    refine z_put 37 pJ8_124 (fun h => by cases h) dJ8_rotateLeft_37 xrk (nrO _ _) (ftO _ _) ?_
    first | refine z_aload1 40 dJ8_rotateLeft_40 ?_ | refine z_aload1N 40 dJ8_rotateLeft_40 ?_ | refine z_aload1o 40 dJ8_rotateLeft_40 ?_
    refine z_get 41 gJ8_124 dJ8_rotateLeft_41 xqk (show HP.mm _ q 4 = va_rf (P q) from by simp only [mm_put]; grind) ?_
    rcases hg : P q with _ | g
    · skip
      refine z_ifnonnullN 44 dJ8_rotateLeft_44 ?_
      first | refine z_aload0 47 dJ8_rotateLeft_47 ?_ | refine z_aload0N 47 dJ8_rotateLeft_47 ?_ | refine z_aload0o 47 dJ8_rotateLeft_47 ?_
      first | refine z_aload2 48 dJ8_rotateLeft_48 ?_ | refine z_aload2N 48 dJ8_rotateLeft_48 ?_ | refine z_aload2o 48 dJ8_rotateLeft_48 ?_
      refine z_put 49 pJ8_101 (fun h => by cases h) dJ8_rotateLeft_49 mk (rfl) (rfl) ?_
      refine z_goto 52 85 dJ8_rotateLeft_52 (by decide) ?_
      first | refine z_aload2 85 dJ8_rotateLeft_85 ?_ | refine z_aload2N 85 dJ8_rotateLeft_85 ?_ | refine z_aload2o 85 dJ8_rotateLeft_85 ?_
      first | refine z_aload1 86 dJ8_rotateLeft_86 ?_ | refine z_aload1N 86 dJ8_rotateLeft_86 ?_ | refine z_aload1o 86 dJ8_rotateLeft_86 ?_
      refine z_put 87 pJ8_111 (fun h => by cases h) dJ8_rotateLeft_87 xrk (rfl) (rfl) ?_
      first | refine z_aload1 90 dJ8_rotateLeft_90 ?_ | refine z_aload1N 90 dJ8_rotateLeft_90 ?_ | refine z_aload1o 90 dJ8_rotateLeft_90 ?_
      first | refine z_aload2 91 dJ8_rotateLeft_91 ?_ | refine z_aload2N 91 dJ8_rotateLeft_91 ?_ | refine z_aload2o 91 dJ8_rotateLeft_91 ?_
      refine z_put 92 pJ8_124 (fun h => by cases h) dJ8_rotateLeft_92 xqk (rfl) (rfl) ?_
      refine z_return 95 rfl dJ8_rotateLeft_95 ?_
      refine ⟨rfl, fun a ha => ?_, ⟨?_, ?_, ?_, ?_, ?_, ?_⟩, ?_, rfl⟩
      · obtain ⟨x1, x2, x3, x4, x5, x6, x7, x8⟩ := X a ha
        have e1 : ¬ a = t := fun e => by rw [e, mk] at x1; cases x1
        clear X T hl9 hg9
        refine ⟨x1, ?_, ?_, ?_, ?_, ?_, ?_, x8⟩ <;> simp only [mm_put] <;> (try unfold tL) <;> (try unfold tR) <;> (try unfold tP) <;> grind [va_rf]
      · exact mk
      · simp only [mm_put]; grind
      · simp only [mm_put]; unfold tRt; grind [va_rf]
      · simp only [mm_put]; grind
      · simp only [mm_put]; grind
      · simp only [mm_put]; grind
      · repeat' (first | exact Sm.refl _ _ | refine Sm.putS ?_ (by first | exact Or.inr rfl | exact Or.inl (by assumption)))
    · obtain ⟨gk, gq, gr, gt, gS, gL, gl⟩ := hg9 g hg
      refine z_ifnonnull 44 55 dJ8_rotateLeft_44 (by decide) ?_
      first | refine z_aload1 55 dJ8_rotateLeft_55 ?_ | refine z_aload1N 55 dJ8_rotateLeft_55 ?_ | refine z_aload1o 55 dJ8_rotateLeft_55 ?_
      refine z_get 56 gJ8_124 dJ8_rotateLeft_56 xqk (show HP.mm _ q 4 = .ref g from by simp only [mm_put]; grind [va_rf]) ?_
      refine z_get 59 gJ8_111 dJ8_rotateLeft_59 gk (show HP.mm _ g 2 = va_rf (L g) from by simp only [mm_put]; grind) ?_
      first | refine z_aload1 62 dJ8_rotateLeft_62 ?_ | refine z_aload1N 62 dJ8_rotateLeft_62 ?_ | refine z_aload1o 62 dJ8_rotateLeft_62 ?_
      refine z_acne (L g) (some q) 63 77 dJ8_rotateLeft_63 (by decide) (fun cg => ?_) (fun cg => ?_)
      · first | refine z_aload1 77 dJ8_rotateLeft_77 ?_ | refine z_aload1N 77 dJ8_rotateLeft_77 ?_ | refine z_aload1o 77 dJ8_rotateLeft_77 ?_
        refine z_get 78 gJ8_124 dJ8_rotateLeft_78 xqk (show HP.mm _ q 4 = .ref g from by simp only [mm_put]; grind [va_rf]) ?_
        first | refine z_aload2 81 dJ8_rotateLeft_81 ?_ | refine z_aload2N 81 dJ8_rotateLeft_81 ?_ | refine z_aload2o 81 dJ8_rotateLeft_81 ?_
        refine z_put 82 pJ8_114 (fun h => by cases h) dJ8_rotateLeft_82 gk (rfl) (rfl) ?_
        first | refine z_aload2 85 dJ8_rotateLeft_85 ?_ | refine z_aload2N 85 dJ8_rotateLeft_85 ?_ | refine z_aload2o 85 dJ8_rotateLeft_85 ?_
        first | refine z_aload1 86 dJ8_rotateLeft_86 ?_ | refine z_aload1N 86 dJ8_rotateLeft_86 ?_ | refine z_aload1o 86 dJ8_rotateLeft_86 ?_
        refine z_put 87 pJ8_111 (fun h => by cases h) dJ8_rotateLeft_87 xrk (rfl) (rfl) ?_
        first | refine z_aload1 90 dJ8_rotateLeft_90 ?_ | refine z_aload1N 90 dJ8_rotateLeft_90 ?_ | refine z_aload1o 90 dJ8_rotateLeft_90 ?_
        first | refine z_aload2 91 dJ8_rotateLeft_91 ?_ | refine z_aload2N 91 dJ8_rotateLeft_91 ?_ | refine z_aload2o 91 dJ8_rotateLeft_91 ?_
        refine z_put 92 pJ8_124 (fun h => by cases h) dJ8_rotateLeft_92 xqk (rfl) (rfl) ?_
        refine z_return 95 rfl dJ8_rotateLeft_95 ?_
        refine ⟨rfl, fun a ha => ?_, ⟨?_, ?_, ?_, ?_, ?_, ?_⟩, ?_, rfl⟩
        · obtain ⟨x1, x2, x3, x4, x5, x6, x7, x8⟩ := X a ha
          have e1 : ¬ a = t := fun e => by rw [e, mk] at x1; cases x1
          clear X T hl9 hg9
          refine ⟨x1, ?_, ?_, ?_, ?_, ?_, ?_, x8⟩ <;> simp only [mm_put] <;> (try unfold tL) <;> (try unfold tR) <;> (try unfold tP) <;> grind [va_rf]
        · exact mk
        · simp only [mm_put]; grind
        · simp only [mm_put]; unfold tRt; grind [va_rf]
        · simp only [mm_put]; grind
        · simp only [mm_put]; grind
        · simp only [mm_put]; grind
        · repeat' (first | exact Sm.refl _ _ | refine Sm.putS ?_ (by first | exact Or.inr rfl | exact Or.inl (by assumption)))
      · first | refine z_aload1 66 dJ8_rotateLeft_66 ?_ | refine z_aload1N 66 dJ8_rotateLeft_66 ?_ | refine z_aload1o 66 dJ8_rotateLeft_66 ?_
        refine z_get 67 gJ8_124 dJ8_rotateLeft_67 xqk (show HP.mm _ q 4 = .ref g from by simp only [mm_put]; grind [va_rf]) ?_
        first | refine z_aload2 70 dJ8_rotateLeft_70 ?_ | refine z_aload2N 70 dJ8_rotateLeft_70 ?_ | refine z_aload2o 70 dJ8_rotateLeft_70 ?_
        refine z_put 71 pJ8_111 (fun h => by cases h) dJ8_rotateLeft_71 gk (rfl) (rfl) ?_
        refine z_goto 74 85 dJ8_rotateLeft_74 (by decide) ?_
        first | refine z_aload2 85 dJ8_rotateLeft_85 ?_ | refine z_aload2N 85 dJ8_rotateLeft_85 ?_ | refine z_aload2o 85 dJ8_rotateLeft_85 ?_
        first | refine z_aload1 86 dJ8_rotateLeft_86 ?_ | refine z_aload1N 86 dJ8_rotateLeft_86 ?_ | refine z_aload1o 86 dJ8_rotateLeft_86 ?_
        refine z_put 87 pJ8_111 (fun h => by cases h) dJ8_rotateLeft_87 xrk (rfl) (rfl) ?_
        first | refine z_aload1 90 dJ8_rotateLeft_90 ?_ | refine z_aload1N 90 dJ8_rotateLeft_90 ?_ | refine z_aload1o 90 dJ8_rotateLeft_90 ?_
        first | refine z_aload2 91 dJ8_rotateLeft_91 ?_ | refine z_aload2N 91 dJ8_rotateLeft_91 ?_ | refine z_aload2o 91 dJ8_rotateLeft_91 ?_
        refine z_put 92 pJ8_124 (fun h => by cases h) dJ8_rotateLeft_92 xqk (rfl) (rfl) ?_
        refine z_return 95 rfl dJ8_rotateLeft_95 ?_
        refine ⟨rfl, fun a ha => ?_, ⟨?_, ?_, ?_, ?_, ?_, ?_⟩, ?_, rfl⟩
        · obtain ⟨x1, x2, x3, x4, x5, x6, x7, x8⟩ := X a ha
          have e1 : ¬ a = t := fun e => by rw [e, mk] at x1; cases x1
          clear X T hl9 hg9
          refine ⟨x1, ?_, ?_, ?_, ?_, ?_, ?_, x8⟩ <;> simp only [mm_put] <;> (try unfold tL) <;> (try unfold tR) <;> (try unfold tP) <;> grind [va_rf]
        · exact mk
        · simp only [mm_put]; grind
        · simp only [mm_put]; unfold tRt; grind [va_rf]
        · simp only [mm_put]; grind
        · simp only [mm_put]; grind
        · simp only [mm_put]; grind
        · repeat' (first | exact Sm.refl _ _ | refine Sm.putS ?_ (by first | exact Or.inr rfl | exact Or.inl (by assumption)))

set_option maxHeartbeats 4000000 in
theorem c_rotLN {E : Ev} {h : HP} {t : Nat} (d k : Nat) : Call E yJ8_rotateLeft d k [.ref t, .null] h (rV (fun h' => h' = h)) := by
  refine Call.of [.ref t, .null, dum] q1429 (by decide) pn_J8 (Nat.le_of_ble_eq_true rfl) rfl ?_
  first | refine z_aload1 0 dJ8_rotateLeft_0 ?_ | refine z_aload1N 0 dJ8_rotateLeft_0 ?_ | refine z_aload1o 0 dJ8_rotateLeft_0 ?_
  refine z_ifnullN 1 95 dJ8_rotateLeft_1 (by decide) ?_
  refine z_return 95 rfl dJ8_rotateLeft_95 ?_
  exact ⟨rfl, rfl⟩

set_option maxHeartbeats 4000000 in
theorem c_rotR {E : Ev} {h : HP} {S : Nat → Prop} {lt : Nat → Nat → Prop} {L R P : Nat → Option Nat} {rt : Option Nat} {D : Nat → Nat → Prop} {ke va : Nat → Nat} {cl : Nat → Int32} {n mc : Int32} {ks : Option Nat} {t q r : Nat} (d k : Nat) (T : TW S lt L R P rt D) (X : EnS h S L R P ke va cl) (M : MapO h t rt n mc ks) (hq : S q) (hr : L q = some r) : Call E yJ8_rotateRight d k [.ref t, .ref q] h (rV (fun h' => EnS h' S (tR R L P q r) (tL R P q r) (tP R P q r) ke va cl ∧ MapO h' t (tRt P rt q r) n mc ks ∧ Sm (fun a => S a ∨ a = t) h h' ∧ h'.sz = h.sz)) := by
  obtain ⟨g1, g2, g3⟩ := T.2.2.2.1 q hq r hr
  obtain ⟨xqk, xqa, xqb, xq2, xq3, xq4, xq5, xqc⟩ := X q hq
  obtain ⟨xrk, xra, xrb, xr2, xr3, xr4, xr5, xrc⟩ := X r g1
  obtain ⟨mk, m2, m3, m4, m5, m7⟩ := M
  have hqr : ¬ q = r := fun e => T.2.2.2.2.2.2.2.2.2.2.1 q hq (by have := ((g3 r).mp (T.2.1 r g1)).2; rw [← e] at this; exact this)
  have htq : ¬ t = q := fun e => by rw [← e, mk] at xqk; cases xqk
  have htr : ¬ t = r := fun e => by rw [← e, mk] at xrk; cases xrk
  have hl9 : ∀ l, R r = some l → h.kd l = 8 ∧ ¬ l = q ∧ ¬ l = r ∧ ¬ l = t ∧ S l ∧ P l = some r := fun l e => by
    obtain ⟨a1, a2, a3⟩ := T.2.2.2.2.2.1 r g1 l e
    refine ⟨(X l a1).1, fun e2 => ?_, fun e2 => ?_, fun e2 => (by have := (X l a1).1; rw [e2, mk] at this; cases this), a1, a2⟩
    · subst e2; exact T.2.2.2.2.2.2.2.2.2.2.1 l hq ((g3 l).mp ((a3 l).mp (T.2.1 l a1)).1).2
    · subst e2; exact T.2.2.2.2.2.2.2.2.2.2.1 l g1 ((a3 l).mp (T.2.1 l a1)).2
  have hg9 : ∀ g, P q = some g → h.kd g = 8 ∧ ¬ g = q ∧ ¬ g = r ∧ ¬ g = t ∧ S g ∧ h.mm g 3 = va_rf (R g) ∧ (∀ l, R r = some l → ¬ g = l) := fun g e => by
    obtain ⟨a1, a2⟩ := T.2.2.2.2.2.2.2.2.2.1 q hq g e
    have hDq : D g q ∧ ¬ g = q := by
      rcases a2 with a2 | a2
      · have := ((T.2.2.2.1 g a1 q a2).2.2 q).mp (T.2.1 q hq)
        exact ⟨this.1, fun e2 => T.2.2.2.2.2.2.2.2.2.2.1 q hq (by have := this.2; rw [e2] at this; exact this)⟩
      · have := ((T.2.2.2.2.2.1 g a1 q a2).2.2 q).mp (T.2.1 q hq)
        exact ⟨this.1, fun e2 => T.2.2.2.2.2.2.2.2.2.2.1 q hq (by have := this.2; rw [e2] at this; exact this)⟩
    have hno : ∀ c, D q c → ¬ g = c := fun c hc e2 => hDq.2 (T.anti hDq.1 (by rw [e2]; exact hc))
    have hrc : D q r := ((g3 r).mp (T.2.1 r g1)).1
    refine ⟨(X g a1).1, hDq.2, hno r hrc, fun e2 => (by have := (X g a1).1; rw [e2, mk] at this; cases this), a1, (X g a1).2.2.2.2.1, fun l el => hno l ?_⟩
    have a3 := T.2.2.2.2.2.1 r g1 l el
    exact T.2.2.2.2.2.2.2.2.2.2.2.2.2.1 q r l hrc ((a3.2.2 l).mp (T.2.1 l a3.1)).1
  refine Call.of [.ref t, .ref q, dum] q1433 (by decide) pn_J8 (Nat.le_of_ble_eq_true rfl) rfl ?_
  first | refine z_aload1 0 dJ8_rotateRight_0 ?_ | refine z_aload1N 0 dJ8_rotateRight_0 ?_ | refine z_aload1o 0 dJ8_rotateRight_0 ?_
  refine z_ifnull 1 dJ8_rotateRight_1 ?_
  first | refine z_aload1 4 dJ8_rotateRight_4 ?_ | refine z_aload1N 4 dJ8_rotateRight_4 ?_ | refine z_aload1o 4 dJ8_rotateRight_4 ?_
  refine z_get 5 gJ8_111 dJ8_rotateRight_5 xqk (show HP.mm _ q 2 = .ref r from by rw [xq2, hr]; rfl) ?_
  first | refine z_astore2 8 dJ8_rotateRight_8 rfl ?_ | refine z_astore2N 8 dJ8_rotateRight_8 rfl ?_ | refine z_astore2o 8 dJ8_rotateRight_8 rfl ?_
  first | refine z_aload1 9 dJ8_rotateRight_9 ?_ | refine z_aload1N 9 dJ8_rotateRight_9 ?_ | refine z_aload1o 9 dJ8_rotateRight_9 ?_
  first | refine z_aload2 10 dJ8_rotateRight_10 ?_ | refine z_aload2N 10 dJ8_rotateRight_10 ?_ | refine z_aload2o 10 dJ8_rotateRight_10 ?_
  refine z_get 11 gJ8_114 dJ8_rotateRight_11 xrk xr3 ?_
  refine z_put 14 pJ8_111 (fun h => by cases h) dJ8_rotateRight_14 xqk (nrO _ _) (ftO _ _) ?_
  first | refine z_aload2 17 dJ8_rotateRight_17 ?_ | refine z_aload2N 17 dJ8_rotateRight_17 ?_ | refine z_aload2o 17 dJ8_rotateRight_17 ?_
  refine z_get 18 gJ8_114 dJ8_rotateRight_18 xrk (show HP.mm _ r 3 = va_rf (R r) from by simp only [mm_put]; grind) ?_
  rcases hl : R r with _ | l
  · skip
    refine z_ifnullN 21 32 dJ8_rotateRight_21 (by decide) ?_
    first | refine z_aload2 32 dJ8_rotateRight_32 ?_ | refine z_aload2N 32 dJ8_rotateRight_32 ?_ | refine z_aload2o 32 dJ8_rotateRight_32 ?_
    first | refine z_aload1 33 dJ8_rotateRight_33 ?_ | refine z_aload1N 33 dJ8_rotateRight_33 ?_ | refine z_aload1o 33 dJ8_rotateRight_33 ?_
    refine z_get 34 gJ8_124 dJ8_rotateRight_34 xqk (show HP.mm _ q 4 = va_rf (P q) from by simp only [mm_put]; grind) ?_
    refine z_put 37 pJ8_124 (fun h => by cases h) dJ8_rotateRight_37 xrk (nrO _ _) (ftO _ _) ?_
    first | refine z_aload1 40 dJ8_rotateRight_40 ?_ | refine z_aload1N 40 dJ8_rotateRight_40 ?_ | refine z_aload1o 40 dJ8_rotateRight_40 ?_
    refine z_get 41 gJ8_124 dJ8_rotateRight_41 xqk (show HP.mm _ q 4 = va_rf (P q) from by simp only [mm_put]; grind) ?_
    rcases hg : P q with _ | g
    · skip
      refine z_ifnonnullN 44 dJ8_rotateRight_44 ?_
      first | refine z_aload0 47 dJ8_rotateRight_47 ?_ | refine z_aload0N 47 dJ8_rotateRight_47 ?_ | refine z_aload0o 47 dJ8_rotateRight_47 ?_
      first | refine z_aload2 48 dJ8_rotateRight_48 ?_ | refine z_aload2N 48 dJ8_rotateRight_48 ?_ | refine z_aload2o 48 dJ8_rotateRight_48 ?_
      refine z_put 49 pJ8_101 (fun h => by cases h) dJ8_rotateRight_49 mk (rfl) (rfl) ?_
      refine z_goto 52 85 dJ8_rotateRight_52 (by decide) ?_
      first | refine z_aload2 85 dJ8_rotateRight_85 ?_ | refine z_aload2N 85 dJ8_rotateRight_85 ?_ | refine z_aload2o 85 dJ8_rotateRight_85 ?_
      first | refine z_aload1 86 dJ8_rotateRight_86 ?_ | refine z_aload1N 86 dJ8_rotateRight_86 ?_ | refine z_aload1o 86 dJ8_rotateRight_86 ?_
      refine z_put 87 pJ8_114 (fun h => by cases h) dJ8_rotateRight_87 xrk (rfl) (rfl) ?_
      first | refine z_aload1 90 dJ8_rotateRight_90 ?_ | refine z_aload1N 90 dJ8_rotateRight_90 ?_ | refine z_aload1o 90 dJ8_rotateRight_90 ?_
      first | refine z_aload2 91 dJ8_rotateRight_91 ?_ | refine z_aload2N 91 dJ8_rotateRight_91 ?_ | refine z_aload2o 91 dJ8_rotateRight_91 ?_
      refine z_put 92 pJ8_124 (fun h => by cases h) dJ8_rotateRight_92 xqk (rfl) (rfl) ?_
      refine z_return 95 rfl dJ8_rotateRight_95 ?_
      refine ⟨rfl, fun a ha => ?_, ⟨?_, ?_, ?_, ?_, ?_, ?_⟩, ?_, rfl⟩
      · obtain ⟨x1, x2, x3, x4, x5, x6, x7, x8⟩ := X a ha
        have e1 : ¬ a = t := fun e => by rw [e, mk] at x1; cases x1
        clear X T hl9 hg9
        refine ⟨x1, ?_, ?_, ?_, ?_, ?_, ?_, x8⟩ <;> simp only [mm_put] <;> (try unfold tL) <;> (try unfold tR) <;> (try unfold tP) <;> grind [va_rf]
      · exact mk
      · simp only [mm_put]; grind
      · simp only [mm_put]; unfold tRt; grind [va_rf]
      · simp only [mm_put]; grind
      · simp only [mm_put]; grind
      · simp only [mm_put]; grind
      · repeat' (first | exact Sm.refl _ _ | refine Sm.putS ?_ (by first | exact Or.inr rfl | exact Or.inl (by assumption)))
    · obtain ⟨gk, gq, gr, gt, gS, gL, gl⟩ := hg9 g hg
      refine z_ifnonnull 44 55 dJ8_rotateRight_44 (by decide) ?_
      first | refine z_aload1 55 dJ8_rotateRight_55 ?_ | refine z_aload1N 55 dJ8_rotateRight_55 ?_ | refine z_aload1o 55 dJ8_rotateRight_55 ?_
      refine z_get 56 gJ8_124 dJ8_rotateRight_56 xqk (show HP.mm _ q 4 = .ref g from by simp only [mm_put]; grind [va_rf]) ?_
      refine z_get 59 gJ8_114 dJ8_rotateRight_59 gk (show HP.mm _ g 3 = va_rf (R g) from by simp only [mm_put]; grind) ?_
      first | refine z_aload1 62 dJ8_rotateRight_62 ?_ | refine z_aload1N 62 dJ8_rotateRight_62 ?_ | refine z_aload1o 62 dJ8_rotateRight_62 ?_
      refine z_acne (R g) (some q) 63 77 dJ8_rotateRight_63 (by decide) (fun cg => ?_) (fun cg => ?_)
      · first | refine z_aload1 77 dJ8_rotateRight_77 ?_ | refine z_aload1N 77 dJ8_rotateRight_77 ?_ | refine z_aload1o 77 dJ8_rotateRight_77 ?_
        refine z_get 78 gJ8_124 dJ8_rotateRight_78 xqk (show HP.mm _ q 4 = .ref g from by simp only [mm_put]; grind [va_rf]) ?_
        first | refine z_aload2 81 dJ8_rotateRight_81 ?_ | refine z_aload2N 81 dJ8_rotateRight_81 ?_ | refine z_aload2o 81 dJ8_rotateRight_81 ?_
        refine z_put 82 pJ8_111 (fun h => by cases h) dJ8_rotateRight_82 gk (rfl) (rfl) ?_
        first | refine z_aload2 85 dJ8_rotateRight_85 ?_ | refine z_aload2N 85 dJ8_rotateRight_85 ?_ | refine z_aload2o 85 dJ8_rotateRight_85 ?_
        first | refine z_aload1 86 dJ8_rotateRight_86 ?_ | refine z_aload1N 86 dJ8_rotateRight_86 ?_ | refine z_aload1o 86 dJ8_rotateRight_86 ?_
        refine z_put 87 pJ8_114 (fun h => by cases h) dJ8_rotateRight_87 xrk (rfl) (rfl) ?_
        first | refine z_aload1 90 dJ8_rotateRight_90 ?_ | refine z_aload1N 90 dJ8_rotateRight_90 ?_ | refine z_aload1o 90 dJ8_rotateRight_90 ?_
        first | refine z_aload2 91 dJ8_rotateRight_91 ?_ | refine z_aload2N 91 dJ8_rotateRight_91 ?_ | refine z_aload2o 91 dJ8_rotateRight_91 ?_
        refine z_put 92 pJ8_124 (fun h => by cases h) dJ8_rotateRight_92 xqk (rfl) (rfl) ?_
        refine z_return 95 rfl dJ8_rotateRight_95 ?_
        refine ⟨rfl, fun a ha => ?_, ⟨?_, ?_, ?_, ?_, ?_, ?_⟩, ?_, rfl⟩
        · obtain ⟨x1, x2, x3, x4, x5, x6, x7, x8⟩ := X a ha
          have e1 : ¬ a = t := fun e => by rw [e, mk] at x1; cases x1
          clear X T hl9 hg9
          refine ⟨x1, ?_, ?_, ?_, ?_, ?_, ?_, x8⟩ <;> simp only [mm_put] <;> (try unfold tL) <;> (try unfold tR) <;> (try unfold tP) <;> grind [va_rf]
        · exact mk
        · simp only [mm_put]; grind
        · simp only [mm_put]; unfold tRt; grind [va_rf]
        · simp only [mm_put]; grind
        · simp only [mm_put]; grind
        · simp only [mm_put]; grind
        · repeat' (first | exact Sm.refl _ _ | refine Sm.putS ?_ (by first | exact Or.inr rfl | exact Or.inl (by assumption)))
      · first | refine z_aload1 66 dJ8_rotateRight_66 ?_ | refine z_aload1N 66 dJ8_rotateRight_66 ?_ | refine z_aload1o 66 dJ8_rotateRight_66 ?_
        refine z_get 67 gJ8_124 dJ8_rotateRight_67 xqk (show HP.mm _ q 4 = .ref g from by simp only [mm_put]; grind [va_rf]) ?_
        first | refine z_aload2 70 dJ8_rotateRight_70 ?_ | refine z_aload2N 70 dJ8_rotateRight_70 ?_ | refine z_aload2o 70 dJ8_rotateRight_70 ?_
        refine z_put 71 pJ8_114 (fun h => by cases h) dJ8_rotateRight_71 gk (rfl) (rfl) ?_
        refine z_goto 74 85 dJ8_rotateRight_74 (by decide) ?_
        first | refine z_aload2 85 dJ8_rotateRight_85 ?_ | refine z_aload2N 85 dJ8_rotateRight_85 ?_ | refine z_aload2o 85 dJ8_rotateRight_85 ?_
        first | refine z_aload1 86 dJ8_rotateRight_86 ?_ | refine z_aload1N 86 dJ8_rotateRight_86 ?_ | refine z_aload1o 86 dJ8_rotateRight_86 ?_
        refine z_put 87 pJ8_114 (fun h => by cases h) dJ8_rotateRight_87 xrk (rfl) (rfl) ?_
        first | refine z_aload1 90 dJ8_rotateRight_90 ?_ | refine z_aload1N 90 dJ8_rotateRight_90 ?_ | refine z_aload1o 90 dJ8_rotateRight_90 ?_
        first | refine z_aload2 91 dJ8_rotateRight_91 ?_ | refine z_aload2N 91 dJ8_rotateRight_91 ?_ | refine z_aload2o 91 dJ8_rotateRight_91 ?_
        refine z_put 92 pJ8_124 (fun h => by cases h) dJ8_rotateRight_92 xqk (rfl) (rfl) ?_
        refine z_return 95 rfl dJ8_rotateRight_95 ?_
        refine ⟨rfl, fun a ha => ?_, ⟨?_, ?_, ?_, ?_, ?_, ?_⟩, ?_, rfl⟩
        · obtain ⟨x1, x2, x3, x4, x5, x6, x7, x8⟩ := X a ha
          have e1 : ¬ a = t := fun e => by rw [e, mk] at x1; cases x1
          clear X T hl9 hg9
          refine ⟨x1, ?_, ?_, ?_, ?_, ?_, ?_, x8⟩ <;> simp only [mm_put] <;> (try unfold tL) <;> (try unfold tR) <;> (try unfold tP) <;> grind [va_rf]
        · exact mk
        · simp only [mm_put]; grind
        · simp only [mm_put]; unfold tRt; grind [va_rf]
        · simp only [mm_put]; grind
        · simp only [mm_put]; grind
        · simp only [mm_put]; grind
        · repeat' (first | exact Sm.refl _ _ | refine Sm.putS ?_ (by first | exact Or.inr rfl | exact Or.inl (by assumption)))
  · obtain ⟨lk, lq, lr, lt9, lS, lP⟩ := hl9 l hl
    refine z_ifnull 21 dJ8_rotateRight_21 ?_
    first | refine z_aload2 24 dJ8_rotateRight_24 ?_ | refine z_aload2N 24 dJ8_rotateRight_24 ?_ | refine z_aload2o 24 dJ8_rotateRight_24 ?_
    refine z_get 25 gJ8_114 dJ8_rotateRight_25 xrk (show HP.mm _ r 3 = .ref l from by simp only [mm_put]; grind [va_rf]) ?_
    first | refine z_aload1 28 dJ8_rotateRight_28 ?_ | refine z_aload1N 28 dJ8_rotateRight_28 ?_ | refine z_aload1o 28 dJ8_rotateRight_28 ?_
    refine z_put 29 pJ8_124 (fun h => by cases h) dJ8_rotateRight_29 lk (rfl) (rfl) ?_
    first | refine z_aload2 32 dJ8_rotateRight_32 ?_ | refine z_aload2N 32 dJ8_rotateRight_32 ?_ | refine z_aload2o 32 dJ8_rotateRight_32 ?_
    first | refine z_aload1 33 dJ8_rotateRight_33 ?_ | refine z_aload1N 33 dJ8_rotateRight_33 ?_ | refine z_aload1o 33 dJ8_rotateRight_33 ?_
    refine z_get 34 gJ8_124 dJ8_rotateRight_34 xqk (show HP.mm _ q 4 = va_rf (P q) from by simp only [mm_put]; grind) ?_
    refine z_put 37 pJ8_124 (fun h => by cases h) dJ8_rotateRight_37 xrk (nrO _ _) (ftO _ _) ?_
    first | refine z_aload1 40 dJ8_rotateRight_40 ?_ | refine z_aload1N 40 dJ8_rotateRight_40 ?_ | refine z_aload1o 40 dJ8_rotateRight_40 ?_
    refine z_get 41 gJ8_124 dJ8_rotateRight_41 xqk (show HP.mm _ q 4 = va_rf (P q) from by simp only [mm_put]; grind) ?_
    rcases hg : P q with _ | g
    · skip
      refine z_ifnonnullN 44 dJ8_rotateRight_44 ?_
      first | refine z_aload0 47 dJ8_rotateRight_47 ?_ | refine z_aload0N 47 dJ8_rotateRight_47 ?_ | refine z_aload0o 47 dJ8_rotateRight_47 ?_
      first | refine z_aload2 48 dJ8_rotateRight_48 ?_ | refine z_aload2N 48 dJ8_rotateRight_48 ?_ | refine z_aload2o 48 dJ8_rotateRight_48 ?_
      refine z_put 49 pJ8_101 (fun h => by cases h) dJ8_rotateRight_49 mk (rfl) (rfl) ?_
      refine z_goto 52 85 dJ8_rotateRight_52 (by decide) ?_
      first | refine z_aload2 85 dJ8_rotateRight_85 ?_ | refine z_aload2N 85 dJ8_rotateRight_85 ?_ | refine z_aload2o 85 dJ8_rotateRight_85 ?_
      first | refine z_aload1 86 dJ8_rotateRight_86 ?_ | refine z_aload1N 86 dJ8_rotateRight_86 ?_ | refine z_aload1o 86 dJ8_rotateRight_86 ?_
      refine z_put 87 pJ8_114 (fun h => by cases h) dJ8_rotateRight_87 xrk (rfl) (rfl) ?_
      first | refine z_aload1 90 dJ8_rotateRight_90 ?_ | refine z_aload1N 90 dJ8_rotateRight_90 ?_ | refine z_aload1o 90 dJ8_rotateRight_90 ?_
      first | refine z_aload2 91 dJ8_rotateRight_91 ?_ | refine z_aload2N 91 dJ8_rotateRight_91 ?_ | refine z_aload2o 91 dJ8_rotateRight_91 ?_
      refine z_put 92 pJ8_124 (fun h => by cases h) dJ8_rotateRight_92 xqk (rfl) (rfl) ?_
      refine z_return 95 rfl dJ8_rotateRight_95 ?_
      refine ⟨rfl, fun a ha => ?_, ⟨?_, ?_, ?_, ?_, ?_, ?_⟩, ?_, rfl⟩
      · obtain ⟨x1, x2, x3, x4, x5, x6, x7, x8⟩ := X a ha
        have e1 : ¬ a = t := fun e => by rw [e, mk] at x1; cases x1
        clear X T hl9 hg9
        refine ⟨x1, ?_, ?_, ?_, ?_, ?_, ?_, x8⟩ <;> simp only [mm_put] <;> (try unfold tL) <;> (try unfold tR) <;> (try unfold tP) <;> grind [va_rf]
      · exact mk
      · simp only [mm_put]; grind
      · simp only [mm_put]; unfold tRt; grind [va_rf]
      · simp only [mm_put]; grind
      · simp only [mm_put]; grind
      · simp only [mm_put]; grind
      · repeat' (first | exact Sm.refl _ _ | refine Sm.putS ?_ (by first | exact Or.inr rfl | exact Or.inl (by assumption)))
    · obtain ⟨gk, gq, gr, gt, gS, gL, gl⟩ := hg9 g hg
      refine z_ifnonnull 44 55 dJ8_rotateRight_44 (by decide) ?_
      first | refine z_aload1 55 dJ8_rotateRight_55 ?_ | refine z_aload1N 55 dJ8_rotateRight_55 ?_ | refine z_aload1o 55 dJ8_rotateRight_55 ?_
      refine z_get 56 gJ8_124 dJ8_rotateRight_56 xqk (show HP.mm _ q 4 = .ref g from by simp only [mm_put]; grind [va_rf]) ?_
      refine z_get 59 gJ8_114 dJ8_rotateRight_59 gk (show HP.mm _ g 3 = va_rf (R g) from by simp only [mm_put]; grind) ?_
      first | refine z_aload1 62 dJ8_rotateRight_62 ?_ | refine z_aload1N 62 dJ8_rotateRight_62 ?_ | refine z_aload1o 62 dJ8_rotateRight_62 ?_
      refine z_acne (R g) (some q) 63 77 dJ8_rotateRight_63 (by decide) (fun cg => ?_) (fun cg => ?_)
      · first | refine z_aload1 77 dJ8_rotateRight_77 ?_ | refine z_aload1N 77 dJ8_rotateRight_77 ?_ | refine z_aload1o 77 dJ8_rotateRight_77 ?_
        refine z_get 78 gJ8_124 dJ8_rotateRight_78 xqk (show HP.mm _ q 4 = .ref g from by simp only [mm_put]; grind [va_rf]) ?_
        first | refine z_aload2 81 dJ8_rotateRight_81 ?_ | refine z_aload2N 81 dJ8_rotateRight_81 ?_ | refine z_aload2o 81 dJ8_rotateRight_81 ?_
        refine z_put 82 pJ8_111 (fun h => by cases h) dJ8_rotateRight_82 gk (rfl) (rfl) ?_
        first | refine z_aload2 85 dJ8_rotateRight_85 ?_ | refine z_aload2N 85 dJ8_rotateRight_85 ?_ | refine z_aload2o 85 dJ8_rotateRight_85 ?_
        first | refine z_aload1 86 dJ8_rotateRight_86 ?_ | refine z_aload1N 86 dJ8_rotateRight_86 ?_ | refine z_aload1o 86 dJ8_rotateRight_86 ?_
        refine z_put 87 pJ8_114 (fun h => by cases h) dJ8_rotateRight_87 xrk (rfl) (rfl) ?_
        first | refine z_aload1 90 dJ8_rotateRight_90 ?_ | refine z_aload1N 90 dJ8_rotateRight_90 ?_ | refine z_aload1o 90 dJ8_rotateRight_90 ?_
        first | refine z_aload2 91 dJ8_rotateRight_91 ?_ | refine z_aload2N 91 dJ8_rotateRight_91 ?_ | refine z_aload2o 91 dJ8_rotateRight_91 ?_
        refine z_put 92 pJ8_124 (fun h => by cases h) dJ8_rotateRight_92 xqk (rfl) (rfl) ?_
        refine z_return 95 rfl dJ8_rotateRight_95 ?_
        refine ⟨rfl, fun a ha => ?_, ⟨?_, ?_, ?_, ?_, ?_, ?_⟩, ?_, rfl⟩
        · obtain ⟨x1, x2, x3, x4, x5, x6, x7, x8⟩ := X a ha
          have e1 : ¬ a = t := fun e => by rw [e, mk] at x1; cases x1
          clear X T hl9 hg9
          refine ⟨x1, ?_, ?_, ?_, ?_, ?_, ?_, x8⟩ <;> simp only [mm_put] <;> (try unfold tL) <;> (try unfold tR) <;> (try unfold tP) <;> grind [va_rf]
        · exact mk
        · simp only [mm_put]; grind
        · simp only [mm_put]; unfold tRt; grind [va_rf]
        · simp only [mm_put]; grind
        · simp only [mm_put]; grind
        · simp only [mm_put]; grind
        · repeat' (first | exact Sm.refl _ _ | refine Sm.putS ?_ (by first | exact Or.inr rfl | exact Or.inl (by assumption)))
      · first | refine z_aload1 66 dJ8_rotateRight_66 ?_ | refine z_aload1N 66 dJ8_rotateRight_66 ?_ | refine z_aload1o 66 dJ8_rotateRight_66 ?_
        refine z_get 67 gJ8_124 dJ8_rotateRight_67 xqk (show HP.mm _ q 4 = .ref g from by simp only [mm_put]; grind [va_rf]) ?_
        first | refine z_aload2 70 dJ8_rotateRight_70 ?_ | refine z_aload2N 70 dJ8_rotateRight_70 ?_ | refine z_aload2o 70 dJ8_rotateRight_70 ?_
        refine z_put 71 pJ8_114 (fun h => by cases h) dJ8_rotateRight_71 gk (rfl) (rfl) ?_
        refine z_goto 74 85 dJ8_rotateRight_74 (by decide) ?_
        first | refine z_aload2 85 dJ8_rotateRight_85 ?_ | refine z_aload2N 85 dJ8_rotateRight_85 ?_ | refine z_aload2o 85 dJ8_rotateRight_85 ?_
        first | refine z_aload1 86 dJ8_rotateRight_86 ?_ | refine z_aload1N 86 dJ8_rotateRight_86 ?_ | refine z_aload1o 86 dJ8_rotateRight_86 ?_
        refine z_put 87 pJ8_114 (fun h => by cases h) dJ8_rotateRight_87 xrk (rfl) (rfl) ?_
        first | refine z_aload1 90 dJ8_rotateRight_90 ?_ | refine z_aload1N 90 dJ8_rotateRight_90 ?_ | refine z_aload1o 90 dJ8_rotateRight_90 ?_
        first | refine z_aload2 91 dJ8_rotateRight_91 ?_ | refine z_aload2N 91 dJ8_rotateRight_91 ?_ | refine z_aload2o 91 dJ8_rotateRight_91 ?_
        refine z_put 92 pJ8_124 (fun h => by cases h) dJ8_rotateRight_92 xqk (rfl) (rfl) ?_
        refine z_return 95 rfl dJ8_rotateRight_95 ?_
        refine ⟨rfl, fun a ha => ?_, ⟨?_, ?_, ?_, ?_, ?_, ?_⟩, ?_, rfl⟩
        · obtain ⟨x1, x2, x3, x4, x5, x6, x7, x8⟩ := X a ha
          have e1 : ¬ a = t := fun e => by rw [e, mk] at x1; cases x1
          clear X T hl9 hg9
          refine ⟨x1, ?_, ?_, ?_, ?_, ?_, ?_, x8⟩ <;> simp only [mm_put] <;> (try unfold tL) <;> (try unfold tR) <;> (try unfold tP) <;> grind [va_rf]
        · exact mk
        · simp only [mm_put]; grind
        · simp only [mm_put]; unfold tRt; grind [va_rf]
        · simp only [mm_put]; grind
        · simp only [mm_put]; grind
        · simp only [mm_put]; grind
        · repeat' (first | exact Sm.refl _ _ | refine Sm.putS ?_ (by first | exact Or.inr rfl | exact Or.inl (by assumption)))

set_option maxHeartbeats 4000000 in
theorem c_rotRN {E : Ev} {h : HP} {t : Nat} (d k : Nat) : Call E yJ8_rotateRight d k [.ref t, .null] h (rV (fun h' => h' = h)) := by
  refine Call.of [.ref t, .null, dum] q1433 (by decide) pn_J8 (Nat.le_of_ble_eq_true rfl) rfl ?_
  first | refine z_aload1 0 dJ8_rotateRight_0 ?_ | refine z_aload1N 0 dJ8_rotateRight_0 ?_ | refine z_aload1o 0 dJ8_rotateRight_0 ?_
  refine z_ifnullN 1 95 dJ8_rotateRight_1 (by decide) ?_
  refine z_return 95 rfl dJ8_rotateRight_95 ?_
  exact ⟨rfl, rfl⟩
