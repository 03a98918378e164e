/-! COPYING ints; getClass of an Object[]; Arrays.copyOf, newLength, max, min -/
section CopyZ2
variable {E : Ev} {mt : Mth} {d k : Nat} {Q : Res → HP → Prop} {h : HP} {ls st : List Value}
theorem z_copyI {idx a0 a n0 n1 sp dp n : Nat} (pc : Nat) (hlk : Cond.methodLink mt.1.cls idx arraycopyName ∈ lw_all) (hd : decode mt.2.1 pc = .ok (.invokestatic idx, 3)) (hk0 : h.kd a0 = 100) (hk1 : h.kd a = 100) (hn0 : h.ln a0 = n0) (hn1 : h.ln a = n1) (h4 : sp + n ≤ n0) (h5 : dp + n ≤ n1) (hb : n0 < 2147483648 ∧ n1 < 2147483648) (hd1 : 1 ≤ d)
    (hv : ∀ i, i < n → ∃ x : Int32, h.mm a0 (sp + i) = .int x) (hst : (st.map fun v => v.category).sum ≤ 8) (kk : Z E mt d Q k (h.cpy a0 a sp dp n) (pc + 3) ls st) : Z E mt d Q k h pc ls (.int (nI n) :: .int (nI dp) :: .ref a :: .int (nI sp) :: .ref a0 :: st) := by
  intro p e s m args below meth c K H locs cells slots la hc h1 h2 hP hS hl
  subst hn0; subst hn1
  obtain ⟨b1, b2⟩ := hb
  have hz := (hP.dom hk1 (by decide) (Or.inl (by decide))).1
  have hK := hc.1.K hc.W
  have hc0 := hP.arr (i := 0) (by decide) hk0
  have hc1 := hP.arr (i := 0) (by decide) hk1
  obtain ⟨-, k0, hk9, cm0, hkk0⟩ := ((hK.2 0 _ (atys_at E.A (by decide))).1 (h.ln a0) (h.mm a0))
  obtain ⟨-, k1, hk8, cm1, hkk1⟩ := ((hK.2 0 _ (atys_at E.A (by decide))).1 (h.ln a) (h.mm a))
  have cs9 : (nI sp).toNatClampNeg = sp := nI_clamp (by omega)
  have cd9 : (nI dp).toNatClampNeg = dp := nI_clamp (by omega)
  have cn9 : (nI n).toNatClampNeg = n := nI_clamp (by omega)
  have ts9 : (nI sp).toInt = (sp : Int) := nI_toInt (by omega)
  have td9 : (nI dp).toInt = (dp : Int) := nI_toInt (by omega)
  have tn9 : (nI n).toInt = (n : Int) := nI_toInt (by omega)
  intro T hT X
  obtain ⟨vm', X', step⟩ := X.arraycopy hc.x hc.own (hc.ts args _ hlk) (hc.ts args _ q596) (hc.ts args _ q595) (hc.ts args _ q120) (src := a0) (dst := a) (srcPos := nI sp) (destPos := nI dp) (n := nI n) (by rw [hT]; exact hc0) (by rw [hT]; exact hc1)
    (fun _ h => by cases h) (fun _ h => by cases h) (fun h => by cases h) (fun h => by cases h) hk9 hk8 hkk0 hkk1 rfl (nI_pos (by omega)) (nI_pos (by omega)) (nI_pos (by omega))
    (by rw [ts9, tn9, arrV_size]; omega) (by rw [td9, tn9, arrV_size]; omega)
    (fun vm₁ hal i hi => by
      rw [cn9] at hi
      rw [cs9]
      have e9 : (arrV (E.A 0) (h.ln a0) (h.mm a0)).slots.getD (sp + i) .null = h.mm a0 (sp + i) := by
        rw [Array.getD_eq_getD_getElem?, arrV_read _ _ (by omega)]
        rfl
      rw [e9]
      obtain ⟨y, hy⟩ := hv i hi
      rw [hy]; exact ⟨rfl, trivial⟩)
    (g := F0 m pc la (.int (nI n) :: .int (nI dp) :: .ref a :: .int (nI sp) :: .ref a0 :: st)) rfl (by rw [hc.ml]; exact hl.1) (rest := st) rfl (by rw [hc.c]; exact hd) (by show 1 ≤ d; omega) (by show 2 * 0 + _ + _ ≤ 200 * d; have hw : nativeFrameWords "java/lang/System" "arraycopy" 5 = 7 := (by decide); omega)
  have e1 : copied (arrV (E.A 0) (h.ln a0) (h.mm a0)) (arrV (E.A 0) (h.ln a) (h.mm a)) (nI sp) (nI dp) (nI n) = arrV (E.A 0) (h.ln a) (va_cpy (h.mm a0) (h.mm a) sp dp n) := by
    have h9 : (nI sp).toNatClampNeg + (nI n).toNatClampNeg ≤ h.ln a0 := by rw [cs9, cn9]; exact h4
    have e0 : copied (arrV (E.A 0) (h.ln a0) (h.mm a0)) (arrV (E.A 0) (h.ln a) (h.mm a)) (nI sp) (nI dp) (nI n) = arrV (E.A 0) (h.ln a) (va_cpy (h.mm a0) (h.mm a) (nI sp).toNatClampNeg (nI dp).toNatClampNeg (nI n).toNatClampNeg) := va_copied (fun z => z) (E.A 0) (E.A 0) (h.mm a0) (h.mm a) h9
    rw [cs9, cd9, cn9] at e0
    exact e0
  rw [e1] at X' step
  have hla : a < H.size := (Array.getElem?_eq_some_iff.mp hc1).1
  have hheap : ((T.setVm vm').setCell a (arrV (E.A 0) (h.ln a) (va_cpy (h.mm a0) (h.mm a) sp dp n))).heap = H.setIfInBounds a (arrV (E.A 0) (h.ln a) (va_cpy (h.mm a0) (h.mm a) sp dp n)) := by rw [← hT]; rfl
  have oq : ∀ q : Nat, q ≠ a → (H.setIfInBounds a (arrV (E.A 0) (h.ln a) (va_cpy (h.mm a0) (h.mm a) sp dp n)))[q]? = H[q]? := fun q hq => by simp [Array.getElem?_setIfInBounds, Ne.symm hq]
  have ea : (H.setIfInBounds a (arrV (E.A 0) (h.ln a) (va_cpy (h.mm a0) (h.mm a) sp dp n)))[a]? = some (arrV (E.A 0) (h.ln a) (va_cpy (h.mm a0) (h.mm a) sp dp n)) := by simp [Array.getElem?_setIfInBounds, hla]
  have em : (h.cpy a0 a sp dp n).mm a = va_cpy (h.mm a0) (h.mm a) sp dp n := by funext j; rw [mm_cpy, if_pos rfl]
  obtain ⟨t, a1, b9⟩ := kk p e s m args below meth c K _ _ cells slots la hc h1 h2
    (hP.cell (h' := h.cpy a0 a sp dp n) (a := a) rfl rfl rfl (fun b hb => by funext j; rw [mm_cpy, if_neg hb]) (by simp) oq hz ⟨fun r hr => by rw [show (h.cpy a0 a sp dp n).kd a = 100 from hk1] at hr; exact absurd (cls_lt hr) (by decide), fun i hi hk => by
      have e2 : i = 0 := by rw [show (h.cpy a0 a sp dp n).kd a = 100 from hk1] at hk; omega
      subst e2
      rw [em]; exact ea⟩)
    ⟨by simp; exact hS.1, fun q g1 g2 => by
      rw [oq q (fun e => g2 (by rw [e]; exact hz))]
      exact hS.2.1 q g1 g2, fun q hq => by
      rcases List.mem_append.mp hq with h9 | h9
      · exact hS.2.2 q h9
      · obtain ⟨z, -, hz9⟩ := List.mem_map.mp h9
        rw [← hz9]
        exact hz⟩ hl _ hheap X'
  exact ⟨t, step t a1, b9⟩

theorem z_getC {idx a mi : Nat} (pc : Nat) (hM : va_Mi "[Ljava/lang/Object;" mi E.s) (hlk : Cond.methodLink mt.1.cls idx ⟨"java/lang/Object", "getClass", "()Ljava/lang/Class;"⟩ ∈ lw_all) (hd : decode mt.2.1 pc = .ok (.invokevirtual idx, 3)) (hk : h.kd a = 104) (hd1 : 1 ≤ d) (hst : (st.map fun v => v.category).sum ≤ 8) (kk : Z E mt d Q k h (pc + 3) ls (.ref mi :: st)) : Z E mt d Q k h pc ls (.ref a :: st) := by
  intro p e s m args below meth c K H locs cells slots la hc h1 h2 hP hS hl
  have kk := kk p e s m args below meth c K H locs cells slots la hc h1 h2 hP hS hl
  have hK := hc.1.K hc.W
  have hra : va_RA s (E.A 4) (.object "java/lang/Object") := (hK.2 4 _ (atys_at E.A (by decide))).2
  have hD : va_Dc s := va_Dc.moved hc.W.alike (va_Dc.of (hc.1.2.1 _ q2560))
  exact va_getC hc.x hc.c (hc.ml.trans hl.1.symm) hc.own (hc.ts args _ hlk) hD.use (hc.ts args _ q2559) (hc.ts args _ q1547) (hc.ts args _ q1574) (va_Mi.moved hc.W.alike hM)
    ⟨_, hP.arr (i := 4) (by decide) hk, rfl, va_nmO hra (by decide)⟩ (by show 1 ≤ d; omega) (by show _ ≤ 200 * d; omega) hd kk
end CopyZ2
theorem mmax9 {a b : Nat} (ha : a < 2147483648) (hb : b < 2147483648) : (if nI a < nI b then nI b else nI a) = nI (max a b) := by
  have e1 : nI a < nI b ↔ a < b := nI_ltI ha hb
  by_cases e : a < b
  · rw [if_pos (e1.mpr e), Nat.max_eq_right (Nat.le_of_lt e)]
  · rw [if_neg (fun q => e (e1.mp q)), Nat.max_eq_left (Nat.le_of_not_lt e)]
theorem mmin9 {a b : Nat} (ha : a < 2147483648) (hb : b < 2147483648) : (if nI b < nI a then nI b else nI a) = nI (min a b) := by
  have e1 : nI b < nI a ↔ b < a := nI_ltI hb ha
  by_cases e : b < a
  · rw [if_pos (e1.mpr e), Nat.min_eq_right (Nat.le_of_lt e)]
  · rw [if_neg (fun q => e (e1.mp q)), Nat.min_eq_left (Nat.le_of_not_lt e)]
theorem i9_lit : (2147483639 : Int32) = nI 2147483639 := by decide
set_option maxHeartbeats 4000000 in
theorem c_newLength {E : Ev} {h : HP} {a b c : Nat} (d k : Nat) (hd1 : 1 ≤ d) (ha : a < 1000) (hb : b < 1000) (hc : c < 1000) (h0 : 0 < a + max b c) : Call E yJ30_newLength d k [.int (nI a), .int (nI b), .int (nI c)] h (rI (fun x h' => h' = h ∧ x = nI (a + max b c))) := by
  refine Call.of [.int (nI a), .int (nI b), .int (nI c), dum] q572 (by decide) pn_J30 (Nat.le_of_ble_eq_true rfl) rfl ?_
  refine z_iload0 0 dJ30_newLength_0 ?_
  refine z_iload1 1 dJ30_newLength_1 ?_
  refine z_iload2 2 dJ30_newLength_2 ?_
  refine z_mmax 3 q573 q574 q128 q575 dJ30_newLength_3 (by omega) (Nat.le_of_ble_eq_true rfl) ?_
  rw [mmax9 (by omega) (by omega)]
  refine z_iadd 6 dJ30_newLength_6 ?_
  rw [nI_add]
  refine z_istore3 7 dJ30_newLength_7 rfl ?_
  refine z_iconst 8 (nI 0) dJ30_newLength_8 kI0 ?_
  refine z_iload3 9 dJ30_newLength_9 ?_
  refine z_icge 10 21 dJ30_newLength_10 (by decide) (fun c10 => by first | exact absurd c10 (fun e => nI_nle h0 (by omega) e) | exact absurd (fun e => nI_nle h0 (by omega) e) c10) (fun c10 => ?_)
  refine z_iload3 13 dJ30_newLength_13 ?_
  refine z_ldc 14 2147483639 q576 dJ30_newLength_14 ?_
  rw [i9_lit]
  refine z_icgt 16 21 dJ30_newLength_16 (by decide) (fun c16 => by first | exact absurd c16 (fun e => nI_nlt (Nat.le_of_lt (by omega : a + max b c < 2147483639)) (by decide) e) | exact absurd (fun e => nI_nlt (Nat.le_of_lt (by omega : a + max b c < 2147483639)) (by decide) e) c16) (fun c16 => ?_)
  refine z_iload3 19 dJ30_newLength_19 ?_
  refine z_ireturn 20 rfl dJ30_newLength_20 ?_
  exact ⟨_, rfl, rfl, rfl⟩

set_option maxHeartbeats 4000000 in
theorem c_copyOf3 {E : Ev} {h : HP} {a n1 n2 mi : Nat} (d k : Nat) (hd1 : 1 ≤ d) (hk1 : n2 / 4 + 1 ≤ k) (ha : h.kd a = 104) (hl : h.ln a = n1) (hn : n1 ≤ n2) (hb : n2 < 65536) (hlt : a < h.sz) (hv : ∀ i, i < n1 → h.mm a i = .null ∨ ∃ y ci : Nat, h.mm a i = .ref y ∧ h.kd y = ci ∧ SiteE 4 ci ∧ y < h.sz) (hM : va_Mi "[Ljava/lang/Object;" mi E.s) : Call E yJ34_copyOf_3 d k [.ref a, .int (nI n2), .ref mi] h (rR (fun b h' => b = h.sz ∧ h'.kd b = 104 ∧ h'.ln b = n2 ∧ (∀ j, j < n1 → h'.mm b j = h.mm a j) ∧ (∀ j, n1 ≤ j → h'.mm b j = .null) ∧ Sm (fun _ => False) h h' ∧ h'.sz = h.sz + 1)) := by
  refine Call.of [.ref a, .int (nI n2), .ref mi, dum] q1577 (by decide) pn_J34 (Nat.le_of_ble_eq_true rfl) rfl ?_
  first | refine z_aload2 0 dJ34_copyOf_3_0 ?_ | refine z_aload2N 0 dJ34_copyOf_3_0 ?_ | refine z_aload2o 0 dJ34_copyOf_3_0 ?_
  refine z_ldcM 1 hM q1578 dJ34_copyOf_3_1 ?_
  refine z_acneR 3 13 dJ34_copyOf_3_3 (by decide) (fun c3 => by first | exact absurd c3 (fun e => e rfl) | exact absurd (fun e => e rfl) c3) (fun c3 => ?_)
  refine z_iload1 6 dJ34_copyOf_3_6 ?_
  refine z_anew (X := "java/lang/Object") (i := 4) (n := n2) (k' := k - (n2 / 4 + 1)) 7 q241 q1579 (by decide) (by decide) rfl dJ34_copyOf_3_7 (rfl) (by omega) (by omega) (fun h1 e1 => ?_)
  have hne : ¬ a = h.sz := by omega
  have k1 : h1.kd h.sz = 104 := by rw [e1]; simp [kd_mk]
  have l1 : h1.ln h.sz = n2 := by rw [e1]; simp [ln_mk]
  have k0 : h1.kd a = 104 := by rw [e1]; simp [kd_mk, hne, ha]
  have l0 : h1.ln a = n1 := by rw [e1]; simp [ln_mk, hne, hl]
  have m0 : ∀ j, h1.mm a j = h.mm a j := fun j => by rw [e1]; simp [mm_mk, hne]
  refine z_goto 10 24 dJ34_copyOf_3_10 (by decide) ?_
  refine z_astore3 24 dJ34_copyOf_3_24 rfl ?_
  first | refine z_aload0 25 dJ34_copyOf_3_25 ?_ | refine z_aload0N 25 dJ34_copyOf_3_25 ?_ | refine z_aload0o 25 dJ34_copyOf_3_25 ?_
  refine z_iconst 26 (nI 0) dJ34_copyOf_3_26 kI0 ?_
  first | refine z_aload3 27 dJ34_copyOf_3_27 ?_ | refine z_aload3N 27 dJ34_copyOf_3_27 ?_ | refine z_aload3o 27 dJ34_copyOf_3_27 ?_
  refine z_iconst 28 (nI 0) dJ34_copyOf_3_28 kI0 ?_
  first | refine z_aload0 29 dJ34_copyOf_3_29 ?_ | refine z_aload0N 29 dJ34_copyOf_3_29 ?_ | refine z_aload0o 29 dJ34_copyOf_3_29 ?_
  refine z_len (i := 4) 30 dJ34_copyOf_3_30 (by decide) k0 l0 ?_
  refine z_iload1 31 dJ34_copyOf_3_31 ?_
  refine z_mmin 32 q591 q592 q128 q593 dJ34_copyOf_3_32 (by omega) (Nat.le_of_ble_eq_true rfl) ?_
  rw [mmin9 (by omega) (by omega), Nat.min_eq_left hn]
  refine z_copyR (sp := 0) (dp := 0) (n := n1) 35 q594 dJ34_copyOf_3_35 k0 k1 l0 l1 (by omega) (by omega) (by omega) (by omega) (fun i hi => ?_) (Nat.le_of_ble_eq_true rfl) ?_
  · rcases hv i hi with hy | ⟨y, ci, hy, hky, hS, hyl⟩
    · exact Or.inl (by rw [Nat.zero_add, m0]; exact hy)
    · exact Or.inr ⟨y, ci, by rw [Nat.zero_add, m0]; exact hy, by rw [e1, kd_mk, if_neg (by omega)]; exact hky, hS⟩
  refine z_aload3 38 dJ34_copyOf_3_38 ?_
  refine z_areturn 39 rfl (Or.inr ⟨_, rfl⟩) (by first | exact Or.inl rfl | exact Or.inr ⟨_, rfl⟩ | exact va_rf_or _) dJ34_copyOf_3_39 ?_
  refine ⟨h.sz, rfl, rfl, k1, l1, fun j hj => ?_, fun j hj => ?_, ?_, ?_⟩
  · rw [mm_cpy, if_pos rfl]; unfold va_cpy
    rw [if_pos ⟨Nat.zero_le _, by omega⟩, m0]; simp
  · rw [mm_cpy, if_pos rfl]; unfold va_cpy
    rw [if_neg (by omega), e1]; simp [mm_mk]
  · have A1 : Sm (fun _ => False) h h1 := by rw [e1]; exact Sm.mk'
    exact A1.tr (Sm.cpy (S := fun q => q = h.sz) rfl) (fun q hq e => by omega)
  · rw [sz_cpy, e1]; rfl

set_option maxHeartbeats 4000000 in
theorem c_copyOf {E : Ev} {h : HP} {a n1 n2 : Nat} (d k : Nat) (hd1 : 2 ≤ d) (hk1 : n2 / 4 + 1 ≤ k) (ha : h.kd a = 104) (hl : h.ln a = n1) (hn : n1 ≤ n2) (hb : n2 < 65536) (hlt : a < h.sz) (hv : ∀ i, i < n1 → h.mm a i = .null ∨ ∃ y ci : Nat, h.mm a i = .ref y ∧ h.kd y = ci ∧ SiteE 4 ci ∧ y < h.sz) : Call E yJ34_copyOf_2 d k [.ref a, .int (nI n2)] h (rR (fun b h' => b = h.sz ∧ h'.kd b = 104 ∧ h'.ln b = n2 ∧ (∀ j, j < n1 → h'.mm b j = h.mm a j) ∧ (∀ j, n1 ≤ j → h'.mm b j = .null) ∧ Sm (fun _ => False) h h' ∧ h'.sz = h.sz + 1)) := by
  refine Call.of [.ref a, .int (nI n2)] q1545 (by decide) pn_J34 (Nat.le_of_ble_eq_true rfl) rfl ?_
  refine z_base 0 fun B => ?_
  obtain ⟨mi, hM⟩ := st_mirror B
  first | refine z_aload0 0 dJ34_copyOf_2_0 ?_ | refine z_aload0N 0 dJ34_copyOf_2_0 ?_ | refine z_aload0o 0 dJ34_copyOf_2_0 ?_
  refine z_iload1 1 dJ34_copyOf_2_1 ?_
  first | refine z_aload0 2 dJ34_copyOf_2_2 ?_ | refine z_aload0N 2 dJ34_copyOf_2_2 ?_ | refine z_aload0o 2 dJ34_copyOf_2_2 ?_
  refine z_getC 3 hM q1546 dJ34_copyOf_2_3 ha (by omega) (Nat.le_of_ble_eq_true rfl) ?_
  refine z_S3 (k' := k - (n2 / 4 + 1)) 6 sJ34_300 dJ34_copyOf_2_6 (c_copyOf3 (d - 1) (n2 / 4 + 1) (by omega) (Nat.le_refl _) ha hl hn hb hlt hv hM) (by omega) (by omega) (Nat.le_of_ble_eq_true rfl) (aft_R fun b h2 hq => ?_)
  refine z_areturn 9 rfl (Or.inr ⟨_, rfl⟩) (by first | exact Or.inl rfl | exact Or.inr ⟨_, rfl⟩ | exact va_rf_or _) dJ34_copyOf_2_9 ?_
  exact ⟨_, rfl, hq⟩

