/-! COPYING: System.arraycopy, class constants, getClass -/
def HP.cpy (h : HP) (a0 a sp dp n : Nat) : HP := (h.kd, fun b j => if b = a then va_cpy (h.mm a0) (h.mm a) sp dp n j else h.mm b j, h.ln, h.sz)
theorem kd_cpy (h : HP) (a0 a sp dp n : Nat) : (h.cpy a0 a sp dp n).kd = h.kd := rfl
theorem ln_cpy (h : HP) (a0 a sp dp n : Nat) : (h.cpy a0 a sp dp n).ln = h.ln := rfl
theorem sz_cpy (h : HP) (a0 a sp dp n : Nat) : (h.cpy a0 a sp dp n).sz = h.sz := rfl
theorem mm_cpy (h : HP) (a0 a sp dp n b j : Nat) : (h.cpy a0 a sp dp n).mm b j = if b = a then va_cpy (h.mm a0) (h.mm a) sp dp n j else h.mm b j := rfl
theorem Sm.cpy {S : Nat → Prop} {h : HP} {a0 a sp dp n : Nat} (ha : S a) : Sm S h (h.cpy a0 a sp dp n) :=
  ⟨Nat.le_refl _, fun q _ => ⟨rfl, rfl, fun hn => by funext j; rw [mm_cpy, if_neg (fun e : q = a => hn (by rw [e]; exact ha))]⟩⟩
theorem Pic.cell {E : Ev} {h h' : HP} {H H' : Heap} (P : Pic E h H) {a : Nat} (e1 : h'.kd = h.kd) (e2 : h'.ln = h.ln) (e3 : h'.sz = h.sz) (e4 : ∀ b, b ≠ a → h'.mm b = h.mm b) (hz : H'.size = H.size) (ho : ∀ q : Nat, q ≠ a → H'[q]? = H[q]?) (ha : E.z ≤ a) (hok : Cok E h' a H') : Pic E h' H' := by
  obtain ⟨p1, p2, p3, p4, p5, p6⟩ := P
  refine ⟨by rw [hz, e3]; exact p1, by rw [e3]; exact p2, fun q hq => (ho q (by omega)).trans (p3 q hq), fun b g1 g2 => ?_, fun b hb => ?_, fun j hj => ?_⟩
  · by_cases e : b = a
    · subst e; exact hok
    · obtain ⟨c1, c2⟩ := p4 b g1 (by rw [← e3]; exact g2)
      refine ⟨fun r hr => ?_, fun i hi hk => ?_⟩
      · rw [e4 b e, e1]; rw [e1] at hr; exact (c1 r hr).kept (ho b e)
      · rw [e2, e4 b e, ho b e]; rw [e1] at hk; exact c2 i hi hk
  · rw [e3] at hb
    rcases p5 b hb with q | ⟨q1, q2, q3⟩
    · exact Or.inl (by rw [e1]; exact q)
    · exact Or.inr ⟨q1, by rw [e1]; exact q2, by rw [e4 b (by omega)]; exact q3⟩
  · obtain ⟨g1, g2, g3⟩ := p6 j hj
    exact ⟨g1, by rw [e1]; exact g2, by rw [e4 _ (show E.C j ≠ a by omega)]; exact g3⟩
section CopyZ
variable {E : Ev} {mt : Mth} {d k : Nat} {Q : Res → HP → Prop} {h : HP} {ls st : List Value}
theorem z_ldc {i : Nat} (pc : Nat) (v : Int32) (hw : Cond.constant mt.1.cls i v ∈ lw_all) (hd : decode mt.2.1 pc = .ok (.ldc i, 2)) (kk : Z E mt d Q k h (pc + 2) ls (.int v :: st)) : Z E mt d Q k h pc ls st :=
  fun p e s m args below meth c K H locs cells slots la hc h1 h2 hP hS hl => lv_ldc hc.x hc.c hc.own (hc.1.word hw hc.W _) hd (kk p e s m args below meth c K H locs cells slots la hc h1 h2 hP hS hl)
theorem st_mirror {E : Ev} (B : Base E) : ∃ mi : Nat, va_Mi "[Ljava/lang/Object;" mi E.s := va_Mi.of (B.nw (w := .isRef (.mirror "[Ljava/lang/Object;")) (by decide +kernel))
theorem z_ldcM {i mi : Nat} {C : String} (pc : Nat) (hM : va_Mi C mi E.s) (hlk : Cond.classLink mt.1.cls i C ∈ lw_all) (hd : decode mt.2.1 pc = .ok (.ldc i, 2)) (kk : Z E mt d Q k h (pc + 2) ls (.ref mi :: st)) : Z E mt d Q k h pc ls st :=
  fun p e s m args below meth c K H locs cells slots la hc h1 h2 hP hS hl => va_ldcM hc.x hc.c hc.own (hc.ts args _ hlk) (va_Mi.moved hc.W.alike hM) hd (kk p e s m args below meth c K H locs cells slots la hc h1 h2 hP hS hl)
theorem z_copyR {idx a0 a n0 n1 sp dp n : Nat} (pc : Nat) (hlk : Cond.methodLink mt.1.cls idx arraycopyName ∈ lw_all) (hd : decode mt.2.1 pc = .ok (.invokestatic idx, 3)) (hk0 : h.kd a0 = 104) (hk1 : h.kd a = 104) (hn0 : h.ln a0 = n0) (hn1 : h.ln a = n1) (h4 : sp + n ≤ n0) (h5 : dp + n ≤ n1) (hb : n0 < 2147483648 ∧ n1 < 2147483648) (hd1 : 1 ≤ d)
    (hv : ∀ i, i < n → h.mm a0 (sp + i) = .null ∨ ∃ y ci : Nat, h.mm a0 (sp + i) = .ref y ∧ h.kd y = ci ∧ SiteE 4 ci) (hst : (st.map fun v => v.category).sum ≤ 8) (kk : Z E mt d Q k (h.cpy a0 a sp dp n) (pc + 3) ls st) : Z E mt d Q k h pc ls (.int (nI n) :: .int (nI dp) :: .ref a :: .int (nI sp) :: .ref a0 :: st) := by
  intro p e s m args below meth c K H locs cells slots la hc h1 h2 hP hS hl
  subst hn0; subst hn1
  obtain ⟨b1, b2⟩ := hb
  have hz := (hP.dom hk1 (by decide) (Or.inl (by decide))).1
  have hK := hc.1.K hc.W
  have hc0 := hP.arr (i := 4) (by decide) hk0
  have hc1 := hP.arr (i := 4) (by decide) hk1
  obtain ⟨-, k0, hk9, cm0, hkk0⟩ := ((hK.2 4 _ (atys_at E.A (by decide))).1 (h.ln a0) (h.mm a0))
  obtain ⟨-, k1, hk8, cm1, hkk1⟩ := ((hK.2 4 _ (atys_at E.A (by decide))).1 (h.ln a) (h.mm a))
  obtain ⟨kA, comp, r1, r2, r3, -⟩ : va_RA s (E.A 4) (.object "java/lang/Object") := (hK.2 4 _ (atys_at E.A (by decide))).2
  have cs9 : (nI sp).toNatClampNeg = sp := nI_clamp (by omega)
  have cd9 : (nI dp).toNatClampNeg = dp := nI_clamp (by omega)
  have cn9 : (nI n).toNatClampNeg = n := nI_clamp (by omega)
  have ts9 : (nI sp).toInt = (sp : Int) := nI_toInt (by omega)
  have td9 : (nI dp).toInt = (dp : Int) := nI_toInt (by omega)
  have tn9 : (nI n).toInt = (n : Int) := nI_toInt (by omega)
  intro T hT X
  obtain ⟨vm', X', step⟩ := X.arraycopy hc.x hc.own (hc.ts args _ hlk) (hc.ts args _ q596) (hc.ts args _ q595) (hc.ts args _ q120) (src := a0) (dst := a) (srcPos := nI sp) (destPos := nI dp) (n := nI n) (by rw [hT]; exact hc0) (by rw [hT]; exact hc1)
    (fun _ h => by cases h) (fun _ h => by cases h) (fun h => by cases h) (fun h => by cases h) hk9 hk8 hkk0 hkk1 rfl (nI_pos (by omega)) (nI_pos (by omega)) (nI_pos (by omega))
    (by rw [ts9, tn9, arrV_size]; omega) (by rw [td9, tn9, arrV_size]; omega)
    (fun vm₁ hal i hi => by
      rw [cn9] at hi
      rw [cs9]
      have e9 : (arrV (E.A 4) (h.ln a0) (h.mm a0)).slots.getD (sp + i) .null = h.mm a0 (sp + i) := by
        rw [Array.getD_eq_getD_getElem?, arrV_read _ _ (by omega)]
        rfl
      rw [e9]
      rcases hv i hi with hy | ⟨y, ci, hy, hky, C, T9, N9, X9, hcl, hty, -, -, hcast⟩
      · rw [hy]; exact ⟨rfl, trivial⟩
      · rw [hy]
        obtain ⟨cellV, g1, g2, g3⟩ := hP.recv hky hcl hK
        have hX9 : X9 = "java/lang/Object" := by cases hty; rfl
        subst hX9
        cases hk8.symm.trans r1
        cases hkk1.symm.trans r2
        obtain ⟨kC, hkC, -⟩ := Vm.findClass_spec g3
        obtain ⟨kE, hkE, -⟩ := Vm.findClass_spec r3
        obtain ⟨kC', hkC', -⟩ := hal.2.2 _ _ hkC
        obtain ⟨kE', hkE', -⟩ := hal.2.2 _ _ hkE
        refine ⟨rfl, cellV, (show T.heap[y]? = some cellV by rw [hT]; exact g1), (fun q h => by rw [h] at g2; cases g2), ⟨kC', hkC'⟩, ⟨kE', hkE'⟩, ?_⟩
        show vm₁.assignable _ _ = true
        rw [hal.assignable]
        rcases hcast with rfl | hw
        · rw [← Option.some.inj (r3.symm.trans g3)]
          exact va_assign (by rw [Option.some.inj (r3.symm.trans ((hK.1 ci _ hcl).2).1)]; exact (hK.1 ci _ hcl).2)
        · obtain ⟨c0, t0, f1, f2, f3⟩ := Cond.castable_spec (va_Nw.use (A := args) rfl (hc.1.cast hw hc.W))
          cases g3.symm.trans f1
          cases r3.symm.trans f2
          exact f3)
    (g := F0 m pc la (.int (nI n) :: .int (nI dp) :: .ref a :: .int (nI sp) :: .ref a0 :: st)) rfl (by rw [hc.ml]; exact hl.1) (rest := st) rfl (by rw [hc.c]; exact hd) (by show 1 ≤ d; omega) (by show 2 * 0 + _ + _ ≤ 200 * d; have hw : nativeFrameWords "java/lang/System" "arraycopy" 5 = 7 := (by decide); omega)
  have e1 : copied (arrV (E.A 4) (h.ln a0) (h.mm a0)) (arrV (E.A 4) (h.ln a) (h.mm a)) (nI sp) (nI dp) (nI n) = arrV (E.A 4) (h.ln a) (va_cpy (h.mm a0) (h.mm a) sp dp n) := by
    have h9 : (nI sp).toNatClampNeg + (nI n).toNatClampNeg ≤ h.ln a0 := by rw [cs9, cn9]; exact h4
    have e0 : copied (arrV (E.A 4) (h.ln a0) (h.mm a0)) (arrV (E.A 4) (h.ln a) (h.mm a)) (nI sp) (nI dp) (nI n) = arrV (E.A 4) (h.ln a) (va_cpy (h.mm a0) (h.mm a) (nI sp).toNatClampNeg (nI dp).toNatClampNeg (nI n).toNatClampNeg) := va_copied (fun z => z) (E.A 4) (E.A 4) (h.mm a0) (h.mm a) h9
    rw [cs9, cd9, cn9] at e0
    exact e0
  rw [e1] at X' step
  have hla : a < H.size := (Array.getElem?_eq_some_iff.mp hc1).1
  have hheap : ((T.setVm vm').setCell a (arrV (E.A 4) (h.ln a) (va_cpy (h.mm a0) (h.mm a) sp dp n))).heap = H.setIfInBounds a (arrV (E.A 4) (h.ln a) (va_cpy (h.mm a0) (h.mm a) sp dp n)) := by rw [← hT]; rfl
  have oq : ∀ q : Nat, q ≠ a → (H.setIfInBounds a (arrV (E.A 4) (h.ln a) (va_cpy (h.mm a0) (h.mm a) sp dp n)))[q]? = H[q]? := fun q hq => by simp [Array.getElem?_setIfInBounds, Ne.symm hq]
  have ea : (H.setIfInBounds a (arrV (E.A 4) (h.ln a) (va_cpy (h.mm a0) (h.mm a) sp dp n)))[a]? = some (arrV (E.A 4) (h.ln a) (va_cpy (h.mm a0) (h.mm a) sp dp n)) := by simp [Array.getElem?_setIfInBounds, hla]
  have em : (h.cpy a0 a sp dp n).mm a = va_cpy (h.mm a0) (h.mm a) sp dp n := by funext j; rw [mm_cpy, if_pos rfl]
  obtain ⟨t, a1, b9⟩ := kk p e s m args below meth c K _ _ cells slots la hc h1 h2
    (hP.cell (h' := h.cpy a0 a sp dp n) (a := a) rfl rfl rfl (fun b hb => by funext j; rw [mm_cpy, if_neg hb]) (by simp) oq hz ⟨fun r hr => by rw [show (h.cpy a0 a sp dp n).kd a = 104 from hk1] at hr; exact absurd (cls_lt hr) (by decide), fun i hi hk => by
      have e2 : i = 4 := by rw [show (h.cpy a0 a sp dp n).kd a = 104 from hk1] at hk; omega
      subst e2
      rw [em]; exact ea⟩)
    ⟨by simp; exact hS.1, fun q g1 g2 => by
      rw [oq q (fun e => g2 (by rw [e]; exact hz))]
      exact hS.2.1 q g1 g2, fun q hq => by
      rcases List.mem_append.mp hq with h9 | h9
      · exact hS.2.2 q h9
      · obtain ⟨z, -, hz9⟩ := List.mem_map.mp h9
        rw [← hz9]
        exact hz⟩ hl _ hheap X'
  exact ⟨t, step t a1, b9⟩
end CopyZ
