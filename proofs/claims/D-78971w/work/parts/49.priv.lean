/-! CALLS of a private method of a superclass (AbstractStringBuilder's, on a StringBuilder) -/
theorem selects_priv {s : State} {args : Array Value} {y : MethodName} {C : String} {c : ClassId}
    (hc : s.vm.findClass C = some c) {y0 : MethodName} (h0 : y0.cls = y.cls) (hs0 : (Cond.selects C y0 y0).before args s = true) (hpriv : s.PrivateAt y)
    (hinst : (Cond.instanceMethod y).before args s = true) (hy : y.cls ≠ "java/lang/invoke/MethodHandle" ∧ y.cls ≠ "java/lang/invoke/VarHandle") :
    (Cond.selects C y y).before args s = true := by
  obtain ⟨mk, methM, hnamed, hmethM, -, -⟩ := Cond.instanceMethod_spec hinst
  have hfound : s.methodFound? y.cls y.name y.desc = some mk := State.methodFound?_of_named hnamed hy
  have hsel : selectMethod {} s.vm c mk = .method mk := selectMethod_private hmethM (hpriv mk methM hnamed hmethM)
  obtain ⟨c2, r2, m2, q1, q2, q3, q4, k2, q5, q6⟩ := Cond.selects_spec hs0
  have e1 : mk.cls = m2.cls := Option.some.inj ((findClass_of_methodNamed hnamed).symm.trans (h0 ▸ findClass_of_methodNamed q3))
  simp only [Cond.before, Cond.holds, Cond.value, hc, hfound, hnamed, hsel, e1, q5]
  simp [q6]
theorem priv_later {E : Ev} (B : Base E) {s : State} (hW : E.s.WarmedH s.vm) {y : MethodName} (h : Cond.privateMethod y ∈ lw_tbl) : s.PrivateAt y := by
  have P0 : E.s.PrivateAt y := Cond.privateMethod_at (B.2.1 _ h)
  have hvm := hW.alike
  intro mk meth hn hm
  refine P0 mk meth ?_ ?_
  · have := State.methodNamed?_setVm (s := E.s) hvm (x := y)
    have hU : (E.s.setVm s.vm).methodNamed? y = s.methodNamed? y := rfl
    rw [← this, hU]; exact hn
  · rw [← hvm.method?]; exact hm
def SiteUP (own : String) (idx : Nat) (y : MethodName) (ci n : Nat) : Prop := ∃ (C : String) (T : u_T) (N : Nat), cls_[ci]? = some (C, T, N) ∧ Cond.methodLink own idx y ∈ lw_all ∧ Cond.sameMethod y.cls y.cls y.name y.desc ∈ lw_all ∧ Cond.privateMethod y ∈ lw_tbl ∧ (∃ y0 : MethodName, y0.cls = y.cls ∧ Cond.selects C y0 y0 ∈ lw_all) ∧ Cond.instanceMethod y ∈ lw_all ∧ Cond.initialized y.cls ∈ lw_all ∧ (∃ (b0 : ByteArray) (m0 : Nat) (r0 : Option FieldType), Cond.code y b0 m0 r0 ∈ lw_all) ∧ MhOk y n
section
variable {E : Ev} {mt : Mth} {d k : Nat} {Q : Res → HP → Prop} {h : HP} {ls st : List Value}
theorem z_UP1 {idx ci b : Nat} {y : MethodName} {w1 : Value} {d' kc k' : Nat} {Qc : Res → HP → Prop} (pc : Nat) (S : SiteUP mt.1.cls idx y ci 1) (hd : decode mt.2.1 pc = .ok (.invokevirtual idx, 3)) (hk : h.kd b = ci) (hC : Call E y d' kc [.ref b, w1] h Qc) (hd' : d' + 1 ≤ d) (hkk : kc + k' ≤ k) (hst : (st.map fun v => v.category).sum ≤ 8) (ha : Aft E mt d Q k' Qc (pc + 3) ls st) : Z E mt d Q k h pc ls (w1 :: .ref b :: st) := by
  intro p e s m args below meth c K H locs cells slots la hc h1 h2 hP hS hl
  obtain ⟨cc, nL, ret, hcode, hnL, hM⟩ := hC
  obtain ⟨C, T, N, hcl, q1, q5, qp, ⟨y0, hy0, qs0⟩, q2, q4, ⟨b0, m0, r0, qc⟩, hmh⟩ := S
  have hK := hc.1.K hc.W
  obtain ⟨hfc, kC, hkC, hkind⟩ := (hK.1 ci _ hcl).2
  have q3 := selects_priv (args := args) hfc hy0 (hc.ts args _ qs0) (priv_later hc.1 hc.W qp) (hc.ts args _ q2) hmh.1
  refine z_after (a := ([.ref b, w1] : List Value).toArray) (n := 3) hc h1 h2 hkk hS hl ha ?_
  obtain ⟨g1, g2⟩ := preOf (as := [.ref b, w1]) hc.1 hc.W hP
  have hD : va_Decl s ⟨y.cls, y.name, y.desc⟩ := va_Decl.of (hc.ts args _ q2) (hc.ts args _ qc)
  exact vx_runU (As := [w1]) (Ts := []) ⟨hc.x, hc.c, rfl, hc.own, fun w hw => nomatch hw⟩ hM ⟨⟨rfl, rfl, (by show d' + 1 ≤ d; exact hd'), (by show 8 + (nL + 11) + 200 * d' ≤ 200 * d; omega), hc.1.ws hcode hc.W, List.mem_cons_self⟩, hc.ts args _ hcode, hc.ts args _ q4, hmh.1, hmh.len, hc.ts args _ q1, hc.ts args _ q5, hD, q3, hc.ts args _ q2⟩ ⟨g1, hP.recv hk hcl (hc.1.K hc.W), g2⟩ rfl rfl (by rw [hc.ml]; exact hl.1) rfl (lv_room hst) hd ⟨by show cells + kc ≤ K; omega, by show slots + 4 * kc ≤ 4 * K; omega⟩
end
theorem upJ13_100 : SiteUP RJ13 100 yJ13_ensureCapacityInternal 14 1 := ⟨_, _, _, ok_14.1, q562, q2516, q563, ⟨yJ13_isLatin1, rfl, q600⟩, q564, q110, ⟨_, _, _, q565⟩, ⟨by decide +kernel, by decide +kernel⟩⟩
