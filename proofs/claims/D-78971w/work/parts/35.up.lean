/-! CALLS THROUGH AN INTERFACE of methods that a superinterface declares (TreeSet's calls of its NavigableMap) -/
theorem named_found {s : State} {J name desc : String} {r0 : MethodId} (hJ : J ≠ "java/lang/invoke/MethodHandle" ∧ J ≠ "java/lang/invoke/VarHandle") (hn : s.methodNamed? ⟨J, name, desc⟩ = some r0) : s.methodFound? J name desc = some r0 := by
  simp only [State.methodNamed?, Option.bind_eq_bind] at hn
  cases hc : s.vm.findClass J with
  | none => simp [hc] at hn
  | some c =>
    cases hk : s.vm.classes[c]? with
    | none => simp [hc, hk] at hn
    | some k =>
      cases hj : k.findMethod name desc with
      | none => simp [hc, hk, hj] at hn
      | some j =>
        simp [hc, hk, hj] at hn
        subst hn
        obtain ⟨k2, hk2, hnm⟩ := Vm.findClass_spec hc
        cases hk.symm.trans hk2
        refine State.methodFound?_declared hc hk (fun y => by simp [signaturePolymorphic, hnm, hJ.1, hJ.2]) hj ?_
        obtain ⟨hlt, -, -⟩ := Array.findIdx?_eq_some_iff_getElem.mp hj
        simp [hlt]
theorem iface_moved {u U : State} (hvm : u.vm.Alike U.vm) {I J name desc : String} (hIJ : I ≠ J) (hx : I ≠ "java/lang/invoke/MethodHandle" ∧ I ≠ "java/lang/invoke/VarHandle") {A A' : Array Value} (h : (Cond.interfaceMethod I J name desc).before A u = true) : (Cond.interfaceMethod I J name desc).before A' U = true := by
  obtain ⟨cL, kL, r1, hcL, hkL, hiL, hfoundL, hn1⟩ := Cond.interfaceMethod_spec h
  obtain ⟨kL', hkL', hnameL⟩ := Vm.findClass_spec hcL
  cases hkL.symm.trans hkL'
  have hpolyL : ∀ y, signaturePolymorphic kL y = false := fun y => by simp [signaturePolymorphic, hnameL, hx.1, hx.2]
  obtain ⟨ok, hok, hokname⟩ := className_of_methodNamed hn1
  have hnone : kL.findMethod name desc = none := by
    cases hj : kL.findMethod name desc with
    | none => rfl
    | some j =>
      exfalso
      have hsome : (kL.methods[j]?).isSome := by
        obtain ⟨hlt, -, -⟩ := Array.findIdx?_eq_some_iff_getElem.mp hj
        simp [hlt]
      have h2 := State.methodFound?_declared hcL hkL hpolyL hj hsome
      rw [hfoundL] at h2
      have e1 : r1 = ⟨cL, j⟩ := Option.some.inj h2
      have e2 : r1.cls = cL := by rw [e1]
      rw [e2] at hok
      cases hkL.symm.trans hok
      exact hIJ (hnameL.symm.trans hokname)
  have hff := State.faceFind_of_found hcL hkL hiL hpolyL hnone hfoundL
  obtain ⟨k2, hk2, he2⟩ := hvm.2.2 _ _ hkL
  obtain ⟨ok2, hok2, heo2⟩ := hvm.2.2 _ _ hok
  have hcL2 : U.vm.findClass I = some cL := by rw [hvm.findClass]; exact hcL
  have hi2 : k2.isInterface = true := by rw [he2]; exact hiL
  have hp2 : ∀ y, signaturePolymorphic k2 y = false := fun y => by rw [he2]; exact hpolyL y
  have hn2 : k2.findMethod name desc = none := by rw [he2]; exact hnone
  have hff2 : U.vm.faceFind cL name desc = some r1 := by rw [hvm.faceFind]; exact hff
  have hf2 := State.methodFound?_faceFind (s := U) hcL2 hk2 hi2 hp2 hn2 hff2 hok2
  have hnm2 : U.methodNamed? ⟨J, name, desc⟩ = some r1 := by
    have := State.methodNamed?_setVm (s := u) hvm (x := ⟨J, name, desc⟩)
    have hU : (u.setVm U.vm).methodNamed? ⟨J, name, desc⟩ = U.methodNamed? ⟨J, name, desc⟩ := rfl
    rw [← hU, this]; exact hn1
  simp only [Cond.before, Cond.holds, Cond.value, hcL2, hf2, hnm2, hk2]
  simp [hi2]
/-- entry idx of class own names x (I.name); J declares it; the receiver's class C (ci) has y -/
def SiteUF (own : String) (idx : Nat) (x y : MethodName) (J : String) (ci n : Nat) : Prop := ∃ (C : String) (T : u_T) (N : Nat), cls_[ci]? = some (C, T, N) ∧ Cond.methodLink own idx x ∈ flatC (Jvm.Cond.and given_1 narrow_1) ∧ Cond.interfaceMethod x.cls J x.name x.desc ∈ flatC (Jvm.Cond.and given_1 narrow_1) ∧
  Cond.declares ⟨J, x.name, x.desc⟩ ∈ lw_tbl ∧ Cond.publicMethod ⟨J, x.name, x.desc⟩ ∈ lw_tbl ∧ Cond.selects C ⟨J, x.name, x.desc⟩ y ∈ lw_all ∧ Cond.instanceMethod y ∈ lw_all ∧ Cond.initialized y.cls ∈ lw_all ∧ Cond.publicMethod y ∈ lw_tbl ∧ Cond.unhidden C x.name x.desc ∈ lw_tbl ∧ Cond.castable C x.cls ∈ lw_tbl ∧ x.cls ≠ J ∧ (J ≠ "java/lang/invoke/MethodHandle" ∧ J ≠ "java/lang/invoke/VarHandle") ∧ MhOk x n
/-- at a later state -/
def UFat (own C J : String) (idx : Nat) (x y : MethodName) (s : State) (args : Array Value) : Prop := (Cond.methodLink own idx x).before args s = true ∧ (Cond.interfaceMethod x.cls J x.name x.desc).before args s = true ∧ (Cond.declares ⟨J, x.name, x.desc⟩).before args s = true ∧ (Cond.publicMethod ⟨J, x.name, x.desc⟩).before args s = true ∧ (Cond.selects C ⟨J, x.name, x.desc⟩ y).before args s = true ∧ (Cond.instanceMethod y).before args s = true ∧ (Cond.initialized y.cls).before args s = true ∧ (Cond.publicMethod y).before args s = true ∧ (Cond.unhidden C x.name x.desc).before args s = true ∧ (Cond.castable C x.cls).before args s = true
theorem tabs_moved {u U : State} {c : Cond} (hc : c.onTables = true) (h : c.before #[] (u.setVm U.vm) = true) (A : Array Value) : c.before A U = true := by
  have e := Cond.onTables_vm (A := #[]) (A' := A) (U := u) (U' := U) U.vm c hc
  have hU : U.setVm U.vm = U := rfl
  rw [hU] at e
  rw [← e]
  exact h
section
variable {p : Program} {l : Launch} {e : Env} {R : Room} {s : State} {m : MethodId} {args : Array Value} {below : List Frame} {meth : Method} {c : Code} {H : Heap} {locs : List Loc} {cells slots : Nat} {Q : State → Prop}
variable {mc ms : Nat} {free : Addr → Prop}
set_option maxHeartbeats 1000000 in
theorem uf_call {T : State} (X : Stand p l e R s m args below meth c T locs cells slots) (hexec : p.tables.exec = Jvm.exec) {own C J : String} {index count : Nat} {x y : MethodName} {bytes : ByteArray} {maxL : Nat} {ret : Option FieldType}
    (hown : s.vm.findClass own = some m.cls) (hlink : (Cond.methodLink own index x).before args s = true) (hdecl : (Cond.declares ⟨J, x.name, x.desc⟩).before args s = true) (hpubJ : (Cond.publicMethod ⟨J, x.name, x.desc⟩).before args s = true) (hxo : x.cls ≠ J) (hJ : J ≠ "java/lang/invoke/MethodHandle" ∧ J ≠ "java/lang/invoke/VarHandle") (hface : (Cond.interfaceMethod x.cls J x.name x.desc).before args s = true)
    (hsel : (Cond.selects C ⟨J, x.name, x.desc⟩ y).before args s = true) (hinst : (Cond.instanceMethod y).before args s = true) (hpub : (Cond.publicMethod y).before args s = true) (hunh : (Cond.unhidden C x.name x.desc).before args s = true)
    (hcast : (Cond.castable C x.cls).before args s = true) (hcode : (Cond.code y bytes maxL ret).before args s = true) (hx : x.cls ≠ "java/lang/invoke/MethodHandle" ∧ x.cls ≠ "java/lang/invoke/VarHandle")
    {W9 : Nat} {Pre : Pt → Array Value → Prop} {Post : Pt → Array Value → Option Value → Pt → Prop} {PostX : Pt → Array Value → Addr → Pt → Prop} (hK : vx_Back l R p e below s args y 5 W9 Pre Post PostX)
    {b : Addr} {cellB : Cell} {kB : Class} (hcell : T.heap[b]? = some cellB) (hobj : cellB.vm.isStatics = false) (hcls : s.vm.findClass C = some cellB.cls) (hkB : s.vm.classes[cellB.cls]? = some kB)
    {g : JFrame} (hg : g.method = m) (hsize : g.locals.size = c.maxLocals) {argsL rest : List Value} (hlen : ∀ sig, parseMethodDescriptor x.desc = some sig → argsL.length = sig.parameters.length)
    (hstack : g.stack = argsL.reverse ++ .ref b :: rest) (hW : 2 * g.monitorRoom + (rest.map fun v => v.category).sum ≤ W9) (hdg : decode c.code g.pc = .ok (.invokeinterface index count, 5))
    (hpre : ∀ vm₁, s.WarmedH vm₁ → Pre ⟨T.setVm vm₁, locs, cells, slots⟩ (Value.ref b :: argsL).toArray) :
    (∃ (v : Option Value) (vm₁ : Vm) (B : Pt), s.WarmedH vm₁ ∧ Stand p l e R s m args below meth c B.U B.locs B.cells B.slots ∧ Post ⟨T.setVm vm₁, locs, cells, slots⟩ (Value.ref b :: argsL).toArray v B ∧
      ∀ target, Steps p.tables e below (B.U.setTop { g with pc := g.pc + 5, stack := v.toList ++ rest }) target → Steps p.tables e below (T.setTop g) target) ∨
    (∃ (q : Addr) (vm₁ : Vm) (B : Pt), s.WarmedH vm₁ ∧ Stand p l e R s m args below meth c B.U B.locs B.cells B.slots ∧ PostX ⟨T.setVm vm₁, locs, cells, slots⟩ (Value.ref b :: argsL).toArray q B ∧
      Steps p.tables e below (T.setTop g) ((B.U.setTop { g with stack := rest }).pushFrame (.throwing q))) := by
  obtain ⟨r0, r, hn, hrm, hstR, hsigR⟩ := Cond.declares_spec hdecl
  obtain ⟨cL, kL, r1, hcL, hkL, hiL, hfoundL, hn1⟩ := Cond.interfaceMethod_spec hface
  cases hn.symm.trans hn1
  obtain ⟨hnameR, hdescR⟩ := name_of_methodNamed hn hrm
  obtain ⟨mk, methM, hnamed, hmethM, -, habM⟩ := Cond.instanceMethod_spec hinst
  obtain ⟨c2, r2, m2, q1, q2, q3, q4, -⟩ := Cond.selects_spec hsel
  cases hcls.symm.trans q1
  cases (named_found hJ hn).symm.trans q2
  cases hnamed.symm.trans q3
  have hselP : selectMethod e.platform s.vm cellB.cls r0 = .method mk := by rw [Launch.admits_selectMethod X.admits]; exact q4
  have hpubM : hasFlag methM.accessFlags Acc.public_ = true := Cond.publicMethod_spec hnamed hmethM hpub
  have hway : ((cellB.cls :: s.vm.superclasses cellB.cls).any fun k => (declaredIn s.vm r.name r.desc k).any fun (_, z) => z.isPrivate || z.isStatic) = false := by
    rw [hnameR, hdescR]; exact Cond.unhidden_spec hcls hunh
  obtain ⟨c3, t3, w1, w2, w3⟩ := Cond.castable_spec hcast
  cases hcls.symm.trans w1
  cases hcL.symm.trans w2
  obtain ⟨vm₁, X₁, hstep₁⟩ := X.invokeinterfaceUp hexec (J := J) hown hlink hface hdecl hpubJ hxo hx hcL (a := b) (cell := cellB) (kcell := kB) hcell
    (fun z h => by rw [h] at hobj; cases hobj) hkB w3 hn hrm hselP hmethM hway hpubM habM (g := g) hg (argsL := argsL) (rest := rest) (hlen _ hsigR) hstack hdg
  rcases hK m meth c ⟨T.setVm vm₁, locs, cells, slots⟩ { g with stack := rest } (.invokeinterface index count) mk (Value.ref b :: argsL).toArray X₁ hg hsize hdg hW (X₁.named hnamed) (hpre vm₁ X₁.warmed) with ⟨v, B, X', hpost, hsteps⟩ | ⟨q, B, X', hpost, hsteps⟩
  · exact Or.inl ⟨v, vm₁, B, X₁.warmed, X', hpost, fun target h => hstep₁ _ fun acts => by rw [doInvoke_state]; exact hsteps.trans h⟩
  · exact Or.inr ⟨q, vm₁, B, X₁.warmed, X', hpost, hstep₁ _ fun acts => by rw [doInvoke_state]; exact hsteps⟩
set_option maxHeartbeats 1000000 in
theorem uf_run {x y : MethodName} {bytes cc : ByteArray} {maxL nL mc ms n index count : Nat} {ret : Option FieldType} {ws : List Cond} {rm : Room} {Pc : Array Value → State → Prop} {Qc : Array Value → State → Outcome → State → Prop} {XC : String → State → State → Prop} {free : Addr → Prop} {Ts : List Cond} {own C J : String} {cC : ClassId} {b : Addr} {As rest : List Value} {g : JFrame}
    (hat : ClassAt s C cC) (S : CallFix p m c cc nL s args Ts own) (hM : vx_Met l y ws rm Pc Qc XC mc ms free) (cw : UFat own C J index x y s args) (hback : rm.cells = mc ∧ rm.slots = ms ∧ rm.frames + 1 ≤ R.frames ∧ 8 + (maxL + 11) + rm.locals ≤ R.locals ∧ (∀ w ∈ ws, ∀ (a' : Array Value) (U : State), s.WarmedH U.vm → w.before a' U = true) ∧ Cond.code y bytes maxL ret ∈ ws) (hcd : (Cond.code y bytes maxL ret).before args s = true) (hmh : MhOk x n) (hxo : x.cls ≠ J) (hJ : J ≠ "java/lang/invoke/MethodHandle" ∧ J ≠ "java/lang/invoke/VarHandle") (hp : PreV s H C b Pc As)
    (hg : g.method = m) (hn : As.length = n) (hsize : g.locals.size = nL) (hstack : g.stack = As.reverse ++ .ref b :: rest) (hW : 2 * g.monitorRoom + (rest.map fun v => v.category).sum ≤ 8) (hdg : decode cc g.pc = .ok (.invokeinterface index count, 5)) (hf : cells + mc ≤ R.cells ∧ slots + ms ≤ R.slots) :
    vx_Run5 p l e R s m args below meth c H locs cells slots mc ms g rest (Qc (Value.ref b :: As).toArray) XC free := by
  obtain ⟨hrc, hrs, hfr, hlo, hws, hcw⟩ := hback
  obtain ⟨u1, u2, u3, u4, u5, u6, hini, u8, u9, u10⟩ := cw
  have hK : vx_Back l R p e below s args y 5 8 (PreOf R mc ms Pc) (PostOf Qc mc ms free) (vx_Post XC mc ms free) := vx_back (bytes := bytes) (maxL := maxL) (ret := ret) hM hp.1 hrc hrs hfr hlo hws hcw (fun a' U hW => word_at hW (Or.inl (by first | rfl | simp [Cond.onTables, Cond.keeps, Cond.steady])) hini)
  obtain ⟨hx, hb, hml, ho, -⟩ := S
  obtain ⟨-, ⟨cellB, hcB, hoB, hclB⟩, hPc⟩ := hp
  obtain ⟨hfc, kB, hkB, -⟩ := hat
  cases hfc.symm.trans hclB
  intro T hT X
  rcases uf_call X hx (C := C) (J := J) (bytes := bytes) (maxL := maxL) (ret := ret) ho u1 u3 u4 hxo hJ u2 u5 u6 u8 u9 u10 hcd hmh.1 hK (by rw [hT]; exact hcB) hoB hclB hkB hg (hsize.trans hml.symm) (argsL := As) (rest := rest) (fun sig h => hn.trans (hmh.len sig h)) hstack hW (by rw [hb]; exact hdg)
    (fun vm₁ hW₁ => ⟨hf.1, hf.2, hPc (T.setVm vm₁) hT hW₁⟩) with ⟨v, vm₁, ⟨U', l2, c2, s2⟩, hW₁, X', ⟨g', mk, t, L, e1, e2, hq, h1, hL, h2, h3⟩, st⟩ | ⟨q, vm₁, ⟨U', l2, c2, s2⟩, hW₁, X', ⟨g', mk, t, L, E, ce, e1, e2, hq, hce, hcv, hcl, h1, hL, h2, h3⟩, st⟩
  · dsimp only [Pt.U, Pt.locs, Pt.cells, Pt.slots] at X' e1 e2 h1 h2 h3 st
    subst h1; subst h2; subst h3
    exact Or.inl ⟨v, (T.setVm vm₁).calling g' mk (Value.ref b :: As).toArray, t, U', L, hT, X', hL, e1, e2, hq, st⟩
  · dsimp only [Pt.U, Pt.locs, Pt.cells, Pt.slots] at X' e1 e2 h1 h2 h3 st hcl
    subst h1; subst h2; subst h3
    exact Or.inr ⟨q, (T.setVm vm₁).calling g' mk (Value.ref b :: As).toArray, t, U', L, E, ce, hT, X', hL, e1, e2, hq, hce, hcv, vx_cls hW₁ hcl, st⟩
end
theorem SiteUF.at {E : Ev} {own : String} {idx ci n : Nat} {x y : MethodName} {J : String} (S : SiteUF own idx x y J ci n) (B : Base E) {s : State} (hW : E.s.WarmedH s.vm) (args : Array Value) : ∃ (C : String) (T : u_T) (N : Nat), cls_[ci]? = some (C, T, N) ∧ UFat own C J idx x y s args ∧ x.cls ≠ J ∧ (J ≠ "java/lang/invoke/MethodHandle" ∧ J ≠ "java/lang/invoke/VarHandle") ∧ MhOk x n := by
  obtain ⟨C, T, N, hcl, q1, q2, q3, q4, q5, q6, q7, q8, q9, q10, hxo, hJ, hmh⟩ := S
  have hvm := hW.alike
  have hb := B.2.1
  refine ⟨C, T, N, hcl, ⟨word_at hW (good_of_word rfl) (B.nw q1), iface_moved hvm hxo hmh.1 (B.nw q2), ?_, ?_, B.word q5 hW args, B.word q6 hW args, B.word q7 hW args, ?_, ?_, ?_⟩, hxo, hJ, hmh⟩
  · exact tabs_moved (u := E.s) rfl (by rw [Cond.declares_setVm hvm]; exact va_any rfl (hb _ q3)) args
  · exact tabs_moved (u := E.s) rfl (by rw [Cond.publicMethod_setVm hvm]; exact va_any rfl (hb _ q4)) args
  · exact tabs_moved (u := E.s) rfl (by rw [Cond.publicMethod_setVm hvm]; exact va_any rfl (hb _ q8)) args
  · exact tabs_moved (u := E.s) rfl (by rw [Cond.unhidden_setVm hvm]; exact va_any rfl (hb _ q9)) args
  · exact tabs_moved (u := E.s) rfl (by rw [Cond.castable_setVm hvm]; exact va_any rfl (hb _ q10)) args
section UFZ
variable {E : Ev} {mt : Mth} {d k : Nat} {Q : Res → HP → Prop} {h : HP} {ls st : List Value}
theorem z_UF0 {idx cnt ci b : Nat} {x y : MethodName} {J : String} {d' kc k' : Nat} {Qc : Res → HP → Prop} (pc : Nat) (S : SiteUF mt.1.cls idx x y J ci 0) (hd : decode mt.2.1 pc = .ok (.invokeinterface idx cnt, 5)) (hk : h.kd b = ci) (hC : Call E y d' kc [.ref b] h Qc) (hd' : d' + 1 ≤ d) (hkk : kc + k' ≤ k) (hst : (st.map fun v => v.category).sum ≤ 8) (ha : Aft E mt d Q k' Qc (pc + 5) ls st) : Z E mt d Q k h pc ls (.ref b :: st) := by
  intro p e s m args below meth c K H locs cells slots la hc h1 h2 hP hS hl
  obtain ⟨cc, nL, ret, hcode, hnL, hM⟩ := hC
  obtain ⟨C, T, N, hcl, hU, hxo, hJ, hmh⟩ := S.at hc.1 hc.W args
  refine z_after (a := ([.ref b] : List Value).toArray) (n := 5) hc h1 h2 hkk hS hl ha ?_
  obtain ⟨g1, g2⟩ := preOf (as := [.ref b]) hc.1 hc.W hP
  have hK := hc.1.K hc.W
  exact uf_run (As := []) (Ts := []) (hK.1 ci _ hcl).2 ⟨hc.x, hc.c, rfl, hc.own, fun w hw => nomatch hw⟩ hM hU ⟨rfl, rfl, (by show d' + 1 ≤ d; exact hd'), (by show 8 + (nL + 11) + 200 * d' ≤ 200 * d; omega), hc.1.ws hcode hc.W, List.mem_cons_self⟩ (hc.ts args _ hcode) hmh hxo hJ ⟨g1, hP.recv hk hcl hK, g2⟩ rfl rfl (by rw [hc.ml]; exact hl.1) rfl (lv_room hst) hd ⟨by show cells + kc ≤ K; omega, by show slots + 4 * kc ≤ 4 * K; omega⟩
theorem z_UF1 {idx cnt ci b : Nat} {x y : MethodName} {J : String} {w1 : Value} {d' kc k' : Nat} {Qc : Res → HP → Prop} (pc : Nat) (S : SiteUF mt.1.cls idx x y J ci 1) (hd : decode mt.2.1 pc = .ok (.invokeinterface idx cnt, 5)) (hk : h.kd b = ci) (hC : Call E y d' kc [.ref b, w1] h Qc) (hd' : d' + 1 ≤ d) (hkk : kc + k' ≤ k) (hst : (st.map fun v => v.category).sum ≤ 8) (ha : Aft E mt d Q k' Qc (pc + 5) ls st) : Z E mt d Q k h pc ls (w1 :: .ref b :: st) := by
  intro p e s m args below meth c K H locs cells slots la hc h1 h2 hP hS hl
  obtain ⟨cc, nL, ret, hcode, hnL, hM⟩ := hC
  obtain ⟨C, T, N, hcl, hU, hxo, hJ, hmh⟩ := S.at hc.1 hc.W args
  refine z_after (a := ([.ref b, w1] : List Value).toArray) (n := 5) hc h1 h2 hkk hS hl ha ?_
  obtain ⟨g1, g2⟩ := preOf (as := [.ref b, w1]) hc.1 hc.W hP
  have hK := hc.1.K hc.W
  exact uf_run (As := [w1]) (Ts := []) (hK.1 ci _ hcl).2 ⟨hc.x, hc.c, rfl, hc.own, fun w hw => nomatch hw⟩ hM hU ⟨rfl, rfl, (by show d' + 1 ≤ d; exact hd'), (by show 8 + (nL + 11) + 200 * d' ≤ 200 * d; omega), hc.1.ws hcode hc.W, List.mem_cons_self⟩ (hc.ts args _ hcode) hmh hxo hJ ⟨g1, hP.recv hk hcl hK, g2⟩ rfl rfl (by rw [hc.ml]; exact hl.1) rfl (lv_room hst) hd ⟨by show cells + kc ≤ K; omega, by show slots + 4 * kc ≤ 4 * K; omega⟩
theorem z_UF2 {idx cnt ci b : Nat} {x y : MethodName} {J : String} {w1 w2 : Value} {d' kc k' : Nat} {Qc : Res → HP → Prop} (pc : Nat) (S : SiteUF mt.1.cls idx x y J ci 2) (hd : decode mt.2.1 pc = .ok (.invokeinterface idx cnt, 5)) (hk : h.kd b = ci) (hC : Call E y d' kc [.ref b, w1, w2] h Qc) (hd' : d' + 1 ≤ d) (hkk : kc + k' ≤ k) (hst : (st.map fun v => v.category).sum ≤ 8) (ha : Aft E mt d Q k' Qc (pc + 5) ls st) : Z E mt d Q k h pc ls (w2 :: w1 :: .ref b :: st) := by
  intro p e s m args below meth c K H locs cells slots la hc h1 h2 hP hS hl
  obtain ⟨cc, nL, ret, hcode, hnL, hM⟩ := hC
  obtain ⟨C, T, N, hcl, hU, hxo, hJ, hmh⟩ := S.at hc.1 hc.W args
  refine z_after (a := ([.ref b, w1, w2] : List Value).toArray) (n := 5) hc h1 h2 hkk hS hl ha ?_
  obtain ⟨g1, g2⟩ := preOf (as := [.ref b, w1, w2]) hc.1 hc.W hP
  have hK := hc.1.K hc.W
  exact uf_run (As := [w1, w2]) (Ts := []) (hK.1 ci _ hcl).2 ⟨hc.x, hc.c, rfl, hc.own, fun w hw => nomatch hw⟩ hM hU ⟨rfl, rfl, (by show d' + 1 ≤ d; exact hd'), (by show 8 + (nL + 11) + 200 * d' ≤ 200 * d; omega), hc.1.ws hcode hc.W, List.mem_cons_self⟩ (hc.ts args _ hcode) hmh hxo hJ ⟨g1, hP.recv hk hcl hK, g2⟩ rfl rfl (by rw [hc.ml]; exact hl.1) rfl (lv_room hst) hd ⟨by show cells + kc ≤ K; omega, by show slots + 4 * kc ≤ 4 * K; omega⟩
end UFZ
theorem ufJ10_53 : SiteUF RJ10 53 ⟨"java/util/NavigableMap", "size", "()I"⟩ yJ8_size "java/util/Map" 7 0 := ⟨_, _, _, ok_7.1, by decide +kernel, by decide +kernel, q935, q934, q937, q939, q103, q940, q938, q936, by decide, by decide, ⟨by decide +kernel, by decide +kernel⟩⟩
theorem ufJ10_57 : SiteUF RJ10 57 ⟨"java/util/NavigableMap", "isEmpty", "()Z"⟩ yJ7_isEmpty "java/util/Map" 7 0 := ⟨_, _, _, ok_7.1, by decide +kernel, by decide +kernel, q1644, q1643, q1645, q1647, q102, q1648, q1646, q936, by decide, by decide, ⟨by decide +kernel, by decide +kernel⟩⟩
theorem ufJ10_69 : SiteUF RJ10 69 ⟨"java/util/NavigableMap", "put", "(Ljava/lang/Object;Ljava/lang/Object;)Ljava/lang/Object;"⟩ yJ8_put "java/util/Map" 7 2 := ⟨_, _, _, ok_7.1, by decide +kernel, by decide +kernel, q1454, q1453, q1455, q1358, q103, q1457, q1456, q936, by decide, by decide, ⟨by decide +kernel, by decide +kernel⟩⟩
theorem ufJ10_73 : SiteUF RJ10 73 ⟨"java/util/NavigableMap", "remove", "(Ljava/lang/Object;)Ljava/lang/Object;"⟩ yJ8_remove "java/util/Map" 7 1 := ⟨_, _, _, ok_7.1, by decide +kernel, by decide +kernel, q1676, q1675, q1677, q1679, q103, q1680, q1678, q936, by decide, by decide, ⟨by decide +kernel, by decide +kernel⟩⟩
theorem ufJ10_77 : SiteUF RJ10 77 ⟨"java/util/NavigableMap", "clear", "()V"⟩ yJ8_clear "java/util/Map" 7 0 := ⟨_, _, _, ok_7.1, by decide +kernel, by decide +kernel, q1440, q1439, q1441, q969, q103, q1443, q1442, q936, by decide, by decide, ⟨by decide +kernel, by decide +kernel⟩⟩
theorem ufJ10_118 : SiteUF RJ10 118 ⟨"java/util/NavigableMap", "firstKey", "()Ljava/lang/Object;"⟩ yJ8_firstKey "java/util/SortedMap" 7 0 := ⟨_, _, _, ok_7.1, by decide +kernel, by decide +kernel, q1661, q1660, q1662, q1664, q103, q1665, q1663, q936, by decide, by decide, ⟨by decide +kernel, by decide +kernel⟩⟩
