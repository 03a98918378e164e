/-! CALLS, and a contract out of a walk -/
/-- ends: an int, nothing, a long, a double, a reference or null; or a throw -/
def rI (A : Int32 → HP → Prop) : Res → HP → Prop := fun r h => ∃ x : Int32, r = .inl (some (.int x)) ∧ A x h
def rV (A : HP → Prop) : Res → HP → Prop := fun r h => r = .inl none ∧ A h
def rL (A : Int64 → HP → Prop) : Res → HP → Prop := fun r h => ∃ x : Int64, r = .inl (some (.long x)) ∧ A x h
def rD (A : UInt64 → HP → Prop) : Res → HP → Prop := fun r h => ∃ x : UInt64, r = .inl (some (.double x)) ∧ A x h
def rA (A : Option Nat → HP → Prop) : Res → HP → Prop := fun r h => ∃ x : Option Nat, r = .inl (some (va_rf x)) ∧ A x h
def rR (A : Nat → HP → Prop) : Res → HP → Prop := fun r h => ∃ x : Nat, r = .inl (some (.ref x)) ∧ A x h
def orX (A : Res → HP → Prop) (X : String → HP → Prop) : Res → HP → Prop := fun r h => A r h ∨ ∃ n : String, r = .inr n ∧ X n h
/-- what goes on behind a call -/
def Aft (E : Ev) (mt : Mth) (d : Nat) (Q : Res → HP → Prop) (k : Nat) (Qc : Res → HP → Prop) (pc : Nat) (ls rest : List Value) : Prop :=
  (∀ (v : Option Value) (h' : HP), Qc (.inl v) h' → Z E mt d Q k h' pc ls (v.toList ++ rest)) ∧ ∀ (X : String) (h' : HP), Qc (.inr X) h' → mt.2.2.2.2 = [] ∧ Q (.inr X) h'
section AftZ
variable {E : Ev} {mt : Mth} {d k pc : Nat} {Q : Res → HP → Prop} {ls rest : List Value}
theorem aft_I {A : Int32 → HP → Prop} (kk : ∀ (x : Int32) (h' : HP), A x h' → Z E mt d Q k h' pc ls (.int x :: rest)) : Aft E mt d Q k (rI A) pc ls rest :=
  ⟨fun v h' hq => by obtain ⟨x, e, hq⟩ := hq; cases e; exact kk x h' hq, fun X h' hq => by obtain ⟨x, e, -⟩ := hq; cases e⟩
theorem aft_V {A : HP → Prop} (kk : ∀ (h' : HP), A h' → Z E mt d Q k h' pc ls rest) : Aft E mt d Q k (rV A) pc ls rest :=
  ⟨fun v h' hq => by obtain ⟨e, hq⟩ := hq; cases e; exact kk h' hq, fun X h' hq => by obtain ⟨e, -⟩ := hq; cases e⟩
theorem aft_L {A : Int64 → HP → Prop} (kk : ∀ (x : Int64) (h' : HP), A x h' → Z E mt d Q k h' pc ls (.long x :: rest)) : Aft E mt d Q k (rL A) pc ls rest :=
  ⟨fun v h' hq => by obtain ⟨x, e, hq⟩ := hq; cases e; exact kk x h' hq, fun X h' hq => by obtain ⟨x, e, -⟩ := hq; cases e⟩
theorem aft_D {A : UInt64 → HP → Prop} (kk : ∀ (x : UInt64) (h' : HP), A x h' → Z E mt d Q k h' pc ls (.double x :: rest)) : Aft E mt d Q k (rD A) pc ls rest :=
  ⟨fun v h' hq => by obtain ⟨x, e, hq⟩ := hq; cases e; exact kk x h' hq, fun X h' hq => by obtain ⟨x, e, -⟩ := hq; cases e⟩
theorem aft_A {A : Option Nat → HP → Prop} (kk : ∀ (x : Option Nat) (h' : HP), A x h' → Z E mt d Q k h' pc ls (va_rf x :: rest)) : Aft E mt d Q k (rA A) pc ls rest :=
  ⟨fun v h' hq => by obtain ⟨x, e, hq⟩ := hq; cases e; exact kk x h' hq, fun X h' hq => by obtain ⟨x, e, -⟩ := hq; cases e⟩
theorem aft_R {A : Nat → HP → Prop} (kk : ∀ (x : Nat) (h' : HP), A x h' → Z E mt d Q k h' pc ls (.ref x :: rest)) : Aft E mt d Q k (rR A) pc ls rest :=
  ⟨fun v h' hq => by obtain ⟨x, e, hq⟩ := hq; cases e; exact kk x h' hq, fun X h' hq => by obtain ⟨x, e, -⟩ := hq; cases e⟩
theorem aft_X {A : Res → HP → Prop} {X : String → HP → Prop} (ha : Aft E mt d Q k A pc ls rest) (ht : mt.2.2.2.2 = []) (hx : ∀ (n : String) (h' : HP), X n h' → Q (.inr n) h') : Aft E mt d Q k (orX A X) pc ls rest :=
  ⟨fun v h' hq => (by
    rcases hq with hq | ⟨n, e, -⟩
    · exact ha.1 v h' hq
    · cases e), fun Y h' hq => (by
    rcases hq with hq | ⟨n, e, hq⟩
    · exact ha.2 Y h' hq
    · cases e
      exact ⟨ht, hx _ h' hq⟩)⟩
end AftZ
theorem Call.mono {E : Ev} {y : MethodName} {d k : Nat} {as : List Value} {h : HP} {Q Q' : Res → HP → Prop} (C : Call E y d k as h Q) (hq : ∀ r h', Q r h' → Q' r h') : Call E y d k as h Q' := by
  obtain ⟨cc, nL, ret, hcode, hn, hM⟩ := C
  refine ⟨cc, nL, ret, hcode, hn, ?_⟩
  intro p e ha hc hk s m args below hf hap hP hK
  obtain ⟨n, o, q1, q2, q3, q4⟩ := hM p e ha hc hk s m args below hf hap hP hK
  refine ⟨n, o, q1, q2, q3, ?_⟩
  rcases q4 with ⟨⟨v, h', g1, g2, g3, g4⟩, r⟩ | ⟨q, g0, X, ce, L, ⟨h', g2, g3, g4⟩, r⟩
  · exact Or.inl ⟨⟨v, h', g1, hq _ _ g2, g3, g4⟩, r⟩
  · exact Or.inr ⟨q, g0, X, ce, L, ⟨h', hq _ _ g2, g3, g4⟩, r⟩
/-- the locals at the entry -/
theorem lrel.entry {as : List Value} {nL : Nat} {ls : List Value} (hn : (lg_sl as).length ≤ nL) (hl : ls.length = nL) (hs : ∀ (i : Nat) (v : Value), ls[i]? = some v → v ≠ dum → (i, v) ∈ lv_args 0 as) : lrel ((lg_sl as ++ List.replicate (nL - (lg_sl as).length) Slot.unset).toArray) nL ls := by
  obtain ⟨g1, g2, g3⟩ := lv_entry as hn
  exact ⟨g1, g2, hl, fun i v hi hv => g3 (i, v) (hs i v hi hv)⟩
def lfill : List (Nat × Value) → Nat → List Value
  | l, n => (List.range n).map fun i => match l.find? (fun q => q.1 == i) with
    | some q => q.2
    | none => dum
theorem lfill_ok {l : List (Nat × Value)} {n i : Nat} {v : Value} (h : (lfill l n)[i]? = some v) (hv : v ≠ dum) : (i, v) ∈ l := by
  unfold lfill at h
  rw [List.getElem?_map] at h
  by_cases hi : i < n
  · rw [List.getElem?_range hi] at h
    cases hf : l.find? (fun q => q.1 == i) with
    | none => simp only [Option.map_some, hf] at h; exact absurd (Option.some.inj h).symm hv
    | some q =>
      simp only [Option.map_some, hf] at h
      have h1 := List.find?_some hf
      have h2 := List.mem_of_find?_eq_some hf
      have e1 : q.1 = i := by simpa using h1
      have e2 : q.2 = v := Option.some.inj h
      rw [← e1, ← e2]
      exact h2
  · rw [List.getElem?_eq_none (by simpa using hi)] at h
    cases h
theorem lfill_len (l : List (Nat × Value)) (n : Nat) : (lfill l n).length = n := by simp [lfill]
/-- a contract out of a walk from the entry -/
theorem Call.of {E : Ev} {y : MethodName} {cc : ByteArray} {nL : Nat} {ret : Option FieldType} {d k : Nat} {as : List Value} {h : HP} {Q : Res → HP → Prop} (ls : List Value) (hcode : Cond.code y cc nL ret ∈ lw_all) (hn : nL ≤ 100) (hy : plainName y.cls = true)
    (hle : (lg_sl as).length ≤ nL) (hls : lfill (lv_args 0 as) nL = ls) (z : Z E (y, cc, nL, ret, []) d Q k h 0 ls []) : Call E y d k as h Q := by
  refine ⟨cc, nL, ret, hcode, hn, vx_ofW (cc := cc) (maxL := nL) (ret := ret) hy rfl ?_⟩
  intro p e s m args below meth c s₁ B hml hx hv
  obtain ⟨rfl, hB, hW, hP⟩ := hv
  have hown : s.vm.findClass y.cls = some m.cls := findClass_of_methodNamed B.named
  have hnm : meth.name = y.name := (name_of_methodNamed B.named B.method).1
  have htb : c.exceptionTable.toList = tableOf [] := by
    cases ht : c.exceptionTable.toList with
    | nil => rfl
    | cons x l => exact (hx x (by rw [ht]; exact List.mem_cons_self)).elim
  have hle2 : E.z ≤ s.heap.size := by rw [hP.1]; exact hP.2.1
  rw [lg_entry_eq]
  refine z p e s m _ below meth c k s.heap [] 0 0 _ ⟨hB, B.exec, B.bytes, hml, B.returns, B.notSynchronized, hown, hnm, htb, hW, hle2, hP.2.2.1⟩ (by omega) (by omega) hP va_S.rf ?_
  refine lrel.entry hle (by rw [← hls]; exact lfill_len _ _) (fun i v hi hv => ?_)
  rw [← hls] at hi
  exact lfill_ok hi hv
/-! call sites: entry idx of class own calls y with n arguments -/
def MhOk (y : MethodName) (n : Nat) : Prop := (y.cls ≠ "java/lang/invoke/MethodHandle" ∧ y.cls ≠ "java/lang/invoke/VarHandle") ∧ (parseMethodDescriptor y.desc).map (fun d => d.parameters.length) = some n
def SiteV (own : String) (idx : Nat) (y : MethodName) (ci n : Nat) : Prop := Cond.methodLink own idx y ∈ lw_all ∧ Cond.instanceMethod y ∈ lw_all ∧ Cond.selects y.cls y y ∈ lw_all ∧ Cond.initialized y.cls ∈ lw_all ∧ (∃ (T : u_T) (N : Nat), cls_[ci]? = some (y.cls, T, N)) ∧ MhOk y n
def SiteS (own : String) (idx : Nat) (y : MethodName) (n : Nat) : Prop := Cond.methodLink own idx y ∈ lw_all ∧ Cond.static y ∈ lw_all ∧ Cond.initialized y.cls ∈ lw_all ∧ MhOk y n
def SiteI (own : String) (idx : Nat) (y : MethodName) (n : Nat) : Prop := Cond.methodLink own idx y ∈ lw_all ∧ Cond.instanceMethod y ∈ lw_all ∧ Cond.initialized y.cls ∈ lw_all ∧ y.name = "<init>" ∧ (∃ (c0 : ByteArray) (n0 : Nat), Cond.code y c0 n0 none ∈ lw_all) ∧ MhOk y n
def SiteSN (own : String) (idx : Nat) (y : MethodName) (n : Nat) : Prop := (∃ host : String, Cond.methodLinkNest own idx y host ∈ lw_tbl) ∧ Cond.static y ∈ lw_all ∧ Cond.initialized y.cls ∈ lw_all ∧ MhOk y n
def SiteIN (own : String) (idx : Nat) (y : MethodName) (n : Nat) : Prop := (∃ host : String, Cond.methodLinkNest own idx y host ∈ lw_tbl) ∧ Cond.instanceMethod y ∈ lw_all ∧ Cond.initialized y.cls ∈ lw_all ∧ y.name = "<init>" ∧ (∃ (c0 : ByteArray) (n0 : Nat), Cond.code y c0 n0 none ∈ lw_all) ∧ MhOk y n
/-- through an interface: x is named, the receiver's class C (ci) has y -/
def SiteF (own : String) (idx : Nat) (x y : MethodName) (ci n : Nat) : Prop := ∃ (C : String) (T : u_T) (N : Nat), cls_[ci]? = some (C, T, N) ∧ Cond.methodLink own idx x ∈ lw_all ∧ Cond.selects C x y ∈ lw_all ∧ Cond.instanceMethod y ∈ lw_all ∧ Cond.initialized y.cls ∈ lw_all ∧
  Cond.declares x ∈ lw_tbl ∧ Cond.interfaceMethod x.cls x.cls x.name x.desc ∈ lw_tbl ∧ Cond.publicMethod y ∈ lw_tbl ∧ Cond.unhidden C x.name x.desc ∈ lw_tbl ∧ Cond.castable C x.cls ∈ lw_tbl ∧ MhOk x n
/-- x is named through a class that inherits it from 'owner'; the receiver's class C (ci) has y -/
def SiteU (own : String) (idx : Nat) (x y : MethodName) (owner : String) (ci n : Nat) : Prop := ∃ (C : String) (T : u_T) (N : Nat), cls_[ci]? = some (C, T, N) ∧ Cond.methodLink own idx x ∈ lw_all ∧ Cond.sameMethod x.cls owner x.name x.desc ∈ lw_all ∧ Cond.selects C x y ∈ lw_all ∧ Cond.instanceMethod y ∈ lw_all ∧ Cond.initialized y.cls ∈ lw_all ∧
  (Cond.declares ⟨owner, x.name, x.desc⟩ ∈ lw_tbl ∨ (Cond.instanceMethod ⟨owner, x.name, x.desc⟩ ∈ lw_all ∧ ∃ (b0 : ByteArray) (m0 : Nat) (r0 : Option FieldType), Cond.code ⟨owner, x.name, x.desc⟩ b0 m0 r0 ∈ lw_all)) ∧ (owner ≠ "java/lang/invoke/MethodHandle" ∧ owner ≠ "java/lang/invoke/VarHandle") ∧ MhOk x n
/-- super.y -/
def SiteSU (own : String) (idx : Nat) (y : MethodName) (ci n : Nat) : Prop := (∃ (C : String) (T : u_T) (N : Nat), cls_[ci]? = some (C, T, N)) ∧ Cond.methodLink own idx y ∈ lw_all ∧ Cond.sameMethod y.cls y.cls y.name y.desc ∈ lw_all ∧ Cond.superclass own y.cls ∈ lw_all ∧ Cond.instanceMethod y ∈ lw_all ∧ Cond.initialized y.cls ∈ lw_all ∧ y.name ≠ "<init>" ∧ MhOk y n
theorem MhOk.len {y : MethodName} {n : Nat} (h : MhOk y n) : ∀ sig, parseMethodDescriptor y.desc = some sig → n = sig.parameters.length := by
  intro sig hs
  have h2 := h.2
  rw [hs] at h2
  exact (Option.some.inj h2).symm
theorem initRet {E : Ev} {mt : Mth} {p : Program} {s : State} {m : MethodId} {meth : Method} {c : Code} (hc : Zc E mt p s m meth c) {y : MethodName} {cc c0 : ByteArray} {nL n0 : Nat} {ret : Option FieldType} (w1 : Cond.code y cc nL ret ∈ lw_all) (w2 : Cond.code y c0 n0 none ∈ lw_all) (args : Array Value) : ret = none := by
  obtain ⟨mk, hn⟩ := Cond.code_named (hc.ts args _ w1)
  obtain ⟨m1, c1, a1, a2, a3, a4, a5, -⟩ := Cond.code_spec hn (hc.ts args _ w1)
  obtain ⟨m2, c2, b1, b2, b3, b4, b5, -⟩ := Cond.code_spec hn (hc.ts args _ w2)
  cases a1.symm.trans b1
  first
    | exact a5.symm.trans b5
    | exact a4.symm.trans b4
    | exact a3.symm.trans b3
section CallZ
variable {E : Ev} {mt : Mth} {d k : Nat} {Q : Res → HP → Prop} {h : HP} {ls st : List Value}
theorem preOf {as : List Value} (B : Base E) {s : State} (hW : E.s.WarmedH s.vm) {H : Heap} (hP : Pic E h H) : FrameBlind (va_Pc as (fun U => Base E ∧ E.s.WarmedH U.vm ∧ Pic E h U.heap)) ∧ ∀ U : State, U.heap = H → s.WarmedH U.vm → va_Pc as (fun U => Base E ∧ E.s.WarmedH U.vm ∧ Pic E h U.heap) as.toArray U :=
  ⟨fun a U g mk q => ⟨q.1, q.2.1, q.2.2.1, q.2.2.2⟩, fun U hU hW' => ⟨rfl, B, State.WarmedH.trans hW hW', by rw [hU]; exact hP⟩⟩
/-- behind the call -/
theorem z_after {p : Program} {e : Env} {s : State} {m : MethodId} {args : Array Value} {below : List Frame} {meth : Method} {c : Code} {K : Nat} {H : Heap} {locs : List Loc} {cells slots : Nat} {la : Array Slot} {a : Array Value} {Qc : Res → HP → Prop} {kc k' pc n : Nat} {st0 rest : List Value}
    (hc : Zc E mt p s m meth c) (h1 : cells + k ≤ K) (h2 : slots + 4 * k ≤ 4 * K) (hk : kc + k' ≤ k) (hS : va_S (fun q => E.z ≤ q) s.heap H locs) (hl : lrel la mt.2.2.1 ls) (ha : Aft E mt d Q k' Qc (pc + n) ls rest)
    (hr : ∀ T : State, T.heap = H → Stand p E.l e (rmOf d K) s m args below meth c T locs cells slots →
    (∃ (v : Option Value) (st₀ t T' : State) (L : List Loc), st₀.heap = H ∧ Stand p E.l e (rmOf d K) s m args below meth c T' (locs ++ L) (cells + kc) (slots + 4 * kc) ∧ (∀ q ∈ L, E.z ≤ q.base) ∧ T'.heap = t.heap ∧ T'.vm = t.vm ∧ QcE E Qc a st₀ (.returned v) t ∧
      Goes p e below T (F0 m pc la st0) T' (F0 m (pc + n) la (v.toList ++ rest))) ∨
    (∃ (q : Addr) (st₀ t T' : State) (L : List Loc) (X : String) (ce : Cell), st₀.heap = H ∧ Stand p E.l e (rmOf d K) s m args below meth c T' (locs ++ L) (cells + kc) (slots + 4 * kc) ∧ (∀ z ∈ L, E.z ≤ z.base) ∧ T'.heap = t.heap ∧ T'.vm = t.vm ∧ XcE E Qc X st₀ t ∧ t.heap[q]? = some ce ∧ ce.vm = .none ∧ s.vm.findClass X = some ce.cls ∧
      Steps p.tables e below (T.setTop (F0 m pc la st0)) ((T'.setTop (F0 m pc la rest)).pushFrame (.throwing q)))) :
    W p E.l e (rmOf d K) s m args below meth c H locs cells slots (vx_MQ below (QcE E Q) (XcE E Q) args s K (4 * K) (fun q => E.z ≤ q)) (F0 m pc la st0) := by
  intro T hT X
  rcases hr T hT X with ⟨v, st₀, t, T', L, h0, X', hL, e1, e2, ⟨v', hp', ev, hq, hP', hF⟩, go⟩ | ⟨q, st₀, t, T', L, X9, ce, h0, X', hL, e1, e2, ⟨hp', hq, hP', hF⟩, hce, hcv, hcl, go⟩
  · cases ev
    obtain ⟨k1, k2, k3⟩ := vx_keep (A1 := fun q => E.z ≤ q) (free := fun q => E.z ≤ q) h0 e1 hS (fun q _ hq => hq) (fun q hq => hq) hL hF
    have hz := ha.1 v hp' hq p e s m args below meth c K T'.heap (locs ++ L) (cells + kc) (slots + 4 * kc) la hc (by omega) (by omega) (by rw [e1]; exact hP') k3 hl
    obtain ⟨t2, a1, b1⟩ := hz T' rfl X'
    exact ⟨t2, go t2 a1, b1⟩
  · obtain ⟨k1, k2, k3⟩ := vx_keep (A1 := fun q => E.z ≤ q) (free := fun q => E.z ≤ q) h0 e1 hS (fun q _ hq => hq) (fun q hq => hq) hL hF
    obtain ⟨htb, hQ⟩ := ha.2 X9 hp' hq
    have hout : ∀ x ∈ c.exceptionTable.toList, covers x pc = false := by
      intro x hx
      rw [hc.tb, htb] at hx
      cases hx
    have hz : vx_W p E.l e (rmOf d K) s m args below meth c T'.heap (locs ++ L) (cells + kc) (slots + 4 * kc) (vx_MQ below (QcE E Q) (XcE E Q) args s K (4 * K) (fun q => E.z ≤ q)) (F0 m pc la rest) q :=
      vx_out hout hc.lk (by rw [e1]; exact hce) hcv hcl (fun t9 ht9 _ => ⟨hp', hQ, by rw [ht9, e1]; exact hP', ⟨by rw [ht9]; exact k3.1, fun q9 g1 g2 => by rw [ht9]; exact k3.2.1 q9 g1 g2⟩⟩) k3.2.2 (by omega) (by omega)
    obtain ⟨t2, a1, b1⟩ := hz T' rfl X'
    exact ⟨t2, go.trans a1, b1⟩
theorem z_V0 {idx ci b : Nat} {y : MethodName} {d' kc k' : Nat} {Qc : Res → HP → Prop} (pc : Nat) (S : SiteV mt.1.cls idx y ci 0) (hd : decode mt.2.1 pc = .ok (.invokevirtual idx, 3)) (hk : h.kd b = ci) (hC : Call E y d' kc [.ref b] h Qc) (hd' : d' + 1 ≤ d) (hkk : kc + k' ≤ k) (hst : (st.map fun v => v.category).sum ≤ 8) (ha : Aft E mt d Q k' Qc (pc + 3) ls st) : Z E mt d Q k h pc ls (.ref b :: st) := by
  intro p e s m args below meth c K H locs cells slots la hc h1 h2 hP hS hl
  obtain ⟨cc, nL, ret, hcode, hnL, hM⟩ := hC
  obtain ⟨q1, q2, q3, q4, ⟨T, N, hcl⟩, hmh⟩ := S
  refine z_after (a := ([.ref b] : List Value).toArray) (n := 3) hc h1 h2 hkk hS hl ha ?_
  obtain ⟨g1, g2⟩ := preOf (as := [.ref b]) hc.1 hc.W hP
  exact vx_runV (As := []) (Ts := []) ⟨hc.x, hc.c, rfl, hc.own, fun w hw => nomatch hw⟩ hM ⟨⟨rfl, rfl, (by show d' + 1 ≤ d; exact hd'), (by show 8 + (nL + 11) + 200 * d' ≤ 200 * d; omega), hc.1.ws hcode hc.W, List.mem_cons_self, hc.ts args _ hcode, hc.ts args _ q4, hmh.1, hmh.len, hc.ts args _ q1⟩, hc.ts args _ q2, hc.ts args _ q3⟩ ⟨g1, hP.recv hk hcl (hc.1.K hc.W), g2⟩ rfl rfl (by rw [hc.ml]; exact hl.1) rfl (lv_room hst) hd ⟨by show cells + kc ≤ K; omega, by show slots + 4 * kc ≤ 4 * K; omega⟩
theorem z_S0 {idx : Nat} {y : MethodName} {d' kc k' : Nat} {Qc : Res → HP → Prop} (pc : Nat) (S : SiteS mt.1.cls idx y 0) (hd : decode mt.2.1 pc = .ok (.invokestatic idx, 3)) (hC : Call E y d' kc [] h Qc) (hd' : d' + 1 ≤ d) (hkk : kc + k' ≤ k) (hst : (st.map fun v => v.category).sum ≤ 8) (ha : Aft E mt d Q k' Qc (pc + 3) ls st) : Z E mt d Q k h pc ls (st) := by
  intro p e s m args below meth c K H locs cells slots la hc h1 h2 hP hS hl
  obtain ⟨cc, nL, ret, hcode, hnL, hM⟩ := hC
  obtain ⟨q1, q2, q4, hmh⟩ := S
  refine z_after (a := ([] : List Value).toArray) (n := 3) hc h1 h2 hkk hS hl ha ?_
  obtain ⟨g1, g2⟩ := preOf (as := []) hc.1 hc.W hP
  exact vx_runS (As := []) (Ts := []) ⟨hc.x, hc.c, rfl, hc.own, fun w hw => nomatch hw⟩ hM ⟨⟨rfl, rfl, (by show d' + 1 ≤ d; exact hd'), (by show 8 + (nL + 11) + 200 * d' ≤ 200 * d; omega), hc.1.ws hcode hc.W, List.mem_cons_self, hc.ts args _ hcode, hc.ts args _ q4, hmh.1, hmh.len, hc.ts args _ q1⟩, hc.ts args _ q2⟩ ⟨g1, g2⟩ rfl rfl (by rw [hc.ml]; exact hl.1) rfl (lv_room hst) hd ⟨by show cells + kc ≤ K; omega, by show slots + 4 * kc ≤ 4 * K; omega⟩
theorem z_SN0 {idx : Nat} {y : MethodName} {d' kc k' : Nat} {Qc : Res → HP → Prop} (pc : Nat) (S : SiteSN mt.1.cls idx y 0) (hd : decode mt.2.1 pc = .ok (.invokestatic idx, 3)) (hC : Call E y d' kc [] h Qc) (hd' : d' + 1 ≤ d) (hkk : kc + k' ≤ k) (hst : (st.map fun v => v.category).sum ≤ 8) (ha : Aft E mt d Q k' Qc (pc + 3) ls st) : Z E mt d Q k h pc ls (st) := by
  intro p e s m args below meth c K H locs cells slots la hc h1 h2 hP hS hl
  obtain ⟨cc, nL, ret, hcode, hnL, hM⟩ := hC
  obtain ⟨⟨host, q1⟩, q2, q4, hmh⟩ := S
  refine z_after (a := ([] : List Value).toArray) (n := 3) hc h1 h2 hkk hS hl ha ?_
  obtain ⟨g1, g2⟩ := preOf (as := []) hc.1 hc.W hP
  exact vx_runSN (As := []) (Ts := []) ⟨hc.x, hc.c, rfl, hc.own, fun w hw => nomatch hw⟩ hM ⟨⟨⟨rfl, rfl, (by show d' + 1 ≤ d; exact hd'), (by show 8 + (nL + 11) + 200 * d' ≤ 200 * d; omega), hc.1.ws hcode hc.W, List.mem_cons_self⟩, hc.ts args _ hcode, hc.ts args _ q4, hmh.1, hmh.len, hc.1.nestM q1 hc.W args⟩, hc.ts args _ q2, trivial⟩ ⟨g1, g2⟩ rfl rfl (by rw [hc.ml]; exact hl.1) rfl (lv_room hst) hd ⟨by show cells + kc ≤ K; omega, by show slots + 4 * kc ≤ 4 * K; omega⟩
theorem z_I0 {idx b : Nat} {y : MethodName} {d' kc k' : Nat} {Qc : Res → HP → Prop} (pc : Nat) (S : SiteI mt.1.cls idx y 0) (hd : decode mt.2.1 pc = .ok (.invokespecial idx, 3)) (hC : Call E y d' kc [.ref b] h Qc) (hd' : d' + 1 ≤ d) (hkk : kc + k' ≤ k) (hst : (st.map fun v => v.category).sum ≤ 8) (ha : Aft E mt d Q k' Qc (pc + 3) ls st) : Z E mt d Q k h pc ls (.ref b :: st) := by
  intro p e s m args below meth c K H locs cells slots la hc h1 h2 hP hS hl
  obtain ⟨cc, nL, ret, hcode, hnL, hM⟩ := hC
  obtain ⟨q1, q2, q4, hnm, ⟨c0, n0, qc⟩, hmh⟩ := S
  obtain rfl : ret = none := initRet hc hcode qc args
  refine z_after (a := ([.ref b] : List Value).toArray) (n := 3) hc h1 h2 hkk hS hl ha ?_
  obtain ⟨g1, g2⟩ := preOf (as := [.ref b]) hc.1 hc.W hP
  exact vx_runI (As := []) (Ts := []) ⟨hc.x, hc.c, rfl, hc.own, fun w hw => nomatch hw⟩ hM ⟨⟨rfl, rfl, (by show d' + 1 ≤ d; exact hd'), (by show 8 + (nL + 11) + 200 * d' ≤ 200 * d; omega), hc.1.ws hcode hc.W, List.mem_cons_self, hc.ts args _ hcode, hc.ts args _ q4, hmh.1, hmh.len, hc.ts args _ q1⟩, hnm, hc.ts args _ q2⟩ ⟨g1, g2⟩ rfl rfl (by rw [hc.ml]; exact hl.1) rfl (lv_room hst) hd ⟨by show cells + kc ≤ K; omega, by show slots + 4 * kc ≤ 4 * K; omega⟩
theorem z_IN0 {idx b : Nat} {y : MethodName} {d' kc k' : Nat} {Qc : Res → HP → Prop} (pc : Nat) (S : SiteIN mt.1.cls idx y 0) (hd : decode mt.2.1 pc = .ok (.invokespecial idx, 3)) (hC : Call E y d' kc [.ref b] h Qc) (hd' : d' + 1 ≤ d) (hkk : kc + k' ≤ k) (hst : (st.map fun v => v.category).sum ≤ 8) (ha : Aft E mt d Q k' Qc (pc + 3) ls st) : Z E mt d Q k h pc ls (.ref b :: st) := by
  intro p e s m args below meth c K H locs cells slots la hc h1 h2 hP hS hl
  obtain ⟨cc, nL, ret, hcode, hnL, hM⟩ := hC
  obtain ⟨⟨host, q1⟩, q2, q4, hnm, ⟨c0, n0, qc⟩, hmh⟩ := S
  obtain rfl : ret = none := initRet hc hcode qc args
  refine z_after (a := ([.ref b] : List Value).toArray) (n := 3) hc h1 h2 hkk hS hl ha ?_
  obtain ⟨g1, g2⟩ := preOf (as := [.ref b]) hc.1 hc.W hP
  exact vx_runIN (As := []) (Ts := []) ⟨hc.x, hc.c, rfl, hc.own, fun w hw => nomatch hw⟩ hM ⟨⟨⟨rfl, rfl, (by show d' + 1 ≤ d; exact hd'), (by show 8 + (nL + 11) + 200 * d' ≤ 200 * d; omega), hc.1.ws hcode hc.W, List.mem_cons_self⟩, hc.ts args _ hcode, hc.ts args _ q4, hmh.1, hmh.len, hc.1.nestM q1 hc.W args⟩, hnm, hc.ts args _ q2⟩ ⟨g1, g2⟩ rfl rfl (by rw [hc.ml]; exact hl.1) rfl (lv_room hst) hd ⟨by show cells + kc ≤ K; omega, by show slots + 4 * kc ≤ 4 * K; omega⟩
theorem z_F0 {idx cnt ci b : Nat} {x y : MethodName} {d' kc k' : Nat} {Qc : Res → HP → Prop} (pc : Nat) (S : SiteF mt.1.cls idx x y ci 0) (hd : decode mt.2.1 pc = .ok (.invokeinterface idx cnt, 5)) (hk : h.kd b = ci) (hC : Call E y d' kc [.ref b] h Qc) (hd' : d' + 1 ≤ d) (hkk : kc + k' ≤ k) (hst : (st.map fun v => v.category).sum ≤ 8) (ha : Aft E mt d Q k' Qc (pc + 5) ls st) : Z E mt d Q k h pc ls (.ref b :: st) := by
  intro p e s m args below meth c K H locs cells slots la hc h1 h2 hP hS hl
  obtain ⟨cc, nL, ret, hcode, hnL, hM⟩ := hC
  obtain ⟨C, T, N, hcl, q1, q3, q2, q4, f1, f2, f3, f4, f5, hmh⟩ := S
  refine z_after (a := ([.ref b] : List Value).toArray) (n := 5) hc h1 h2 hkk hS hl ha ?_
  obtain ⟨g1, g2⟩ := preOf (as := [.ref b]) hc.1 hc.W hP
  have hK := hc.1.K hc.W
  have hb := hc.1.2.1
  obtain ⟨i1, i2, i3, i4, i5⟩ := va_Fw.moved hmh.1 hc.W.alike (va_Fw.of (hb _ f1) (hb _ f2) (hb _ f3) (hb _ f4) (hb _ f5))
  exact vx_runF (As := []) (Ts := []) (hK.1 ci _ hcl).2 ⟨hc.x, hc.c, rfl, hc.own, fun w hw => nomatch hw⟩ hM ⟨⟨rfl, rfl, (by show d' + 1 ≤ d; exact hd'), (by show 8 + (nL + 11) + 200 * d' ≤ 200 * d; omega), hc.1.ws hcode hc.W, List.mem_cons_self⟩, hc.ts args _ q1, va_any rfl i1, va_any rfl i2, hc.ts args _ q3, hc.ts args _ q2, va_any rfl i3, va_any rfl i4, va_any rfl i5, hc.ts args _ q4, hc.ts args _ hcode, hmh.1, hmh.len⟩ ⟨g1, hP.recv hk hcl hK, g2⟩ rfl rfl (by rw [hc.ml]; exact hl.1) rfl (lv_room hst) hd ⟨by show cells + kc ≤ K; omega, by show slots + 4 * kc ≤ 4 * K; omega⟩
theorem z_U0 {idx ci b : Nat} {x y : MethodName} {owner : String} {d' kc k' : Nat} {Qc : Res → HP → Prop} (pc : Nat) (S : SiteU mt.1.cls idx x y owner ci 0) (hd : decode mt.2.1 pc = .ok (.invokevirtual idx, 3)) (hk : h.kd b = ci) (hC : Call E y d' kc [.ref b] h Qc) (hd' : d' + 1 ≤ d) (hkk : kc + k' ≤ k) (hst : (st.map fun v => v.category).sum ≤ 8) (ha : Aft E mt d Q k' Qc (pc + 3) ls st) : Z E mt d Q k h pc ls (.ref b :: st) := by
  intro p e s m args below meth c K H locs cells slots la hc h1 h2 hP hS hl
  obtain ⟨cc, nL, ret, hcode, hnL, hM⟩ := hC
  obtain ⟨C, T, N, hcl, q1, q5, q3, q2, q4, hdecl, how, hmh⟩ := S
  refine z_after (a := ([.ref b] : List Value).toArray) (n := 3) hc h1 h2 hkk hS hl ha ?_
  obtain ⟨g1, g2⟩ := preOf (as := [.ref b]) hc.1 hc.W hP
  have hD : va_Decl s ⟨owner, x.name, x.desc⟩ := by
    rcases hdecl with hw | ⟨w1, b0, m0, r0, w2⟩
    · exact va_Decl.abs (va_Nw.warmD hc.W (va_Nw.of rfl (hc.1.2.1 _ hw)))
    · exact va_Decl.of (hc.ts args _ w1) (hc.ts args _ w2)
  exact vx_runU (As := []) (Ts := []) ⟨hc.x, hc.c, rfl, hc.own, fun w hw => nomatch hw⟩ hM ⟨⟨rfl, rfl, (by show d' + 1 ≤ d; exact hd'), (by show 8 + (nL + 11) + 200 * d' ≤ 200 * d; omega), hc.1.ws hcode hc.W, List.mem_cons_self⟩, hc.ts args _ hcode, hc.ts args _ q4, how, hmh.len, hc.ts args _ q1, hc.ts args _ q5, hD, hc.ts args _ q3, hc.ts args _ q2⟩ ⟨g1, hP.recv hk hcl (hc.1.K hc.W), g2⟩ rfl rfl (by rw [hc.ml]; exact hl.1) rfl (lv_room hst) hd ⟨by show cells + kc ≤ K; omega, by show slots + 4 * kc ≤ 4 * K; omega⟩
theorem z_SU0 {idx ci b : Nat} {y : MethodName} {d' kc k' : Nat} {Qc : Res → HP → Prop} (pc : Nat) (S : SiteSU mt.1.cls idx y ci 0) (hd : decode mt.2.1 pc = .ok (.invokespecial idx, 3)) (hk : h.kd b = ci) (hC : Call E y d' kc [.ref b] h Qc) (hd' : d' + 1 ≤ d) (hkk : kc + k' ≤ k) (hst : (st.map fun v => v.category).sum ≤ 8) (ha : Aft E mt d Q k' Qc (pc + 3) ls st) : Z E mt d Q k h pc ls (.ref b :: st) := by
  intro p e s m args below meth c K H locs cells slots la hc h1 h2 hP hS hl
  obtain ⟨cc, nL, ret, hcode, hnL, hM⟩ := hC
  obtain ⟨⟨C, T, N, hcl⟩, q1, q5, q6, q2, q4, hnm, hmh⟩ := S
  refine z_after (a := ([.ref b] : List Value).toArray) (n := 3) hc h1 h2 hkk hS hl ha ?_
  obtain ⟨g1, g2⟩ := preOf (as := [.ref b]) hc.1 hc.W hP
  have hK := hc.1.K hc.W
  exact vx_runSU (As := []) (Ts := []) (hK.1 ci _ hcl).2 ⟨hc.x, hc.c, rfl, hc.own, fun w hw => nomatch hw⟩ hM ⟨⟨rfl, rfl, (by show d' + 1 ≤ d; exact hd'), (by show 8 + (nL + 11) + 200 * d' ≤ 200 * d; omega), hc.1.ws hcode hc.W, List.mem_cons_self⟩, hc.ts args _ q1, hc.ts args _ q5, hc.ts args _ q6, hc.ts args _ q2, hc.ts args _ q4, hc.ts args _ hcode, hnm, hmh.len⟩ ⟨g1, hP.recv hk hcl hK, g2⟩ rfl rfl (by rw [hc.ml]; exact hl.1) rfl (lv_room hst) hd ⟨by show cells + kc ≤ K; omega, by show slots + 4 * kc ≤ 4 * K; omega⟩
theorem z_V1 {idx ci b : Nat} {y : MethodName} {w1 : Value} {d' kc k' : Nat} {Qc : Res → HP → Prop} (pc : Nat) (S : SiteV mt.1.cls idx y ci 1) (hd : decode mt.2.1 pc = .ok (.invokevirtual idx, 3)) (hk : h.kd b = ci) (hC : Call E y d' kc [.ref b, w1] h Qc) (hd' : d' + 1 ≤ d) (hkk : kc + k' ≤ k) (hst : (st.map fun v => v.category).sum ≤ 8) (ha : Aft E mt d Q k' Qc (pc + 3) ls st) : Z E mt d Q k h pc ls (w1 :: .ref b :: st) := by
  intro p e s m args below meth c K H locs cells slots la hc h1 h2 hP hS hl
  obtain ⟨cc, nL, ret, hcode, hnL, hM⟩ := hC
  obtain ⟨q1, q2, q3, q4, ⟨T, N, hcl⟩, hmh⟩ := S
  refine z_after (a := ([.ref b, w1] : List Value).toArray) (n := 3) hc h1 h2 hkk hS hl ha ?_
  obtain ⟨g1, g2⟩ := preOf (as := [.ref b, w1]) hc.1 hc.W hP
  exact vx_runV (As := [w1]) (Ts := []) ⟨hc.x, hc.c, rfl, hc.own, fun w hw => nomatch hw⟩ hM ⟨⟨rfl, rfl, (by show d' + 1 ≤ d; exact hd'), (by show 8 + (nL + 11) + 200 * d' ≤ 200 * d; omega), hc.1.ws hcode hc.W, List.mem_cons_self, hc.ts args _ hcode, hc.ts args _ q4, hmh.1, hmh.len, hc.ts args _ q1⟩, hc.ts args _ q2, hc.ts args _ q3⟩ ⟨g1, hP.recv hk hcl (hc.1.K hc.W), g2⟩ rfl rfl (by rw [hc.ml]; exact hl.1) rfl (lv_room hst) hd ⟨by show cells + kc ≤ K; omega, by show slots + 4 * kc ≤ 4 * K; omega⟩
theorem z_S1 {idx : Nat} {y : MethodName} {w1 : Value} {d' kc k' : Nat} {Qc : Res → HP → Prop} (pc : Nat) (S : SiteS mt.1.cls idx y 1) (hd : decode mt.2.1 pc = .ok (.invokestatic idx, 3)) (hC : Call E y d' kc [w1] h Qc) (hd' : d' + 1 ≤ d) (hkk : kc + k' ≤ k) (hst : (st.map fun v => v.category).sum ≤ 8) (ha : Aft E mt d Q k' Qc (pc + 3) ls st) : Z E mt d Q k h pc ls (w1 :: st) := by
  intro p e s m args below meth c K H locs cells slots la hc h1 h2 hP hS hl
  obtain ⟨cc, nL, ret, hcode, hnL, hM⟩ := hC
  obtain ⟨q1, q2, q4, hmh⟩ := S
  refine z_after (a := ([w1] : List Value).toArray) (n := 3) hc h1 h2 hkk hS hl ha ?_
  obtain ⟨g1, g2⟩ := preOf (as := [w1]) hc.1 hc.W hP
  exact vx_runS (As := [w1]) (Ts := []) ⟨hc.x, hc.c, rfl, hc.own, fun w hw => nomatch hw⟩ hM ⟨⟨rfl, rfl, (by show d' + 1 ≤ d; exact hd'), (by show 8 + (nL + 11) + 200 * d' ≤ 200 * d; omega), hc.1.ws hcode hc.W, List.mem_cons_self, hc.ts args _ hcode, hc.ts args _ q4, hmh.1, hmh.len, hc.ts args _ q1⟩, hc.ts args _ q2⟩ ⟨g1, g2⟩ rfl rfl (by rw [hc.ml]; exact hl.1) rfl (lv_room hst) hd ⟨by show cells + kc ≤ K; omega, by show slots + 4 * kc ≤ 4 * K; omega⟩
theorem z_SN1 {idx : Nat} {y : MethodName} {w1 : Value} {d' kc k' : Nat} {Qc : Res → HP → Prop} (pc : Nat) (S : SiteSN mt.1.cls idx y 1) (hd : decode mt.2.1 pc = .ok (.invokestatic idx, 3)) (hC : Call E y d' kc [w1] h Qc) (hd' : d' + 1 ≤ d) (hkk : kc + k' ≤ k) (hst : (st.map fun v => v.category).sum ≤ 8) (ha : Aft E mt d Q k' Qc (pc + 3) ls st) : Z E mt d Q k h pc ls (w1 :: st) := by
  intro p e s m args below meth c K H locs cells slots la hc h1 h2 hP hS hl
  obtain ⟨cc, nL, ret, hcode, hnL, hM⟩ := hC
  obtain ⟨⟨host, q1⟩, q2, q4, hmh⟩ := S
  refine z_after (a := ([w1] : List Value).toArray) (n := 3) hc h1 h2 hkk hS hl ha ?_
  obtain ⟨g1, g2⟩ := preOf (as := [w1]) hc.1 hc.W hP
  exact vx_runSN (As := [w1]) (Ts := []) ⟨hc.x, hc.c, rfl, hc.own, fun w hw => nomatch hw⟩ hM ⟨⟨⟨rfl, rfl, (by show d' + 1 ≤ d; exact hd'), (by show 8 + (nL + 11) + 200 * d' ≤ 200 * d; omega), hc.1.ws hcode hc.W, List.mem_cons_self⟩, hc.ts args _ hcode, hc.ts args _ q4, hmh.1, hmh.len, hc.1.nestM q1 hc.W args⟩, hc.ts args _ q2, trivial⟩ ⟨g1, g2⟩ rfl rfl (by rw [hc.ml]; exact hl.1) rfl (lv_room hst) hd ⟨by show cells + kc ≤ K; omega, by show slots + 4 * kc ≤ 4 * K; omega⟩
theorem z_I1 {idx b : Nat} {y : MethodName} {w1 : Value} {d' kc k' : Nat} {Qc : Res → HP → Prop} (pc : Nat) (S : SiteI mt.1.cls idx y 1) (hd : decode mt.2.1 pc = .ok (.invokespecial idx, 3)) (hC : Call E y d' kc [.ref b, w1] h Qc) (hd' : d' + 1 ≤ d) (hkk : kc + k' ≤ k) (hst : (st.map fun v => v.category).sum ≤ 8) (ha : Aft E mt d Q k' Qc (pc + 3) ls st) : Z E mt d Q k h pc ls (w1 :: .ref b :: st) := by
  intro p e s m args below meth c K H locs cells slots la hc h1 h2 hP hS hl
  obtain ⟨cc, nL, ret, hcode, hnL, hM⟩ := hC
  obtain ⟨q1, q2, q4, hnm, ⟨c0, n0, qc⟩, hmh⟩ := S
  obtain rfl : ret = none := initRet hc hcode qc args
  refine z_after (a := ([.ref b, w1] : List Value).toArray) (n := 3) hc h1 h2 hkk hS hl ha ?_
  obtain ⟨g1, g2⟩ := preOf (as := [.ref b, w1]) hc.1 hc.W hP
  exact vx_runI (As := [w1]) (Ts := []) ⟨hc.x, hc.c, rfl, hc.own, fun w hw => nomatch hw⟩ hM ⟨⟨rfl, rfl, (by show d' + 1 ≤ d; exact hd'), (by show 8 + (nL + 11) + 200 * d' ≤ 200 * d; omega), hc.1.ws hcode hc.W, List.mem_cons_self, hc.ts args _ hcode, hc.ts args _ q4, hmh.1, hmh.len, hc.ts args _ q1⟩, hnm, hc.ts args _ q2⟩ ⟨g1, g2⟩ rfl rfl (by rw [hc.ml]; exact hl.1) rfl (lv_room hst) hd ⟨by show cells + kc ≤ K; omega, by show slots + 4 * kc ≤ 4 * K; omega⟩
theorem z_IN1 {idx b : Nat} {y : MethodName} {w1 : Value} {d' kc k' : Nat} {Qc : Res → HP → Prop} (pc : Nat) (S : SiteIN mt.1.cls idx y 1) (hd : decode mt.2.1 pc = .ok (.invokespecial idx, 3)) (hC : Call E y d' kc [.ref b, w1] h Qc) (hd' : d' + 1 ≤ d) (hkk : kc + k' ≤ k) (hst : (st.map fun v => v.category).sum ≤ 8) (ha : Aft E mt d Q k' Qc (pc + 3) ls st) : Z E mt d Q k h pc ls (w1 :: .ref b :: st) := by
  intro p e s m args below meth c K H locs cells slots la hc h1 h2 hP hS hl
  obtain ⟨cc, nL, ret, hcode, hnL, hM⟩ := hC
  obtain ⟨⟨host, q1⟩, q2, q4, hnm, ⟨c0, n0, qc⟩, hmh⟩ := S
  obtain rfl : ret = none := initRet hc hcode qc args
  refine z_after (a := ([.ref b, w1] : List Value).toArray) (n := 3) hc h1 h2 hkk hS hl ha ?_
  obtain ⟨g1, g2⟩ := preOf (as := [.ref b, w1]) hc.1 hc.W hP
  exact vx_runIN (As := [w1]) (Ts := []) ⟨hc.x, hc.c, rfl, hc.own, fun w hw => nomatch hw⟩ hM ⟨⟨⟨rfl, rfl, (by show d' + 1 ≤ d; exact hd'), (by show 8 + (nL + 11) + 200 * d' ≤ 200 * d; omega), hc.1.ws hcode hc.W, List.mem_cons_self⟩, hc.ts args _ hcode, hc.ts args _ q4, hmh.1, hmh.len, hc.1.nestM q1 hc.W args⟩, hnm, hc.ts args _ q2⟩ ⟨g1, g2⟩ rfl rfl (by rw [hc.ml]; exact hl.1) rfl (lv_room hst) hd ⟨by show cells + kc ≤ K; omega, by show slots + 4 * kc ≤ 4 * K; omega⟩
theorem z_F1 {idx cnt ci b : Nat} {x y : MethodName} {w1 : Value} {d' kc k' : Nat} {Qc : Res → HP → Prop} (pc : Nat) (S : SiteF mt.1.cls idx x y ci 1) (hd : decode mt.2.1 pc = .ok (.invokeinterface idx cnt, 5)) (hk : h.kd b = ci) (hC : Call E y d' kc [.ref b, w1] h Qc) (hd' : d' + 1 ≤ d) (hkk : kc + k' ≤ k) (hst : (st.map fun v => v.category).sum ≤ 8) (ha : Aft E mt d Q k' Qc (pc + 5) ls st) : Z E mt d Q k h pc ls (w1 :: .ref b :: st) := by
  intro p e s m args below meth c K H locs cells slots la hc h1 h2 hP hS hl
  obtain ⟨cc, nL, ret, hcode, hnL, hM⟩ := hC
  obtain ⟨C, T, N, hcl, q1, q3, q2, q4, f1, f2, f3, f4, f5, hmh⟩ := S
  refine z_after (a := ([.ref b, w1] : List Value).toArray) (n := 5) hc h1 h2 hkk hS hl ha ?_
  obtain ⟨g1, g2⟩ := preOf (as := [.ref b, w1]) hc.1 hc.W hP
  have hK := hc.1.K hc.W
  have hb := hc.1.2.1
  obtain ⟨i1, i2, i3, i4, i5⟩ := va_Fw.moved hmh.1 hc.W.alike (va_Fw.of (hb _ f1) (hb _ f2) (hb _ f3) (hb _ f4) (hb _ f5))
  exact vx_runF (As := [w1]) (Ts := []) (hK.1 ci _ hcl).2 ⟨hc.x, hc.c, rfl, hc.own, fun w hw => nomatch hw⟩ hM ⟨⟨rfl, rfl, (by show d' + 1 ≤ d; exact hd'), (by show 8 + (nL + 11) + 200 * d' ≤ 200 * d; omega), hc.1.ws hcode hc.W, List.mem_cons_self⟩, hc.ts args _ q1, va_any rfl i1, va_any rfl i2, hc.ts args _ q3, hc.ts args _ q2, va_any rfl i3, va_any rfl i4, va_any rfl i5, hc.ts args _ q4, hc.ts args _ hcode, hmh.1, hmh.len⟩ ⟨g1, hP.recv hk hcl hK, g2⟩ rfl rfl (by rw [hc.ml]; exact hl.1) rfl (lv_room hst) hd ⟨by show cells + kc ≤ K; omega, by show slots + 4 * kc ≤ 4 * K; omega⟩
theorem z_U1 {idx ci b : Nat} {x y : MethodName} {owner : String} {w1 : Value} {d' kc k' : Nat} {Qc : Res → HP → Prop} (pc : Nat) (S : SiteU mt.1.cls idx x y owner ci 1) (hd : decode mt.2.1 pc = .ok (.invokevirtual idx, 3)) (hk : h.kd b = ci) (hC : Call E y d' kc [.ref b, w1] h Qc) (hd' : d' + 1 ≤ d) (hkk : kc + k' ≤ k) (hst : (st.map fun v => v.category).sum ≤ 8) (ha : Aft E mt d Q k' Qc (pc + 3) ls st) : Z E mt d Q k h pc ls (w1 :: .ref b :: st) := by
  intro p e s m args below meth c K H locs cells slots la hc h1 h2 hP hS hl
  obtain ⟨cc, nL, ret, hcode, hnL, hM⟩ := hC
  obtain ⟨C, T, N, hcl, q1, q5, q3, q2, q4, hdecl, how, hmh⟩ := S
  refine z_after (a := ([.ref b, w1] : List Value).toArray) (n := 3) hc h1 h2 hkk hS hl ha ?_
  obtain ⟨g1, g2⟩ := preOf (as := [.ref b, w1]) hc.1 hc.W hP
  have hD : va_Decl s ⟨owner, x.name, x.desc⟩ := by
    rcases hdecl with hw | ⟨w1, b0, m0, r0, w2⟩
    · exact va_Decl.abs (va_Nw.warmD hc.W (va_Nw.of rfl (hc.1.2.1 _ hw)))
    · exact va_Decl.of (hc.ts args _ w1) (hc.ts args _ w2)
  exact vx_runU (As := [w1]) (Ts := []) ⟨hc.x, hc.c, rfl, hc.own, fun w hw => nomatch hw⟩ hM ⟨⟨rfl, rfl, (by show d' + 1 ≤ d; exact hd'), (by show 8 + (nL + 11) + 200 * d' ≤ 200 * d; omega), hc.1.ws hcode hc.W, List.mem_cons_self⟩, hc.ts args _ hcode, hc.ts args _ q4, how, hmh.len, hc.ts args _ q1, hc.ts args _ q5, hD, hc.ts args _ q3, hc.ts args _ q2⟩ ⟨g1, hP.recv hk hcl (hc.1.K hc.W), g2⟩ rfl rfl (by rw [hc.ml]; exact hl.1) rfl (lv_room hst) hd ⟨by show cells + kc ≤ K; omega, by show slots + 4 * kc ≤ 4 * K; omega⟩
theorem z_SU1 {idx ci b : Nat} {y : MethodName} {w1 : Value} {d' kc k' : Nat} {Qc : Res → HP → Prop} (pc : Nat) (S : SiteSU mt.1.cls idx y ci 1) (hd : decode mt.2.1 pc = .ok (.invokespecial idx, 3)) (hk : h.kd b = ci) (hC : Call E y d' kc [.ref b, w1] h Qc) (hd' : d' + 1 ≤ d) (hkk : kc + k' ≤ k) (hst : (st.map fun v => v.category).sum ≤ 8) (ha : Aft E mt d Q k' Qc (pc + 3) ls st) : Z E mt d Q k h pc ls (w1 :: .ref b :: st) := by
  intro p e s m args below meth c K H locs cells slots la hc h1 h2 hP hS hl
  obtain ⟨cc, nL, ret, hcode, hnL, hM⟩ := hC
  obtain ⟨⟨C, T, N, hcl⟩, q1, q5, q6, q2, q4, hnm, hmh⟩ := S
  refine z_after (a := ([.ref b, w1] : List Value).toArray) (n := 3) hc h1 h2 hkk hS hl ha ?_
  obtain ⟨g1, g2⟩ := preOf (as := [.ref b, w1]) hc.1 hc.W hP
  have hK := hc.1.K hc.W
  exact vx_runSU (As := [w1]) (Ts := []) (hK.1 ci _ hcl).2 ⟨hc.x, hc.c, rfl, hc.own, fun w hw => nomatch hw⟩ hM ⟨⟨rfl, rfl, (by show d' + 1 ≤ d; exact hd'), (by show 8 + (nL + 11) + 200 * d' ≤ 200 * d; omega), hc.1.ws hcode hc.W, List.mem_cons_self⟩, hc.ts args _ q1, hc.ts args _ q5, hc.ts args _ q6, hc.ts args _ q2, hc.ts args _ q4, hc.ts args _ hcode, hnm, hmh.len⟩ ⟨g1, hP.recv hk hcl hK, g2⟩ rfl rfl (by rw [hc.ml]; exact hl.1) rfl (lv_room hst) hd ⟨by show cells + kc ≤ K; omega, by show slots + 4 * kc ≤ 4 * K; omega⟩
theorem z_V2 {idx ci b : Nat} {y : MethodName} {w1 w2 : Value} {d' kc k' : Nat} {Qc : Res → HP → Prop} (pc : Nat) (S : SiteV mt.1.cls idx y ci 2) (hd : decode mt.2.1 pc = .ok (.invokevirtual idx, 3)) (hk : h.kd b = ci) (hC : Call E y d' kc [.ref b, w1, w2] h Qc) (hd' : d' + 1 ≤ d) (hkk : kc + k' ≤ k) (hst : (st.map fun v => v.category).sum ≤ 8) (ha : Aft E mt d Q k' Qc (pc + 3) ls st) : Z E mt d Q k h pc ls (w2 :: w1 :: .ref b :: st) := by
  intro p e s m args below meth c K H locs cells slots la hc h1 h2 hP hS hl
  obtain ⟨cc, nL, ret, hcode, hnL, hM⟩ := hC
  obtain ⟨q1, q2, q3, q4, ⟨T, N, hcl⟩, hmh⟩ := S
  refine z_after (a := ([.ref b, w1, w2] : List Value).toArray) (n := 3) hc h1 h2 hkk hS hl ha ?_
  obtain ⟨g1, g2⟩ := preOf (as := [.ref b, w1, w2]) hc.1 hc.W hP
  exact vx_runV (As := [w1, w2]) (Ts := []) ⟨hc.x, hc.c, rfl, hc.own, fun w hw => nomatch hw⟩ hM ⟨⟨rfl, rfl, (by show d' + 1 ≤ d; exact hd'), (by show 8 + (nL + 11) + 200 * d' ≤ 200 * d; omega), hc.1.ws hcode hc.W, List.mem_cons_self, hc.ts args _ hcode, hc.ts args _ q4, hmh.1, hmh.len, hc.ts args _ q1⟩, hc.ts args _ q2, hc.ts args _ q3⟩ ⟨g1, hP.recv hk hcl (hc.1.K hc.W), g2⟩ rfl rfl (by rw [hc.ml]; exact hl.1) rfl (lv_room hst) hd ⟨by show cells + kc ≤ K; omega, by show slots + 4 * kc ≤ 4 * K; omega⟩
theorem z_S2 {idx : Nat} {y : MethodName} {w1 w2 : Value} {d' kc k' : Nat} {Qc : Res → HP → Prop} (pc : Nat) (S : SiteS mt.1.cls idx y 2) (hd : decode mt.2.1 pc = .ok (.invokestatic idx, 3)) (hC : Call E y d' kc [w1, w2] h Qc) (hd' : d' + 1 ≤ d) (hkk : kc + k' ≤ k) (hst : (st.map fun v => v.category).sum ≤ 8) (ha : Aft E mt d Q k' Qc (pc + 3) ls st) : Z E mt d Q k h pc ls (w2 :: w1 :: st) := by
  intro p e s m args below meth c K H locs cells slots la hc h1 h2 hP hS hl
  obtain ⟨cc, nL, ret, hcode, hnL, hM⟩ := hC
  obtain ⟨q1, q2, q4, hmh⟩ := S
  refine z_after (a := ([w1, w2] : List Value).toArray) (n := 3) hc h1 h2 hkk hS hl ha ?_
  obtain ⟨g1, g2⟩ := preOf (as := [w1, w2]) hc.1 hc.W hP
  exact vx_runS (As := [w1, w2]) (Ts := []) ⟨hc.x, hc.c, rfl, hc.own, fun w hw => nomatch hw⟩ hM ⟨⟨rfl, rfl, (by show d' + 1 ≤ d; exact hd'), (by show 8 + (nL + 11) + 200 * d' ≤ 200 * d; omega), hc.1.ws hcode hc.W, List.mem_cons_self, hc.ts args _ hcode, hc.ts args _ q4, hmh.1, hmh.len, hc.ts args _ q1⟩, hc.ts args _ q2⟩ ⟨g1, g2⟩ rfl rfl (by rw [hc.ml]; exact hl.1) rfl (lv_room hst) hd ⟨by show cells + kc ≤ K; omega, by show slots + 4 * kc ≤ 4 * K; omega⟩
theorem z_SN2 {idx : Nat} {y : MethodName} {w1 w2 : Value} {d' kc k' : Nat} {Qc : Res → HP → Prop} (pc : Nat) (S : SiteSN mt.1.cls idx y 2) (hd : decode mt.2.1 pc = .ok (.invokestatic idx, 3)) (hC : Call E y d' kc [w1, w2] h Qc) (hd' : d' + 1 ≤ d) (hkk : kc + k' ≤ k) (hst : (st.map fun v => v.category).sum ≤ 8) (ha : Aft E mt d Q k' Qc (pc + 3) ls st) : Z E mt d Q k h pc ls (w2 :: w1 :: st) := by
  intro p e s m args below meth c K H locs cells slots la hc h1 h2 hP hS hl
  obtain ⟨cc, nL, ret, hcode, hnL, hM⟩ := hC
  obtain ⟨⟨host, q1⟩, q2, q4, hmh⟩ := S
  refine z_after (a := ([w1, w2] : List Value).toArray) (n := 3) hc h1 h2 hkk hS hl ha ?_
  obtain ⟨g1, g2⟩ := preOf (as := [w1, w2]) hc.1 hc.W hP
  exact vx_runSN (As := [w1, w2]) (Ts := []) ⟨hc.x, hc.c, rfl, hc.own, fun w hw => nomatch hw⟩ hM ⟨⟨⟨rfl, rfl, (by show d' + 1 ≤ d; exact hd'), (by show 8 + (nL + 11) + 200 * d' ≤ 200 * d; omega), hc.1.ws hcode hc.W, List.mem_cons_self⟩, hc.ts args _ hcode, hc.ts args _ q4, hmh.1, hmh.len, hc.1.nestM q1 hc.W args⟩, hc.ts args _ q2, trivial⟩ ⟨g1, g2⟩ rfl rfl (by rw [hc.ml]; exact hl.1) rfl (lv_room hst) hd ⟨by show cells + kc ≤ K; omega, by show slots + 4 * kc ≤ 4 * K; omega⟩
theorem z_I2 {idx b : Nat} {y : MethodName} {w1 w2 : Value} {d' kc k' : Nat} {Qc : Res → HP → Prop} (pc : Nat) (S : SiteI mt.1.cls idx y 2) (hd : decode mt.2.1 pc = .ok (.invokespecial idx, 3)) (hC : Call E y d' kc [.ref b, w1, w2] h Qc) (hd' : d' + 1 ≤ d) (hkk : kc + k' ≤ k) (hst : (st.map fun v => v.category).sum ≤ 8) (ha : Aft E mt d Q k' Qc (pc + 3) ls st) : Z E mt d Q k h pc ls (w2 :: w1 :: .ref b :: st) := by
  intro p e s m args below meth c K H locs cells slots la hc h1 h2 hP hS hl
  obtain ⟨cc, nL, ret, hcode, hnL, hM⟩ := hC
  obtain ⟨q1, q2, q4, hnm, ⟨c0, n0, qc⟩, hmh⟩ := S
  obtain rfl : ret = none := initRet hc hcode qc args
  refine z_after (a := ([.ref b, w1, w2] : List Value).toArray) (n := 3) hc h1 h2 hkk hS hl ha ?_
  obtain ⟨g1, g2⟩ := preOf (as := [.ref b, w1, w2]) hc.1 hc.W hP
  exact vx_runI (As := [w1, w2]) (Ts := []) ⟨hc.x, hc.c, rfl, hc.own, fun w hw => nomatch hw⟩ hM ⟨⟨rfl, rfl, (by show d' + 1 ≤ d; exact hd'), (by show 8 + (nL + 11) + 200 * d' ≤ 200 * d; omega), hc.1.ws hcode hc.W, List.mem_cons_self, hc.ts args _ hcode, hc.ts args _ q4, hmh.1, hmh.len, hc.ts args _ q1⟩, hnm, hc.ts args _ q2⟩ ⟨g1, g2⟩ rfl rfl (by rw [hc.ml]; exact hl.1) rfl (lv_room hst) hd ⟨by show cells + kc ≤ K; omega, by show slots + 4 * kc ≤ 4 * K; omega⟩
theorem z_IN2 {idx b : Nat} {y : MethodName} {w1 w2 : Value} {d' kc k' : Nat} {Qc : Res → HP → Prop} (pc : Nat) (S : SiteIN mt.1.cls idx y 2) (hd : decode mt.2.1 pc = .ok (.invokespecial idx, 3)) (hC : Call E y d' kc [.ref b, w1, w2] h Qc) (hd' : d' + 1 ≤ d) (hkk : kc + k' ≤ k) (hst : (st.map fun v => v.category).sum ≤ 8) (ha : Aft E mt d Q k' Qc (pc + 3) ls st) : Z E mt d Q k h pc ls (w2 :: w1 :: .ref b :: st) := by
  intro p e s m args below meth c K H locs cells slots la hc h1 h2 hP hS hl
  obtain ⟨cc, nL, ret, hcode, hnL, hM⟩ := hC
  obtain ⟨⟨host, q1⟩, q2, q4, hnm, ⟨c0, n0, qc⟩, hmh⟩ := S
  obtain rfl : ret = none := initRet hc hcode qc args
  refine z_after (a := ([.ref b, w1, w2] : List Value).toArray) (n := 3) hc h1 h2 hkk hS hl ha ?_
  obtain ⟨g1, g2⟩ := preOf (as := [.ref b, w1, w2]) hc.1 hc.W hP
  exact vx_runIN (As := [w1, w2]) (Ts := []) ⟨hc.x, hc.c, rfl, hc.own, fun w hw => nomatch hw⟩ hM ⟨⟨⟨rfl, rfl, (by show d' + 1 ≤ d; exact hd'), (by show 8 + (nL + 11) + 200 * d' ≤ 200 * d; omega), hc.1.ws hcode hc.W, List.mem_cons_self⟩, hc.ts args _ hcode, hc.ts args _ q4, hmh.1, hmh.len, hc.1.nestM q1 hc.W args⟩, hnm, hc.ts args _ q2⟩ ⟨g1, g2⟩ rfl rfl (by rw [hc.ml]; exact hl.1) rfl (lv_room hst) hd ⟨by show cells + kc ≤ K; omega, by show slots + 4 * kc ≤ 4 * K; omega⟩
theorem z_F2 {idx cnt ci b : Nat} {x y : MethodName} {w1 w2 : Value} {d' kc k' : Nat} {Qc : Res → HP → Prop} (pc : Nat) (S : SiteF mt.1.cls idx x y ci 2) (hd : decode mt.2.1 pc = .ok (.invokeinterface idx cnt, 5)) (hk : h.kd b = ci) (hC : Call E y d' kc [.ref b, w1, w2] h Qc) (hd' : d' + 1 ≤ d) (hkk : kc + k' ≤ k) (hst : (st.map fun v => v.category).sum ≤ 8) (ha : Aft E mt d Q k' Qc (pc + 5) ls st) : Z E mt d Q k h pc ls (w2 :: w1 :: .ref b :: st) := by
  intro p e s m args below meth c K H locs cells slots la hc h1 h2 hP hS hl
  obtain ⟨cc, nL, ret, hcode, hnL, hM⟩ := hC
  obtain ⟨C, T, N, hcl, q1, q3, q2, q4, f1, f2, f3, f4, f5, hmh⟩ := S
  refine z_after (a := ([.ref b, w1, w2] : List Value).toArray) (n := 5) hc h1 h2 hkk hS hl ha ?_
  obtain ⟨g1, g2⟩ := preOf (as := [.ref b, w1, w2]) hc.1 hc.W hP
  have hK := hc.1.K hc.W
  have hb := hc.1.2.1
  obtain ⟨i1, i2, i3, i4, i5⟩ := va_Fw.moved hmh.1 hc.W.alike (va_Fw.of (hb _ f1) (hb _ f2) (hb _ f3) (hb _ f4) (hb _ f5))
  exact vx_runF (As := [w1, w2]) (Ts := []) (hK.1 ci _ hcl).2 ⟨hc.x, hc.c, rfl, hc.own, fun w hw => nomatch hw⟩ hM ⟨⟨rfl, rfl, (by show d' + 1 ≤ d; exact hd'), (by show 8 + (nL + 11) + 200 * d' ≤ 200 * d; omega), hc.1.ws hcode hc.W, List.mem_cons_self⟩, hc.ts args _ q1, va_any rfl i1, va_any rfl i2, hc.ts args _ q3, hc.ts args _ q2, va_any rfl i3, va_any rfl i4, va_any rfl i5, hc.ts args _ q4, hc.ts args _ hcode, hmh.1, hmh.len⟩ ⟨g1, hP.recv hk hcl hK, g2⟩ rfl rfl (by rw [hc.ml]; exact hl.1) rfl (lv_room hst) hd ⟨by show cells + kc ≤ K; omega, by show slots + 4 * kc ≤ 4 * K; omega⟩
theorem z_U2 {idx ci b : Nat} {x y : MethodName} {owner : String} {w1 w2 : Value} {d' kc k' : Nat} {Qc : Res → HP → Prop} (pc : Nat) (S : SiteU mt.1.cls idx x y owner ci 2) (hd : decode mt.2.1 pc = .ok (.invokevirtual idx, 3)) (hk : h.kd b = ci) (hC : Call E y d' kc [.ref b, w1, w2] h Qc) (hd' : d' + 1 ≤ d) (hkk : kc + k' ≤ k) (hst : (st.map fun v => v.category).sum ≤ 8) (ha : Aft E mt d Q k' Qc (pc + 3) ls st) : Z E mt d Q k h pc ls (w2 :: w1 :: .ref b :: st) := by
  intro p e s m args below meth c K H locs cells slots la hc h1 h2 hP hS hl
  obtain ⟨cc, nL, ret, hcode, hnL, hM⟩ := hC
  obtain ⟨C, T, N, hcl, q1, q5, q3, q2, q4, hdecl, how, hmh⟩ := S
  refine z_after (a := ([.ref b, w1, w2] : List Value).toArray) (n := 3) hc h1 h2 hkk hS hl ha ?_
  obtain ⟨g1, g2⟩ := preOf (as := [.ref b, w1, w2]) hc.1 hc.W hP
  have hD : va_Decl s ⟨owner, x.name, x.desc⟩ := by
    rcases hdecl with hw | ⟨w1, b0, m0, r0, w2⟩
    · exact va_Decl.abs (va_Nw.warmD hc.W (va_Nw.of rfl (hc.1.2.1 _ hw)))
    · exact va_Decl.of (hc.ts args _ w1) (hc.ts args _ w2)
  exact vx_runU (As := [w1, w2]) (Ts := []) ⟨hc.x, hc.c, rfl, hc.own, fun w hw => nomatch hw⟩ hM ⟨⟨rfl, rfl, (by show d' + 1 ≤ d; exact hd'), (by show 8 + (nL + 11) + 200 * d' ≤ 200 * d; omega), hc.1.ws hcode hc.W, List.mem_cons_self⟩, hc.ts args _ hcode, hc.ts args _ q4, how, hmh.len, hc.ts args _ q1, hc.ts args _ q5, hD, hc.ts args _ q3, hc.ts args _ q2⟩ ⟨g1, hP.recv hk hcl (hc.1.K hc.W), g2⟩ rfl rfl (by rw [hc.ml]; exact hl.1) rfl (lv_room hst) hd ⟨by show cells + kc ≤ K; omega, by show slots + 4 * kc ≤ 4 * K; omega⟩
theorem z_SU2 {idx ci b : Nat} {y : MethodName} {w1 w2 : Value} {d' kc k' : Nat} {Qc : Res → HP → Prop} (pc : Nat) (S : SiteSU mt.1.cls idx y ci 2) (hd : decode mt.2.1 pc = .ok (.invokespecial idx, 3)) (hk : h.kd b = ci) (hC : Call E y d' kc [.ref b, w1, w2] h Qc) (hd' : d' + 1 ≤ d) (hkk : kc + k' ≤ k) (hst : (st.map fun v => v.category).sum ≤ 8) (ha : Aft E mt d Q k' Qc (pc + 3) ls st) : Z E mt d Q k h pc ls (w2 :: w1 :: .ref b :: st) := by
  intro p e s m args below meth c K H locs cells slots la hc h1 h2 hP hS hl
  obtain ⟨cc, nL, ret, hcode, hnL, hM⟩ := hC
  obtain ⟨⟨C, T, N, hcl⟩, q1, q5, q6, q2, q4, hnm, hmh⟩ := S
  refine z_after (a := ([.ref b, w1, w2] : List Value).toArray) (n := 3) hc h1 h2 hkk hS hl ha ?_
  obtain ⟨g1, g2⟩ := preOf (as := [.ref b, w1, w2]) hc.1 hc.W hP
  have hK := hc.1.K hc.W
  exact vx_runSU (As := [w1, w2]) (Ts := []) (hK.1 ci _ hcl).2 ⟨hc.x, hc.c, rfl, hc.own, fun w hw => nomatch hw⟩ hM ⟨⟨rfl, rfl, (by show d' + 1 ≤ d; exact hd'), (by show 8 + (nL + 11) + 200 * d' ≤ 200 * d; omega), hc.1.ws hcode hc.W, List.mem_cons_self⟩, hc.ts args _ q1, hc.ts args _ q5, hc.ts args _ q6, hc.ts args _ q2, hc.ts args _ q4, hc.ts args _ hcode, hnm, hmh.len⟩ ⟨g1, hP.recv hk hcl hK, g2⟩ rfl rfl (by rw [hc.ml]; exact hl.1) rfl (lv_room hst) hd ⟨by show cells + kc ≤ K; omega, by show slots + 4 * kc ≤ 4 * K; omega⟩
theorem z_V3 {idx ci b : Nat} {y : MethodName} {w1 w2 w3 : Value} {d' kc k' : Nat} {Qc : Res → HP → Prop} (pc : Nat) (S : SiteV mt.1.cls idx y ci 3) (hd : decode mt.2.1 pc = .ok (.invokevirtual idx, 3)) (hk : h.kd b = ci) (hC : Call E y d' kc [.ref b, w1, w2, w3] h Qc) (hd' : d' + 1 ≤ d) (hkk : kc + k' ≤ k) (hst : (st.map fun v => v.category).sum ≤ 8) (ha : Aft E mt d Q k' Qc (pc + 3) ls st) : Z E mt d Q k h pc ls (w3 :: w2 :: w1 :: .ref b :: st) := by
  intro p e s m args below meth c K H locs cells slots la hc h1 h2 hP hS hl
  obtain ⟨cc, nL, ret, hcode, hnL, hM⟩ := hC
  obtain ⟨q1, q2, q3, q4, ⟨T, N, hcl⟩, hmh⟩ := S
  refine z_after (a := ([.ref b, w1, w2, w3] : List Value).toArray) (n := 3) hc h1 h2 hkk hS hl ha ?_
  obtain ⟨g1, g2⟩ := preOf (as := [.ref b, w1, w2, w3]) hc.1 hc.W hP
  exact vx_runV (As := [w1, w2, w3]) (Ts := []) ⟨hc.x, hc.c, rfl, hc.own, fun w hw => nomatch hw⟩ hM ⟨⟨rfl, rfl, (by show d' + 1 ≤ d; exact hd'), (by show 8 + (nL + 11) + 200 * d' ≤ 200 * d; omega), hc.1.ws hcode hc.W, List.mem_cons_self, hc.ts args _ hcode, hc.ts args _ q4, hmh.1, hmh.len, hc.ts args _ q1⟩, hc.ts args _ q2, hc.ts args _ q3⟩ ⟨g1, hP.recv hk hcl (hc.1.K hc.W), g2⟩ rfl rfl (by rw [hc.ml]; exact hl.1) rfl (lv_room hst) hd ⟨by show cells + kc ≤ K; omega, by show slots + 4 * kc ≤ 4 * K; omega⟩
theorem z_S3 {idx : Nat} {y : MethodName} {w1 w2 w3 : Value} {d' kc k' : Nat} {Qc : Res → HP → Prop} (pc : Nat) (S : SiteS mt.1.cls idx y 3) (hd : decode mt.2.1 pc = .ok (.invokestatic idx, 3)) (hC : Call E y d' kc [w1, w2, w3] h Qc) (hd' : d' + 1 ≤ d) (hkk : kc + k' ≤ k) (hst : (st.map fun v => v.category).sum ≤ 8) (ha : Aft E mt d Q k' Qc (pc + 3) ls st) : Z E mt d Q k h pc ls (w3 :: w2 :: w1 :: st) := by
  intro p e s m args below meth c K H locs cells slots la hc h1 h2 hP hS hl
  obtain ⟨cc, nL, ret, hcode, hnL, hM⟩ := hC
  obtain ⟨q1, q2, q4, hmh⟩ := S
  refine z_after (a := ([w1, w2, w3] : List Value).toArray) (n := 3) hc h1 h2 hkk hS hl ha ?_
  obtain ⟨g1, g2⟩ := preOf (as := [w1, w2, w3]) hc.1 hc.W hP
  exact vx_runS (As := [w1, w2, w3]) (Ts := []) ⟨hc.x, hc.c, rfl, hc.own, fun w hw => nomatch hw⟩ hM ⟨⟨rfl, rfl, (by show d' + 1 ≤ d; exact hd'), (by show 8 + (nL + 11) + 200 * d' ≤ 200 * d; omega), hc.1.ws hcode hc.W, List.mem_cons_self, hc.ts args _ hcode, hc.ts args _ q4, hmh.1, hmh.len, hc.ts args _ q1⟩, hc.ts args _ q2⟩ ⟨g1, g2⟩ rfl rfl (by rw [hc.ml]; exact hl.1) rfl (lv_room hst) hd ⟨by show cells + kc ≤ K; omega, by show slots + 4 * kc ≤ 4 * K; omega⟩
theorem z_SN3 {idx : Nat} {y : MethodName} {w1 w2 w3 : Value} {d' kc k' : Nat} {Qc : Res → HP → Prop} (pc : Nat) (S : SiteSN mt.1.cls idx y 3) (hd : decode mt.2.1 pc = .ok (.invokestatic idx, 3)) (hC : Call E y d' kc [w1, w2, w3] h Qc) (hd' : d' + 1 ≤ d) (hkk : kc + k' ≤ k) (hst : (st.map fun v => v.category).sum ≤ 8) (ha : Aft E mt d Q k' Qc (pc + 3) ls st) : Z E mt d Q k h pc ls (w3 :: w2 :: w1 :: st) := by
  intro p e s m args below meth c K H locs cells slots la hc h1 h2 hP hS hl
  obtain ⟨cc, nL, ret, hcode, hnL, hM⟩ := hC
  obtain ⟨⟨host, q1⟩, q2, q4, hmh⟩ := S
  refine z_after (a := ([w1, w2, w3] : List Value).toArray) (n := 3) hc h1 h2 hkk hS hl ha ?_
  obtain ⟨g1, g2⟩ := preOf (as := [w1, w2, w3]) hc.1 hc.W hP
  exact vx_runSN (As := [w1, w2, w3]) (Ts := []) ⟨hc.x, hc.c, rfl, hc.own, fun w hw => nomatch hw⟩ hM ⟨⟨⟨rfl, rfl, (by show d' + 1 ≤ d; exact hd'), (by show 8 + (nL + 11) + 200 * d' ≤ 200 * d; omega), hc.1.ws hcode hc.W, List.mem_cons_self⟩, hc.ts args _ hcode, hc.ts args _ q4, hmh.1, hmh.len, hc.1.nestM q1 hc.W args⟩, hc.ts args _ q2, trivial⟩ ⟨g1, g2⟩ rfl rfl (by rw [hc.ml]; exact hl.1) rfl (lv_room hst) hd ⟨by show cells + kc ≤ K; omega, by show slots + 4 * kc ≤ 4 * K; omega⟩
theorem z_I3 {idx b : Nat} {y : MethodName} {w1 w2 w3 : Value} {d' kc k' : Nat} {Qc : Res → HP → Prop} (pc : Nat) (S : SiteI mt.1.cls idx y 3) (hd : decode mt.2.1 pc = .ok (.invokespecial idx, 3)) (hC : Call E y d' kc [.ref b, w1, w2, w3] h Qc) (hd' : d' + 1 ≤ d) (hkk : kc + k' ≤ k) (hst : (st.map fun v => v.category).sum ≤ 8) (ha : Aft E mt d Q k' Qc (pc + 3) ls st) : Z E mt d Q k h pc ls (w3 :: w2 :: w1 :: .ref b :: st) := by
  intro p e s m args below meth c K H locs cells slots la hc h1 h2 hP hS hl
  obtain ⟨cc, nL, ret, hcode, hnL, hM⟩ := hC
  obtain ⟨q1, q2, q4, hnm, ⟨c0, n0, qc⟩, hmh⟩ := S
  obtain rfl : ret = none := initRet hc hcode qc args
  refine z_after (a := ([.ref b, w1, w2, w3] : List Value).toArray) (n := 3) hc h1 h2 hkk hS hl ha ?_
  obtain ⟨g1, g2⟩ := preOf (as := [.ref b, w1, w2, w3]) hc.1 hc.W hP
  exact vx_runI (As := [w1, w2, w3]) (Ts := []) ⟨hc.x, hc.c, rfl, hc.own, fun w hw => nomatch hw⟩ hM ⟨⟨rfl, rfl, (by show d' + 1 ≤ d; exact hd'), (by show 8 + (nL + 11) + 200 * d' ≤ 200 * d; omega), hc.1.ws hcode hc.W, List.mem_cons_self, hc.ts args _ hcode, hc.ts args _ q4, hmh.1, hmh.len, hc.ts args _ q1⟩, hnm, hc.ts args _ q2⟩ ⟨g1, g2⟩ rfl rfl (by rw [hc.ml]; exact hl.1) rfl (lv_room hst) hd ⟨by show cells + kc ≤ K; omega, by show slots + 4 * kc ≤ 4 * K; omega⟩
theorem z_IN3 {idx b : Nat} {y : MethodName} {w1 w2 w3 : Value} {d' kc k' : Nat} {Qc : Res → HP → Prop} (pc : Nat) (S : SiteIN mt.1.cls idx y 3) (hd : decode mt.2.1 pc = .ok (.invokespecial idx, 3)) (hC : Call E y d' kc [.ref b, w1, w2, w3] h Qc) (hd' : d' + 1 ≤ d) (hkk : kc + k' ≤ k) (hst : (st.map fun v => v.category).sum ≤ 8) (ha : Aft E mt d Q k' Qc (pc + 3) ls st) : Z E mt d Q k h pc ls (w3 :: w2 :: w1 :: .ref b :: st) := by
  intro p e s m args below meth c K H locs cells slots la hc h1 h2 hP hS hl
  obtain ⟨cc, nL, ret, hcode, hnL, hM⟩ := hC
  obtain ⟨⟨host, q1⟩, q2, q4, hnm, ⟨c0, n0, qc⟩, hmh⟩ := S
  obtain rfl : ret = none := initRet hc hcode qc args
  refine z_after (a := ([.ref b, w1, w2, w3] : List Value).toArray) (n := 3) hc h1 h2 hkk hS hl ha ?_
  obtain ⟨g1, g2⟩ := preOf (as := [.ref b, w1, w2, w3]) hc.1 hc.W hP
  exact vx_runIN (As := [w1, w2, w3]) (Ts := []) ⟨hc.x, hc.c, rfl, hc.own, fun w hw => nomatch hw⟩ hM ⟨⟨⟨rfl, rfl, (by show d' + 1 ≤ d; exact hd'), (by show 8 + (nL + 11) + 200 * d' ≤ 200 * d; omega), hc.1.ws hcode hc.W, List.mem_cons_self⟩, hc.ts args _ hcode, hc.ts args _ q4, hmh.1, hmh.len, hc.1.nestM q1 hc.W args⟩, hnm, hc.ts args _ q2⟩ ⟨g1, g2⟩ rfl rfl (by rw [hc.ml]; exact hl.1) rfl (lv_room hst) hd ⟨by show cells + kc ≤ K; omega, by show slots + 4 * kc ≤ 4 * K; omega⟩
theorem z_F3 {idx cnt ci b : Nat} {x y : MethodName} {w1 w2 w3 : Value} {d' kc k' : Nat} {Qc : Res → HP → Prop} (pc : Nat) (S : SiteF mt.1.cls idx x y ci 3) (hd : decode mt.2.1 pc = .ok (.invokeinterface idx cnt, 5)) (hk : h.kd b = ci) (hC : Call E y d' kc [.ref b, w1, w2, w3] h Qc) (hd' : d' + 1 ≤ d) (hkk : kc + k' ≤ k) (hst : (st.map fun v => v.category).sum ≤ 8) (ha : Aft E mt d Q k' Qc (pc + 5) ls st) : Z E mt d Q k h pc ls (w3 :: w2 :: w1 :: .ref b :: st) := by
  intro p e s m args below meth c K H locs cells slots la hc h1 h2 hP hS hl
  obtain ⟨cc, nL, ret, hcode, hnL, hM⟩ := hC
  obtain ⟨C, T, N, hcl, q1, q3, q2, q4, f1, f2, f3, f4, f5, hmh⟩ := S
  refine z_after (a := ([.ref b, w1, w2, w3] : List Value).toArray) (n := 5) hc h1 h2 hkk hS hl ha ?_
  obtain ⟨g1, g2⟩ := preOf (as := [.ref b, w1, w2, w3]) hc.1 hc.W hP
  have hK := hc.1.K hc.W
  have hb := hc.1.2.1
  obtain ⟨i1, i2, i3, i4, i5⟩ := va_Fw.moved hmh.1 hc.W.alike (va_Fw.of (hb _ f1) (hb _ f2) (hb _ f3) (hb _ f4) (hb _ f5))
  exact vx_runF (As := [w1, w2, w3]) (Ts := []) (hK.1 ci _ hcl).2 ⟨hc.x, hc.c, rfl, hc.own, fun w hw => nomatch hw⟩ hM ⟨⟨rfl, rfl, (by show d' + 1 ≤ d; exact hd'), (by show 8 + (nL + 11) + 200 * d' ≤ 200 * d; omega), hc.1.ws hcode hc.W, List.mem_cons_self⟩, hc.ts args _ q1, va_any rfl i1, va_any rfl i2, hc.ts args _ q3, hc.ts args _ q2, va_any rfl i3, va_any rfl i4, va_any rfl i5, hc.ts args _ q4, hc.ts args _ hcode, hmh.1, hmh.len⟩ ⟨g1, hP.recv hk hcl hK, g2⟩ rfl rfl (by rw [hc.ml]; exact hl.1) rfl (lv_room hst) hd ⟨by show cells + kc ≤ K; omega, by show slots + 4 * kc ≤ 4 * K; omega⟩
theorem z_U3 {idx ci b : Nat} {x y : MethodName} {owner : String} {w1 w2 w3 : Value} {d' kc k' : Nat} {Qc : Res → HP → Prop} (pc : Nat) (S : SiteU mt.1.cls idx x y owner ci 3) (hd : decode mt.2.1 pc = .ok (.invokevirtual idx, 3)) (hk : h.kd b = ci) (hC : Call E y d' kc [.ref b, w1, w2, w3] h Qc) (hd' : d' + 1 ≤ d) (hkk : kc + k' ≤ k) (hst : (st.map fun v => v.category).sum ≤ 8) (ha : Aft E mt d Q k' Qc (pc + 3) ls st) : Z E mt d Q k h pc ls (w3 :: w2 :: w1 :: .ref b :: st) := by
  intro p e s m args below meth c K H locs cells slots la hc h1 h2 hP hS hl
  obtain ⟨cc, nL, ret, hcode, hnL, hM⟩ := hC
  obtain ⟨C, T, N, hcl, q1, q5, q3, q2, q4, hdecl, how, hmh⟩ := S
  refine z_after (a := ([.ref b, w1, w2, w3] : List Value).toArray) (n := 3) hc h1 h2 hkk hS hl ha ?_
  obtain ⟨g1, g2⟩ := preOf (as := [.ref b, w1, w2, w3]) hc.1 hc.W hP
  have hD : va_Decl s ⟨owner, x.name, x.desc⟩ := by
    rcases hdecl with hw | ⟨w1, b0, m0, r0, w2⟩
    · exact va_Decl.abs (va_Nw.warmD hc.W (va_Nw.of rfl (hc.1.2.1 _ hw)))
    · exact va_Decl.of (hc.ts args _ w1) (hc.ts args _ w2)
  exact vx_runU (As := [w1, w2, w3]) (Ts := []) ⟨hc.x, hc.c, rfl, hc.own, fun w hw => nomatch hw⟩ hM ⟨⟨rfl, rfl, (by show d' + 1 ≤ d; exact hd'), (by show 8 + (nL + 11) + 200 * d' ≤ 200 * d; omega), hc.1.ws hcode hc.W, List.mem_cons_self⟩, hc.ts args _ hcode, hc.ts args _ q4, how, hmh.len, hc.ts args _ q1, hc.ts args _ q5, hD, hc.ts args _ q3, hc.ts args _ q2⟩ ⟨g1, hP.recv hk hcl (hc.1.K hc.W), g2⟩ rfl rfl (by rw [hc.ml]; exact hl.1) rfl (lv_room hst) hd ⟨by show cells + kc ≤ K; omega, by show slots + 4 * kc ≤ 4 * K; omega⟩
theorem z_SU3 {idx ci b : Nat} {y : MethodName} {w1 w2 w3 : Value} {d' kc k' : Nat} {Qc : Res → HP → Prop} (pc : Nat) (S : SiteSU mt.1.cls idx y ci 3) (hd : decode mt.2.1 pc = .ok (.invokespecial idx, 3)) (hk : h.kd b = ci) (hC : Call E y d' kc [.ref b, w1, w2, w3] h Qc) (hd' : d' + 1 ≤ d) (hkk : kc + k' ≤ k) (hst : (st.map fun v => v.category).sum ≤ 8) (ha : Aft E mt d Q k' Qc (pc + 3) ls st) : Z E mt d Q k h pc ls (w3 :: w2 :: w1 :: .ref b :: st) := by
  intro p e s m args below meth c K H locs cells slots la hc h1 h2 hP hS hl
  obtain ⟨cc, nL, ret, hcode, hnL, hM⟩ := hC
  obtain ⟨⟨C, T, N, hcl⟩, q1, q5, q6, q2, q4, hnm, hmh⟩ := S
  refine z_after (a := ([.ref b, w1, w2, w3] : List Value).toArray) (n := 3) hc h1 h2 hkk hS hl ha ?_
  obtain ⟨g1, g2⟩ := preOf (as := [.ref b, w1, w2, w3]) hc.1 hc.W hP
  have hK := hc.1.K hc.W
  exact vx_runSU (As := [w1, w2, w3]) (Ts := []) (hK.1 ci _ hcl).2 ⟨hc.x, hc.c, rfl, hc.own, fun w hw => nomatch hw⟩ hM ⟨⟨rfl, rfl, (by show d' + 1 ≤ d; exact hd'), (by show 8 + (nL + 11) + 200 * d' ≤ 200 * d; omega), hc.1.ws hcode hc.W, List.mem_cons_self⟩, hc.ts args _ q1, hc.ts args _ q5, hc.ts args _ q6, hc.ts args _ q2, hc.ts args _ q4, hc.ts args _ hcode, hnm, hmh.len⟩ ⟨g1, hP.recv hk hcl hK, g2⟩ rfl rfl (by rw [hc.ml]; exact hl.1) rfl (lv_room hst) hd ⟨by show cells + kc ≤ K; omega, by show slots + 4 * kc ≤ 4 * K; omega⟩
theorem z_V4 {idx ci b : Nat} {y : MethodName} {w1 w2 w3 w4 : Value} {d' kc k' : Nat} {Qc : Res → HP → Prop} (pc : Nat) (S : SiteV mt.1.cls idx y ci 4) (hd : decode mt.2.1 pc = .ok (.invokevirtual idx, 3)) (hk : h.kd b = ci) (hC : Call E y d' kc [.ref b, w1, w2, w3, w4] h Qc) (hd' : d' + 1 ≤ d) (hkk : kc + k' ≤ k) (hst : (st.map fun v => v.category).sum ≤ 8) (ha : Aft E mt d Q k' Qc (pc + 3) ls st) : Z E mt d Q k h pc ls (w4 :: w3 :: w2 :: w1 :: .ref b :: st) := by
  intro p e s m args below meth c K H locs cells slots la hc h1 h2 hP hS hl
  obtain ⟨cc, nL, ret, hcode, hnL, hM⟩ := hC
  obtain ⟨q1, q2, q3, q4, ⟨T, N, hcl⟩, hmh⟩ := S
  refine z_after (a := ([.ref b, w1, w2, w3, w4] : List Value).toArray) (n := 3) hc h1 h2 hkk hS hl ha ?_
  obtain ⟨g1, g2⟩ := preOf (as := [.ref b, w1, w2, w3, w4]) hc.1 hc.W hP
  exact vx_runV (As := [w1, w2, w3, w4]) (Ts := []) ⟨hc.x, hc.c, rfl, hc.own, fun w hw => nomatch hw⟩ hM ⟨⟨rfl, rfl, (by show d' + 1 ≤ d; exact hd'), (by show 8 + (nL + 11) + 200 * d' ≤ 200 * d; omega), hc.1.ws hcode hc.W, List.mem_cons_self, hc.ts args _ hcode, hc.ts args _ q4, hmh.1, hmh.len, hc.ts args _ q1⟩, hc.ts args _ q2, hc.ts args _ q3⟩ ⟨g1, hP.recv hk hcl (hc.1.K hc.W), g2⟩ rfl rfl (by rw [hc.ml]; exact hl.1) rfl (lv_room hst) hd ⟨by show cells + kc ≤ K; omega, by show slots + 4 * kc ≤ 4 * K; omega⟩
theorem z_S4 {idx : Nat} {y : MethodName} {w1 w2 w3 w4 : Value} {d' kc k' : Nat} {Qc : Res → HP → Prop} (pc : Nat) (S : SiteS mt.1.cls idx y 4) (hd : decode mt.2.1 pc = .ok (.invokestatic idx, 3)) (hC : Call E y d' kc [w1, w2, w3, w4] h Qc) (hd' : d' + 1 ≤ d) (hkk : kc + k' ≤ k) (hst : (st.map fun v => v.category).sum ≤ 8) (ha : Aft E mt d Q k' Qc (pc + 3) ls st) : Z E mt d Q k h pc ls (w4 :: w3 :: w2 :: w1 :: st) := by
  intro p e s m args below meth c K H locs cells slots la hc h1 h2 hP hS hl
  obtain ⟨cc, nL, ret, hcode, hnL, hM⟩ := hC
  obtain ⟨q1, q2, q4, hmh⟩ := S
  refine z_after (a := ([w1, w2, w3, w4] : List Value).toArray) (n := 3) hc h1 h2 hkk hS hl ha ?_
  obtain ⟨g1, g2⟩ := preOf (as := [w1, w2, w3, w4]) hc.1 hc.W hP
  exact vx_runS (As := [w1, w2, w3, w4]) (Ts := []) ⟨hc.x, hc.c, rfl, hc.own, fun w hw => nomatch hw⟩ hM ⟨⟨rfl, rfl, (by show d' + 1 ≤ d; exact hd'), (by show 8 + (nL + 11) + 200 * d' ≤ 200 * d; omega), hc.1.ws hcode hc.W, List.mem_cons_self, hc.ts args _ hcode, hc.ts args _ q4, hmh.1, hmh.len, hc.ts args _ q1⟩, hc.ts args _ q2⟩ ⟨g1, g2⟩ rfl rfl (by rw [hc.ml]; exact hl.1) rfl (lv_room hst) hd ⟨by show cells + kc ≤ K; omega, by show slots + 4 * kc ≤ 4 * K; omega⟩
theorem z_SN4 {idx : Nat} {y : MethodName} {w1 w2 w3 w4 : Value} {d' kc k' : Nat} {Qc : Res → HP → Prop} (pc : Nat) (S : SiteSN mt.1.cls idx y 4) (hd : decode mt.2.1 pc = .ok (.invokestatic idx, 3)) (hC : Call E y d' kc [w1, w2, w3, w4] h Qc) (hd' : d' + 1 ≤ d) (hkk : kc + k' ≤ k) (hst : (st.map fun v => v.category).sum ≤ 8) (ha : Aft E mt d Q k' Qc (pc + 3) ls st) : Z E mt d Q k h pc ls (w4 :: w3 :: w2 :: w1 :: st) := by
  intro p e s m args below meth c K H locs cells slots la hc h1 h2 hP hS hl
  obtain ⟨cc, nL, ret, hcode, hnL, hM⟩ := hC
  obtain ⟨⟨host, q1⟩, q2, q4, hmh⟩ := S
  refine z_after (a := ([w1, w2, w3, w4] : List Value).toArray) (n := 3) hc h1 h2 hkk hS hl ha ?_
  obtain ⟨g1, g2⟩ := preOf (as := [w1, w2, w3, w4]) hc.1 hc.W hP
  exact vx_runSN (As := [w1, w2, w3, w4]) (Ts := []) ⟨hc.x, hc.c, rfl, hc.own, fun w hw => nomatch hw⟩ hM ⟨⟨⟨rfl, rfl, (by show d' + 1 ≤ d; exact hd'), (by show 8 + (nL + 11) + 200 * d' ≤ 200 * d; omega), hc.1.ws hcode hc.W, List.mem_cons_self⟩, hc.ts args _ hcode, hc.ts args _ q4, hmh.1, hmh.len, hc.1.nestM q1 hc.W args⟩, hc.ts args _ q2, trivial⟩ ⟨g1, g2⟩ rfl rfl (by rw [hc.ml]; exact hl.1) rfl (lv_room hst) hd ⟨by show cells + kc ≤ K; omega, by show slots + 4 * kc ≤ 4 * K; omega⟩
theorem z_I4 {idx b : Nat} {y : MethodName} {w1 w2 w3 w4 : Value} {d' kc k' : Nat} {Qc : Res → HP → Prop} (pc : Nat) (S : SiteI mt.1.cls idx y 4) (hd : decode mt.2.1 pc = .ok (.invokespecial idx, 3)) (hC : Call E y d' kc [.ref b, w1, w2, w3, w4] h Qc) (hd' : d' + 1 ≤ d) (hkk : kc + k' ≤ k) (hst : (st.map fun v => v.category).sum ≤ 8) (ha : Aft E mt d Q k' Qc (pc + 3) ls st) : Z E mt d Q k h pc ls (w4 :: w3 :: w2 :: w1 :: .ref b :: st) := by
  intro p e s m args below meth c K H locs cells slots la hc h1 h2 hP hS hl
  obtain ⟨cc, nL, ret, hcode, hnL, hM⟩ := hC
  obtain ⟨q1, q2, q4, hnm, ⟨c0, n0, qc⟩, hmh⟩ := S
  obtain rfl : ret = none := initRet hc hcode qc args
  refine z_after (a := ([.ref b, w1, w2, w3, w4] : List Value).toArray) (n := 3) hc h1 h2 hkk hS hl ha ?_
  obtain ⟨g1, g2⟩ := preOf (as := [.ref b, w1, w2, w3, w4]) hc.1 hc.W hP
  exact vx_runI (As := [w1, w2, w3, w4]) (Ts := []) ⟨hc.x, hc.c, rfl, hc.own, fun w hw => nomatch hw⟩ hM ⟨⟨rfl, rfl, (by show d' + 1 ≤ d; exact hd'), (by show 8 + (nL + 11) + 200 * d' ≤ 200 * d; omega), hc.1.ws hcode hc.W, List.mem_cons_self, hc.ts args _ hcode, hc.ts args _ q4, hmh.1, hmh.len, hc.ts args _ q1⟩, hnm, hc.ts args _ q2⟩ ⟨g1, g2⟩ rfl rfl (by rw [hc.ml]; exact hl.1) rfl (lv_room hst) hd ⟨by show cells + kc ≤ K; omega, by show slots + 4 * kc ≤ 4 * K; omega⟩
theorem z_IN4 {idx b : Nat} {y : MethodName} {w1 w2 w3 w4 : Value} {d' kc k' : Nat} {Qc : Res → HP → Prop} (pc : Nat) (S : SiteIN mt.1.cls idx y 4) (hd : decode mt.2.1 pc = .ok (.invokespecial idx, 3)) (hC : Call E y d' kc [.ref b, w1, w2, w3, w4] h Qc) (hd' : d' + 1 ≤ d) (hkk : kc + k' ≤ k) (hst : (st.map fun v => v.category).sum ≤ 8) (ha : Aft E mt d Q k' Qc (pc + 3) ls st) : Z E mt d Q k h pc ls (w4 :: w3 :: w2 :: w1 :: .ref b :: st) := by
  intro p e s m args below meth c K H locs cells slots la hc h1 h2 hP hS hl
  obtain ⟨cc, nL, ret, hcode, hnL, hM⟩ := hC
  obtain ⟨⟨host, q1⟩, q2, q4, hnm, ⟨c0, n0, qc⟩, hmh⟩ := S
  obtain rfl : ret = none := initRet hc hcode qc args
  refine z_after (a := ([.ref b, w1, w2, w3, w4] : List Value).toArray) (n := 3) hc h1 h2 hkk hS hl ha ?_
  obtain ⟨g1, g2⟩ := preOf (as := [.ref b, w1, w2, w3, w4]) hc.1 hc.W hP
  exact vx_runIN (As := [w1, w2, w3, w4]) (Ts := []) ⟨hc.x, hc.c, rfl, hc.own, fun w hw => nomatch hw⟩ hM ⟨⟨⟨rfl, rfl, (by show d' + 1 ≤ d; exact hd'), (by show 8 + (nL + 11) + 200 * d' ≤ 200 * d; omega), hc.1.ws hcode hc.W, List.mem_cons_self⟩, hc.ts args _ hcode, hc.ts args _ q4, hmh.1, hmh.len, hc.1.nestM q1 hc.W args⟩, hnm, hc.ts args _ q2⟩ ⟨g1, g2⟩ rfl rfl (by rw [hc.ml]; exact hl.1) rfl (lv_room hst) hd ⟨by show cells + kc ≤ K; omega, by show slots + 4 * kc ≤ 4 * K; omega⟩
theorem z_F4 {idx cnt ci b : Nat} {x y : MethodName} {w1 w2 w3 w4 : Value} {d' kc k' : Nat} {Qc : Res → HP → Prop} (pc : Nat) (S : SiteF mt.1.cls idx x y ci 4) (hd : decode mt.2.1 pc = .ok (.invokeinterface idx cnt, 5)) (hk : h.kd b = ci) (hC : Call E y d' kc [.ref b, w1, w2, w3, w4] h Qc) (hd' : d' + 1 ≤ d) (hkk : kc + k' ≤ k) (hst : (st.map fun v => v.category).sum ≤ 8) (ha : Aft E mt d Q k' Qc (pc + 5) ls st) : Z E mt d Q k h pc ls (w4 :: w3 :: w2 :: w1 :: .ref b :: st) := by
  intro p e s m args below meth c K H locs cells slots la hc h1 h2 hP hS hl
  obtain ⟨cc, nL, ret, hcode, hnL, hM⟩ := hC
  obtain ⟨C, T, N, hcl, q1, q3, q2, q4, f1, f2, f3, f4, f5, hmh⟩ := S
  refine z_after (a := ([.ref b, w1, w2, w3, w4] : List Value).toArray) (n := 5) hc h1 h2 hkk hS hl ha ?_
  obtain ⟨g1, g2⟩ := preOf (as := [.ref b, w1, w2, w3, w4]) hc.1 hc.W hP
  have hK := hc.1.K hc.W
  have hb := hc.1.2.1
  obtain ⟨i1, i2, i3, i4, i5⟩ := va_Fw.moved hmh.1 hc.W.alike (va_Fw.of (hb _ f1) (hb _ f2) (hb _ f3) (hb _ f4) (hb _ f5))
  exact vx_runF (As := [w1, w2, w3, w4]) (Ts := []) (hK.1 ci _ hcl).2 ⟨hc.x, hc.c, rfl, hc.own, fun w hw => nomatch hw⟩ hM ⟨⟨rfl, rfl, (by show d' + 1 ≤ d; exact hd'), (by show 8 + (nL + 11) + 200 * d' ≤ 200 * d; omega), hc.1.ws hcode hc.W, List.mem_cons_self⟩, hc.ts args _ q1, va_any rfl i1, va_any rfl i2, hc.ts args _ q3, hc.ts args _ q2, va_any rfl i3, va_any rfl i4, va_any rfl i5, hc.ts args _ q4, hc.ts args _ hcode, hmh.1, hmh.len⟩ ⟨g1, hP.recv hk hcl hK, g2⟩ rfl rfl (by rw [hc.ml]; exact hl.1) rfl (lv_room hst) hd ⟨by show cells + kc ≤ K; omega, by show slots + 4 * kc ≤ 4 * K; omega⟩
theorem z_U4 {idx ci b : Nat} {x y : MethodName} {owner : String} {w1 w2 w3 w4 : Value} {d' kc k' : Nat} {Qc : Res → HP → Prop} (pc : Nat) (S : SiteU mt.1.cls idx x y owner ci 4) (hd : decode mt.2.1 pc = .ok (.invokevirtual idx, 3)) (hk : h.kd b = ci) (hC : Call E y d' kc [.ref b, w1, w2, w3, w4] h Qc) (hd' : d' + 1 ≤ d) (hkk : kc + k' ≤ k) (hst : (st.map fun v => v.category).sum ≤ 8) (ha : Aft E mt d Q k' Qc (pc + 3) ls st) : Z E mt d Q k h pc ls (w4 :: w3 :: w2 :: w1 :: .ref b :: st) := by
  intro p e s m args below meth c K H locs cells slots la hc h1 h2 hP hS hl
  obtain ⟨cc, nL, ret, hcode, hnL, hM⟩ := hC
  obtain ⟨C, T, N, hcl, q1, q5, q3, q2, q4, hdecl, how, hmh⟩ := S
  refine z_after (a := ([.ref b, w1, w2, w3, w4] : List Value).toArray) (n := 3) hc h1 h2 hkk hS hl ha ?_
  obtain ⟨g1, g2⟩ := preOf (as := [.ref b, w1, w2, w3, w4]) hc.1 hc.W hP
  have hD : va_Decl s ⟨owner, x.name, x.desc⟩ := by
    rcases hdecl with hw | ⟨w1, b0, m0, r0, w2⟩
    · exact va_Decl.abs (va_Nw.warmD hc.W (va_Nw.of rfl (hc.1.2.1 _ hw)))
    · exact va_Decl.of (hc.ts args _ w1) (hc.ts args _ w2)
  exact vx_runU (As := [w1, w2, w3, w4]) (Ts := []) ⟨hc.x, hc.c, rfl, hc.own, fun w hw => nomatch hw⟩ hM ⟨⟨rfl, rfl, (by show d' + 1 ≤ d; exact hd'), (by show 8 + (nL + 11) + 200 * d' ≤ 200 * d; omega), hc.1.ws hcode hc.W, List.mem_cons_self⟩, hc.ts args _ hcode, hc.ts args _ q4, how, hmh.len, hc.ts args _ q1, hc.ts args _ q5, hD, hc.ts args _ q3, hc.ts args _ q2⟩ ⟨g1, hP.recv hk hcl (hc.1.K hc.W), g2⟩ rfl rfl (by rw [hc.ml]; exact hl.1) rfl (lv_room hst) hd ⟨by show cells + kc ≤ K; omega, by show slots + 4 * kc ≤ 4 * K; omega⟩
theorem z_SU4 {idx ci b : Nat} {y : MethodName} {w1 w2 w3 w4 : Value} {d' kc k' : Nat} {Qc : Res → HP → Prop} (pc : Nat) (S : SiteSU mt.1.cls idx y ci 4) (hd : decode mt.2.1 pc = .ok (.invokespecial idx, 3)) (hk : h.kd b = ci) (hC : Call E y d' kc [.ref b, w1, w2, w3, w4] h Qc) (hd' : d' + 1 ≤ d) (hkk : kc + k' ≤ k) (hst : (st.map fun v => v.category).sum ≤ 8) (ha : Aft E mt d Q k' Qc (pc + 3) ls st) : Z E mt d Q k h pc ls (w4 :: w3 :: w2 :: w1 :: .ref b :: st) := by
  intro p e s m args below meth c K H locs cells slots la hc h1 h2 hP hS hl
  obtain ⟨cc, nL, ret, hcode, hnL, hM⟩ := hC
  obtain ⟨⟨C, T, N, hcl⟩, q1, q5, q6, q2, q4, hnm, hmh⟩ := S
  refine z_after (a := ([.ref b, w1, w2, w3, w4] : List Value).toArray) (n := 3) hc h1 h2 hkk hS hl ha ?_
  obtain ⟨g1, g2⟩ := preOf (as := [.ref b, w1, w2, w3, w4]) hc.1 hc.W hP
  have hK := hc.1.K hc.W
  exact vx_runSU (As := [w1, w2, w3, w4]) (Ts := []) (hK.1 ci _ hcl).2 ⟨hc.x, hc.c, rfl, hc.own, fun w hw => nomatch hw⟩ hM ⟨⟨rfl, rfl, (by show d' + 1 ≤ d; exact hd'), (by show 8 + (nL + 11) + 200 * d' ≤ 200 * d; omega), hc.1.ws hcode hc.W, List.mem_cons_self⟩, hc.ts args _ q1, hc.ts args _ q5, hc.ts args _ q6, hc.ts args _ q2, hc.ts args _ q4, hc.ts args _ hcode, hnm, hmh.len⟩ ⟨g1, hP.recv hk hcl hK, g2⟩ rfl rfl (by rw [hc.ml]; exact hl.1) rfl (lv_room hst) hd ⟨by show cells + kc ≤ K; omega, by show slots + 4 * kc ≤ 4 * K; omega⟩
end CallZ
