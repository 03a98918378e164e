/-! ROWS that read and write cells, make cells, and end a method -/
theorem Zc.x {E : Ev} {mt : Mth} {p : Program} {s : State} {m : MethodId} {meth : Method} {c : Code} (hc : Zc E mt p s m meth c) : p.tables.exec = Jvm.exec := hc.2.1
theorem Zc.c {E : Ev} {mt : Mth} {p : Program} {s : State} {m : MethodId} {meth : Method} {c : Code} (hc : Zc E mt p s m meth c) : c.code = mt.2.1 := hc.2.2.1
theorem Zc.ml {E : Ev} {mt : Mth} {p : Program} {s : State} {m : MethodId} {meth : Method} {c : Code} (hc : Zc E mt p s m meth c) : c.maxLocals = mt.2.2.1 := hc.2.2.2.1
theorem Zc.rt {E : Ev} {mt : Mth} {p : Program} {s : State} {m : MethodId} {meth : Method} {c : Code} (hc : Zc E mt p s m meth c) : meth.sig.returnType = mt.2.2.2.1 := hc.2.2.2.2.1
theorem Zc.lk {E : Ev} {mt : Mth} {p : Program} {s : State} {m : MethodId} {meth : Method} {c : Code} (hc : Zc E mt p s m meth c) : meth.locks = false := hc.2.2.2.2.2.1
theorem Zc.own {E : Ev} {mt : Mth} {p : Program} {s : State} {m : MethodId} {meth : Method} {c : Code} (hc : Zc E mt p s m meth c) : s.vm.findClass mt.1.cls = some m.cls := hc.2.2.2.2.2.2.1
theorem Zc.nm {E : Ev} {mt : Mth} {p : Program} {s : State} {m : MethodId} {meth : Method} {c : Code} (hc : Zc E mt p s m meth c) : meth.name = mt.1.name := hc.2.2.2.2.2.2.2.1
theorem Zc.tb {E : Ev} {mt : Mth} {p : Program} {s : State} {m : MethodId} {meth : Method} {c : Code} (hc : Zc E mt p s m meth c) : c.exceptionTable.toList = tableOf mt.2.2.2.2 := hc.2.2.2.2.2.2.2.2.1
theorem Zc.W {E : Ev} {mt : Mth} {p : Program} {s : State} {m : MethodId} {meth : Method} {c : Code} (hc : Zc E mt p s m meth c) : E.s.WarmedH s.vm := hc.2.2.2.2.2.2.2.2.2.1
theorem Zc.le {E : Ev} {mt : Mth} {p : Program} {s : State} {m : MethodId} {meth : Method} {c : Code} (hc : Zc E mt p s m meth c) : E.z ≤ s.heap.size := hc.2.2.2.2.2.2.2.2.2.2.1
theorem Zc.bl {E : Ev} {mt : Mth} {p : Program} {s : State} {m : MethodId} {meth : Method} {c : Code} (hc : Zc E mt p s m meth c) : ∀ q, q < E.z → s.heap[q]? = E.s.heap[q]? := hc.2.2.2.2.2.2.2.2.2.2.2
theorem Zc.ts {E : Ev} {mt : Mth} {p : Program} {s : State} {m : MethodId} {meth : Method} {c : Code} (hc : Zc E mt p s m meth c) (args : Array Value) : ∀ w ∈ lw_all, w.before args s = true := fun _ hw => hc.1.word hw hc.W args
theorem cls_lt {ci : Nat} {r : vw_C} (h : cls_[ci]? = some r) : ci < 16 := (List.getElem?_eq_some_iff.mp h).1
theorem Pic.dom {E : Ev} {h : HP} {H : Heap} (P : Pic E h H) {a c : Nat} (hk : h.kd a = c) (hc : c ≠ 999) (h15 : c ≠ 15 ∨ E.z ≤ a) : E.z ≤ a ∧ a < h.sz :=
  Classical.byContradiction fun hn => by
    rcases P.2.2.2.2.1 a hn with q | ⟨q1, q2, -⟩
    · exact hc (by rw [← hk]; exact q)
    · rcases h15 with h15 | h15
      · exact h15 (by rw [← hk]; exact q2)
      · omega
theorem Pic.objS {E : Ev} {h : HP} {H : Heap} (P : Pic E h H) {a ci : Nat} {r : vw_C} (hk : h.kd a = ci) (hr : cls_[ci]? = some r) (h15 : ci ≠ 15 ∨ E.z ≤ a) : t_OB a (E.D.1 ci) r.2.2 (E.D.2 ci) H (h.mm a) := by
  have hd := P.dom hk (fun e => by have := cls_lt hr; omega) h15
  have h1 := (P.2.2.2.1 a hd.1 hd.2).1 r (by rw [hk]; exact hr)
  rw [hk] at h1
  exact h1
theorem Pic.obj {E : Ev} {h : HP} {H : Heap} (P : Pic E h H) {a ci : Nat} {r : vw_C} (hk : h.kd a = ci) (hr : cls_[ci]? = some r) : ∃ cell : Cell, H[a]? = some cell ∧ cell.cls = E.D.1 ci ∧ (cell.vm.isStatics = false ∧ cell.vm ≠ .unknown) ∧ ∀ k, k < r.2.2 → cell.slots[E.D.2 ci k]? = some (h.mm a k) := by
  by_cases e : ci ≠ 15 ∨ E.z ≤ a
  · obtain ⟨cell, q1, q2, q3, q4⟩ := P.objS hk hr e
    exact ⟨cell, q1, q2, ⟨by rw [q3]; rfl, by rw [q3]; exact fun q => by cases q⟩, q4⟩
  · have e1 : ci = 15 := by omega
    subst e1
    cases hr
    have hlt : a < E.z := by omega
    rcases P.2.2.2.2.1 a (by omega) with q | ⟨-, -, cell, g1, g2, g3, g4, g5⟩
    · omega
    · refine ⟨cell, (P.2.2.1 a hlt).trans g1, g2, ⟨g3, g4⟩, fun k hk1 => ?_⟩
      have : k = 0 := Nat.lt_one_iff.mp hk1
      subst this
      exact g5
theorem Pic.arr {E : Ev} {h : HP} {H : Heap} (P : Pic E h H) {a i : Nat} (hi : i < 7) (hk : h.kd a = 100 + i) : H[a]? = some (arrV (E.A i) (h.ln a) (h.mm a)) :=
  (P.2.2.2.1 a (P.dom hk (by omega) (Or.inl (by omega))).1 (P.dom hk (by omega) (Or.inl (by omega))).2).2 i hi hk
theorem Old.put {E : Ev} {h : HP} (O : Old E h) {a k : Nat} {v : Value} (ha : E.z ≤ a) : Old E (h.put a k v) := by
  refine ⟨fun b hb => ?_, fun j hj => ?_⟩
  · rcases O.1 b hb with q | ⟨q1, q2, q3⟩
    · exact Or.inl q
    · exact Or.inr ⟨q1, q2, by rw [mm_nea h a k v 0 (show b ≠ a by omega)]; exact q3⟩
  · obtain ⟨g1, g2, g3⟩ := O.2 j hj
    exact ⟨g1, g2, by rw [mm_nea h a k v 0 (show E.C j ≠ a by omega)]; exact g3⟩
theorem Old.mk {E : Ev} {h : HP} (O : Old E h) (hz : E.z ≤ h.sz) {c n : Nat} {f : Nat → Value} : Old E (h.mk c n f) := by
  refine ⟨fun b hb => ?_, fun j hj => ?_⟩
  · rw [sz_mk] at hb
    have e : b ≠ h.sz := by omega
    have em : (h.mk c n f).mm b 0 = h.mm b 0 := by simp [mm_mk, e]
    have ek : (h.mk c n f).kd b = h.kd b := by simp [kd_mk, e]
    rw [em, ek]
    exact O.1 b (by omega)
  · obtain ⟨g1, g2, g3⟩ := O.2 j hj
    have e : E.C j ≠ h.sz := by omega
    exact ⟨g1, by rw [kd_mk, if_neg e]; exact g2, by rw [mm_mk, if_neg e]; exact g3⟩
theorem Pic.recv {E : Ev} {h : HP} {H : Heap} (P : Pic E h H) {a ci : Nat} {C : String} {T : u_T} {N : Nat} (hk : h.kd a = ci) (hr : cls_[ci]? = some (C, T, N)) {s : State} (hK : va_K E.D cls_ (atys E.A) s) : ∃ cell : Cell, H[a]? = some cell ∧ cell.vm.isStatics = false ∧ s.vm.findClass C = some cell.cls := by
  obtain ⟨cell, g1, g2, g3, -⟩ := P.obj hk hr
  exact ⟨cell, g1, g3.1, by rw [g2]; exact (hK.1 ci _ hr).2.1⟩
theorem Pic.one {E : Ev} {h : HP} {H H' : Heap} (P : Pic E h H) {a k : Nat} {v : Value} (hz : H'.size = H.size) (ho : ∀ q : Nat, q ≠ a → H'[q]? = H[q]?) (ha : E.z ≤ a) (hok : Cok E (h.put a k v) a H') : Pic E (h.put a k v) H' := by
  refine ⟨hz.trans P.1, P.2.1, fun q hq => (ho q (by omega)).trans (P.2.2.1 q hq), fun b g1 g2 => ?_, P.2.2.2.2.put ha⟩
  by_cases e : b = a
  · subst e; exact hok
  · obtain ⟨c1, c2⟩ := P.2.2.2.1 b g1 g2
    have em : (h.put a k v).mm b = h.mm b := by funext j; exact mm_nea h a k v j e
    refine ⟨fun r hr => ?_, fun i hi hk => ?_⟩
    · rw [em]; exact (c1 r hr).kept (ho b e)
    · rw [em, ho b e]; exact c2 i hi hk
theorem Pic.new {E : Ev} {h : HP} {H H' : Heap} (P : Pic E h H) {c n : Nat} {f : Nat → Value} (hz : H'.size = H.size + 1) (ho : ∀ q : Nat, q < H.size → H'[q]? = H[q]?) (hok : Cok E (h.mk c n f) h.sz H') : Pic E (h.mk c n f) H' := by
  have hs := P.1
  refine ⟨by rw [hz, hs]; rfl, Nat.le_trans P.2.1 (Nat.le_succ _), fun q hq => (ho q (by have := P.2.1; omega)).trans (P.2.2.1 q hq), fun b g1 g2 => ?_, P.2.2.2.2.mk P.2.1⟩
  · by_cases e : b = h.sz
    · subst e; exact hok
    · have g3 : b < h.sz := by rw [sz_mk] at g2; omega
      obtain ⟨c1, c2⟩ := P.2.2.2.1 b g1 g3
      have em : (h.mk c n f).mm b = h.mm b := by funext j; simp [mm_mk, e]
      have ek : (h.mk c n f).kd b = h.kd b := by simp [kd_mk, e]
      have el : (h.mk c n f).ln b = h.ln b := by simp [ln_mk, e]
      refine ⟨fun r hr => ?_, fun i hi hk => ?_⟩
      · rw [em, ek]; rw [ek] at hr; exact (c1 r hr).kept (ho b (by omega))
      · rw [em, el, ho b (by omega)]; rw [ek] at hk; exact c2 i hi hk
/-- the tables' words of a class of ours -/
def ClsOK (ci : Nat) (C : String) (T : u_T) (N : Nat) (ty : Nat → FieldType) : Prop := cls_[ci]? = some (C, T, N) ∧ (∀ w ∈ u_ws C T N, w ∈ lw_all) ∧ (∀ k, k < N → parseFieldDescriptor (T k).2.2.1 = some (ty k)) ∧ ∀ a, a < N → ∀ b, b < N → a ≠ b → (T a).2.1 ≠ (T b).2.1
def FLink (own : String) (idx : Nat) (t : String × String × String × Bool) : Prop := (∃ ref : String, Cond.fieldLink own idx ref t.2.1 t.2.2.1 ∈ lw_all ∧ (ref = t.1 ∨ Cond.sameField ref t.1 t.2.1 t.2.2.1 ∈ lw_all)) ∨ ∃ host : String, Cond.fieldLinkNest own idx t.1 t.2.1 t.2.2.1 host ∈ lw_tbl
/-- entry idx of class own is field f of the class ci -/
def SiteG (own : String) (idx ci f : Nat) : Prop := ∃ (C : String) (T : u_T) (N : Nat) (ty : Nat → FieldType), ClsOK ci C T N ty ∧ f < N ∧ FLink own idx (T f)
def SiteP (own : String) (idx ci f : Nat) (t : FieldType) (fin : Bool) : Prop := ∃ (C : String) (T : u_T) (N : Nat) (ty : Nat → FieldType), ClsOK ci C T N ty ∧ f < N ∧ FLink own idx (T f) ∧ ty f = t ∧ (T f).2.2.2 = fin ∧ (fin = true → (T f).1 = own)
theorem FLink.a {own : String} {idx : Nat} {t : String × String × String × Bool} (h : Cond.fieldLink own idx t.1 t.2.1 t.2.2.1 ∈ lw_all) : FLink own idx t := Or.inl ⟨_, h, Or.inl rfl⟩
theorem FLink.s {own ref : String} {idx : Nat} {t : String × String × String × Bool} (h : Cond.fieldLink own idx ref t.2.1 t.2.2.1 ∈ lw_all) (h2 : Cond.sameField ref t.1 t.2.1 t.2.2.1 ∈ lw_all) : FLink own idx t := Or.inl ⟨_, h, Or.inr h2⟩
theorem FLink.n {own host : String} {idx : Nat} {t : String × String × String × Bool} (h : Cond.fieldLinkNest own idx t.1 t.2.1 t.2.2.1 host ∈ lw_tbl) : FLink own idx t := Or.inr ⟨_, h⟩
section HeapZ
variable {E : Ev} {mt : Mth} {d k : Nat} {Q : Res → HP → Prop} {h : HP} {ls st : List Value}
theorem z_get {idx ci f a : Nat} {v : Value} (pc : Nat) (S : SiteG mt.1.cls idx ci f) (hd : decode mt.2.1 pc = .ok (.getfield idx, 3)) (hk : h.kd a = ci) (hv : h.mm a f = v) (kk : Z E mt d Q k h (pc + 3) ls (v :: st)) : Z E mt d Q k h pc ls (.ref a :: st) := by
  intro p e s m args below meth c K H locs cells slots la hc h1 h2 hP hS hl
  obtain ⟨C, T, N, ty, ⟨hcl, hin, hty, hnm⟩, hf, hlink⟩ := S
  have kk := kk p e s m args below meth c K H locs cells slots la hc h1 h2 hP hS hl
  obtain ⟨cell, q1, q2, q3, q4⟩ := hP.obj hk hcl
  obtain ⟨hSl, hfc, kC, hkC, hkind⟩ := (hc.1.K hc.W).1 ci _ hcl
  obtain ⟨cf, kf, fi, fd, hi, hsl⟩ := hSl f hf
  have hst := (u_facts hfc hkC (u_lays (hc.ts args) hin hf) hi).1
  have hkn : cell.vm ≠ .unknown := q3.2
  have hslot : cell.slots[fd.slot]? = some v := by rw [hsl, q4 f hf, hv]
  rcases hlink with ⟨ref, hl1, hr⟩ | ⟨host, hl1⟩
  · refine W.getf hc.x hc.c hc.own (hc.ts args _ hl1) (i := fi) (k := kf) (cf := cf) (f := fd) ?_ hst q1 hkn hslot rfl rfl hd kk
    rcases hr with rfl | hr
    · exact hi
    · exact u_same (hc.ts args _ hr) _ hi
  · exact va_Wgetf hc.x hc.c hc.own (hc.1.nestF hl1 hc.W args) hi hst q1 hkn hslot rfl rfl hd kk
theorem z_putI {idx ci f a : Nat} {v : Value} {t : FieldType} {fin : Bool} (pc : Nat) (S : SiteP mt.1.cls idx ci f t fin) (hfin : fin = true → mt.1.name = "<init>") (hd : decode mt.2.1 pc = .ok (.putfield idx, 3)) (hk : h.kd a = ci) (hn : narrow t v = v) (hft : fits t v = true) (h15 : ci ≠ 15 ∨ E.z ≤ a) (kk : Z E mt d Q k (h.put a f v) (pc + 3) ls st) : Z E mt d Q k h pc ls (v :: .ref a :: st) := by
  intro p e s m args below meth c K H locs cells slots la hc h1 h2 hP hS hl
  obtain ⟨C, T, N, ty, ⟨hcl, hin, hty, hnm⟩, hf, hlink, ht, hfi, hdecl⟩ := S
  have hdm := hP.dom hk (fun e => by have := cls_lt hcl; omega) h15
  obtain ⟨cell, q1, q2, q3, q4⟩ := hP.objS hk hcl h15
  have hK := hc.1.K hc.W
  have hap := va_apart (own := mt.1.cls) (hc.ts args) hin ty hty hnm hK hcl
  obtain ⟨hSl, hfc, kC, hkC, hkind⟩ := hK.1 ci _ hcl
  obtain ⟨cf, kf, fi, fd, hi, hsl⟩ := hSl f hf
  have hst := (u_facts hfc hkC (u_lays (hc.ts args) hin hf) hi).1
  have hd9 : parseFieldDescriptor (T f).2.2.1 = some t := by rw [hty f hf, ht]
  have hlay := hc.ts args _ (hin _ (u_in_lay hf))
  have hlt : fd.slot < cell.slots.size := by rw [hsl]; exact k2_hasslot (q4 f hf)
  have hok : ∀ H' : Heap, H'[a]? = some (cell.setSlot fd.slot v) → Cok E (h.put a f v) a H' := by
    intro H' e1
    refine ⟨fun r hr => ?_, fun i hi9 hk9 => ?_⟩
    · have hk0 : (h.put a f v).kd a = ci := hk
      rw [hk0] at hr ⊢
      cases Option.some.inj (hr.symm.trans hcl)
      rw [hsl] at e1
      refine t_OB.to (V := updV (h.mm a) f v) ⟨_, e1, q2, q3, t_set q4 hap hf v⟩ (fun j _ => ?_)
      simp only [updV, mm_put, true_and]
    · have := cls_lt hcl
      have hk0 : (h.put a f v).kd a = ci := hk
      omega
  have kont : ∀ H' : Heap, H'[a]? = some (cell.setSlot fd.slot v) → H'.size = H.size → (∀ q, q ≠ a → H'[q]? = H[q]?) → W p E.l e (rmOf d K) s m args below meth c H' (locs ++ [⟨a, fd.slot⟩]) cells slots (vx_MQ below (QcE E Q) (XcE E Q) args s K (4 * K) (fun q => E.z ≤ q)) (F0 m (pc + 3) la st) :=
    fun H' e1 e2 e3 => kk p e s m args below meth c K H' _ cells slots la hc h1 h2 (hP.one e2 e3 hdm.1 (hok H' e1)) (hS.put e2 e3 hdm.1) hl
  unfold u_lay at hlay
  cases fin with
  | false =>
    rw [if_neg (by rw [hfi]; decide)] at hlay
    have h6 := u_store hfc hkC hkind hlay hi hd9 hn hft
    rcases hlink with ⟨ref, hl1, hr⟩ | ⟨host, hl1⟩
    · refine W.putK hc.x hc.c (f := fd) ⟨hc.own, hc.ts args _ hl1, ⟨cf, kf, fi, ?_⟩, hst⟩ (by rw [q2]; exact h6) q1 q3 hlt rfl rfl hd kont
      rcases hr with rfl | hr
      · exact hi
      · exact u_same (hc.ts args _ hr) _ hi
    · exact va_WputK hc.x hc.c (f := fd) hc.own (hc.1.nestF hl1 hc.W args) hi hst (by rw [q2]; exact h6) q1 q3 hlt rfl rfl hd kont
  | true =>
    rw [if_pos hfi] at hlay
    have hcf : m.cls = cf := by
      obtain ⟨_, _, c', _, _, _, -, -, hf', -, -, -, hown2, -⟩ := Cond.laysFinal_spec hlay
      have e1 : c' = cf := by have := hi.symm.trans hf'; simp at this; exact this.1.symm
      rw [hdecl rfl] at hown2
      rw [← e1]; exact Option.some.inj (hc.own.symm.trans hown2)
    have h6 := u_fits hfc hkC hkind (Or.inr hlay) hi hd9 hn hft
    rcases hlink with ⟨ref, hl1, hr⟩ | ⟨host, hl1⟩
    · refine W.putFinK hc.x hc.c hc.own (hc.ts args _ hl1) (i := fi) (k := kf) (cf := cf) (f := fd) ?_ hst hcf (hc.nm.trans (hfin rfl)) (by rw [q2]; exact h6) q1 q3 hlt rfl rfl hd kont
      rcases hr with rfl | hr
      · exact hi
      · exact u_same (hc.ts args _ hr) _ hi
    · refine va_Wputf hc.x hc.c hc.own (hc.1.nestF hl1 hc.W args) hi hst (Or.inr ⟨hcf, hc.nm.trans (hfin rfl)⟩) q1 (by rw [q3]; exact fun q => by cases q) hlt h6.1 (by rw [q3, q2]; exact h6.2) rfl rfl hd ?_
      have ha : a < H.size := (Array.getElem?_eq_some_iff.mp q1).1
      refine kont _ ?_ ?_ ?_
      · simp [Array.getElem?_setIfInBounds, ha]
      · simp
      · intro q hq
        simp [Array.getElem?_setIfInBounds, Ne.symm hq]
theorem pk_arrok {h : HP} {H' : Heap} {a i j : Nat} {v : Value} (hi : i < 7) (hk : h.kd a = 100 + i) (e : H'[a]? = some ((arrV (E.A i) (h.ln a) (h.mm a)).setSlot j v)) : Cok E (h.put a j v) a H' := by
  have hk0 : (h.put a j v).kd a = 100 + i := hk
  refine ⟨fun r hr => ?_, fun i2 hi2 hk2 => ?_⟩
  · rw [hk0] at hr
    have := cls_lt hr
    omega
  · have e2 : i2 = i := by omega
    subst e2
    rw [e, arrV_store]
    have em : (h.put a j v).mm a = updV (h.mm a) j v := by funext q; simp only [updV, mm_put, true_and]
    rw [em]
    rfl
theorem ix_in {i : Int32} {j n : Nat} (hj : i = nI j) (hb : j < n) (hN : n < 2147483648) {cA : ClassId} {f : Nat → Value} : ¬ (i < 0 ∨ (arrV cA n f).slots.size ≤ i.toNatClampNeg) := by
  rw [arrV_size, hj]
  exact nI_in hb hN
theorem ix_cl {i : Int32} {j n : Nat} (hj : i = nI j) (hb : j < n) (hN : n < 2147483648) : i.toNatClampNeg = j := by
  rw [hj]
  exact nI_clamp (by omega)
theorem z_put {idx ci f a : Nat} {v : Value} {t : FieldType} {fin : Bool} (pc : Nat) (S : SiteP mt.1.cls idx ci f t fin) (hfin : fin = true → mt.1.name = "<init>") (hd : decode mt.2.1 pc = .ok (.putfield idx, 3)) (hk : h.kd a = ci) (hn : narrow t v = v) (hft : fits t v = true) (kk : Z E mt d Q k (h.put a f v) (pc + 3) ls st) (h15 : ci ≠ 15 := by decide) : Z E mt d Q k h pc ls (v :: .ref a :: st) :=
  z_putI pc S hfin hd hk hn hft (Or.inl h15) kk
/-- the cached Integers are pictured; a new cell lies behind all that stood before -/
theorem z_ic (pc : Nat) (kk : (E.z ≤ h.sz ∧ ∀ k, k < 256 → E.C k < E.z ∧ h.kd (E.C k) = 15 ∧ h.mm (E.C k) 0 = .int (vb_c k)) → Z E mt d Q k h pc ls st) : Z E mt d Q k h pc ls st := by
  intro p e s m args below meth c K H locs cells slots la hc h1 h2 hP hS hl
  exact kk ⟨hP.2.1, fun k hk => hP.2.2.2.2.2 k hk⟩ p e s m args below meth c K H locs cells slots la hc h1 h2 hP hS hl
theorem z_iald {a n : Nat} {i : Int32} {v : Value} (pc j : Nat) (hd : decode mt.2.1 pc = .ok (.iaload, 1)) (hk : h.kd a = 100) (hn : h.ln a = n) (hj : i = nI j) (hb : j < n) (hN : n < 2147483648) (hv : h.mm a j = v) (kk : Z E mt d Q k h (pc + 1) ls (v :: st)) : Z E mt d Q k h pc ls (.int i :: .ref a :: st) := by
  intro p e s m args below meth c K H locs cells slots la hc h1 h2 hP hS hl
  have kk := kk p e s m args below meth c K H locs cells slots la hc h1 h2 hP hS hl
  subst hn
  exact W.iald (v := v) hc.x hc.c (hP.arr (i := 0) (by decide) hk) (((hc.1.K hc.W).2 0 _ (atys_at E.A (i := 0) (by decide))).1 _ _) (fun q => by cases q) (ix_in hj hb hN) (by rw [ix_cl hj hb hN, arrV_read _ _ hb, hv]) rfl rfl hd kk
theorem z_zald {a n : Nat} {i : Int32} {v : Value} (pc j : Nat) (hd : decode mt.2.1 pc = .ok (.baload, 1)) (hk : h.kd a = 101) (hn : h.ln a = n) (hj : i = nI j) (hb : j < n) (hN : n < 2147483648) (hv : h.mm a j = v) (kk : Z E mt d Q k h (pc + 1) ls (v :: st)) : Z E mt d Q k h pc ls (.int i :: .ref a :: st) := by
  intro p e s m args below meth c K H locs cells slots la hc h1 h2 hP hS hl
  have kk := kk p e s m args below meth c K H locs cells slots la hc h1 h2 hP hS hl
  subst hn
  exact W.zald (v := v) hc.x hc.c (hP.arr (i := 1) (by decide) hk) (((hc.1.K hc.W).2 1 _ (atys_at E.A (i := 1) (by decide))).1 _ _) (fun q => by cases q) (ix_in hj hb hN) (by rw [ix_cl hj hb hN, arrV_read _ _ hb, hv]) rfl rfl hd kk
theorem z_bald {a n : Nat} {i : Int32} {v : Value} (pc j : Nat) (hd : decode mt.2.1 pc = .ok (.baload, 1)) (hk : h.kd a = 102) (hn : h.ln a = n) (hj : i = nI j) (hb : j < n) (hN : n < 2147483648) (hv : h.mm a j = v) (kk : Z E mt d Q k h (pc + 1) ls (v :: st)) : Z E mt d Q k h pc ls (.int i :: .ref a :: st) := by
  intro p e s m args below meth c K H locs cells slots la hc h1 h2 hP hS hl
  have kk := kk p e s m args below meth c K H locs cells slots la hc h1 h2 hP hS hl
  subst hn
  exact W.bald (v := v) hc.x hc.c (hP.arr (i := 2) (by decide) hk) (((hc.1.K hc.W).2 2 _ (atys_at E.A (i := 2) (by decide))).1 _ _) (fun q => by cases q) (ix_in hj hb hN) (by rw [ix_cl hj hb hN, arrV_read _ _ hb, hv]) rfl rfl hd kk
theorem z_lald {a n : Nat} {i : Int32} {v : Value} (pc j : Nat) (hd : decode mt.2.1 pc = .ok (.laload, 1)) (hk : h.kd a = 103) (hn : h.ln a = n) (hj : i = nI j) (hb : j < n) (hN : n < 2147483648) (hv : h.mm a j = v) (kk : Z E mt d Q k h (pc + 1) ls (v :: st)) : Z E mt d Q k h pc ls (.int i :: .ref a :: st) := by
  intro p e s m args below meth c K H locs cells slots la hc h1 h2 hP hS hl
  have kk := kk p e s m args below meth c K H locs cells slots la hc h1 h2 hP hS hl
  subst hn
  exact W.lald (v := v) hc.x hc.c (hP.arr (i := 3) (by decide) hk) (((hc.1.K hc.W).2 3 _ (atys_at E.A (i := 3) (by decide))).1 _ _) (fun q => by cases q) (ix_in hj hb hN) (by rw [ix_cl hj hb hN, arrV_read _ _ hb, hv]) rfl rfl hd kk
theorem z_iast {a n : Nat} {i : Int32} {x : Int32} (pc j : Nat) (hd : decode mt.2.1 pc = .ok (.iastore, 1)) (hk : h.kd a = 100) (hn : h.ln a = n) (hj : i = nI j) (hb : j < n) (hN : n < 2147483648) (kk : Z E mt d Q k (h.put a j (.int x)) (pc + 1) ls st) : Z E mt d Q k h pc ls (.int x :: .int i :: .ref a :: st) := by
  intro p e s m args below meth c K H locs cells slots la hc h1 h2 hP hS hl
  subst hn
  have hz := (hP.dom hk (by decide) (Or.inl (by decide))).1
  refine W.iast hc.x hc.c (hP.arr (i := 0) (by decide) hk) (((hc.1.K hc.W).2 0 _ (atys_at E.A (i := 0) (by decide))).1 _ _) (fun q => by cases q) (ix_in hj hb hN) rfl rfl hd fun H' e1 e2 e3 => ?_
  rw [ix_cl hj hb hN] at e1 ⊢
  exact kk p e s m args below meth c K H' _ cells slots la hc h1 h2 (hP.one e2 e3 hz (pk_arrok (i := 0) (by decide) hk e1)) (hS.put e2 e3 hz) hl
theorem z_last {a n : Nat} {i : Int32} {x : Int64} (pc j : Nat) (hd : decode mt.2.1 pc = .ok (.lastore, 1)) (hk : h.kd a = 103) (hn : h.ln a = n) (hj : i = nI j) (hb : j < n) (hN : n < 2147483648) (kk : Z E mt d Q k (h.put a j (.long x)) (pc + 1) ls st) : Z E mt d Q k h pc ls (.long x :: .int i :: .ref a :: st) := by
  intro p e s m args below meth c K H locs cells slots la hc h1 h2 hP hS hl
  subst hn
  have hz := (hP.dom hk (by decide) (Or.inl (by decide))).1
  refine W.last hc.x hc.c (hP.arr (i := 3) (by decide) hk) (((hc.1.K hc.W).2 3 _ (atys_at E.A (i := 3) (by decide))).1 _ _) (fun q => by cases q) (ix_in hj hb hN) rfl rfl hd fun H' e1 e2 e3 => ?_
  rw [ix_cl hj hb hN] at e1 ⊢
  exact kk p e s m args below meth c K H' _ cells slots la hc h1 h2 (hP.one e2 e3 hz (pk_arrok (i := 3) (by decide) hk e1)) (hS.put e2 e3 hz) hl
theorem z_zast {a n : Nat} {i x : Int32} (pc j : Nat) (hd : decode mt.2.1 pc = .ok (.bastore, 1)) (hk : h.kd a = 101) (hn : h.ln a = n) (hj : i = nI j) (hb : j < n) (hN : n < 2147483648) (hx : narrow .boolean (.int x) = .int x) (kk : Z E mt d Q k (h.put a j (.int x)) (pc + 1) ls st) : Z E mt d Q k h pc ls (.int x :: .int i :: .ref a :: st) := by
  intro p e s m args below meth c K H locs cells slots la hc h1 h2 hP hS hl
  subst hn
  have hz := (hP.dom hk (by decide) (Or.inl (by decide))).1
  refine W.zast hc.x hc.c (hP.arr (i := 1) (by decide) hk) (((hc.1.K hc.W).2 1 _ (atys_at E.A (i := 1) (by decide))).1 _ _) (fun q => by cases q) (ix_in hj hb hN) rfl rfl hd fun H' e1 e2 e3 => ?_
  rw [ix_cl hj hb hN, hx] at e1
  rw [ix_cl hj hb hN]
  exact kk p e s m args below meth c K H' _ cells slots la hc h1 h2 (hP.one e2 e3 hz (pk_arrok (i := 1) (by decide) hk e1)) (hS.put e2 e3 hz) hl
theorem z_bast {a n : Nat} {i x : Int32} (pc j : Nat) (hd : decode mt.2.1 pc = .ok (.bastore, 1)) (hk : h.kd a = 102) (hn : h.ln a = n) (hj : i = nI j) (hb : j < n) (hN : n < 2147483648) (hx : narrow .byte (.int x) = .int x) (kk : Z E mt d Q k (h.put a j (.int x)) (pc + 1) ls st) : Z E mt d Q k h pc ls (.int x :: .int i :: .ref a :: st) := by
  intro p e s m args below meth c K H locs cells slots la hc h1 h2 hP hS hl
  subst hn
  have hz := (hP.dom hk (by decide) (Or.inl (by decide))).1
  refine W.bast hc.x hc.c (hP.arr (i := 2) (by decide) hk) (((hc.1.K hc.W).2 2 _ (atys_at E.A (i := 2) (by decide))).1 _ _) (fun q => by cases q) (ix_in hj hb hN) rfl rfl hd fun H' e1 e2 e3 => ?_
  rw [ix_cl hj hb hN, hx] at e1
  rw [ix_cl hj hb hN]
  exact kk p e s m args below meth c K H' _ cells slots la hc h1 h2 (hP.one e2 e3 hz (pk_arrok (i := 2) (by decide) hk e1)) (hS.put e2 e3 hz) hl
theorem z_aald {a n i : Nat} {x : Int32} {v : Value} (pc j : Nat) (hd : decode mt.2.1 pc = .ok (.aaload, 1)) (h4 : 4 ≤ i) (h7 : i < 7) (hk : h.kd a = 100 + i) (hn : h.ln a = n) (hj : x = nI j) (hb : j < n) (hN : n < 2147483648) (hv : h.mm a j = v) (kk : Z E mt d Q k h (pc + 1) ls (v :: st)) : Z E mt d Q k h pc ls (.int x :: .ref a :: st) := by
  intro p e s m args below meth c K H locs cells slots la hc h1 h2 hP hS hl
  have kk := kk p e s m args below meth c K H locs cells slots la hc h1 h2 hP hS hl
  subst hn
  have hty : (aty_ i).isReference = true := by
    rcases (by omega : i = 4 ∨ i = 5 ∨ i = 6) with rfl | rfl | rfl <;> rfl
  exact W.aald (v := v) (ty := aty_ i) hc.x hc.c (hP.arr h7 hk) (((hc.1.K hc.W).2 i _ (atys_at E.A h7)).1 _ _) hty (fun q => by cases q) (ix_in hj hb hN) (by rw [ix_cl hj hb hN, arrV_read _ _ hb, hv]) rfl rfl hd kk
theorem z_aastN {a n i : Nat} {x : Int32} (pc j : Nat) (hd : decode mt.2.1 pc = .ok (.aastore, 1)) (h4 : 4 ≤ i) (h7 : i < 7) (hk : h.kd a = 100 + i) (hn : h.ln a = n) (hj : x = nI j) (hb : j < n) (hN : n < 2147483648) (kk : Z E mt d Q k (h.put a j .null) (pc + 1) ls st) : Z E mt d Q k h pc ls (.null :: .int x :: .ref a :: st) := by
  intro p e s m args below meth c K H locs cells slots la hc h1 h2 hP hS hl
  subst hn
  have hz := (hP.dom hk (by omega) (Or.inl (by omega))).1
  have harr := ((hc.1.K hc.W).2 i _ (atys_at E.A h7)).1 (h.ln a) (h.mm a)
  have kont : ∀ H' : Heap, H'[a]? = some ((arrV (E.A i) (h.ln a) (h.mm a)).setSlot x.toNatClampNeg .null) → H'.size = H.size → (∀ q, q ≠ a → H'[q]? = H[q]?) → W p E.l e (rmOf d K) s m args below meth c H' (locs ++ [⟨a, x.toNatClampNeg⟩]) cells slots (vx_MQ below (QcE E Q) (XcE E Q) args s K (4 * K) (fun q => E.z ≤ q)) (F0 m (pc + 1) la st) := by
    intro H' e1 e2 e3
    rw [ix_cl hj hb hN] at e1 ⊢
    exact kk p e s m args below meth c K H' _ cells slots la hc h1 h2 (hP.one e2 e3 hz (pk_arrok h7 hk e1)) (hS.put e2 e3 hz) hl
  rcases (by omega : i = 4 ∨ i = 5 ∨ i = 6) with rfl | rfl | rfl
  · exact va_WaastN (C := "java/lang/Object") hc.x hc.c (hP.arr h7 hk) harr (fun q => by cases q) (ix_in hj hb hN) rfl rfl hd kont
  · exact va_WaastN (C := "FountainPark$Fountain") hc.x hc.c (hP.arr h7 hk) harr (fun q => by cases q) (ix_in hj hb hN) rfl rfl hd kont
  · exact va_WaastN (C := "FountainPark$Job") hc.x hc.c (hP.arr h7 hk) harr (fun q => by cases q) (ix_in hj hb hN) rfl rfl hd kont
/-- what may be laid into an array of the kind i: objects of the class ci -/
def SiteE (i ci : Nat) : Prop := ∃ (C : String) (T : u_T) (N : Nat) (X : String), cls_[ci]? = some (C, T, N) ∧ aty_ i = .object X ∧ 4 ≤ i ∧ i < 7 ∧ (C = X ∨ Cond.castable C X ∈ lw_tbl)
theorem z_aast {a n i ci v : Nat} {x : Int32} (pc j : Nat) (S : SiteE i ci) (hd : decode mt.2.1 pc = .ok (.aastore, 1)) (hk : h.kd a = 100 + i) (hkv : h.kd v = ci) (hn : h.ln a = n) (hj : x = nI j) (hb : j < n) (hN : n < 2147483648) (kk : Z E mt d Q k (h.put a j (.ref v)) (pc + 1) ls st) : Z E mt d Q k h pc ls (.ref v :: .int x :: .ref a :: st) := by
  intro p e s m args below meth c K H locs cells slots la hc h1 h2 hP hS hl
  subst hn
  obtain ⟨C, T, N, X, hcl, hty, h4, h7, hcast⟩ := S
  have hz := (hP.dom hk (by omega) (Or.inl (by omega))).1
  have hK := hc.1.K hc.W
  obtain ⟨cv, g1, g2, g3⟩ := hP.recv hkv hcl hK
  have hCA := (hK.1 ci _ hcl).2
  obtain ⟨hcls, kC, hkC, -⟩ := id hCA
  have hra := (hK.2 i _ (atys_at E.A h7)).2
  rw [show ((E.A i, aty_ i) : ClassId × FieldType).2 = .object X from hty] at hra
  obtain ⟨kA, comp, k1, k2, k3, -⟩ := hra
  have hinst : s.vm.assignable cv.cls comp = true := by
    rcases hcast with rfl | hw
    · rw [← Option.some.inj (hcls.symm.trans g3), ← Option.some.inj (hcls.symm.trans k3)]
      exact va_assign hCA
    · obtain ⟨c0, t0, f1, f2, f3⟩ := Cond.castable_spec (va_Nw.use (A := args) rfl (hc.1.cast hw hc.W))
      cases g3.symm.trans f1
      cases k3.symm.trans f2
      exact f3
  obtain ⟨kcomp, hkcomp, -⟩ := Vm.findClass_spec k3
  refine W.aast hc.x hc.c (hP.arr h7 hk) (fun q hq => by cases hq) (fun hq => by cases hq) k1 k2 rfl hkcomp ⟨fun q => ix_in hj hb hN (cA := E.A i) (f := h.mm a) (Or.inl q), by rw [arrV_size, ix_cl hj hb hN]; exact hb⟩ g1 (fun q hq => by rw [hq] at g2; cases g2) (by rw [← Option.some.inj (hcls.symm.trans g3)]; exact hkC) hinst rfl rfl hd fun H' e1 e2 e3 => ?_
  rw [ix_cl hj hb hN] at e1 ⊢
  exact kk p e s m args below meth c K H' _ cells slots la hc h1 h2 (hP.one e2 e3 hz (pk_arrok h7 hk e1)) (hS.put e2 e3 hz) hl
theorem z_len {a n i : Nat} (pc : Nat) (hd : decode mt.2.1 pc = .ok (.arraylength, 1)) (h7 : i < 7) (hk : h.kd a = 100 + i) (hn : h.ln a = n) (kk : Z E mt d Q k h (pc + 1) ls (.int (nI n) :: st)) : Z E mt d Q k h pc ls (.ref a :: st) := by
  intro p e s m args below meth c K H locs cells slots la hc h1 h2 hP hS hl
  have kk := kk p e s m args below meth c K H locs cells slots la hc h1 h2 hP hS hl
  subst hn
  exact W.alen (n := Int32.ofNat (h.ln a)) hc.x hc.c (hP.arr h7 hk) (((hc.1.K hc.W).2 i _ (atys_at E.A h7)).1 _ _) (by rw [arrV_size] <;> rfl) rfl rfl hd kk
theorem va_S.grow {A : Nat → Prop} {H0 H H' : Heap} {locs : List Loc} (hS : va_S A H0 H locs) (hz : H'.size = H.size + 1) (ho : ∀ q : Nat, q < H.size → H'[q]? = H[q]?) : va_S A H0 H' locs :=
  ⟨Nat.le_trans hS.1 (by omega), fun q g1 g2 => (ho q (Nat.lt_of_lt_of_le g1 hS.1)).trans (hS.2.1 q g1 g2), hS.2.2⟩
/-- new: an object of the class ci -/
def SiteN (own : String) (idx ci : Nat) (C : String) (T : u_T) (N : Nat) (ty : Nat → FieldType) : Prop := ClsOK ci C T N ty ∧ Cond.classLink own idx C ∈ lw_all ∧ Cond.instantiable C N ∈ lw_all ∧ Cond.initialized C ∈ lw_all
theorem z_new {idx ci N k' : Nat} {C : String} {T : u_T} {ty : Nat → FieldType} (pc : Nat) (S : SiteN mt.1.cls idx ci C T N ty) (hd : decode mt.2.1 pc = .ok (.new idx, 3)) (hk' : k' + (N / 4 + 1) ≤ k) (kk : ∀ h' : HP, h' = h.mk ci 0 (fun j => defaultValue (ty j)) → Z E mt d Q k' h' (pc + 3) ls (.ref h.sz :: st)) : Z E mt d Q k h pc ls st := by
  intro p e s m args below meth c K H locs cells slots la hc h1 h2 hP hS hl
  obtain ⟨⟨hcl, hin, hty, hnm⟩, hlk, hins, hini⟩ := S
  have hKn := (hc.1.K hc.W).1 ci _ hcl
  refine W.newcK hc.x hc.c hc.own (hc.ts args _ hlk) (hc.ts args _ hins) (hc.ts args _ hini) rfl hd (by show cells + 1 ≤ K; omega) (by show slots + N ≤ 4 * K; omega) hKn.2.1 rfl fun H1 kC hkC e1 z1 o1 => ?_
  have hsz : H.size = h.sz := hP.1
  rw [hsz] at e1 ⊢
  refine kk _ rfl p e s m args below meth c K H1 locs (cells + 1) (slots + N) la hc (by omega) (by omega) (hP.new z1 o1 ⟨fun r hr => ?_, fun i hi hk9 => ?_⟩) (hS.grow z1 o1) hl
  · have hk0 : (h.mk ci 0 (fun j => defaultValue (ty j))).kd h.sz = ci := by simp [kd_mk]
    rw [hk0] at hr ⊢
    cases Option.some.inj (hr.symm.trans hcl)
    have em : (h.mk ci 0 (fun j => defaultValue (ty j))).mm h.sz = fun j => defaultValue (ty j) := by funext j; simp [mm_mk]
    rw [em]
    exact u_born ty (hc.ts args) hin hKn hkC e1 hty
  · have hk0 : (h.mk ci 0 (fun j => defaultValue (ty j))).kd h.sz = ci := by simp [kd_mk]
    have := cls_lt hcl
    omega
/-- new int[n], new byte[n] .. -/
theorem z_newa {atype : ArrayType} {i n k' : Nat} {x : Int32} (pc : Nat) (hw : Cond.arrayClass (newarray.typeOf atype) ∈ lw_all) (h7 : i < 4) (hty : aty_ i = newarray.typeOf atype) (hd : decode mt.2.1 pc = .ok (.newarray atype, 2)) (hx : x = nI n) (hn : n < 65536) (hk' : k' + (n / 4 + 1) ≤ k) (kk : ∀ h' : HP, h' = h.mk (100 + i) n (fun _ => defaultValue (newarray.typeOf atype)) → Z E mt d Q k' h' (pc + 2) ls (.ref h.sz :: st)) : Z E mt d Q k h pc ls (.int x :: st) := by
  intro p e s m args below meth c K H locs cells slots la hc h1 h2 hP hS hl
  have hcl : x.toNatClampNeg = n := by rw [hx]; exact nI_clamp (by omega)
  have hb : n * componentBytes (newarray.typeOf atype) ≤ 536870912 := by
    have : componentBytes (newarray.typeOf atype) ≤ 8 := by cases atype <;> decide
    have := Nat.mul_le_mul (Nat.le_of_lt hn) this
    omega
  refine va_newaK hc.x hc.c (hc.ts args _ hw) rfl hd rfl (by rw [hx]; exact nI_pos (by omega)) hcl hb (by show cells + 1 ≤ K; omega) (by show slots + n ≤ 4 * K; omega) rfl fun H1 cA e1 z1 o1 hAr hNm => ?_
  have hsz : H.size = h.sz := hP.1
  rw [hsz] at e1 ⊢
  have hcA : cA = E.A i := by
    have hra := ((hc.1.K hc.W).2 i _ (atys_at E.A (by omega))).2
    rw [show ((E.A i, aty_ i) : ClassId × FieldType).2 = aty_ i from rfl] at hra
    rcases (by omega : i = 0 ∨ i = 1 ∨ i = 2 ∨ i = 3) with rfl | rfl | rfl | rfl <;>
      (rw [← hty] at hNm; exact Option.some.inj (hNm.symm.trans hra))
  subst hcA
  refine kk _ rfl p e s m args below meth c K H1 locs (cells + 1) (slots + n) la hc (by omega) (by omega) (hP.new z1 o1 ⟨fun r hr => ?_, fun i2 hi2 hk9 => ?_⟩) (hS.grow z1 o1) hl
  · have hk0 : (h.mk (100 + i) n (fun _ => defaultValue (newarray.typeOf atype))).kd h.sz = 100 + i := by simp [kd_mk]
    rw [hk0] at hr
    have := cls_lt hr
    omega
  · have hk0 : (h.mk (100 + i) n (fun _ => defaultValue (newarray.typeOf atype))).kd h.sz = 100 + i := by simp [kd_mk]
    have e2 : i2 = i := by omega
    subst e2
    have em : (h.mk (100 + i2) n (fun _ => defaultValue (newarray.typeOf atype))).mm h.sz = fun _ => defaultValue (newarray.typeOf atype) := by funext j; simp [mm_mk]
    rw [em, show (h.mk (100 + i2) n (fun _ => defaultValue (newarray.typeOf atype))).ln h.sz = n by simp [ln_mk]]
    exact e1
/-- new X[n] -/
theorem z_anew {X : String} {i idx n k' : Nat} {x : Int32} (pc : Nat) (hw : Cond.arrayOver (.object X) ∈ lw_tbl) (hlk : Cond.classLink mt.1.cls idx X ∈ lw_all) (h4 : 4 ≤ i) (h7 : i < 7) (hty : aty_ i = .object X) (hd : decode mt.2.1 pc = .ok (.anewarray idx, 3)) (hx : x = nI n) (hn : n < 65536) (hk' : k' + (n / 4 + 1) ≤ k) (kk : ∀ h' : HP, h' = h.mk (100 + i) n (fun _ => .null) → Z E mt d Q k' h' (pc + 3) ls (.ref h.sz :: st)) : Z E mt d Q k h pc ls (.int x :: st) := by
  intro p e s m args below meth c K H locs cells slots la hc h1 h2 hP hS hl
  have hcl : x.toNatClampNeg = n := by rw [hx]; exact nI_clamp (by omega)
  refine W.anew hc.x hc.c hc.own (hc.ts args _ hlk) (va_AO.use (va_AO.moved hc.W.alike (va_AO.of (hc.1.2.1 _ hw)))) rfl hd rfl (by rw [hx]; exact nI_pos (by omega)) (by rw [hcl]; omega) (by show cells + 1 ≤ K; omega) (by rw [hcl]; show slots + n ≤ 4 * K; omega) fun cA kA comp f1 f2 f3 f4 => ?_
  rw [hcl]
  generalize hH1 : H.push ({ cls := cA, slots := Array.replicate n .null, vm := .none } : Cell) = H1
  have z1 : H1.size = H.size + 1 := by rw [← hH1, Array.size_push]
  have e1 : H1[H.size]? = some (arrV cA n (fun _ => .null)) := by rw [← hH1, Array.getElem?_push_size, ← arrV_new]
  have o1 : ∀ q : Nat, q < H.size → H1[q]? = H[q]? := fun q hq => by rw [← hH1, Array.getElem?_push, if_neg (Nat.ne_of_lt hq)]
  have hsz : H.size = h.sz := hP.1
  rw [hsz] at e1
  show W p E.l e (rmOf d K) s m args below meth c H1 locs (cells + 1) (slots + n) _ (F0 m (pc + 3) la (.ref H.size :: st))
  rw [hsz]
  have hcA : cA = E.A i := by
    have hra := ((hc.1.K hc.W).2 i _ (atys_at E.A h7)).2
    rw [show ((E.A i, aty_ i) : ClassId × FieldType).2 = .object X from hty] at hra
    obtain ⟨_, _, _, _, _, k4⟩ := hra
    exact Option.some.inj (f1.symm.trans k4)
  subst hcA
  refine kk _ rfl p e s m args below meth c K H1 locs (cells + 1) (slots + n) la hc (by omega) (by omega) (hP.new z1 o1 ⟨fun r hr => ?_, fun i2 hi2 hk9 => ?_⟩) (hS.grow z1 o1) hl
  · have hk0 : (h.mk (100 + i) n (fun _ => .null)).kd h.sz = 100 + i := by simp [kd_mk]
    rw [hk0] at hr
    have := cls_lt hr
    omega
  · have hk0 : (h.mk (100 + i) n (fun _ => .null)).kd h.sz = 100 + i := by simp [kd_mk]
    have e2 : i2 = i := by omega
    subst e2
    have em : (h.mk (100 + i2) n (fun _ => .null)).mm h.sz = fun _ => .null := by funext j; simp [mm_mk]
    rw [em, show (h.mk (100 + i2) n (fun _ => .null)).ln h.sz = n by simp [ln_mk]]
    exact e1
theorem z_castY {idx ci a : Nat} {C nm : String} {T : u_T} {N : Nat} (pc : Nat) (hcl : cls_[ci]? = some (C, T, N)) (hlk : Cond.classLink mt.1.cls idx nm ∈ lw_all) (hw : C = nm ∨ Cond.castable C nm ∈ lw_tbl) (hd : decode mt.2.1 pc = .ok (.checkcast idx, 3)) (hk : h.kd a = ci) (kk : Z E mt d Q k h (pc + 3) ls (.ref a :: st)) : Z E mt d Q k h pc ls (.ref a :: st) := by
  intro p e s m args below meth c K H locs cells slots la hc h1 h2 hP hS hl
  have kk := kk p e s m args below meth c K H locs cells slots la hc h1 h2 hP hS hl
  have hK := hc.1.K hc.W
  rcases hw with rfl | hw
  · exact va_castS hc.x hc.c hc.own (hc.ts args _ hlk) (hK.1 ci _ hcl).2 (hP.recv hk hcl hK) hd kk
  · exact va_castY hc.x hc.c hc.own (hc.ts args _ hlk) (hc.1.cast hw hc.W) (hP.recv hk hcl hK) hd kk
theorem z_objInit {idx a : Nat} (pc : Nat) (q1 : Cond.methodLink mt.1.cls idx Lib.objectInit ∈ lw_all) (q2 : Cond.instanceMethod Lib.objectInit ∈ lw_all) (q3 : Cond.code Lib.objectInit ⟨#[0xb1]⟩ 1 none ∈ lw_all) (hd : decode mt.2.1 pc = .ok (.invokespecial idx, 3)) (hd1 : 1 ≤ d) (hst : (st.map fun v => v.category).sum ≤ 8) (kk : Z E mt d Q k h (pc + 3) ls st) : Z E mt d Q k h pc ls (.ref a :: st) := by
  intro p e s m args below meth c K H locs cells slots la hc h1 h2 hP hS hl
  have kk := kk p e s m args below meth c K H locs cells slots la hc h1 h2 hP hS hl
  exact W.objInit hc.x hc.c hc.own (hc.ts args _ q1) (hc.ts args _ q2) (hc.ts args _ q3) rfl (by rw [hc.ml]; exact hl.1) rfl hd hd1 (by show 2 * 0 + (st.map fun v => v.category).sum + 12 ≤ 200 * d; omega) kk
/-- ends -/
theorem z_ireturn {x : Int32} (pc : Nat) (hr : mt.2.2.2.1 = some .int) (hd : decode mt.2.1 pc = .ok (.ireturn, 1)) (hq : Q (.inl (some (.int x))) h) : Z E mt d Q k h pc ls [.int x] := by
  intro p e s m args below meth c K H locs cells slots la hc h1 h2 hP hS hl
  refine W.widen (k := K) (n := 4 * K) (by omega) (by omega) (vx_ret ?_)
  exact W.iret hc.x hc.c (hc.rt.trans hr) (fun t ht hW => ⟨_, h, rfl, hq, by rw [ht]; exact hP, hS.F ht⟩) hS.2.2 hd hc.lk
theorem z_zreturn {x : Int32} {ty : FieldType} (pc : Nat) (hr : mt.2.2.2.1 = some ty) (hn : narrow ty (.int x) = .int x) (hd : decode mt.2.1 pc = .ok (.ireturn, 1)) (hq : Q (.inl (some (.int x))) h) : Z E mt d Q k h pc ls [.int x] := by
  intro p e s m args below meth c K H locs cells slots la hc h1 h2 hP hS hl
  refine W.widen (k := K) (n := 4 * K) (by omega) (by omega) (vx_ret ?_)
  exact W.zret hc.x hc.c (hc.rt.trans hr) hn (fun t ht hW => ⟨_, h, rfl, hq, by rw [ht]; exact hP, hS.F ht⟩) hS.2.2 hd hc.lk
theorem z_return (pc : Nat) (hr : mt.2.2.2.1 = none) (hd : decode mt.2.1 pc = .ok (.return_, 1)) (hq : Q (.inl none) h) : Z E mt d Q k h pc ls [] := by
  intro p e s m args below meth c K H locs cells slots la hc h1 h2 hP hS hl
  refine W.widen (k := K) (n := 4 * K) (by omega) (by omega) (vx_ret ?_)
  exact W.vret hc.x hc.c (hc.rt.trans hr) (fun t ht hW => ⟨_, h, rfl, hq, by rw [ht]; exact hP, hS.F ht⟩) hS.2.2 hd hc.lk
theorem z_lreturn {x : Int64} (pc : Nat) (hr : mt.2.2.2.1 = some .long) (hd : decode mt.2.1 pc = .ok (.lreturn, 1)) (hq : Q (.inl (some (.long x))) h) : Z E mt d Q k h pc ls [.long x] := by
  intro p e s m args below meth c K H locs cells slots la hc h1 h2 hP hS hl
  refine W.widen (k := K) (n := 4 * K) (by omega) (by omega) (vx_ret ?_)
  exact W.lret hc.x hc.c (hc.rt.trans hr) (fun t ht hW => ⟨_, h, rfl, hq, by rw [ht]; exact hP, hS.F ht⟩) hS.2.2 hd hc.lk
theorem z_dreturn {x : UInt64} (pc : Nat) (hr : mt.2.2.2.1 = some .double) (hd : decode mt.2.1 pc = .ok (.dreturn, 1)) (hq : Q (.inl (some (.double x))) h) : Z E mt d Q k h pc ls [.double x] := by
  intro p e s m args below meth c K H locs cells slots la hc h1 h2 hP hS hl
  refine W.widen (k := K) (n := 4 * K) (by omega) (by omega) (vx_ret ?_)
  exact W.dret hc.x hc.c (hc.rt.trans hr) (fun t ht hW => ⟨_, h, rfl, hq, by rw [ht]; exact hP, hS.F ht⟩) hS.2.2 hd hc.lk
theorem z_areturn {v : Value} {ty : FieldType} (pc : Nat) (hr : mt.2.2.2.1 = some ty) (hty : (∃ n, ty = .object n) ∨ ∃ t, ty = .array t) (hv : v = .null ∨ ∃ a, v = .ref a) (hd : decode mt.2.1 pc = .ok (.areturn, 1)) (hq : Q (.inl (some v)) h) : Z E mt d Q k h pc ls [v] := by
  intro p e s m args below meth c K H locs cells slots la hc h1 h2 hP hS hl
  refine W.widen (k := K) (n := 4 * K) (by omega) (by omega) (vx_ret ?_)
  exact W.aret hc.x hc.c (hc.rt.trans hr) hty hv (fun t ht hW => ⟨_, h, rfl, hq, by rw [ht]; exact hP, hS.F ht⟩) hS.2.2 hd hc.lk
end HeapZ
