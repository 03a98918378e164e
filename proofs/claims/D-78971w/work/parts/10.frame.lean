/-! THE FRAME OF THIS PROOF: one picture of all cells made since the law began; one judgement Z for a walk, one contract form Call for a method. -/
set_option maxRecDepth 100000
/-- the picture: kind, contents, length of every cell; how many cells there are -/
abbrev HP : Type := (Nat → Nat) × (Nat → Nat → Value) × (Nat → Nat) × Nat
def HP.kd (h : HP) : Nat → Nat := h.1
def HP.mm (h : HP) : Nat → Nat → Value := h.2.1
def HP.ln (h : HP) : Nat → Nat := h.2.2.1
def HP.sz (h : HP) : Nat := h.2.2.2
def HP.put (h : HP) (a k : Nat) (v : Value) : HP := (h.kd, fun b j => if b = a ∧ j = k then v else h.mm b j, h.ln, h.sz)
def HP.mk (h : HP) (c n : Nat) (f : Nat → Value) : HP := (fun b => if b = h.sz then c else h.kd b, fun b j => if b = h.sz then f j else h.mm b j, fun b => if b = h.sz then n else h.ln b, h.sz + 1)
/-- more cells of which nothing is said -/
def HP.up (h : HP) (n : Nat) : HP := (h.kd, h.mm, h.ln, n)
theorem kd_put (h : HP) (a k : Nat) (v : Value) : (h.put a k v).kd = h.kd := rfl
theorem ln_put (h : HP) (a k : Nat) (v : Value) : (h.put a k v).ln = h.ln := rfl
theorem sz_put (h : HP) (a k : Nat) (v : Value) : (h.put a k v).sz = h.sz := rfl
theorem mm_put (h : HP) (a k : Nat) (v : Value) (b j : Nat) : (h.put a k v).mm b j = if b = a ∧ j = k then v else h.mm b j := rfl
theorem mm_self (h : HP) (a k : Nat) (v : Value) : (h.put a k v).mm a k = v := by simp [mm_put]
theorem mm_nea (h : HP) (a k : Nat) (v : Value) {b : Nat} (j : Nat) (hb : b ≠ a) : (h.put a k v).mm b j = h.mm b j := by simp [mm_put, hb]
theorem mm_nek (h : HP) (a k : Nat) (v : Value) (b : Nat) {j : Nat} (hj : j ≠ k) : (h.put a k v).mm b j = h.mm b j := by simp [mm_put, hj]
theorem kd_mk (h : HP) (c n : Nat) (f : Nat → Value) (b : Nat) : (h.mk c n f).kd b = if b = h.sz then c else h.kd b := rfl
theorem ln_mk (h : HP) (c n : Nat) (f : Nat → Value) (b : Nat) : (h.mk c n f).ln b = if b = h.sz then n else h.ln b := rfl
theorem mm_mk (h : HP) (c n : Nat) (f : Nat → Value) (b j : Nat) : (h.mk c n f).mm b j = if b = h.sz then f j else h.mm b j := rfl
theorem sz_mk (h : HP) (c n : Nat) (f : Nat → Value) : (h.mk c n f).sz = h.sz + 1 := rfl
/-- the classes whose objects are pictured -/
def cls_ : List vw_C := [(RX1, TX1, 5), (RX2, TX2, 14), (RX3, TX3, 13), (RX4, TX4, 4), (RX6, TX6, 4), (RX7, TX7, 4), (RX5, TX5, 15), (RJ8, TJ8, 9), (RJ33, TJ33, 6), (RJ22, TJ22, 1), (RJ25, TJ25, 4), (RJ10, TJ10, 1), (RJ2, TJ2, 4), (RJ12, TJ12, 3), (RJ14, TJ14, 4), (RJ27, TJ27, 1)]
/-- the arrays' types -/
def aty_ : Nat → FieldType := fun k => match k with
  | 0 => .int
  | 1 => .boolean
  | 2 => .byte
  | 3 => .long
  | 4 => .object "java/lang/Object"
  | 5 => .object "FountainPark$Fountain"
  | _ => .object "FountainPark$Job"
/-- launch, the law's first state, its script's cell, the classes' numbers and slots, the arrays' classes, the cached Integers -/
abbrev Ev : Type := Launch × State × Nat × va_G × (Nat → ClassId) × (Nat → Nat)
def Ev.l (E : Ev) : Launch := E.1
def Ev.s (E : Ev) : State := E.2.1
def Ev.b (E : Ev) : Nat := E.2.2.1
def Ev.D (E : Ev) : va_G := E.2.2.2.1
def Ev.A (E : Ev) : Nat → ClassId := E.2.2.2.2.1
def Ev.C (E : Ev) : Nat → Nat := E.2.2.2.2.2
def Ev.z (E : Ev) : Nat := E.s.heap.size
def atys (cA : Nat → ClassId) : List (ClassId × FieldType) := (List.range 7).map fun k => (cA k, aty_ k)
theorem atys_at (cA : Nat → ClassId) {i : Nat} (h : i < 7) : (atys cA)[i]? = some (cA i, aty_ i) := by simp [atys, h]
def Base (E : Ev) : Prop := E.l.stackTraces = false ∧ (∀ w ∈ lw_tbl, w.before #[Value.ref E.b] E.s = true) ∧ va_K E.D cls_ (atys E.A) E.s ∧ (Jvm.Cond.and given_1 narrow_1).before #[Value.ref E.b] E.s = true ∧ E.b < E.z ∧ vb_C E.C (fun q => E.z ≤ q) E.s E.s.heap ∧ ∀ j : Nat, j < 256 → (Term.elem (.static "java/lang/Integer$IntegerCache" "cache" "[Ljava/lang/Integer;") (.int (Int32.ofNat j))).eval #[Value.ref E.b] E.s none [] E.s = some (.ref (E.C j))
/-- one cell as the picture has it -/
def Cok (E : Ev) (h : HP) (a : Nat) (H : Heap) : Prop := (∀ r : vw_C, cls_[h.kd a]? = some r → t_OB a (E.D.1 (h.kd a)) r.2.2 (E.D.2 (h.kd a)) H (h.mm a)) ∧ ∀ i, i < 7 → h.kd a = 100 + i → H[a]? = some (arrV (E.A i) (h.ln a) (h.mm a))
/-- of the cells that stood before, only Integers (the cached ones) are pictured -/
def Old (E : Ev) (h : HP) : Prop := (∀ a, ¬ (E.z ≤ a ∧ a < h.sz) → h.kd a = 999 ∨ (a < E.z ∧ h.kd a = 15 ∧ ∃ cell : Cell, E.s.heap[a]? = some cell ∧ cell.cls = E.D.1 15 ∧ cell.vm.isStatics = false ∧ cell.vm ≠ .unknown ∧ cell.slots[E.D.2 15 0]? = some (h.mm a 0))) ∧ ∀ k, k < 256 → E.C k < E.z ∧ h.kd (E.C k) = 15 ∧ h.mm (E.C k) 0 = .int (vb_c k)
def Pic (E : Ev) (h : HP) (H : Heap) : Prop := H.size = h.sz ∧ E.z ≤ h.sz ∧ (∀ q, q < E.z → H[q]? = E.s.heap[q]?) ∧ (∀ a, E.z ≤ a → a < h.sz → Cok E h a H) ∧ Old E h
/-- a method: its name, code, number of locals, type, handlers -/
abbrev Mth : Type := MethodName × ByteArray × Nat × Option FieldType × List (Nat × Nat × Nat × Nat)
abbrev Res : Type := Option Value ⊕ String
def rmOf (d k : Nat) : Room := { frames := d, cells := k, slots := 4 * k, locals := 200 * d }
def QcE (E : Ev) (Q : Res → HP → Prop) : Array Value → State → Outcome → State → Prop := fun _ st oc t => ∃ (v : Option Value) (h : HP), oc = .returned v ∧ Q (.inl v) h ∧ Pic E h t.heap ∧ va_F (fun q => E.z ≤ q) st t
def XcE (E : Ev) (Q : Res → HP → Prop) : String → State → State → Prop := fun X st t => ∃ h : HP, Q (.inr X) h ∧ Pic E h t.heap ∧ va_F (fun q => E.z ≤ q) st t
def dum : Value := .retAddr 0
def lrel (la : Array Slot) (nL : Nat) (ls : List Value) : Prop := la.size = nL ∧ lv_wf la ∧ ls.length = nL ∧ ∀ (i : Nat) (v : Value), ls[i]? = some v → v ≠ dum → la[i]? = some (.val v)
/-- what stays the same all through a method's body -/
def Zc (E : Ev) (mt : Mth) (p : Program) (s : State) (m : MethodId) (meth : Method) (c : Code) : Prop :=
  Base E ∧ p.tables.exec = Jvm.exec ∧ c.code = mt.2.1 ∧ c.maxLocals = mt.2.2.1 ∧ meth.sig.returnType = mt.2.2.2.1 ∧ meth.locks = false ∧ s.vm.findClass mt.1.cls = some m.cls ∧ meth.name = mt.1.name ∧ c.exceptionTable.toList = tableOf mt.2.2.2.2 ∧ E.s.WarmedH s.vm ∧ E.z ≤ s.heap.size ∧ ∀ q, q < E.z → s.heap[q]? = E.s.heap[q]?
/-- from here the method comes to an end with Q: at most k units of room (a unit: a cell, four slots), at most d frames above -/
def Z (E : Ev) (mt : Mth) (d : Nat) (Q : Res → HP → Prop) (k : Nat) (h : HP) (pc : Nat) (ls st : List Value) : Prop :=
  ∀ (p : Program) (e : Env) (s : State) (m : MethodId) (args : Array Value) (below : List Frame) (meth : Method) (c : Code) (K : Nat) (H : Heap) (locs : List Loc) (cells slots : Nat) (la : Array Slot),
    Zc E mt p s m meth c → cells + k ≤ K → slots + 4 * k ≤ 4 * K → Pic E h H → va_S (fun q => E.z ≤ q) s.heap H locs → lrel la mt.2.2.1 ls →
    W p E.l e (rmOf d K) s m args below meth c H locs cells slots (vx_MQ below (QcE E Q) (XcE E Q) args s K (4 * K) (fun q => E.z ≤ q)) (F0 m pc la st)
/-- the contract: called with these arguments in this picture, at most d frames above its own, at most k units of room, it ends with Q -/
def Call (E : Ev) (y : MethodName) (d k : Nat) (as : List Value) (h : HP) (Q : Res → HP → Prop) : Prop :=
  ∃ (cc : ByteArray) (nL : Nat) (ret : Option FieldType), Cond.code y cc nL ret ∈ lw_all ∧ nL ≤ 100 ∧
    vx_Met E.l y [Cond.code y cc nL ret] (rmOf d k) (va_Pc as (fun U => Base E ∧ E.s.WarmedH U.vm ∧ Pic E h U.heap)) (QcE E Q) (XcE E Q) k (4 * k) (fun q => E.z ≤ q)
theorem lw_code_eq {y : MethodName} {cc : ByteArray} {nL : Nat} {ret : Option FieldType} : goodWord (Cond.code y cc nL ret) = true := rfl
/-- a word of the tables, later -/
theorem Base.word {E : Ev} (B : Base E) {w : Cond} (hw : w ∈ lw_all) {U : State} (hW : E.s.WarmedH U.vm) (a : Array Value) : w.before a U = true :=
  word_at hW (good_of_word (List.mem_filter.mp hw).2) (B.2.1 w (lw_all_tbl hw))
theorem Base.nestF {E : Ev} (B : Base E) {a : String} {i : Nat} {b n d h : String} (hw : Cond.fieldLinkNest a i b n d h ∈ lw_tbl) {U : State} (hW : E.s.WarmedH U.vm) (A : Array Value) : (Cond.fieldLinkNest a i b n d h).before A U = true :=
  va_Nw.use rfl (va_Nw.warmF hW (va_Nw.of rfl (B.2.1 _ hw)))
theorem Base.nestM {E : Ev} (B : Base E) {a : String} {i : Nat} {x : MethodName} {h : String} (hw : Cond.methodLinkNest a i x h ∈ lw_tbl) {U : State} (hW : E.s.WarmedH U.vm) (A : Array Value) : (Cond.methodLinkNest a i x h).before A U = true :=
  va_Nw.use rfl (va_Nw.warmM hW (va_Nw.of rfl (B.2.1 _ hw)))
theorem Base.cast {E : Ev} (B : Base E) {a b : String} (hw : Cond.castable a b ∈ lw_tbl) {U : State} (hW : E.s.WarmedH U.vm) : va_Nw (.castable a b) U :=
  va_Nw.warmC hW (va_Nw.of rfl (B.2.1 _ hw))
theorem Base.K {E : Ev} (B : Base E) {U : State} (hW : E.s.WarmedH U.vm) : va_K E.D cls_ (atys E.A) U := va_K.moved hW.alike B.2.2.1
theorem Base.ws {E : Ev} (B : Base E) {y : MethodName} {cc : ByteArray} {nL : Nat} {ret : Option FieldType} (hw : Cond.code y cc nL ret ∈ lw_all) {s : State} (hW : E.s.WarmedH s.vm) : ∀ w ∈ [Cond.code y cc nL ret], ∀ (a' : Array Value) (U : State), s.WarmedH U.vm → w.before a' U = true := by
  intro w hm a' U hU
  rw [List.mem_singleton.mp hm]
  exact word_at hU (good_of_word rfl) (B.word hw hW #[])
