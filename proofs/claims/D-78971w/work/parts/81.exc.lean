/-! EXCEPTIONS without a text: what a throw needs of the words, a row for it, the three methods that throw -/
def XNs : List String := ["java/lang/RuntimeException", "java/lang/Exception"]
theorem x_decl {y : MethodName} {args args' : Array Value} {s U : State} (hW : s.WarmedH U.vm) (h : (Cond.declares y).before args s = true) : (Cond.declares y).before args' U = true := by
  have h1 : (Cond.declares y).before args' (U.setVm U.vm) = true := by
    rw [Cond.onTables_vm (A' := args) (U' := s) U.vm _ rfl]
    exact Cond.before_shiftedFace (State.Shifted.of_warmed hW) _ rfl h
  rwa [State.setVm_self] at h1
def xP (args : Array Value) (s : State) (w : Cond) : Prop := vx_no w = true → w.before args s = true
theorem x_thr {E : Ev} (B : Base E) {s : State} (hW : E.s.WarmedH s.vm) (args : Array Value) : ∀ w ∈ Bundle.throwableAtoms, xP args s w :=
  List.forall_mem_cons.mpr ⟨fun _ => B.word q98 hW _, List.forall_mem_cons.mpr ⟨fun _ => B.word q196 hW _, List.forall_mem_cons.mpr ⟨fun _ => B.word q205 hW _, List.forall_mem_cons.mpr ⟨fun _ => B.word q211 hW _, List.forall_mem_cons.mpr ⟨fun _ => B.word q214 hW _, List.forall_mem_cons.mpr ⟨fun _ => B.word q216 hW _, List.forall_mem_cons.mpr ⟨fun _ => B.word q197 hW _, List.forall_mem_cons.mpr ⟨fun _ => B.word q198 hW _, List.forall_mem_cons.mpr ⟨fun _ => B.word q147 hW _, List.forall_mem_cons.mpr ⟨fun _ => B.word q148 hW _, List.forall_mem_cons.mpr ⟨fun _ => B.word q199 hW _, List.forall_mem_cons.mpr ⟨fun _ => B.word q204 hW _, List.forall_mem_cons.mpr ⟨fun _ => B.word q212 hW _, List.forall_mem_cons.mpr ⟨fun _ => B.word q229 hW _, List.forall_mem_cons.mpr ⟨fun _ => B.word q186 hW _, List.forall_mem_cons.mpr ⟨fun _ => B.word q230 hW _, List.forall_mem_cons.mpr ⟨fun _ => B.word q188 hW _, List.forall_mem_cons.mpr ⟨fun _ => B.word q231 hW _, List.forall_mem_cons.mpr ⟨fun _ => B.word q190 hW _, List.forall_mem_cons.mpr ⟨fun _ => B.word q200 hW _, List.forall_mem_cons.mpr ⟨fun h => absurd h (by decide), List.forall_mem_cons.mpr ⟨fun _ => B.word q202 hW _, List.forall_mem_cons.mpr ⟨fun h => absurd h (by decide), List.forall_mem_cons.mpr ⟨fun _ => B.word q192 hW _, (fun _ h => nomatch h)⟩⟩⟩⟩⟩⟩⟩⟩⟩⟩⟩⟩⟩⟩⟩⟩⟩⟩⟩⟩⟩⟩⟩⟩
theorem x_ch {E : Ev} (B : Base E) {s : State} (hW : E.s.WarmedH s.vm) (args : Array Value) : ∀ w ∈ Bundle.chain0Atoms "java/lang/RuntimeException" ["java/lang/Exception"], xP args s w :=
  List.forall_mem_append.mpr ⟨List.forall_mem_cons.mpr ⟨fun _ => B.word q221 hW _, List.forall_mem_cons.mpr ⟨fun _ => B.word q222 hW _, List.forall_mem_cons.mpr ⟨fun _ => B.word q223 hW _, List.forall_mem_cons.mpr ⟨fun _ => B.word q224 hW _, List.forall_mem_cons.mpr ⟨fun _ => x_decl hW (B.2.1 _ q179), (fun _ h => nomatch h)⟩⟩⟩⟩⟩, List.forall_mem_cons.mpr ⟨fun _ => B.word q224 hW _, List.forall_mem_cons.mpr ⟨fun _ => B.word q225 hW _, List.forall_mem_cons.mpr ⟨fun _ => B.word q226 hW _, List.forall_mem_cons.mpr ⟨fun _ => B.word q197 hW _, List.forall_mem_cons.mpr ⟨fun _ => x_decl hW (B.2.1 _ q181), (fun _ h => nomatch h)⟩⟩⟩⟩⟩⟩
theorem x_atNeed {E : Ev} (B : Base E) {s : State} (hW : E.s.WarmedH s.vm) (args : Array Value) : ∀ w ∈ vx_at0 "FountainPark" 53 "java/lang/IllegalArgumentException" XNs, w.before args s = true := fun w hw => by
  have h := List.mem_filter.mp hw
  refine (?_ : ∀ w ∈ Bundle.ownAtoms0 "FountainPark" 53 "java/lang/IllegalArgumentException" XNs, xP args s w) w h.1 h.2
  exact List.forall_mem_append.mpr ⟨List.forall_mem_append.mpr ⟨x_thr B hW args, List.forall_mem_append.mpr ⟨List.forall_mem_cons.mpr ⟨fun _ => B.word q218 hW _, List.forall_mem_cons.mpr ⟨fun _ => B.word q219 hW _, List.forall_mem_cons.mpr ⟨fun _ => B.word q220 hW _, List.forall_mem_cons.mpr ⟨fun _ => B.word q221 hW _, List.forall_mem_cons.mpr ⟨fun _ => x_decl hW (B.2.1 _ q177), (fun _ h => nomatch h)⟩⟩⟩⟩⟩, x_ch B hW args⟩⟩, List.forall_mem_cons.mpr ⟨fun _ => B.word q1837 hW _, List.forall_mem_cons.mpr ⟨fun _ => B.word q175 hW _, List.forall_mem_cons.mpr ⟨fun _ => va_Nw.use rfl (B.cast q176 hW), List.forall_mem_cons.mpr ⟨fun _ => B.word q183 hW _, List.forall_mem_cons.mpr ⟨fun _ => B.word q184 hW _, List.forall_mem_cons.mpr ⟨fun _ => B.word q185 hW _, List.forall_mem_cons.mpr ⟨fun _ => B.word q187 hW _, List.forall_mem_cons.mpr ⟨fun _ => B.word q189 hW _, List.forall_mem_cons.mpr ⟨fun _ => B.word q191 hW _, List.forall_mem_cons.mpr ⟨fun h => absurd h (by decide), List.forall_mem_cons.mpr ⟨fun h => absurd h (by decide), List.forall_mem_cons.mpr ⟨fun _ => B.word q195 hW _, List.forall_mem_cons.mpr ⟨fun _ => B.word q194 hW _, List.forall_mem_cons.mpr ⟨fun _ => B.word q193 hW _, (fun _ h => nomatch h)⟩⟩⟩⟩⟩⟩⟩⟩⟩⟩⟩⟩⟩⟩⟩
theorem x_otNeed : ∀ w ∈ Cond.classLink "FountainPark" 51 "java/lang/IllegalArgumentException" :: Cond.initialized "java/lang/IllegalArgumentException" :: vx_at0 "FountainPark" 53 "java/lang/IllegalArgumentException" XNs, vx_ot w = true := by decide +kernel
theorem x_atIndex {E : Ev} (B : Base E) {s : State} (hW : E.s.WarmedH s.vm) (args : Array Value) : ∀ w ∈ vx_at0 "FountainPark" 56 "java/lang/IndexOutOfBoundsException" XNs, w.before args s = true := fun w hw => by
  have h := List.mem_filter.mp hw
  refine (?_ : ∀ w ∈ Bundle.ownAtoms0 "FountainPark" 56 "java/lang/IndexOutOfBoundsException" XNs, xP args s w) w h.1 h.2
  exact List.forall_mem_append.mpr ⟨List.forall_mem_append.mpr ⟨x_thr B hW args, List.forall_mem_append.mpr ⟨List.forall_mem_cons.mpr ⟨fun _ => B.word q1828 hW _, List.forall_mem_cons.mpr ⟨fun _ => B.word q1829 hW _, List.forall_mem_cons.mpr ⟨fun _ => B.word q1830 hW _, List.forall_mem_cons.mpr ⟨fun _ => B.word q221 hW _, List.forall_mem_cons.mpr ⟨fun _ => x_decl hW (B.2.1 _ q177), (fun _ h => nomatch h)⟩⟩⟩⟩⟩, x_ch B hW args⟩⟩, List.forall_mem_cons.mpr ⟨fun _ => B.word q1827 hW _, List.forall_mem_cons.mpr ⟨fun _ => B.word q1819 hW _, List.forall_mem_cons.mpr ⟨fun _ => va_Nw.use rfl (B.cast q1820 hW), List.forall_mem_cons.mpr ⟨fun _ => B.word q1821 hW _, List.forall_mem_cons.mpr ⟨fun _ => B.word q209 hW _, List.forall_mem_cons.mpr ⟨fun _ => B.word q1822 hW _, List.forall_mem_cons.mpr ⟨fun _ => B.word q1823 hW _, List.forall_mem_cons.mpr ⟨fun _ => B.word q1824 hW _, List.forall_mem_cons.mpr ⟨fun _ => B.word q1825 hW _, List.forall_mem_cons.mpr ⟨fun h => absurd h (by decide), List.forall_mem_cons.mpr ⟨fun h => absurd h (by decide), List.forall_mem_cons.mpr ⟨fun _ => B.word q195 hW _, List.forall_mem_cons.mpr ⟨fun _ => B.word q194 hW _, List.forall_mem_cons.mpr ⟨fun _ => B.word q1826 hW _, (fun _ h => nomatch h)⟩⟩⟩⟩⟩⟩⟩⟩⟩⟩⟩⟩⟩⟩⟩
theorem x_otIndex : ∀ w ∈ Cond.classLink "FountainPark" 54 "java/lang/IndexOutOfBoundsException" :: Cond.initialized "java/lang/IndexOutOfBoundsException" :: vx_at0 "FountainPark" 56 "java/lang/IndexOutOfBoundsException" XNs, vx_ot w = true := by decide +kernel
theorem x_atState {E : Ev} (B : Base E) {s : State} (hW : E.s.WarmedH s.vm) (args : Array Value) : ∀ w ∈ vx_at0 "FountainPark" 59 "java/lang/IllegalStateException" XNs, w.before args s = true := fun w hw => by
  have h := List.mem_filter.mp hw
  refine (?_ : ∀ w ∈ Bundle.ownAtoms0 "FountainPark" 59 "java/lang/IllegalStateException" XNs, xP args s w) w h.1 h.2
  exact List.forall_mem_append.mpr ⟨List.forall_mem_append.mpr ⟨x_thr B hW args, List.forall_mem_append.mpr ⟨List.forall_mem_cons.mpr ⟨fun _ => B.word q1851 hW _, List.forall_mem_cons.mpr ⟨fun _ => B.word q1852 hW _, List.forall_mem_cons.mpr ⟨fun _ => B.word q1853 hW _, List.forall_mem_cons.mpr ⟨fun _ => B.word q221 hW _, List.forall_mem_cons.mpr ⟨fun _ => x_decl hW (B.2.1 _ q177), (fun _ h => nomatch h)⟩⟩⟩⟩⟩, x_ch B hW args⟩⟩, List.forall_mem_cons.mpr ⟨fun _ => B.word q1850 hW _, List.forall_mem_cons.mpr ⟨fun _ => B.word q1842 hW _, List.forall_mem_cons.mpr ⟨fun _ => va_Nw.use rfl (B.cast q1843 hW), List.forall_mem_cons.mpr ⟨fun _ => B.word q1844 hW _, List.forall_mem_cons.mpr ⟨fun _ => B.word q208 hW _, List.forall_mem_cons.mpr ⟨fun _ => B.word q1845 hW _, List.forall_mem_cons.mpr ⟨fun _ => B.word q1846 hW _, List.forall_mem_cons.mpr ⟨fun _ => B.word q1847 hW _, List.forall_mem_cons.mpr ⟨fun _ => B.word q1848 hW _, List.forall_mem_cons.mpr ⟨fun h => absurd h (by decide), List.forall_mem_cons.mpr ⟨fun h => absurd h (by decide), List.forall_mem_cons.mpr ⟨fun _ => B.word q195 hW _, List.forall_mem_cons.mpr ⟨fun _ => B.word q194 hW _, List.forall_mem_cons.mpr ⟨fun _ => B.word q1849 hW _, (fun _ h => nomatch h)⟩⟩⟩⟩⟩⟩⟩⟩⟩⟩⟩⟩⟩⟩⟩
theorem x_otState : ∀ w ∈ Cond.classLink "FountainPark" 57 "java/lang/IllegalStateException" :: Cond.initialized "java/lang/IllegalStateException" :: vx_at0 "FountainPark" 59 "java/lang/IllegalStateException" XNs, vx_ot w = true := by decide +kernel
theorem x_U {E : Ev} (B : Base E) : vx_Zq Bundle.tN "UNASSIGNED_STACK" Bundle.steD (fun q => E.z ≤ q) E.s E.s.heap :=
  vx_Zqof (args := #[Value.ref E.b]) (B.2.1 _ q201) (B.tw q98) (B.nw (w := .isRef (.static Bundle.tN "UNASSIGNED_STACK" Bundle.steD)) (by decide +kernel)) Base.nA
theorem x_S {E : Ev} (B : Base E) : vx_Zq Bundle.tN "SUPPRESSED_SENTINEL" Bundle.listD (fun q => E.z ≤ q) E.s E.s.heap :=
  vx_Zqof (args := #[Value.ref E.b]) (B.2.1 _ q203) (B.tw q98) (B.nw (w := .isRef (.static Bundle.tN "SUPPRESSED_SENTINEL" Bundle.listD)) (by decide +kernel)) Base.nA
theorem Pic.up {E : Ev} {h : HP} {H H' : Heap} (P : Pic E h H) (hz : H.size ≤ H'.size) (ho : ∀ q : Nat, q < H.size → H'[q]? = H[q]?) : Pic E (h.up H'.size) H' := by
  have hs := P.1
  have hz9 : h.sz ≤ H'.size := by omega
  refine ⟨rfl, Nat.le_trans P.2.1 hz9, fun q hq => (ho q (by have := P.2.1; omega)).trans (P.2.2.1 q hq), fun b g1 g2 => ?_, fun a ha => P.2.2.2.2.1 a (fun q => ha ⟨q.1, Nat.lt_of_lt_of_le q.2 hz9⟩), P.2.2.2.2.2⟩
  by_cases e : b < h.sz
  · obtain ⟨c1, c2⟩ := P.2.2.2.1 b g1 e
    exact ⟨fun r hr => (c1 r hr).kept (ho b (by omega)), fun i hi hk => (ho b (by omega)).trans (c2 i hi hk)⟩
  · have k9 : h.kd b = 999 := (P.2.2.2.2.1 b (fun q => e q.2)).elim id (fun q => absurd q.1 (by omega))
    refine ⟨fun r hr => ?_, fun i hi hk => ?_⟩
    · have hr : cls_[h.kd b]? = some r := hr
      rw [k9] at hr; cases hr
    · have hk : h.kd b = 100 + i := hk
      omega
/-- entries ik (the class) and ic (its constructor without arguments) of class own -/
def SiteT (own : String) (ik ic : Nat) (cls : String) : Prop := Bundle.fit cls = true ∧ Cond.classLink own ik cls ∈ lw_all ∧ Cond.initialized cls ∈ lw_all ∧ (∀ (E : Ev), Base E → ∀ (s : State), E.s.WarmedH s.vm → ∀ (args : Array Value), ∀ w ∈ vx_at0 own ic cls XNs, w.before args s = true) ∧ ∀ w ∈ Cond.classLink own ik cls :: Cond.initialized cls :: vx_at0 own ic cls XNs, vx_ot w = true
section ThrowZ
variable {E : Ev} {mt : Mth} {d k : Nat} {Q : Res → HP → Prop} {h : HP} {ls st : List Value}
theorem z_throw0 {ik ic : Nat} {cls : String} (pc : Nat) (S : SiteT mt.1.cls ik ic cls) (d0 : decode mt.2.1 pc = .ok (.new ik, 3)) (d3 : decode mt.2.1 (pc + 3) = .ok (.dup, 1)) (d4 : decode mt.2.1 (pc + 4) = .ok (.invokespecial ic, 3)) (d7 : decode mt.2.1 (pc + 7) = .ok (.athrow, 1)) (ht : mt.2.2.2.2 = []) (hd : 6 ≤ d) (hk : 2 ≤ k) (hst : (st.map fun v => v.category).sum ≤ 8) (hq : ∀ n, h.sz ≤ n → Q (.inr cls) (h.up n)) : Z E mt d Q k h pc ls st := by
  intro p e s m args below meth c K H locs cells slots la hc h1 h2 hP hS hl
  obtain ⟨s1, s2, s3, s4, s5⟩ := S
  have s4 := s4 E hc.1 s hc.W args
  have hU : vx_Zq Bundle.tN "UNASSIGNED_STACK" Bundle.steD (fun q => E.z ≤ q) s s.heap := (vx_Zq.moved hc.W.alike (x_U hc.1)).kept (fun a ha _ => hc.bl a ha)
  have hN : vx_Zq Bundle.tN "SUPPRESSED_SENTINEL" Bundle.listD (fun q => E.z ≤ q) s s.heap := (vx_Zq.moved hc.W.alike (x_S hc.1)).kept (fun a ha _ => hc.bl a ha)
  refine vx_throw0 (names := XNs) hc.x hc.c hc.1.1 hc.own s1 (by decide) (hc.ts args _ s2) (hc.ts args _ s3) s4 s5 hU hN hS (by rw [hc.ml]; exact hl.1) d0 d3 d4 d7 ?_ ?_ ?_ ?_ ?_ hc.lk ?_ hS.2.2 ?_ ?_
  · intro x hx
    rw [hc.tb, ht] at hx
    cases hx
  · show 2 + 3 < d; omega
  · show (st.map fun v => v.category).sum + (13 * 3 + 42) ≤ 200 * d; omega
  · show cells + 1 ≤ K; omega
  · show slots + 6 ≤ 4 * K; omega
  · intro t _ hz ho
    refine ⟨h.up t.heap.size, hq _ (by rw [← hP.1]; exact hz), hP.up hz ho, ?_⟩
    exact ⟨Nat.le_trans hS.1 hz, fun q g1 g2 => (ho q (Nat.lt_of_lt_of_le g1 hS.1)).trans (hS.2.1 q g1 g2)⟩
  · omega
  · omega
end ThrowZ
theorem tX1_need : SiteT RX1 51 53 "java/lang/IllegalArgumentException" := ⟨by decide, q1836, q101, fun E B s hW args => x_atNeed B hW args, x_otNeed⟩
/-- it returns (b) or throws -/
theorem c_need {E : Ev} {h : HP} {b : Bool} (d k : Nat) (hd : 6 ≤ d) (hk : 2 ≤ k) : Call E yX1_need d k [.int (nI (bN b))] h (fun r h' => (b = true ∧ r = .inl none ∧ h' = h) ∨ (b = false ∧ r = .inr "java/lang/IllegalArgumentException" ∧ ∃ n, h.sz ≤ n ∧ h' = h.up n)) := by
  refine Call.of [.int (nI (bN b))] q1835 (by decide) pn_X1 (Nat.le_of_ble_eq_true rfl) rfl ?_
  refine z_iload0 0 dX1_need_0 ?_
  refine z_ifneB 1 12 dX1_need_1 (by decide) (fun c1 => ?_) (fun c1 => ?_)
  · refine z_return 12 rfl dX1_need_12 ?_
    exact Or.inl ⟨c1, rfl, rfl⟩
  · exact z_throw0 4 tX1_need dX1_need_4 dX1_need_7 dX1_need_8 dX1_need_11 rfl hd hk (Nat.le_of_ble_eq_true rfl) (fun n hn => Or.inr ⟨c1, rfl, n, hn, rfl⟩)
theorem tX1_needIndex : SiteT RX1 54 56 "java/lang/IndexOutOfBoundsException" := ⟨by decide, q1818, q115, fun E B s hW args => x_atIndex B hW args, x_otIndex⟩
/-- it returns (b) or throws -/
theorem c_needIndex {E : Ev} {h : HP} {b : Bool} (d k : Nat) (hd : 6 ≤ d) (hk : 2 ≤ k) : Call E yX1_needIndex d k [.int (nI (bN b))] h (fun r h' => (b = true ∧ r = .inl none ∧ h' = h) ∨ (b = false ∧ r = .inr "java/lang/IndexOutOfBoundsException" ∧ ∃ n, h.sz ≤ n ∧ h' = h.up n)) := by
  refine Call.of [.int (nI (bN b))] q1817 (by decide) pn_X1 (Nat.le_of_ble_eq_true rfl) rfl ?_
  refine z_iload0 0 dX1_needIndex_0 ?_
  refine z_ifneB 1 12 dX1_needIndex_1 (by decide) (fun c1 => ?_) (fun c1 => ?_)
  · refine z_return 12 rfl dX1_needIndex_12 ?_
    exact Or.inl ⟨c1, rfl, rfl⟩
  · exact z_throw0 4 tX1_needIndex dX1_needIndex_4 dX1_needIndex_7 dX1_needIndex_8 dX1_needIndex_11 rfl hd hk (Nat.le_of_ble_eq_true rfl) (fun n hn => Or.inr ⟨c1, rfl, n, hn, rfl⟩)
theorem tX1_needState : SiteT RX1 57 59 "java/lang/IllegalStateException" := ⟨by decide, q1841, q117, fun E B s hW args => x_atState B hW args, x_otState⟩
/-- it returns (b) or throws -/
theorem c_needState {E : Ev} {h : HP} {b : Bool} (d k : Nat) (hd : 6 ≤ d) (hk : 2 ≤ k) : Call E yX1_needState d k [.int (nI (bN b))] h (fun r h' => (b = true ∧ r = .inl none ∧ h' = h) ∨ (b = false ∧ r = .inr "java/lang/IllegalStateException" ∧ ∃ n, h.sz ≤ n ∧ h' = h.up n)) := by
  refine Call.of [.int (nI (bN b))] q1840 (by decide) pn_X1 (Nat.le_of_ble_eq_true rfl) rfl ?_
  refine z_iload0 0 dX1_needState_0 ?_
  refine z_ifneB 1 12 dX1_needState_1 (by decide) (fun c1 => ?_) (fun c1 => ?_)
  · refine z_return 12 rfl dX1_needState_12 ?_
    exact Or.inl ⟨c1, rfl, rfl⟩
  · exact z_throw0 4 tX1_needState dX1_needState_4 dX1_needState_7 dX1_needState_8 dX1_needState_11 rfl hd hk (Nat.le_of_ble_eq_true rfl) (fun n hn => Or.inr ⟨c1, rfl, n, hn, rfl⟩)
