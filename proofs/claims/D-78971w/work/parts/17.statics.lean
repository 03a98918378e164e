/-! STATICS: getstatic, tables that stand from the start; the picture's first facts -/
section StatZ
variable {E : Ev} {mt : Mth} {d k : Nat} {Q : Res → HP → Prop} {h : HP} {ls st : List Value}
theorem z_base (pc : Nat) (kk : Base E → Z E mt d Q k h pc ls st) : Z E mt d Q k h pc ls st :=
  fun p e s m args below meth c K H locs cells slots la hc h1 h2 hP hS hl => kk hc.1 p e s m args below meth c K H locs cells slots la hc h1 h2 hP hS hl
theorem z_gets {C n dd : String} {v : Value} {idx : Nat} (pc : Nat) (hZ : va_Z C n dd v (fun q => E.z ≤ q) E.s E.s.heap) (hw : Cond.fieldLink mt.1.cls idx C n dd ∈ lw_all) (hd : decode mt.2.1 pc = .ok (.getstatic idx, 3)) (kk : Z E mt d Q k h (pc + 3) ls (v :: st)) : Z E mt d Q k h pc ls st := by
  intro p e s m args below meth c K H locs cells slots la hc h1 h2 hP hS hl
  have kk := kk p e s m args below meth c K H locs cells slots la hc h1 h2 hP hS hl
  exact va_gets hc.x hc.c ((va_Z.moved hc.W.alike hZ).kept (fun a ha _ => hc.bl a ha)) hS hc.own (hc.ts args _ hw) (fun _ q => q) hd kk
theorem z_getsN {C n dd host : String} {v : Value} {idx : Nat} (pc : Nat) (hZ : va_Z C n dd v (fun q => E.z ≤ q) E.s E.s.heap) (hw : Cond.fieldLinkNest mt.1.cls idx C n dd host ∈ lw_tbl) (hd : decode mt.2.1 pc = .ok (.getstatic idx, 3)) (kk : Z E mt d Q k h (pc + 3) ls (v :: st)) : Z E mt d Q k h pc ls st := by
  intro p e s m args below meth c K H locs cells slots la hc h1 h2 hP hS hl
  have kk := kk p e s m args below meth c K H locs cells slots la hc h1 h2 hP hS hl
  exact va_getsN hc.x hc.c ((va_Z.moved hc.W.alike hZ).kept (fun a ha _ => hc.bl a ha)) hS hc.own (hc.1.nestF hw hc.W args) (fun _ q => q) hd kk
theorem z_ti {t N : Nat} {f : Nat → Value} {i : Int32} {v : Value} (pc j : Nat) (hT : va_T .int t N f (fun q => E.z ≤ q) E.s E.s.heap) (hj : i = nI j) (hb : j < N) (hN : N < 2 ^ 31) (hv : f j = v) (hd : decode mt.2.1 pc = .ok (.iaload, 1)) (kk : Z E mt d Q k h (pc + 1) ls (v :: st)) : Z E mt d Q k h pc ls (.int i :: .ref t :: st) := by
  intro p e s m args below meth c K H locs cells slots la hc h1 h2 hP hS hl
  have kk := kk p e s m args below meth c K H locs cells slots la hc h1 h2 hP hS hl
  subst hj
  exact va_ti hc.x hc.c ((va_T.moved hc.W.alike hT).kept (fun a ha _ => hc.bl a ha)) hS (vp_in_nI hb hN) (by rw [nI_clamp (by omega)]; exact hv) hd kk
theorem z_tq {t N : Nat} {f : Nat → Value} {i : Int32} {v : Value} {C : String} (pc j : Nat) (hT : va_T (.object C) t N f (fun q => E.z ≤ q) E.s E.s.heap) (hj : i = nI j) (hb : j < N) (hN : N < 2 ^ 31) (hv : f j = v) (hd : decode mt.2.1 pc = .ok (.aaload, 1)) (kk : Z E mt d Q k h (pc + 1) ls (v :: st)) : Z E mt d Q k h pc ls (.int i :: .ref t :: st) := by
  intro p e s m args below meth c K H locs cells slots la hc h1 h2 hP hS hl
  have kk := kk p e s m args below meth c K H locs cells slots la hc h1 h2 hP hS hl
  subst hj
  exact vb_tq hc.x hc.c ((va_T.moved hc.W.alike hT).kept (fun a ha _ => hc.bl a ha)) hS (vp_in_nI hb hN) (by rw [nI_clamp (by omega)]; exact hv) hd kk
theorem z_lenT {t N : Nat} {f : Nat → Value} {ty : FieldType} (pc : Nat) (hT : va_T ty t N f (fun q => E.z ≤ q) E.s E.s.heap) (hd : decode mt.2.1 pc = .ok (.arraylength, 1)) (kk : Z E mt d Q k h (pc + 1) ls (.int (nI N) :: st)) : Z E mt d Q k h pc ls (.ref t :: st) := by
  intro p e s m args below meth c K H locs cells slots la hc h1 h2 hP hS hl
  have kk := kk p e s m args below meth c K H locs cells slots la hc h1 h2 hP hS hl
  obtain ⟨cell, g1, g2, g3, g4, g5, g6, g7⟩ := (va_T.moved hc.W.alike hT).kept (H1 := s.heap) (fun a ha _ => hc.bl a ha)
  exact W.alen (n := nI N) hc.x hc.c (by rw [hS.2.1 t (Array.getElem?_eq_some_iff.mp g1).1 g7]; exact g1) g2 g5 rfl rfl hd kk
end StatZ
theorem Base.nw {E : Ev} (B : Base E) {w : Cond} (hw : w ∈ flatC (Jvm.Cond.and given_1 narrow_1)) : w.before #[Value.ref E.b] E.s = true := flat_of_before _ B.2.2.2.1 w hw
theorem Base.nA {E : Ev} : ∀ a : Nat, a < E.s.heap.size → ¬ E.z ≤ a := fun a ha q => by have : E.z = E.s.heap.size := rfl; omega
theorem Base.tw {E : Ev} (B : Base E) {w : Cond} (hw : w ∈ lw_all) : w.before #[Value.ref E.b] E.s = true := B.2.1 w (lw_all_tbl hw)
theorem st_high {E : Ev} (B : Base E) : va_Z "java/lang/Integer$IntegerCache" "high" "I" (.int (nI 127)) (fun q => E.z ≤ q) E.s E.s.heap :=
  va_Zof (args := #[Value.ref E.b]) (B.2.1 _ q1472) (B.tw q135) (va_eqv (B.nw (w := .eq (.static "java/lang/Integer$IntegerCache" "high" "I") (.int 127)) (by decide +kernel)) rfl) Base.nA
theorem st_compact {E : Ev} (B : Base E) : va_Z "java/lang/String" "COMPACT_STRINGS" "Z" (.int (nI 1)) (fun q => E.z ≤ q) E.s E.s.heap :=
  va_Zof (args := #[Value.ref E.b]) (B.2.1 _ q483) (B.tw q112) (va_eqv (B.nw (w := .eq (.static "java/lang/String" "COMPACT_STRINGS" "Z") (.int 1)) (by decide +kernel)) rfl) Base.nA
theorem st_cache {E : Ev} (B : Base E) : ∃ t : Nat, va_Z "java/lang/Integer$IntegerCache" "cache" "[Ljava/lang/Integer;" (.ref t) (fun q => E.z ≤ q) E.s E.s.heap ∧ va_T (.object "java/lang/Integer") t 256 (fun j => .ref (E.C j)) (fun q => E.z ≤ q) E.s E.s.heap := by
  obtain ⟨t, ht, hT⟩ := va_Tof (args := #[Value.ref E.b]) (s := E.s) (tm := .static "java/lang/Integer$IntegerCache" "cache" "[Ljava/lang/Integer;") (ty := .object "java/lang/Integer") (N := 256) (f := fun j => .ref (E.C j)) (A := fun q => E.z ≤ q) (by decide)
    (B.nw (by decide +kernel)) (va_eqv (B.nw (w := .eq (.length (.static "java/lang/Integer$IntegerCache" "cache" "[Ljava/lang/Integer;")) (.int 256)) (by decide +kernel)) rfl) (fun j hj => B.2.2.2.2.2.2 j hj) Base.nA
  exact ⟨t, va_Zof (args := #[Value.ref E.b]) (B.2.1 _ q1474) (B.tw q135) ht Base.nA, hT⟩

def tb_NEEDS : Nat → Value := fun j => .int (nI (([6, 2] : List Nat).getD j 0))
theorem st_NEEDS {E : Ev} (B : Base E) : ∃ t : Nat, va_Z "FountainPark" "NEEDS" "[I" (.ref t) (fun q => E.z ≤ q) E.s E.s.heap ∧ va_T .int t 2 tb_NEEDS (fun q => E.z ≤ q) E.s E.s.heap := by
  obtain ⟨t, ht, hT⟩ := va_Tof (args := #[Value.ref E.b]) (s := E.s) (tm := .static "FountainPark" "NEEDS" "[I") (ty := .int) (N := 2) (f := tb_NEEDS) (A := fun q => E.z ≤ q) (by decide)
    (B.nw (by decide +kernel)) (va_eqv (B.nw (w := .eq (.length (.static "FountainPark" "NEEDS" "[I")) (.int 2)) (by decide +kernel)) rfl) (fun j hj => by
      rcases (by omega : j = 0 ∨ j = 1) with rfl | rfl
      · exact va_eqv (B.nw (w := .eq (.elem (.static "FountainPark" "NEEDS" "[I") (.int 0)) (.int 6)) (by decide +kernel)) rfl
      · exact va_eqv (B.nw (w := .eq (.elem (.static "FountainPark" "NEEDS" "[I") (.int 1)) (.int 2)) (by decide +kernel)) rfl) Base.nA
  exact ⟨t, va_Zof (args := #[Value.ref E.b]) (B.2.1 _ q1628) (B.tw q93) ht Base.nA, hT⟩

def tb_LEAST : Nat → Value := fun j => .int (nI (([0, 0, 1, 0, 0] : List Nat).getD j 0))
theorem st_LEAST {E : Ev} (B : Base E) : ∃ t : Nat, va_Z "FountainPark" "LEAST" "[I" (.ref t) (fun q => E.z ≤ q) E.s E.s.heap ∧ va_T .int t 5 tb_LEAST (fun q => E.z ≤ q) E.s E.s.heap := by
  obtain ⟨t, ht, hT⟩ := va_Tof (args := #[Value.ref E.b]) (s := E.s) (tm := .static "FountainPark" "LEAST" "[I") (ty := .int) (N := 5) (f := tb_LEAST) (A := fun q => E.z ≤ q) (by decide)
    (B.nw (by decide +kernel)) (va_eqv (B.nw (w := .eq (.length (.static "FountainPark" "LEAST" "[I")) (.int 5)) (by decide +kernel)) rfl) (fun j hj => by
      rcases (by omega : j = 0 ∨ j = 1 ∨ j = 2 ∨ j = 3 ∨ j = 4) with rfl | rfl | rfl | rfl | rfl
      · exact va_eqv (B.nw (w := .eq (.elem (.static "FountainPark" "LEAST" "[I") (.int 0)) (.int 0)) (by decide +kernel)) rfl
      · exact va_eqv (B.nw (w := .eq (.elem (.static "FountainPark" "LEAST" "[I") (.int 1)) (.int 0)) (by decide +kernel)) rfl
      · exact va_eqv (B.nw (w := .eq (.elem (.static "FountainPark" "LEAST" "[I") (.int 2)) (.int 1)) (by decide +kernel)) rfl
      · exact va_eqv (B.nw (w := .eq (.elem (.static "FountainPark" "LEAST" "[I") (.int 3)) (.int 0)) (by decide +kernel)) rfl
      · exact va_eqv (B.nw (w := .eq (.elem (.static "FountainPark" "LEAST" "[I") (.int 4)) (.int 0)) (by decide +kernel)) rfl) Base.nA
  exact ⟨t, va_Zof (args := #[Value.ref E.b]) (B.2.1 _ q1992) (B.tw q93) ht Base.nA, hT⟩

def tb_MOST : Nat → Value := fun j => .int (nI (([20, 2, 9, 90, 50] : List Nat).getD j 0))
theorem st_MOST {E : Ev} (B : Base E) : ∃ t : Nat, va_Z "FountainPark" "MOST" "[I" (.ref t) (fun q => E.z ≤ q) E.s E.s.heap ∧ va_T .int t 5 tb_MOST (fun q => E.z ≤ q) E.s E.s.heap := by
  obtain ⟨t, ht, hT⟩ := va_Tof (args := #[Value.ref E.b]) (s := E.s) (tm := .static "FountainPark" "MOST" "[I") (ty := .int) (N := 5) (f := tb_MOST) (A := fun q => E.z ≤ q) (by decide)
    (B.nw (by decide +kernel)) (va_eqv (B.nw (w := .eq (.length (.static "FountainPark" "MOST" "[I")) (.int 5)) (by decide +kernel)) rfl) (fun j hj => by
      rcases (by omega : j = 0 ∨ j = 1 ∨ j = 2 ∨ j = 3 ∨ j = 4) with rfl | rfl | rfl | rfl | rfl
      · exact va_eqv (B.nw (w := .eq (.elem (.static "FountainPark" "MOST" "[I") (.int 0)) (.int 20)) (by decide +kernel)) rfl
      · exact va_eqv (B.nw (w := .eq (.elem (.static "FountainPark" "MOST" "[I") (.int 1)) (.int 2)) (by decide +kernel)) rfl
      · exact va_eqv (B.nw (w := .eq (.elem (.static "FountainPark" "MOST" "[I") (.int 2)) (.int 9)) (by decide +kernel)) rfl
      · exact va_eqv (B.nw (w := .eq (.elem (.static "FountainPark" "MOST" "[I") (.int 3)) (.int 90)) (by decide +kernel)) rfl
      · exact va_eqv (B.nw (w := .eq (.elem (.static "FountainPark" "MOST" "[I") (.int 4)) (.int 50)) (by decide +kernel)) rfl) Base.nA
  exact ⟨t, va_Zof (args := #[Value.ref E.b]) (B.2.1 _ q1994) (B.tw q93) ht Base.nA, hT⟩

theorem st_empty {E : Ev} (B : Base E) : ∃ t : Nat, va_Z "java/util/ArrayList" "DEFAULTCAPACITY_EMPTY_ELEMENTDATA" "[Ljava/lang/Object;" (.ref t) (fun q => E.z ≤ q) E.s E.s.heap ∧ va_T (.object "java/lang/Object") t 0 (fun _ => .null) (fun q => E.z ≤ q) E.s E.s.heap := by
  obtain ⟨t, ht, hT⟩ := va_Tof (args := #[Value.ref E.b]) (s := E.s) (tm := .static "java/util/ArrayList" "DEFAULTCAPACITY_EMPTY_ELEMENTDATA" "[Ljava/lang/Object;") (ty := .object "java/lang/Object") (N := 0) (f := fun _ => .null) (A := fun q => E.z ≤ q) (by decide)
    (B.nw (by decide +kernel)) (va_eqv (B.nw (w := .eq (.length (.static "java/util/ArrayList" "DEFAULTCAPACITY_EMPTY_ELEMENTDATA" "[Ljava/lang/Object;")) (.int 0)) (by decide +kernel)) rfl) (fun j hj => absurd hj (Nat.not_lt_zero j)) Base.nA
  exact ⟨t, va_Zof (args := #[Value.ref E.b]) (B.2.1 _ q460) (B.tw q109) ht Base.nA, hT⟩
theorem st_present {E : Ev} (B : Base E) : ∃ t : Nat, va_Z "java/util/TreeSet" "PRESENT" "Ljava/lang/Object;" (.ref t) (fun q => E.z ≤ q) E.s E.s.heap := by
  obtain ⟨t, _, _, _, h1, -⟩ := Cond.exactly_spec (B.nw (w := .exactly (.static "java/util/TreeSet" "PRESENT" "Ljava/lang/Object;") "java/lang/Object") (by decide +kernel))
  exact ⟨t, va_Zof (args := #[Value.ref E.b]) (B.2.1 _ q1451) (B.tw q105) h1 Base.nA⟩
/-- an Integer that holds x -/
def IntAt (h : HP) (a : Nat) (x : Int32) : Prop := a < h.sz ∧ h.kd a = 15 ∧ h.mm a 0 = .int x
