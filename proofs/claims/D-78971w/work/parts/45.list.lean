/-! ARRAYLIST: the constructor, size, get -/
/-- the static empty array -/
def EmA (E : Ev) (t : Nat) : Prop := va_Z "java/util/ArrayList" "DEFAULTCAPACITY_EMPTY_ELEMENTDATA" "[Ljava/lang/Object;" (.ref t) (fun q => E.z ≤ q) E.s E.s.heap ∧ va_T (.object "java/lang/Object") t 0 (fun _ => .null) (fun q => E.z ≤ q) E.s E.s.heap
/-- a list of n objects of kind ci; its array (none: the static empty one) -/
def AlP (E : Ev) (h : HP) (l : Nat) (ar : Option Nat) (n ci : Nat) (f : Nat → Nat) (mc : Int32) : Prop :=
  h.kd l = 13 ∧ h.mm l 0 = .int mc ∧ h.mm l 2 = .int (nI n) ∧ l < h.sz ∧ SiteE 4 ci ∧ match ar with
    | none => n = 0 ∧ ∃ t, h.mm l 1 = .ref t ∧ EmA E t
    | some a => h.mm l 1 = .ref a ∧ h.kd a = 104 ∧ n ≤ h.ln a ∧ 10 ≤ h.ln a ∧ h.ln a < 60 ∧ a < h.sz ∧ ¬ l = a ∧ (∀ i, i < n → h.mm a i = .ref (f i) ∧ h.kd (f i) = ci ∧ f i < h.sz) ∧ ∀ i, n ≤ i → i < h.ln a → h.mm a i = .null
set_option maxHeartbeats 4000000 in
theorem c_absList {E : Ev} {h : HP} {l : Nat} (d k : Nat) (hd1 : 2 ≤ d) (hl : h.kd l = 13) : Call E yJ11_init d k [.ref l] h (rV (fun h' => h' = h.put l 0 (.int (nI 0)))) := by
  refine Call.of [.ref l] q457 (by decide) pn_J11 (Nat.le_of_ble_eq_true rfl) rfl ?_
  first | refine z_aload0 0 dJ11_init_0 ?_ | refine z_aload0N 0 dJ11_init_0 ?_ | refine z_aload0o 0 dJ11_init_0 ?_
  refine z_I0 (k' := k) 1 iJ11_1 dJ11_init_1 (c_absColl (d - 1) 0 (by omega)) (by omega) (by omega) (Nat.le_of_ble_eq_true rfl) (aft_V fun h' hq => ?_)
  subst hq
  first | refine z_aload0 4 dJ11_init_4 ?_ | refine z_aload0N 4 dJ11_init_4 ?_ | refine z_aload0o 4 dJ11_init_4 ?_
  refine z_iconst 5 (nI 0) dJ11_init_5 kI0 ?_
  refine z_put 6 pJ11_7 (fun h => by cases h) dJ11_init_6 hl (rfl) (rfl) ?_
  refine z_return 9 rfl dJ11_init_9 ?_
  exact ⟨rfl, rfl⟩

set_option maxHeartbeats 4000000 in
theorem c_alNew {E : Ev} {h : HP} {l ci : Nat} {f : Nat → Nat} (d k : Nat) (hd1 : 3 ≤ d) (hl : h.kd l = 13) (hlt : l < h.sz) (h2 : h.mm l 2 = .int (nI 0)) (hS : SiteE 4 ci) : Call E yJ12_init d k [.ref l] h (rV (fun h' => AlP E h' l none 0 ci f (nI 0) ∧ Sm (fun a => a = l) h h' ∧ h'.sz = h.sz)) := by
  refine Call.of [.ref l] q454 (by decide) pn_J12 (Nat.le_of_ble_eq_true rfl) rfl ?_
  refine z_base 0 fun B => ?_
  obtain ⟨t, ht, hT⟩ := st_empty B
  first | refine z_aload0 0 dJ12_init_0 ?_ | refine z_aload0N 0 dJ12_init_0 ?_ | refine z_aload0o 0 dJ12_init_0 ?_
  refine z_I0 (k' := k) 1 iJ12_1 dJ12_init_1 (c_absList (d - 1) 0 (by omega) hl) (by omega) (by omega) (Nat.le_of_ble_eq_true rfl) (aft_V fun h' hq => ?_)
  rw [hq]
  first | refine z_aload0 4 dJ12_init_4 ?_ | refine z_aload0N 4 dJ12_init_4 ?_ | refine z_aload0o 4 dJ12_init_4 ?_
  refine z_gets 5 ht q459 dJ12_init_5 ?_
  refine z_put 8 pJ12_9 (fun h => by cases h) dJ12_init_8 hl (rfl) (rfl) ?_
  refine z_return 11 rfl dJ12_init_11 ?_
  exact ⟨rfl, ⟨hl, by simp [mm_put], by simp [mm_put, h2], hlt, hS, rfl, t, by simp [mm_put], ht, hT⟩, ((Sm.refl (fun a => a = l) h).putS rfl).putS rfl, rfl⟩

set_option maxHeartbeats 4000000 in
theorem c_alSize {E : Ev} {h : HP} {l n ci : Nat} {ar : Option Nat} {f : Nat → Nat} {mc : Int32} (d k : Nat) (AP : AlP E h l ar n ci f mc) : Call E yJ12_size d k [.ref l] h (rI (fun x h' => h' = h ∧ x = nI n)) := by
  refine Call.of [.ref l] q945 (by decide) pn_J12 (Nat.le_of_ble_eq_true rfl) rfl ?_
  first | refine z_aload0 0 dJ12_size_0 ?_ | refine z_aload0N 0 dJ12_size_0 ?_ | refine z_aload0o 0 dJ12_size_0 ?_
  refine z_get 1 gJ12_48 dJ12_size_1 AP.1 AP.2.2.1 ?_
  refine z_ireturn 4 rfl dJ12_size_4 ?_
  exact ⟨_, rfl, rfl, rfl⟩

set_option maxHeartbeats 4000000 in
theorem c_alIsEmpty {E : Ev} {h : HP} {l n ci : Nat} {ar : Option Nat} {f : Nat → Nat} {mc : Int32} (d k : Nat) (AP : AlP E h l ar n ci f mc) (hn : n < 2147483648) : Call E yJ12_isEmpty d k [.ref l] h (rI (fun x h' => h' = h ∧ ((x = nI 1 ∧ n = 0) ∨ (x = nI 0 ∧ ¬ n = 0)))) := by
  have hz : nI n = 0 ↔ n = 0 := nI_eq (b := 0) (by omega) (by decide)
  refine Call.of [.ref l] q2043 (by decide) pn_J12 (Nat.le_of_ble_eq_true rfl) rfl ?_
  first | refine z_aload0 0 dJ12_isEmpty_0 ?_ | refine z_aload0N 0 dJ12_isEmpty_0 ?_ | refine z_aload0o 0 dJ12_isEmpty_0 ?_
  refine z_get 1 gJ12_48 dJ12_isEmpty_1 AP.1 AP.2.2.1 ?_
  refine z_ifne 4 11 dJ12_isEmpty_4 (by decide) (fun c4 => ?_) (fun d4 => ?_)
  · refine z_iconst 11 (nI 0) dJ12_isEmpty_11 kI0 ?_
    refine z_zreturn 12 rfl (by first | exact nb1 | exact nb0) dJ12_isEmpty_12 ?_
    first
      | exact ⟨_, rfl, rfl, Or.inl ⟨rfl, hz.mp (by first | exact d4 | exact Classical.not_not.mp d4)⟩⟩
      | exact ⟨_, rfl, rfl, Or.inr ⟨rfl, fun e => c4 (hz.mpr e)⟩⟩
  · refine z_iconst 7 (nI 1) dJ12_isEmpty_7 kI1 ?_
    refine z_goto 8 12 dJ12_isEmpty_8 (by decide) ?_
    refine z_zreturn 12 rfl (by first | exact nb1 | exact nb0) dJ12_isEmpty_12 ?_
    first
      | exact ⟨_, rfl, rfl, Or.inl ⟨rfl, hz.mp (by first | exact d4 | exact Classical.not_not.mp d4)⟩⟩
      | exact ⟨_, rfl, rfl, Or.inr ⟨rfl, fun e => c4 (hz.mpr e)⟩⟩

set_option maxHeartbeats 4000000 in
theorem c_chk21 {E : Ev} {h : HP} {i n : Nat} (d k : Nat) (hi : i < n) (hn : n < 2147483648) : Call E yJ21_checkIndex d k [.int (nI i), .int (nI n), .null] h (rI (fun x h' => h' = h ∧ x = nI i)) := by
  refine Call.of [.int (nI i), .int (nI n), .null] q874 (by decide) pn_J21 (Nat.le_of_ble_eq_true rfl) rfl ?_
  refine z_iload0 0 dJ21_checkIndex_0 ?_
  refine z_iflt 1 9 dJ21_checkIndex_1 (by decide) (fun c1 => by first | exact absurd c1 (nI_pos (by omega)) | exact absurd (nI_pos (by omega)) c1) (fun c1 => ?_)
  refine z_iload0 4 dJ21_checkIndex_4 ?_
  refine z_iload1 5 dJ21_checkIndex_5 ?_
  refine z_iclt 6 16 dJ21_checkIndex_6 (by decide) (fun c6 => ?_) (fun c6 => by first | exact absurd c6 (nI_lt hi (by omega)) | exact absurd (nI_lt hi (by omega)) c6)
  refine z_iload0 16 dJ21_checkIndex_16 ?_
  refine z_ireturn 17 rfl dJ21_checkIndex_17 ?_
  exact ⟨_, rfl, rfl, rfl⟩

set_option maxHeartbeats 4000000 in
theorem c_chk20 {E : Ev} {h : HP} {i n : Nat} (d k : Nat) (hd1 : 1 ≤ d) (hi : i < n) (hn : n < 2147483648) : Call E yJ20_checkIndex d k [.int (nI i), .int (nI n)] h (rI (fun x h' => h' = h ∧ x = nI i)) := by
  refine Call.of [.int (nI i), .int (nI n)] q1866 (by decide) pn_J20 (Nat.le_of_ble_eq_true rfl) rfl ?_
  refine z_iload0 0 dJ20_checkIndex_0 ?_
  refine z_iload1 1 dJ20_checkIndex_1 ?_
  refine z_null 2 dJ20_checkIndex_2 ?_
  refine z_S3 (k' := k) 3 sJ20_105 dJ20_checkIndex_3 (c_chk21 (d - 1) 0 hi hn) (by omega) (by omega) (Nat.le_of_ble_eq_true rfl) (aft_I fun x h2 hq => ?_)
  refine z_ireturn 6 rfl dJ20_checkIndex_6 ?_
  exact ⟨_, rfl, hq⟩

set_option maxHeartbeats 4000000 in
theorem c_elData {E : Ev} {h : HP} {l n ci a i : Nat} {f : Nat → Nat} {mc : Int32} (d k : Nat) (AP : AlP E h l (some a) n ci f mc) (hi : i < n) : Call E yJ12_elementData d k [.ref l, .int (nI i)] h (rR (fun x h' => h' = h ∧ x = f i)) := by
  obtain ⟨l1, l2, l3, l4, l5, l6, l7, l8, l9, l10, l11, l12, l13, l14⟩ := id AP
  refine Call.of [.ref l, .int (nI i)] q1979 (by decide) pn_J12 (Nat.le_of_ble_eq_true rfl) rfl ?_
  first | refine z_aload0 0 dJ12_elementData_0 ?_ | refine z_aload0N 0 dJ12_elementData_0 ?_ | refine z_aload0o 0 dJ12_elementData_0 ?_
  refine z_get 1 gJ12_9 dJ12_elementData_1 l1 l6 ?_
  refine z_iload1 4 dJ12_elementData_4 ?_
  refine z_aald (i := 4) 5 (i) dJ12_elementData_5 (by decide) (by decide) l7 rfl (rfl) (by omega) (by omega) (l13 i hi).1 ?_
  refine z_areturn 6 rfl (Or.inl ⟨_, rfl⟩) (by first | exact Or.inl rfl | exact Or.inr ⟨_, rfl⟩ | exact va_rf_or _) dJ12_elementData_6 ?_
  exact ⟨_, rfl, rfl, rfl⟩

set_option maxHeartbeats 4000000 in
theorem c_alGet {E : Ev} {h : HP} {l n ci a i : Nat} {f : Nat → Nat} {mc : Int32} (d k : Nat) (hd1 : 2 ≤ d) (AP : AlP E h l (some a) n ci f mc) (hi : i < n) (hn : n < 2147483648) : Call E yJ12_get d k [.ref l, .int (nI i)] h (rR (fun x h' => h' = h ∧ x = f i)) := by
  refine Call.of [.ref l, .int (nI i)] q1975 (by decide) pn_J12 (Nat.le_of_ble_eq_true rfl) rfl ?_
  refine z_iload1 0 dJ12_get_0 ?_
  first | refine z_aload0 1 dJ12_get_1 ?_ | refine z_aload0N 1 dJ12_get_1 ?_ | refine z_aload0o 1 dJ12_get_1 ?_
  refine z_get 2 gJ12_48 dJ12_get_2 AP.1 AP.2.2.1 ?_
  refine z_S2 (k' := k) 5 sJ12_118 dJ12_get_5 (c_chk20 (d - 1) 0 (by omega) hi hn) (by omega) (by omega) (Nat.le_of_ble_eq_true rfl) (aft_I fun x h2 hq => ?_)
  obtain ⟨rfl, -⟩ := hq
  refine z_pop 8 dJ12_get_8 (by first | rfl | exact va_rf_cat _) ?_
  first | refine z_aload0 9 dJ12_get_9 ?_ | refine z_aload0N 9 dJ12_get_9 ?_ | refine z_aload0o 9 dJ12_get_9 ?_
  refine z_iload1 10 dJ12_get_10 ?_
  refine z_V1 (k' := k) 11 vJ12_123 dJ12_get_11 AP.1 (c_elData (d - 1) 0 AP hi) (by omega) (by omega) (Nat.le_of_ble_eq_true rfl) (aft_R fun x h3 hq => ?_)
  refine z_areturn 14 rfl (Or.inl ⟨_, rfl⟩) (by first | exact Or.inl rfl | exact Or.inr ⟨_, rfl⟩ | exact va_rf_or _) dJ12_get_14 ?_
  exact ⟨_, rfl, hq⟩

