/-! PRIORITYQUEUE of Jobs: poll, clear, the constructor -/
theorem pol_dn {n : Nat} {κ g : Nat → Nat} (H : Hp9 (n + 1) κ g) (h0 : 0 < n) : Dn9 n κ (fun a => if a = 0 then g n else g a) 0 := by
  refine ⟨h0, fun i hi hin hn => ?_, fun c hc hcn hcp hk => absurd hk (Nat.lt_irrefl 0)⟩
  show κ (if (i - 1) / 2 = 0 then g n else g ((i - 1) / 2)) ≤ κ (if i = 0 then g n else g i)
  rw [if_neg hn, if_neg (by omega)]
  exact H i hi (by omega)
theorem pol_inj {n : Nat} {g : Nat → Nat} (H : inj9 (n + 1) g) : inj9 n (fun a => if a = 0 then g n else g a) := by
  intro i j hi hj e
  have e : (if i = 0 then g n else g i) = (if j = 0 then g n else g j) := e
  by_cases e1 : i = 0
  · by_cases e2 : j = 0
    · omega
    · rw [if_pos e1, if_neg e2] at e; have := H n j (by omega) (by omega) e; omega
  · by_cases e2 : j = 0
    · rw [if_neg e1, if_pos e2] at e; have := H i n (by omega) (by omega) e; omega
    · rw [if_neg e1, if_neg e2] at e; exact H i j (by omega) (by omega) e
theorem pol_el {n : Nat} {g : Nat → Nat} {y : Nat} (H : inj9 (n + 1) g) (h0 : 0 < n) : el9 n (fun a => if a = 0 then g n else g a) y ↔ el9 (n + 1) g y ∧ ¬ y = g 0 := by
  constructor
  · rintro ⟨i, hi, e⟩
    have e : (if i = 0 then g n else g i) = y := e
    by_cases e1 : i = 0
    · rw [if_pos e1] at e
      exact ⟨⟨n, by omega, e⟩, fun q => by have := H n 0 (by omega) (by omega) (e.trans q); omega⟩
    · rw [if_neg e1] at e
      exact ⟨⟨i, by omega, e⟩, fun q => e1 (H i 0 (by omega) (by omega) (e.trans q))⟩
  · rintro ⟨⟨i, hi, e⟩, hne⟩
    have hi0 : ¬ i = 0 := fun q => hne (by rw [← e, q])
    by_cases e1 : i = n
    · exact ⟨0, h0, by show (if 0 = 0 then g n else g 0) = y; rw [if_pos rfl, ← e1]; exact e⟩
    · exact ⟨i, by omega, by show (if i = 0 then g n else g i) = y; rw [if_neg hi0]; exact e⟩
theorem nI_pred9 (n : Nat) : nI (n + 1) - nI 1 = nI n := nI_pred n
set_option maxHeartbeats 4000000 in
theorem c_poll {E : Ev} {h : HP} {pl qu rk dy : Nat → Nat} {p ar n cap : Nat} {g : Nat → Nat} {mc : Int32} (d k : Nat) (hd1 : 3 ≤ d) (QP : PqP h p ar (n + 1) cap g (kA pl qu rk dy) mc) (JJ : ∀ y, el9 (n + 1) g y → JbA h pl qu rk dy y) (hpa : ¬ p = ar) : Call E yJ2_poll d k [.ref p] h (rR (fun r h' => r = g 0 ∧ (∀ y, el9 (n + 1) g y → kA pl qu rk dy (g 0) ≤ kA pl qu rk dy y) ∧ ∃ g' : Nat → Nat, PqP h' p ar n cap g' (kA pl qu rk dy) (mc + nI 1) ∧ (∀ y, el9 n g' y ↔ el9 (n + 1) g y ∧ ¬ y = g 0) ∧ Sm (fun a => a = p ∨ a = ar) h h' ∧ h'.sz = h.sz)) := by
  obtain ⟨hp, h0, h1, h2, h3, hpl, PA, HH, IJ, hc1⟩ := id QP
  have hcap := PA.2.2.2.1
  have hncap := PA.2.2.1
  have A2 : Sm (fun a => a = p ∨ a = ar) h (((h.put p 3 (.int (mc + nI 1))).put p 1 (.int (nI n))).put ar n .null) := (((Sm.refl _ h).putS (Or.inl rfl)).putS (Or.inl rfl)).putS (Or.inr rfl)
  have JJ2 : ∀ y, 0 < n → el9 n (fun a => if a = 0 then g n else g a) y → JbA (((h.put p 3 (.int (mc + nI 1))).put p 1 (.int (nI n))).put ar n .null) pl qu rk dy y := fun y hn0 hy => by
    have hJ := JJ y ((pol_el IJ hn0).mp hy).1
    refine hJ.keep A2 (fun q => ?_)
    have := kdJob hJ
    rcases q with q | q
    · rw [q, hp] at this; cases this
    · rw [q, PA.1] at this; cases this
  have hna2 : ∀ y, 0 < n → el9 n (fun a => if a = 0 then g n else g a) y → ¬ y = ar := fun y hn0 hy e => by
    have := kdJob (JJ y ((pol_el IJ hn0).mp hy).1)
    rw [e, PA.1] at this; cases this
  have PA2 : PqA (((h.put p 3 (.int (mc + nI 1))).put p 1 (.int (nI n))).put ar n .null) ar n cap (fun a => if a = 0 then g n else g a) 0 := by
    refine ⟨PA.1, PA.2.1, by omega, hcap, fun i hi hk => ?_, fun i hi hc hk => ?_, PA.2.2.2.2.2.2⟩
    · show _ = Value.ref (if i = 0 then g n else g i)
      rw [mm_nek _ _ _ _ _ (by omega), mm_nea _ _ _ _ _ (fun e => hpa e.symm), mm_nea _ _ _ _ _ (fun e => hpa e.symm), if_neg hk]; exact PA.2.2.2.2.1 i (by omega) (by omega)
    · by_cases e : i = n
      · subst e; rw [mm_self]
      · rw [mm_nek _ _ _ _ _ e, mm_nea _ _ _ _ _ (fun e => hpa e.symm), mm_nea _ _ _ _ _ (fun e => hpa e.symm)]; exact PA.2.2.2.2.2.1 i (by omega) hc (by omega)
  refine Call.of [.ref p, dum, dum, dum, dum, dum] q1620 (by decide) pn_J2 (Nat.le_of_ble_eq_true rfl) rfl ?_
  first | refine z_aload0 0 dJ2_poll_0 ?_ | refine z_aload0N 0 dJ2_poll_0 ?_ | refine z_aload0o 0 dJ2_poll_0 ?_
  refine z_get 1 gJ2_17 dJ2_poll_1 hp h0 ?_
  refine z_dup 4 dJ2_poll_4 (by first | rfl | exact va_rf_cat _) ?_
  refine z_astore1 5 dJ2_poll_5 rfl ?_
  refine z_iconst 6 (nI 0) dJ2_poll_6 kI0 ?_
  refine z_aald (i := 4) 7 (0) dJ2_poll_7 (by decide) (by decide) PA.1 PA.2.1 (rfl) (by omega) (by omega) (PA.2.2.2.2.1 0 (by omega) (by omega)) ?_
  refine z_dup 8 dJ2_poll_8 (by first | rfl | exact va_rf_cat _) ?_
  refine z_astore2 9 dJ2_poll_9 rfl ?_
  refine z_ifnull 10 dJ2_poll_10 ?_
  first | refine z_aload0 13 dJ2_poll_13 ?_ | refine z_aload0N 13 dJ2_poll_13 ?_ | refine z_aload0o 13 dJ2_poll_13 ?_
  refine z_dup 14 dJ2_poll_14 (by first | rfl | exact va_rf_cat _) ?_
  refine z_get 15 gJ2_93 dJ2_poll_15 hp h3 ?_
  refine z_iconst 18 (nI 1) dJ2_poll_18 kI1 ?_
  refine z_iadd 19 dJ2_poll_19 ?_
  refine z_put 20 pJ2_93 (fun h => by cases h) dJ2_poll_20 hp (rfl) (rfl) ?_
  refine z_aload1 23 dJ2_poll_23 ?_
  first | refine z_aload0 24 dJ2_poll_24 ?_ | refine z_aload0N 24 dJ2_poll_24 ?_ | refine z_aload0o 24 dJ2_poll_24 ?_
  refine z_dup 25 dJ2_poll_25 (by first | rfl | exact va_rf_cat _) ?_
  refine z_get 26 gJ2_58 dJ2_poll_26 hp (show HP.mm _ p 1 = .int (nI (n + 1)) from by simp [mm_put, h1]) ?_
  refine z_iconst 29 (nI 1) dJ2_poll_29 kI1 ?_
  refine z_isub 30 dJ2_poll_30 ?_
  rw [nI_pred9 n]
  refine z_dup_x1 31 dJ2_poll_31 (by first | rfl | exact va_rf_cat _) (by first | rfl | exact va_rf_cat _) ?_
  refine z_put 32 pJ2_58 (fun h => by cases h) dJ2_poll_32 hp (rfl) (rfl) ?_
  refine z_dup 35 dJ2_poll_35 (by first | rfl | exact va_rf_cat _) ?_
  refine z_istore3 36 dJ2_poll_36 rfl ?_
  refine z_aald (i := 4) 37 (n) dJ2_poll_37 (by decide) (by decide) PA.1 PA.2.1 (rfl) (by omega) (by omega) (show HP.mm _ ar n = .ref (g n) from by rw [mm_nea _ _ _ _ _ (fun e => hpa e.symm), mm_nea _ _ _ _ _ (fun e => hpa e.symm)]; exact PA.2.2.2.2.1 n (by omega) (by omega)) ?_
  refine z_astore4 38 dJ2_poll_38 rfl ?_
  first | refine z_aload1 40 dJ2_poll_40 ?_ | refine z_aload1N 40 dJ2_poll_40 ?_ | refine z_aload1o 40 dJ2_poll_40 ?_
  refine z_iload3 41 dJ2_poll_41 ?_
  refine z_null 42 dJ2_poll_42 ?_
  refine z_aastN (i := 4) 43 n dJ2_poll_43 (by decide) (by decide) PA.1 PA.2.1 rfl (by omega) (by omega) ?_
  refine z_iload3 44 dJ2_poll_44 ?_
  refine z_ifle 45 79 dJ2_poll_45 (by decide) (fun c45 => ?_) (fun d45 => ?_)
  · have hn0 : n = 0 := by
      rcases Nat.eq_zero_or_pos n with e | e
      · exact e
      · exact absurd c45 (nI_nle e (by omega))
    refine z_aload2 79 dJ2_poll_79 ?_
    refine z_areturn 80 rfl (Or.inl ⟨_, rfl⟩) (Or.inr ⟨_, rfl⟩) dJ2_poll_80 ?_
    first
      | (exact ⟨_, rfl, rfl, fun y ⟨i, hi, e⟩ => (by rw [← e]; exact HH.min _ i (Nat.lt_succ_self _) hi), g', ⟨A3p.1.trans hp, by rw [c3]; simp [mm_put, h0, hpa], by rw [c3]; simp [mm_put, hpa], by rw [c3]; simp [mm_put, h2, hpa], by rw [c3]; simp [mm_put, hpa], Nat.lt_of_lt_of_le hpl A3.1, PA3, H3, IJ3, hc1⟩, fun y => (EL3 y).trans (pol_el IJ hn0), A2.tr A3 (fun q _ e => Or.inr e), z3⟩)
      | (refine ⟨_, rfl, rfl, fun y ⟨i, hi, e⟩ => (by rw [← e]; exact HH.min _ i (Nat.lt_succ_self _) hi), g, ⟨hp, by simp [mm_put, h0, hpa], by simp [mm_put, hpa], by simp [mm_put, h2, hpa], by simp [mm_put, hpa], hpl, ⟨PA.1, PA.2.1, by omega, hcap, fun i hi _ => by omega, fun i hi hc hk => ?_, PA.2.2.2.2.2.2⟩, fun i hi0 hi => by omega, fun i j hi => by omega, hc1⟩, fun y => ?_, A2, rfl⟩
         · by_cases e : i = n
           · subst e; rw [mm_self]
           · rw [mm_nek _ _ _ _ _ e, mm_nea _ _ _ _ _ (fun e => hpa e.symm), mm_nea _ _ _ _ _ (fun e => hpa e.symm)]; exact PA.2.2.2.2.2.1 i (by omega) hc hk
         · constructor
           · rintro ⟨i, hi, -⟩; omega
           · rintro ⟨⟨i, hi, e⟩, hne⟩
             have : i = 0 := by omega
             subst this; exact absurd e.symm hne)
  · have hn0 : 0 < n := Nat.pos_of_ne_zero (fun e => d45 (by subst e; decide))
    first | refine z_aload0 48 dJ2_poll_48 ?_ | refine z_aload0N 48 dJ2_poll_48 ?_ | refine z_aload0o 48 dJ2_poll_48 ?_
    refine z_get 49 gJ2_21 dJ2_poll_49 hp (show HP.mm _ p 2 = .null from by simp [mm_put, h2, hpa]) ?_
    refine z_dup 52 dJ2_poll_52 (by first | rfl | exact va_rf_cat _) ?_
    refine z_astore5N 53 dJ2_poll_53 rfl ?_
    refine z_ifnonnullN 55 dJ2_poll_55 ?_
    refine z_iconst 58 (nI 0) dJ2_poll_58 kI0 ?_
    refine z_aload4 59 dJ2_poll_59 ?_
    first | refine z_aload1 61 dJ2_poll_61 ?_ | refine z_aload1N 61 dJ2_poll_61 ?_ | refine z_aload1o 61 dJ2_poll_61 ?_
    refine z_iload3 62 dJ2_poll_62 ?_
    refine z_S4 (k' := k) 63 sJ2_125 dJ2_poll_63 (c_siftDown0 (g := fun a => if a = 0 then g n else g a) (n := n) (k0 := 0) (cap := cap) (d - 1) 0 (by omega) PA2 (pol_dn HH hn0) (by simp) (pol_inj IJ) (fun y hy => JJ2 y hn0 hy) (fun y hy => hna2 y hn0 hy)) (by omega) (by omega) (Nat.le_of_ble_eq_true rfl) (aft_V fun h3' hq => ?_)
    obtain ⟨g', PA3, H3, IJ3, EL3, A3, z3⟩ := hq
    have A3p := A3.2 p hpl
    have c3 := A3p.2.2 hpa
    refine z_goto 66 79 dJ2_poll_66 (by decide) ?_
    refine z_aload2 79 dJ2_poll_79 ?_
    refine z_areturn 80 rfl (Or.inl ⟨_, rfl⟩) (Or.inr ⟨_, rfl⟩) dJ2_poll_80 ?_
    first
      | (exact ⟨_, rfl, rfl, fun y ⟨i, hi, e⟩ => (by rw [← e]; exact HH.min _ i (Nat.lt_succ_self _) hi), g', ⟨A3p.1.trans hp, by rw [c3]; simp [mm_put, h0, hpa], by rw [c3]; simp [mm_put, hpa], by rw [c3]; simp [mm_put, h2, hpa], by rw [c3]; simp [mm_put, hpa], Nat.lt_of_lt_of_le hpl A3.1, PA3, H3, IJ3, hc1⟩, fun y => (EL3 y).trans (pol_el IJ hn0), A2.tr A3 (fun q _ e => Or.inr e), z3⟩)
      | (refine ⟨_, rfl, rfl, fun y ⟨i, hi, e⟩ => (by rw [← e]; exact HH.min _ i (Nat.lt_succ_self _) hi), g, ⟨hp, by simp [mm_put, h0, hpa], by simp [mm_put, hpa], by simp [mm_put, h2, hpa], by simp [mm_put, hpa], hpl, ⟨PA.1, PA.2.1, by omega, hcap, fun i hi _ => by omega, fun i hi hc hk => ?_, PA.2.2.2.2.2.2⟩, fun i hi0 hi => by omega, fun i j hi => by omega, hc1⟩, fun y => ?_, A2, rfl⟩
         · by_cases e : i = n
           · subst e; rw [mm_self]
           · rw [mm_nek _ _ _ _ _ e, mm_nea _ _ _ _ _ (fun e => hpa e.symm), mm_nea _ _ _ _ _ (fun e => hpa e.symm)]; exact PA.2.2.2.2.2.1 i (by omega) hc hk
         · constructor
           · rintro ⟨i, hi, -⟩; omega
           · rintro ⟨⟨i, hi, e⟩, hne⟩
             have : i = 0 := by omega
             subst this; exact absurd e.symm hne)

