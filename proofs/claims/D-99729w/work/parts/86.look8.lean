set_option maxRecDepth 100000
/-! THE PLAIN LAW, 15: methods that only look, 8 -/
def bitN (set k : Nat) : Bool := decide ((set >>> k) % 2 = 1)
theorem tH_isOf {set k : Nat} (hs : set < 2147483648) (hk : k < 32) : s1_isOf (J set) (J k) = some (bitN set k) := by
  have hm := Nat.mod_lt (set >>> k) (show 0 < 2 by decide)
  unfold s1_isOf bitN
  simp (disch := omega) only [lit_0, lit_1, lit_2, lit_3, lit_4, lit_5, lit_6, lit_7, lit_8, lit_9, lit_10, lit_11, lit_12, lit_13, lit_14, lit_15, lit_20, lit_24, lit_25, lit_37, lit_40, lit_43, lit_48, lit_49, lit_50, lit_60, lit_96, lit_98, lit_99, lit_100, lit_999, lit_62, lit_74, lit_86, lit_92, lit_99999, lit_100000, lit_16, lit_32767, lit_2147483639, J_add, J_mul, J_sub, J_tn, J_le, J_lt, J_eq, Nat.not_lt_zero, false_or, or_false, le_t, le_f, lt_t, lt_f, eq_f, ↓reduceIte, callK_eq, letB_eq, joinB_eq, Nat.add_assoc, J_shr, J_and, Nat.and_one_is_mod]
  by_cases c : set >>> k % 2 = 1
  · simp [c]
  · simp [c]
/-! gales -/
def stoN (r : Nat → Nat) : Nat → Nat → Nat
  | 0 => r
  | i + 1 => overN (stoN r i) i 15
theorem stoN_s {r : Nat → Nat} {i : Nat} : stoN r (i + 1) = overN (stoN r i) i 15 := rfl
theorem stoN_0 {r : Nat → Nat} {i : Nat} : stoN r i 0 = r 0 := by
  induction i with
  | zero => rfl
  | succ i ih => rw [stoN_s, over_0, ih]
theorem ROk.sto {n m i : Nat} {r : Nat → Nat} (h : ROk n m r) (hi : i ≤ 12) : ROk n m (stoN r i) := by
  induction i with
  | zero => exact h
  | succ i ih => exact (ih (by omega)).over (by omega)
def galR (u : RU) (r : Nat → Nat) (set : Nat) : Nat → Nat → Nat
  | 0 => r
  | k + 1 => passN u (if bitN set k = true then stoN (galR u r set k) u.1 else galR u r set k)
theorem galR_s {u : RU} {r : Nat → Nat} {set k : Nat} : galR u r set (k + 1) = passN u (if bitN set k = true then stoN (galR u r set k) u.1 else galR u r set k) := rfl
theorem galR_0 {u : RU} {r : Nat → Nat} {set k : Nat} : galR u r set k 0 = r 0 + k := by
  induction k with
  | zero => rfl
  | succ k ih =>
    rw [galR_s, pass_0]
    split
    · rw [stoN_0, ih]; omega
    · rw [ih]; omega
theorem ROk.gal {u : RU} {r : Nat → Nat} {set k : Nat} (hu : RuOk u) (h : ROk u.1 u.2.1 r) : ROk u.1 u.2.1 (galR u r set k) := by
  induction k with
  | zero => exact h
  | succ k ih =>
    rw [galR_s]
    split
    · exact (ih.sto hu.2.1).pass hu
    · exact ih.pass hu
def galP (ten set : Nat) : Nat → Nat
  | 0 => 1
  | k + 1 => galP ten set k * (if bitN set k = true then ten else 10 - ten)
theorem galP_s {ten set k : Nat} : galP ten set (k + 1) = galP ten set k * (if bitN set k = true then ten else 10 - ten) := rfl
def newO (a b : Nat) : Bool := decide ((J a &&& (J b ^^^ -J 1)) = J 0)
def galS (u : RU) (r : Nat → Nat) (d ten : Nat) : Nat → Nat
  | 0 => 0
  | set + 1 => galS u r d ten set + (if newO (openN (galR u r set d) u.1) (openN r u.1) = true then 0 else galP ten set d)
theorem galS_s {u : RU} {r : Nat → Nat} {d ten set : Nat} : galS u r d ten (set + 1) = galS u r d ten set + (if newO (openN (galR u r set d) u.1) (openN r u.1) = true then 0 else galP ten set d) := rfl
theorem L_gales {ct : CT} {P : Nat → Nat → Option Nat} {h : AH} {S S2 : US} {u : RU} {r : Nat → Nat} (c : Core ct P h S S2 u r) (p1 p2 : Int32) : AgW [(2, 1)] S S2 (t1_gales S ct P h p1 p2) (s1_gales S ct P h p1 p2) (sM_gales S2 p1 p2) := by
  have cz := c.z
  have ho := c.1
  have ho3 := c.1.1
  have ho12 := c.1.2.1
  have hd9 := c.2.2.1
  have hR := c.2.1
  have a1 := tH_in (p := p1) (a := 1) (b := 5)
  have a2 := tH_in (p := p2) (a := 0) (b := 10)
  have m1 := tM_within (p := p1) (a := 1) (b := 5)
  have m2 := tM_within (p := p2) (a := 0) (b := 10)
  have mF := tM_right (S := Z0 S2) (c := false) (k := 1) Z0_0 (Or.inl rfl)
  have mT := tM_right (S := Z0 S2) (c := true) (k := 1) Z0_0 (Or.inl rfl)
  rw [bI_f] at mF
  rw [bI_t] at mT
  unfold t1_gales s1_gales sM_gales
  refine Ag_z ?_
  unfold t1_gales_J24 s1_gales_J24 sM_gales_J30
  cases c1 : inN p1 1 5 with
  | false =>
    refine Or.inl ⟨2, 1, by decide, ?_, ?_⟩
    · simp (disch := omega) only [lit_0, lit_1, lit_2, lit_3, lit_4, lit_5, lit_6, lit_7, lit_8, lit_9, lit_10, lit_11, lit_12, lit_13, lit_14, lit_15, lit_20, lit_24, lit_25, lit_37, lit_40, lit_43, lit_48, lit_49, lit_50, lit_60, lit_96, lit_98, lit_99, lit_100, lit_999, lit_62, lit_74, lit_86, lit_92, lit_99999, lit_100000, lit_16, lit_32767, lit_2147483639, J_add, J_mul, J_sub, J_tn, J_le, J_lt, J_eq, Nat.not_lt_zero, false_or, or_false, le_t, le_f, lt_t, lt_f, eq_f, ↓reduceIte, callK_eq, letB_eq, joinB_eq, Nat.add_assoc, a1, c1, bI_t, bI_f, Bool.false_eq_true, tB_s, tB_n, fd_1, fd_0, fe_1, fe_0, ri_1, ri_0, re_1, re_0]
    · simp (disch := omega) only [lit_0, lit_1, lit_2, lit_3, lit_4, lit_5, lit_6, lit_7, lit_8, lit_9, lit_10, lit_11, lit_12, lit_13, lit_14, lit_15, lit_20, lit_24, lit_25, lit_37, lit_40, lit_43, lit_48, lit_49, lit_50, lit_60, lit_96, lit_98, lit_99, lit_100, lit_999, lit_62, lit_74, lit_86, lit_92, lit_99999, lit_100000, lit_16, lit_32767, lit_2147483639, J_add, J_mul, J_sub, J_tn, J_le, J_lt, J_eq, Nat.not_lt_zero, false_or, or_false, le_t, le_f, lt_t, lt_f, eq_f, ↓reduceIte, callK_eq, letB_eq, joinB_eq, Nat.add_assoc, m1, c1, mF, bI_t, bI_f, Bool.false_eq_true, tB_s, tB_n, fd_1, fd_0, fe_1, fe_0, ri_1, ri_0, re_1, re_0]
      exact ev_thr
  | true =>
  cases c2 : inN p2 0 10 with
  | false =>
    refine Or.inl ⟨2, 1, by decide, ?_, ?_⟩
    · simp (disch := omega) only [lit_0, lit_1, lit_2, lit_3, lit_4, lit_5, lit_6, lit_7, lit_8, lit_9, lit_10, lit_11, lit_12, lit_13, lit_14, lit_15, lit_20, lit_24, lit_25, lit_37, lit_40, lit_43, lit_48, lit_49, lit_50, lit_60, lit_96, lit_98, lit_99, lit_100, lit_999, lit_62, lit_74, lit_86, lit_92, lit_99999, lit_100000, lit_16, lit_32767, lit_2147483639, J_add, J_mul, J_sub, J_tn, J_le, J_lt, J_eq, Nat.not_lt_zero, false_or, or_false, le_t, le_f, lt_t, lt_f, eq_f, ↓reduceIte, callK_eq, letB_eq, joinB_eq, Nat.add_assoc, a1, a2, c1, c2, bI_t, bI_f, Bool.false_eq_true, tB_s, tB_n, fd_1, fd_0, fe_1, fe_0, ri_1, ri_0, re_1, re_0]
    · simp (disch := omega) only [lit_0, lit_1, lit_2, lit_3, lit_4, lit_5, lit_6, lit_7, lit_8, lit_9, lit_10, lit_11, lit_12, lit_13, lit_14, lit_15, lit_20, lit_24, lit_25, lit_37, lit_40, lit_43, lit_48, lit_49, lit_50, lit_60, lit_96, lit_98, lit_99, lit_100, lit_999, lit_62, lit_74, lit_86, lit_92, lit_99999, lit_100000, lit_16, lit_32767, lit_2147483639, J_add, J_mul, J_sub, J_tn, J_le, J_lt, J_eq, Nat.not_lt_zero, false_or, or_false, le_t, le_f, lt_t, lt_f, eq_f, ↓reduceIte, callK_eq, letB_eq, joinB_eq, Nat.add_assoc, m1, m2, c1, c2, mF, bI_t, bI_f, Bool.false_eq_true, tB_s, tB_n, fd_1, fd_0, fe_1, fe_0, ri_1, ri_0, re_1, re_0]
      exact ev_thr
  | true =>
  obtain ⟨d, hd1, hd, rfl⟩ := J_of (by omega) (by omega) c1
  obtain ⟨ten, -, hten, rfl⟩ := J_of (by omega) (by omega) c2
  have h2d : 2 ^ d ≤ 2 ^ 5 := Nat.pow_le_pow_right (by decide) hd
  have eS : J 1 <<< (J d &&& 31) = J (2 ^ d) := by rw [J_shl (by omega), Nat.one_shiftLeft]
  refine Or.inr ⟨by simp (disch := omega) only [lit_0, lit_1, lit_2, lit_3, lit_4, lit_5, lit_6, lit_7, lit_8, lit_9, lit_10, lit_11, lit_12, lit_13, lit_14, lit_15, lit_20, lit_24, lit_25, lit_37, lit_40, lit_43, lit_48, lit_49, lit_50, lit_60, lit_96, lit_98, lit_99, lit_100, lit_999, lit_62, lit_74, lit_86, lit_92, lit_99999, lit_100000, lit_16, lit_32767, lit_2147483639, J_add, J_mul, J_sub, J_tn, J_le, J_lt, J_eq, Nat.not_lt_zero, false_or, or_false, le_t, le_f, lt_t, lt_f, eq_f, ↓reduceIte, callK_eq, letB_eq, joinB_eq, Nat.add_assoc, a1, a2, c1, c2, bI_t, bI_f, Bool.false_eq_true, tB_s, tB_n, fd_1, fd_0, fe_1, fe_0, ri_1, ri_0, re_1, re_0], J (galS u r d ten (2 ^ d)), ?_, ?_⟩
  · simp (disch := omega) only [lit_0, lit_1, lit_2, lit_3, lit_4, lit_5, lit_6, lit_7, lit_8, lit_9, lit_10, lit_11, lit_12, lit_13, lit_14, lit_15, lit_20, lit_24, lit_25, lit_37, lit_40, lit_43, lit_48, lit_49, lit_50, lit_60, lit_96, lit_98, lit_99, lit_100, lit_999, lit_62, lit_74, lit_86, lit_92, lit_99999, lit_100000, lit_16, lit_32767, lit_2147483639, J_add, J_mul, J_sub, J_tn, J_le, J_lt, J_eq, Nat.not_lt_zero, false_or, or_false, le_t, le_f, lt_t, lt_f, eq_f, ↓reduceIte, callK_eq, letB_eq, joinB_eq, Nat.add_assoc, a1, a2, c1, c2, bI_t, bI_f, Bool.false_eq_true, tB_s, tB_n, fd_1, fd_0, fe_1, fe_0, ri_1, ri_0, re_1, re_0]
    refine Ev.loop3 (i0 := 0) (body := s1_gales_L32 (J d) (J ten) P h ct) (fun set x b => HFr S 1 x ∧ b = J (galS u r d ten set)) (2 ^ d) ⟨HFr.rf, rfl⟩ (Nat.zero_le _) ?_ ?_ (by unfold FUEL; omega)
    · rintro set - hset S1 b ⟨h1, rfl⟩ rc hrc
      unfold s1_gales_L32
      simp (disch := omega) only [lit_0, lit_1, lit_2, lit_3, lit_4, lit_5, lit_6, lit_7, lit_8, lit_9, lit_10, lit_11, lit_12, lit_13, lit_14, lit_15, lit_20, lit_24, lit_25, lit_37, lit_40, lit_43, lit_48, lit_49, lit_50, lit_60, lit_96, lit_98, lit_99, lit_100, lit_999, lit_62, lit_74, lit_86, lit_92, lit_99999, lit_100000, lit_16, lit_32767, lit_2147483639, J_add, J_mul, J_sub, J_tn, J_le, J_lt, J_eq, Nat.not_lt_zero, false_or, or_false, le_t, le_f, lt_t, lt_f, eq_f, ↓reduceIte, callK_eq, letB_eq, joinB_eq, Nat.add_assoc, eS]
      refine Ev.call (tH_be (S0 := S) (L := 1) h1 ((KeepH.of (by omega) h1).row c.2.2.2.2.1) (by decide)) (fun S3 h3 => ?_)
      refine Ev.loop3 (i0 := 0) (body := s1_gales_L58 (J d) (J ten) P h ct (J (galS u r d ten set)) (J set) rc) (fun k x v => HR S 1 (galR u r set k) x ∧ v = J (galP ten set k)) d ⟨h3.1, rfl⟩ (by omega) ?_ ?_ (by unfold FUEL; omega)
      · rintro k - hk S4 v ⟨h4, rfl⟩ rc2 hrc2
        have hR4 : ROk u.1 u.2.1 (galR u r set k) := hR.gal ho
        have hd4 : galR u r set k 0 < 10000 := by rw [galR_0]; omega
        have eb := tH_isOf (set := set) (k := k) (by omega) (by omega)
        unfold s1_gales_L58
        cases hb : bitN set k with
        | false =>
          have ey : (J 10 - J ten) = J (if bitN set k = true then ten else 10 - ten) := by rw [hb, J_sub hten]; rfl
          simp (disch := omega) only [lit_0, lit_1, lit_2, lit_3, lit_4, lit_5, lit_6, lit_7, lit_8, lit_9, lit_10, lit_11, lit_12, lit_13, lit_14, lit_15, lit_20, lit_24, lit_25, lit_37, lit_40, lit_43, lit_48, lit_49, lit_50, lit_60, lit_96, lit_98, lit_99, lit_100, lit_999, lit_62, lit_74, lit_86, lit_92, lit_99999, lit_100000, lit_16, lit_32767, lit_2147483639, J_add, J_mul, J_sub, J_tn, J_le, J_lt, J_eq, Nat.not_lt_zero, false_or, or_false, le_t, le_f, lt_t, lt_f, eq_f, ↓reduceIte, callK_eq, letB_eq, joinB_eq, Nat.add_assoc, eb, hb, bI_f]
          unfold s1_gales_J84
          refine Ev.loop2 (i0 := 0) (fun i x => i = 0 ∧ HR S 1 (galR u r set k) x) u.1 ⟨rfl, h4⟩ (by omega) ?_ ?_ (by unfold FUEL; omega)
          · rintro i - hi S5 ⟨rfl, h5⟩ rc3 hrc3
            have hu5 := h5.rul c.2.2.2.1
            unfold s1_gales_L90
            simp (disch := omega) only [lit_0, lit_1, lit_2, lit_3, lit_4, lit_5, lit_6, lit_7, lit_8, lit_9, lit_10, lit_11, lit_12, lit_13, lit_14, lit_15, lit_20, lit_24, lit_25, lit_37, lit_40, lit_43, lit_48, lit_49, lit_50, lit_60, lit_96, lit_98, lit_99, lit_100, lit_999, lit_62, lit_74, lit_86, lit_92, lit_99999, lit_100000, lit_16, lit_32767, lit_2147483639, J_add, J_mul, J_sub, J_tn, J_le, J_lt, J_eq, Nat.not_lt_zero, false_or, or_false, le_t, le_f, lt_t, lt_f, eq_f, ↓reduceIte, callK_eq, letB_eq, joinB_eq, Nat.add_assoc, hu5.1, eb, hb, bI_f]
            refine Ev.call (tH_pass c.2.2.2.1 ho h5 hR4 hd4) (fun S6 h6 => hrc2 _ _ ⟨?_, ?_⟩)
            · rw [galR_s, hb]; exact h6
            · rw [galP_s, hb]; rfl
          · rintro S5 ⟨h5, -⟩ rc3
            exact absurd h5 (by omega)
        | true =>
          simp (disch := omega) only [lit_0, lit_1, lit_2, lit_3, lit_4, lit_5, lit_6, lit_7, lit_8, lit_9, lit_10, lit_11, lit_12, lit_13, lit_14, lit_15, lit_20, lit_24, lit_25, lit_37, lit_40, lit_43, lit_48, lit_49, lit_50, lit_60, lit_96, lit_98, lit_99, lit_100, lit_999, lit_62, lit_74, lit_86, lit_92, lit_99999, lit_100000, lit_16, lit_32767, lit_2147483639, J_add, J_mul, J_sub, J_tn, J_le, J_lt, J_eq, Nat.not_lt_zero, false_or, or_false, le_t, le_f, lt_t, lt_f, eq_f, ↓reduceIte, callK_eq, letB_eq, joinB_eq, Nat.add_assoc, eb, hb, bI_t]
          unfold s1_gales_J84
          refine Ev.loop2 (i0 := 0) (fun i x => HR S 1 (stoN (galR u r set k) i) x) u.1 h4 (by omega) ?_ ?_ (by unfold FUEL; omega)
          · rintro i - hi S5 h5 rc3 hrc3
            have hu5 := h5.rul c.2.2.2.1
            unfold s1_gales_L90
            simp (disch := omega) only [lit_0, lit_1, lit_2, lit_3, lit_4, lit_5, lit_6, lit_7, lit_8, lit_9, lit_10, lit_11, lit_12, lit_13, lit_14, lit_15, lit_20, lit_24, lit_25, lit_37, lit_40, lit_43, lit_48, lit_49, lit_50, lit_60, lit_96, lit_98, lit_99, lit_100, lit_999, lit_62, lit_74, lit_86, lit_92, lit_99999, lit_100000, lit_16, lit_32767, lit_2147483639, J_add, J_mul, J_sub, J_tn, J_le, J_lt, J_eq, Nat.not_lt_zero, false_or, or_false, le_t, le_f, lt_t, lt_f, eq_f, ↓reduceIte, callK_eq, letB_eq, joinB_eq, Nat.add_assoc, hu5.1, eb, hb, bI_t]
            exact tH_over (k := fun x => rc3 (x, J (i + 1))) h5 (hR4.sto (by omega)).z (by omega) (by omega) (fun S6 h6 => hrc3 _ h6)
          · rintro S5 h5 rc3
            have hu5 := h5.rul c.2.2.2.1
            unfold s1_gales_L90
            simp (disch := omega) only [lit_0, lit_1, lit_2, lit_3, lit_4, lit_5, lit_6, lit_7, lit_8, lit_9, lit_10, lit_11, lit_12, lit_13, lit_14, lit_15, lit_20, lit_24, lit_25, lit_37, lit_40, lit_43, lit_48, lit_49, lit_50, lit_60, lit_96, lit_98, lit_99, lit_100, lit_999, lit_62, lit_74, lit_86, lit_92, lit_99999, lit_100000, lit_16, lit_32767, lit_2147483639, J_add, J_mul, J_sub, J_tn, J_le, J_lt, J_eq, Nat.not_lt_zero, false_or, or_false, le_t, le_f, lt_t, lt_f, eq_f, ↓reduceIte, callK_eq, letB_eq, joinB_eq, Nat.add_assoc, hu5.1]
            refine Ev.call (tH_pass c.2.2.2.1 ho h5 (hR4.sto ho12) (by rw [stoN_0]; exact hd4)) (fun S6 h6 => hrc2 _ _ ⟨?_, ?_⟩)
            · rw [galR_s, hb]; exact h6
            · rw [galP_s, hb]; rfl
      · rintro S4 v ⟨h4, rfl⟩ rc2
        have hR4 : ROk u.1 u.2.1 (galR u r set d) := hR.gal ho
        have e1 := tH_open (L := 1) (h4.rul c.2.2.2.1).1 ho12 h4.1 hR4
        have e2 := tH_open (L := 0) (h4.rul c.2.2.2.1).1 ho12 ((KeepH.of (by omega) h4.2).row c.2.2.2.2.1) hR
        unfold s1_gales_L58
        simp (disch := omega) only [J_le, le_t, ↓reduceIte, e1, e2, callK_eq, lit_0, lit_1, J_add]
        cases hz : newO (openN (galR u r set d) u.1) (openN r u.1) with
        | true =>
          have hz' := of_decide_eq_true hz
          rw [if_pos hz']
          refine hrc _ _ ⟨h4.2, ?_⟩
          rw [galS_s, hz]; rfl
        | false =>
          have hz' := of_decide_eq_false hz
          rw [if_neg hz']
          refine hrc _ _ ⟨h4.2, ?_⟩
          rw [galS_s, hz]; rfl
    · rintro S1 b ⟨h1, rfl⟩ rc
      unfold s1_gales_L32
      simp (disch := omega) only [lit_0, lit_1, lit_2, lit_3, lit_4, lit_5, lit_6, lit_7, lit_8, lit_9, lit_10, lit_11, lit_12, lit_13, lit_14, lit_15, lit_20, lit_24, lit_25, lit_37, lit_40, lit_43, lit_48, lit_49, lit_50, lit_60, lit_96, lit_98, lit_99, lit_100, lit_999, lit_62, lit_74, lit_86, lit_92, lit_99999, lit_100000, lit_16, lit_32767, lit_2147483639, J_add, J_mul, J_sub, J_tn, J_le, J_lt, J_eq, Nat.not_lt_zero, false_or, or_false, le_t, le_f, lt_t, lt_f, eq_f, ↓reduceIte, callK_eq, letB_eq, joinB_eq, Nat.add_assoc, eS]
      exact hfr_ev h1 rfl
  · simp (disch := omega) only [lit_0, lit_1, lit_2, lit_3, lit_4, lit_5, lit_6, lit_7, lit_8, lit_9, lit_10, lit_11, lit_12, lit_13, lit_14, lit_15, lit_20, lit_24, lit_25, lit_37, lit_40, lit_43, lit_48, lit_49, lit_50, lit_60, lit_96, lit_98, lit_99, lit_100, lit_999, lit_62, lit_74, lit_86, lit_92, lit_99999, lit_100000, lit_16, lit_32767, lit_2147483639, J_add, J_mul, J_sub, J_tn, J_le, J_lt, J_eq, Nat.not_lt_zero, false_or, or_false, le_t, le_f, lt_t, lt_f, eq_f, ↓reduceIte, callK_eq, letB_eq, joinB_eq, Nat.add_assoc, m1, m2, c1, c2, mT, bI_t, bI_f, Bool.false_eq_true, tB_s, tB_n, fd_1, fd_0, fe_1, fe_0, ri_1, ri_0, re_1, re_0]
    refine Ev.loop3 (i0 := 0) (body := sM_gales_L44 (J d) (J ten)) (fun set x b => MFr (Z0 S2) 49 x ∧ b = J (galS u r d ten set)) (2 ^ d) ⟨MFr.rf, rfl⟩ (Nat.zero_le _) ?_ ?_ (by unfold FUEL; omega)
    · rintro set - hset S1 b ⟨h1, rfl⟩ rc hrc
      unfold sM_gales_L44
      simp (disch := omega) only [lit_0, lit_1, lit_2, lit_3, lit_4, lit_5, lit_6, lit_7, lit_8, lit_9, lit_10, lit_11, lit_12, lit_13, lit_14, lit_15, lit_20, lit_24, lit_25, lit_37, lit_40, lit_43, lit_48, lit_49, lit_50, lit_60, lit_96, lit_98, lit_99, lit_100, lit_999, lit_62, lit_74, lit_86, lit_92, lit_99999, lit_100000, lit_16, lit_32767, lit_2147483639, J_add, J_mul, J_sub, J_tn, J_le, J_lt, J_eq, Nat.not_lt_zero, false_or, or_false, le_t, le_f, lt_t, lt_f, eq_f, ↓reduceIte, callK_eq, letB_eq, joinB_eq, Nat.add_assoc, eS]
      refine Ev.call (tM_tries (S0 := Z0 S2) h1 ((KeepM.of h1).row cz.2.2.2.2.2.2)) (fun S3 h3 => ?_)
      refine Ev.loop3 (i0 := 0) (body := sM_gales_L62 (J d) (J ten) (J (galS u r d ten set)) (J set) rc) (fun k x v => MR (Z0 S2) 49 (galR u r set k) x ∧ v = J (galP ten set k)) d ⟨h3, rfl⟩ (by omega) ?_ ?_ (by unfold FUEL; omega)
      · rintro k - hk S4 v ⟨h4, rfl⟩ rc2 hrc2
        have hR4 : ROk u.1 u.2.1 (galR u r set k) := hR.gal ho
        have hd4 : galR u r set k 0 < 10000 := by rw [galR_0]; omega
        have hm := Nat.mod_lt (set >>> k) (show 0 < 2 by decide)
        have hM := cz.2.2.2.2.2.1
        unfold sM_gales_L62
        cases hb : bitN set k with
        | false =>
          have hb' : ¬ (set >>> k % 2 = 1) := of_decide_eq_false hb
          simp (disch := omega) only [lit_0, lit_1, lit_2, lit_3, lit_4, lit_5, lit_6, lit_7, lit_8, lit_9, lit_10, lit_11, lit_12, lit_13, lit_14, lit_15, lit_20, lit_24, lit_25, lit_37, lit_40, lit_43, lit_48, lit_49, lit_50, lit_60, lit_96, lit_98, lit_99, lit_100, lit_999, lit_62, lit_74, lit_86, lit_92, lit_99999, lit_100000, lit_16, lit_32767, lit_2147483639, J_add, J_mul, J_sub, J_tn, J_le, J_lt, J_eq, Nat.not_lt_zero, false_or, or_false, le_t, le_f, lt_t, lt_f, eq_f, ↓reduceIte, callK_eq, letB_eq, joinB_eq, Nat.add_assoc, J_shr, J_and, Nat.and_one_is_mod, hb']
          unfold sM_gales_J84 sM_gales_J101
          simp (disch := omega) only [lit_0, lit_1, lit_2, lit_3, lit_4, lit_5, lit_6, lit_7, lit_8, lit_9, lit_10, lit_11, lit_12, lit_13, lit_14, lit_15, lit_20, lit_24, lit_25, lit_37, lit_40, lit_43, lit_48, lit_49, lit_50, lit_60, lit_96, lit_98, lit_99, lit_100, lit_999, lit_62, lit_74, lit_86, lit_92, lit_99999, lit_100000, lit_16, lit_32767, lit_2147483639, J_add, J_mul, J_sub, J_tn, J_le, J_lt, J_eq, Nat.not_lt_zero, false_or, or_false, le_t, le_f, lt_t, lt_f, eq_f, ↓reduceIte, callK_eq, letB_eq, joinB_eq, Nat.add_assoc]
          refine Ev.loop2 (i0 := 0) (fun i x => i = 0 ∧ MR (Z0 S2) 49 (galR u r set k) x) u.1 ⟨rfl, h4⟩ (by omega) ?_ ?_ (by unfold FUEL; omega)
          · rintro i - hi S5 ⟨rfl, h5⟩ rc3 hrc3
            have hu5 := (h5.rul hM).1
            unfold sM_gales_L107
            simp (disch := omega) only [lit_0, lit_1, lit_2, lit_3, lit_4, lit_5, lit_6, lit_7, lit_8, lit_9, lit_10, lit_11, lit_12, lit_13, lit_14, lit_15, lit_20, lit_24, lit_25, lit_37, lit_40, lit_43, lit_48, lit_49, lit_50, lit_60, lit_96, lit_98, lit_99, lit_100, lit_999, lit_62, lit_74, lit_86, lit_92, lit_99999, lit_100000, lit_16, lit_32767, lit_2147483639, J_add, J_mul, J_sub, J_tn, J_le, J_lt, J_eq, Nat.not_lt_zero, false_or, or_false, le_t, le_f, lt_t, lt_f, eq_f, ↓reduceIte, callK_eq, letB_eq, joinB_eq, Nat.add_assoc, hu5]
            refine Ev.call (tM_dayGoes hM ho h5 hR4 (by decide) hd4) (fun S6 h6 => hrc2 _ _ ⟨?_, ?_⟩)
            · rw [galR_s, hb]; exact h6
            · rw [galP_s, hb]; rfl
          · rintro S5 ⟨h5, -⟩ rc3
            exact absurd h5 (by omega)
        | true =>
          have hb' : (set >>> k % 2 = 1) := of_decide_eq_true hb
          simp (disch := omega) only [lit_0, lit_1, lit_2, lit_3, lit_4, lit_5, lit_6, lit_7, lit_8, lit_9, lit_10, lit_11, lit_12, lit_13, lit_14, lit_15, lit_20, lit_24, lit_25, lit_37, lit_40, lit_43, lit_48, lit_49, lit_50, lit_60, lit_96, lit_98, lit_99, lit_100, lit_999, lit_62, lit_74, lit_86, lit_92, lit_99999, lit_100000, lit_16, lit_32767, lit_2147483639, J_add, J_mul, J_sub, J_tn, J_le, J_lt, J_eq, Nat.not_lt_zero, false_or, or_false, le_t, le_f, lt_t, lt_f, eq_f, ↓reduceIte, callK_eq, letB_eq, joinB_eq, Nat.add_assoc, J_shr, J_and, Nat.and_one_is_mod, hb']
          unfold sM_gales_J84 sM_gales_J101
          simp (disch := omega) only [lit_0, lit_1, lit_2, lit_3, lit_4, lit_5, lit_6, lit_7, lit_8, lit_9, lit_10, lit_11, lit_12, lit_13, lit_14, lit_15, lit_20, lit_24, lit_25, lit_37, lit_40, lit_43, lit_48, lit_49, lit_50, lit_60, lit_96, lit_98, lit_99, lit_100, lit_999, lit_62, lit_74, lit_86, lit_92, lit_99999, lit_100000, lit_16, lit_32767, lit_2147483639, J_add, J_mul, J_sub, J_tn, J_le, J_lt, J_eq, Nat.not_lt_zero, false_or, or_false, le_t, le_f, lt_t, lt_f, eq_f, ↓reduceIte, callK_eq, letB_eq, joinB_eq, Nat.add_assoc]
          refine Ev.loop2 (i0 := 0) (fun i x => MR (Z0 S2) 49 (stoN (galR u r set k) i) x) u.1 h4 (by omega) ?_ ?_ (by unfold FUEL; omega)
          · rintro i - hi S5 h5 rc3 hrc3
            have hu5 := (h5.rul hM).1
            unfold sM_gales_L107
            simp (disch := omega) only [lit_0, lit_1, lit_2, lit_3, lit_4, lit_5, lit_6, lit_7, lit_8, lit_9, lit_10, lit_11, lit_12, lit_13, lit_14, lit_15, lit_20, lit_24, lit_25, lit_37, lit_40, lit_43, lit_48, lit_49, lit_50, lit_60, lit_96, lit_98, lit_99, lit_100, lit_999, lit_62, lit_74, lit_86, lit_92, lit_99999, lit_100000, lit_16, lit_32767, lit_2147483639, J_add, J_mul, J_sub, J_tn, J_le, J_lt, J_eq, Nat.not_lt_zero, false_or, or_false, le_t, le_f, lt_t, lt_f, eq_f, ↓reduceIte, callK_eq, letB_eq, joinB_eq, Nat.add_assoc, hu5]
            exact tM_over (b := 49) (k := fun x => rc3 (x, J (i + 1))) h5 (hR4.sto (by omega)).z (by decide) (by omega) (by omega) (fun S6 h6 => hrc3 _ h6)
          · rintro S5 h5 rc3
            have hu5 := (h5.rul hM).1
            unfold sM_gales_L107
            simp (disch := omega) only [lit_0, lit_1, lit_2, lit_3, lit_4, lit_5, lit_6, lit_7, lit_8, lit_9, lit_10, lit_11, lit_12, lit_13, lit_14, lit_15, lit_20, lit_24, lit_25, lit_37, lit_40, lit_43, lit_48, lit_49, lit_50, lit_60, lit_96, lit_98, lit_99, lit_100, lit_999, lit_62, lit_74, lit_86, lit_92, lit_99999, lit_100000, lit_16, lit_32767, lit_2147483639, J_add, J_mul, J_sub, J_tn, J_le, J_lt, J_eq, Nat.not_lt_zero, false_or, or_false, le_t, le_f, lt_t, lt_f, eq_f, ↓reduceIte, callK_eq, letB_eq, joinB_eq, Nat.add_assoc, hu5]
            refine Ev.call (tM_dayGoes hM ho h5 (hR4.sto ho12) (by decide) (by rw [stoN_0]; exact hd4)) (fun S6 h6 => hrc2 _ _ ⟨?_, ?_⟩)
            · rw [galR_s, hb]; exact h6
            · rw [galP_s, hb]; rfl
      · rintro S4 v ⟨h4, rfl⟩ rc2
        have hR4 : ROk u.1 u.2.1 (galR u r set d) := hR.gal ho
        have hM := cz.2.2.2.2.2.1
        have e1 := tM_openOnes (b := 49) (h4.rul hM).1 ho12 (by decide) h4.1 hR4
        have e2 := tM_openOnes (b := 0) (h4.rul hM).1 ho12 (by decide) ((KeepM.of h4.2).row cz.2.2.2.2.2.2) hR
        unfold sM_gales_L62
        simp (disch := omega) only [J_le, le_t, ↓reduceIte, e1, e2, callK_eq, lit_0, lit_1, lit_49, J_add]
        cases hz : newO (openN (galR u r set d) u.1) (openN r u.1) with
        | true =>
          have hz' := of_decide_eq_true hz
          rw [if_pos hz']
          refine hrc _ _ ⟨h4.2, ?_⟩
          rw [galS_s, hz]; rfl
        | false =>
          have hz' := of_decide_eq_false hz
          rw [if_neg hz']
          refine hrc _ _ ⟨h4.2, ?_⟩
          rw [galS_s, hz]; rfl
    · rintro S1 b ⟨h1, rfl⟩ rc
      unfold sM_gales_L44
      simp (disch := omega) only [lit_0, lit_1, lit_2, lit_3, lit_4, lit_5, lit_6, lit_7, lit_8, lit_9, lit_10, lit_11, lit_12, lit_13, lit_14, lit_15, lit_20, lit_24, lit_25, lit_37, lit_40, lit_43, lit_48, lit_49, lit_50, lit_60, lit_96, lit_98, lit_99, lit_100, lit_999, lit_62, lit_74, lit_86, lit_92, lit_99999, lit_100000, lit_16, lit_32767, lit_2147483639, J_add, J_mul, J_sub, J_tn, J_le, J_lt, J_eq, Nat.not_lt_zero, false_or, or_false, le_t, le_f, lt_t, lt_f, eq_f, ↓reduceIte, callK_eq, letB_eq, joinB_eq, Nat.add_assoc, eS]
      exact mfr_ev h1 rfl
