set_option maxRecDepth 100000
/-! THE PLAIN LAW, 13: methods that only look, 6 -/
/-! gaps -/
def gapsN (n : Nat) (r : Nat → Nat) : Nat → Nat
  | 0 => 0
  | i + 1 => gapsN n r i + (if (gapN r i && !gapN r (befN n i)) = true then 1 else 0)
theorem gapsN_s {n i : Nat} {r : Nat → Nat} : gapsN n r (i + 1) = gapsN n r i + (if (gapN r i && !gapN r (befN n i)) = true then 1 else 0) := rfl
theorem gapsN_le {n i : Nat} {r : Nat → Nat} : gapsN n r i ≤ i := by
  induction i with
  | zero => exact Nat.le_refl _
  | succ i ih => rw [gapsN_s]; split <;> omega
theorem L_gaps {ct : CT} {P : Nat → Nat → Option Nat} {h : AH} {S S2 : US} {u : RU} {r : Nat → Nat} (c : Core ct P h S S2 u r) : AgV [] S2 none (s1_gaps S) (sM_gaps S2) := by
  have cz := c.z
  have ho3 := c.1.1
  have ho12 := c.1.2.1
  have hn := c.2.2.2.1.1
  have hR := c.2.1
  have hv0 := hR.1 0 (by omega)
  have hc := gapsN_le (n := u.1) (i := u.1) (r := r)
  unfold s1_gaps sM_gaps
  refine Ag_z (Ag_ok (if (decide (gapsN u.1 r u.1 = 0) && gapN r 0) = true then J 1 else J (gapsN u.1 r u.1)) ?_ ?_)
  · refine Ev.loop2 (i0 := 0) (body := s1_gaps_L4 S) (fun i b => b = J (gapsN u.1 r i)) u.1 rfl (by omega) ?_ ?_ (by unfold FUEL; omega)
    · rintro i - hi b rfl rc hrc
      have hb := befN_lt (show 0 < u.1 by omega) hi
      have hv := hR.1 i (by omega)
      have hw := hR.1 (befN u.1 i) (by omega)
      have e1 := tH_isOpen c.2.2.2.2.1 (show i < 12 by omega) (by omega)
      have e2 := tH_isOpen c.2.2.2.2.1 (show befN u.1 i < 12 by omega) (by omega)
      have e3 := tH_before hn (by omega) hi ho12
      unfold s1_gaps_L4
      cases hg : gapN r i with
      | false =>
        simp (disch := omega) only [lit_0, lit_1, lit_2, lit_3, lit_4, lit_5, lit_6, lit_7, lit_8, lit_9, lit_10, lit_11, lit_12, lit_13, lit_14, lit_15, lit_20, lit_24, lit_25, lit_37, lit_40, lit_43, lit_48, lit_49, lit_50, lit_60, lit_96, lit_98, lit_99, lit_100, lit_999, lit_62, lit_74, lit_86, lit_92, lit_99999, lit_100000, lit_16, lit_32767, lit_2147483639, J_add, J_mul, J_sub, J_tn, J_le, J_lt, J_eq, Nat.not_lt_zero, false_or, or_false, le_t, le_f, lt_t, lt_f, eq_f, ↓reduceIte, callK_eq, letB_eq, joinB_eq, Nat.add_assoc, hn, e1, hg, bI_f]
        refine hrc _ ?_
        rw [gapsN_s, hg]; rfl
      | true =>
        cases hg2 : gapN r (befN u.1 i) with
        | false =>
          simp (disch := omega) only [lit_0, lit_1, lit_2, lit_3, lit_4, lit_5, lit_6, lit_7, lit_8, lit_9, lit_10, lit_11, lit_12, lit_13, lit_14, lit_15, lit_20, lit_24, lit_25, lit_37, lit_40, lit_43, lit_48, lit_49, lit_50, lit_60, lit_96, lit_98, lit_99, lit_100, lit_999, lit_62, lit_74, lit_86, lit_92, lit_99999, lit_100000, lit_16, lit_32767, lit_2147483639, J_add, J_mul, J_sub, J_tn, J_le, J_lt, J_eq, Nat.not_lt_zero, false_or, or_false, le_t, le_f, lt_t, lt_f, eq_f, ↓reduceIte, callK_eq, letB_eq, joinB_eq, Nat.add_assoc, hn, e1, e2, e3, hg, hg2, bI_t, bI_f]
          refine hrc _ ?_
          rw [gapsN_s, hg, hg2]; rfl
        | true =>
          simp (disch := omega) only [lit_0, lit_1, lit_2, lit_3, lit_4, lit_5, lit_6, lit_7, lit_8, lit_9, lit_10, lit_11, lit_12, lit_13, lit_14, lit_15, lit_20, lit_24, lit_25, lit_37, lit_40, lit_43, lit_48, lit_49, lit_50, lit_60, lit_96, lit_98, lit_99, lit_100, lit_999, lit_62, lit_74, lit_86, lit_92, lit_99999, lit_100000, lit_16, lit_32767, lit_2147483639, J_add, J_mul, J_sub, J_tn, J_le, J_lt, J_eq, Nat.not_lt_zero, false_or, or_false, le_t, le_f, lt_t, lt_f, eq_f, ↓reduceIte, callK_eq, letB_eq, joinB_eq, Nat.add_assoc, hn, e1, e2, e3, hg, hg2, bI_t]
          refine hrc _ ?_
          rw [gapsN_s, hg, hg2]; rfl
    · rintro b rfl rc
      have e0 := tH_isOpen (s := 0) c.2.2.2.2.1 (by omega) (by omega)
      unfold s1_gaps_L4
      by_cases hz : gapsN u.1 r u.1 = 0
      · cases hg : gapN r 0 with
        | false =>
          simp (disch := omega) only [lit_0, lit_1, lit_2, lit_3, lit_4, lit_5, lit_6, lit_7, lit_8, lit_9, lit_10, lit_11, lit_12, lit_13, lit_14, lit_15, lit_20, lit_24, lit_25, lit_37, lit_40, lit_43, lit_48, lit_49, lit_50, lit_60, lit_96, lit_98, lit_99, lit_100, lit_999, lit_62, lit_74, lit_86, lit_92, lit_99999, lit_100000, lit_16, lit_32767, lit_2147483639, J_add, J_mul, J_sub, J_tn, J_le, J_lt, J_eq, Nat.not_lt_zero, false_or, or_false, le_t, le_f, lt_t, lt_f, eq_f, ↓reduceIte, callK_eq, letB_eq, joinB_eq, Nat.add_assoc, hn, hz, e0, hg, bI_f]
          exact v_ev (by simp)
        | true =>
          simp (disch := omega) only [lit_0, lit_1, lit_2, lit_3, lit_4, lit_5, lit_6, lit_7, lit_8, lit_9, lit_10, lit_11, lit_12, lit_13, lit_14, lit_15, lit_20, lit_24, lit_25, lit_37, lit_40, lit_43, lit_48, lit_49, lit_50, lit_60, lit_96, lit_98, lit_99, lit_100, lit_999, lit_62, lit_74, lit_86, lit_92, lit_99999, lit_100000, lit_16, lit_32767, lit_2147483639, J_add, J_mul, J_sub, J_tn, J_le, J_lt, J_eq, Nat.not_lt_zero, false_or, or_false, le_t, le_f, lt_t, lt_f, eq_f, ↓reduceIte, callK_eq, letB_eq, joinB_eq, Nat.add_assoc, hn, hz, e0, hg, bI_t]
          exact v_ev (by simp)
      · simp (disch := omega) only [lit_0, lit_1, lit_2, lit_3, lit_4, lit_5, lit_6, lit_7, lit_8, lit_9, lit_10, lit_11, lit_12, lit_13, lit_14, lit_15, lit_20, lit_24, lit_25, lit_37, lit_40, lit_43, lit_48, lit_49, lit_50, lit_60, lit_96, lit_98, lit_99, lit_100, lit_999, lit_62, lit_74, lit_86, lit_92, lit_99999, lit_100000, lit_16, lit_32767, lit_2147483639, J_add, J_mul, J_sub, J_tn, J_le, J_lt, J_eq, Nat.not_lt_zero, false_or, or_false, le_t, le_f, lt_t, lt_f, eq_f, ↓reduceIte, callK_eq, letB_eq, joinB_eq, Nat.add_assoc, hn, hz]
        exact v_ev (by simp [hz])
  · refine Ev.loop2 (i0 := 0) (body := sM_gaps_L9 (Z0 S2)) (fun i b => b = J (gapsN u.1 r i)) u.1 rfl (by omega) ?_ ?_ (by unfold FUEL; omega)
    · rintro i - hi b rfl rc hrc
      have hn := cz.2.2.2.2.2.1.1
      have hb := befN_lt (show 0 < u.1 by omega) hi
      have hv := hR.1 i (by omega)
      have hw := hR.1 (befN u.1 i) (by omega)
      have e1 := tM_isGap (b := 0) cz.2.2.2.2.2.2 (by omega) (show i < 12 by omega) (by omega)
      have e2 := tM_isGap (b := 0) cz.2.2.2.2.2.2 (by omega) (show befN u.1 i < 12 by omega) (by omega)
      have e3 := tM_ahead1 hn (by omega) hi ho12
      unfold sM_gaps_L9
      cases hg : gapN r i with
      | false =>
        simp (disch := omega) only [lit_0, lit_1, lit_2, lit_3, lit_4, lit_5, lit_6, lit_7, lit_8, lit_9, lit_10, lit_11, lit_12, lit_13, lit_14, lit_15, lit_20, lit_24, lit_25, lit_37, lit_40, lit_43, lit_48, lit_49, lit_50, lit_60, lit_96, lit_98, lit_99, lit_100, lit_999, lit_62, lit_74, lit_86, lit_92, lit_99999, lit_100000, lit_16, lit_32767, lit_2147483639, J_add, J_mul, J_sub, J_tn, J_le, J_lt, J_eq, Nat.not_lt_zero, false_or, or_false, le_t, le_f, lt_t, lt_f, eq_f, ↓reduceIte, callK_eq, letB_eq, joinB_eq, Nat.add_assoc, hn, e1, hg, bI_f]
        refine hrc _ ?_
        rw [gapsN_s, hg]; rfl
      | true =>
        cases hg2 : gapN r (befN u.1 i) with
        | false =>
          simp (disch := omega) only [lit_0, lit_1, lit_2, lit_3, lit_4, lit_5, lit_6, lit_7, lit_8, lit_9, lit_10, lit_11, lit_12, lit_13, lit_14, lit_15, lit_20, lit_24, lit_25, lit_37, lit_40, lit_43, lit_48, lit_49, lit_50, lit_60, lit_96, lit_98, lit_99, lit_100, lit_999, lit_62, lit_74, lit_86, lit_92, lit_99999, lit_100000, lit_16, lit_32767, lit_2147483639, J_add, J_mul, J_sub, J_tn, J_le, J_lt, J_eq, Nat.not_lt_zero, false_or, or_false, le_t, le_f, lt_t, lt_f, eq_f, ↓reduceIte, callK_eq, letB_eq, joinB_eq, Nat.add_assoc, hn, e1, e2, e3, hg, hg2, bI_t, bI_f]
          refine hrc _ ?_
          rw [gapsN_s, hg, hg2]; rfl
        | true =>
          simp (disch := omega) only [lit_0, lit_1, lit_2, lit_3, lit_4, lit_5, lit_6, lit_7, lit_8, lit_9, lit_10, lit_11, lit_12, lit_13, lit_14, lit_15, lit_20, lit_24, lit_25, lit_37, lit_40, lit_43, lit_48, lit_49, lit_50, lit_60, lit_96, lit_98, lit_99, lit_100, lit_999, lit_62, lit_74, lit_86, lit_92, lit_99999, lit_100000, lit_16, lit_32767, lit_2147483639, J_add, J_mul, J_sub, J_tn, J_le, J_lt, J_eq, Nat.not_lt_zero, false_or, or_false, le_t, le_f, lt_t, lt_f, eq_f, ↓reduceIte, callK_eq, letB_eq, joinB_eq, Nat.add_assoc, hn, e1, e2, e3, hg, hg2, bI_t]
          refine hrc _ ?_
          rw [gapsN_s, hg, hg2]; rfl
    · rintro b rfl rc
      have hn := cz.2.2.2.2.2.1.1
      have e0 := tM_isGap (b := 0) (s := 0) cz.2.2.2.2.2.2 (by omega) (by omega) (by omega)
      unfold sM_gaps_L9
      by_cases hz : gapsN u.1 r u.1 = 0
      · cases hg : gapN r 0 with
        | false =>
          simp (disch := omega) only [lit_0, lit_1, lit_2, lit_3, lit_4, lit_5, lit_6, lit_7, lit_8, lit_9, lit_10, lit_11, lit_12, lit_13, lit_14, lit_15, lit_20, lit_24, lit_25, lit_37, lit_40, lit_43, lit_48, lit_49, lit_50, lit_60, lit_96, lit_98, lit_99, lit_100, lit_999, lit_62, lit_74, lit_86, lit_92, lit_99999, lit_100000, lit_16, lit_32767, lit_2147483639, J_add, J_mul, J_sub, J_tn, J_le, J_lt, J_eq, Nat.not_lt_zero, false_or, or_false, le_t, le_f, lt_t, lt_f, eq_f, ↓reduceIte, callK_eq, letB_eq, joinB_eq, Nat.add_assoc, hn, hz, e0, hg, bI_f]
          exact z_ev (by simp)
        | true =>
          simp (disch := omega) only [lit_0, lit_1, lit_2, lit_3, lit_4, lit_5, lit_6, lit_7, lit_8, lit_9, lit_10, lit_11, lit_12, lit_13, lit_14, lit_15, lit_20, lit_24, lit_25, lit_37, lit_40, lit_43, lit_48, lit_49, lit_50, lit_60, lit_96, lit_98, lit_99, lit_100, lit_999, lit_62, lit_74, lit_86, lit_92, lit_99999, lit_100000, lit_16, lit_32767, lit_2147483639, J_add, J_mul, J_sub, J_tn, J_le, J_lt, J_eq, Nat.not_lt_zero, false_or, or_false, le_t, le_f, lt_t, lt_f, eq_f, ↓reduceIte, callK_eq, letB_eq, joinB_eq, Nat.add_assoc, hn, hz, e0, hg, bI_t]
          exact z_ev (by simp)
      · simp (disch := omega) only [lit_0, lit_1, lit_2, lit_3, lit_4, lit_5, lit_6, lit_7, lit_8, lit_9, lit_10, lit_11, lit_12, lit_13, lit_14, lit_15, lit_20, lit_24, lit_25, lit_37, lit_40, lit_43, lit_48, lit_49, lit_50, lit_60, lit_96, lit_98, lit_99, lit_100, lit_999, lit_62, lit_74, lit_86, lit_92, lit_99999, lit_100000, lit_16, lit_32767, lit_2147483639, J_add, J_mul, J_sub, J_tn, J_le, J_lt, J_eq, Nat.not_lt_zero, false_or, or_false, le_t, le_f, lt_t, lt_f, eq_f, ↓reduceIte, callK_eq, letB_eq, joinB_eq, Nat.add_assoc, hn, hz]
        exact z_ev (by simp [hz])
/-! load -/
def loadN (n : Nat) (r : Nat → Nat) (x : Nat) : Nat → Nat
  | 0 => 0
  | i + 1 => loadN n r x i + (if x ≤ r (1 + i) ∧ r (1 + befN n i) < x then 1 else 0)
theorem loadN_s {n i x : Nat} {r : Nat → Nat} : loadN n r x (i + 1) = loadN n r x i + (if x ≤ r (1 + i) ∧ r (1 + befN n i) < x then 1 else 0) := rfl
theorem loadN_le {n i x : Nat} {r : Nat → Nat} : loadN n r x i ≤ i := by
  induction i with
  | zero => exact Nat.le_refl _
  | succ i ih => rw [loadN_s]; split <;> omega
theorem L_load {ct : CT} {P : Nat → Nat → Option Nat} {h : AH} {S S2 : US} {u : RU} {r : Nat → Nat} (c : Core ct P h S S2 u r) (p1 : Int32) : AgV [(2, 1)] S2 (t1_load S ct P h p1) (s1_load S p1) (sM_load S2 p1) := by
  have cz := c.z
  have ho3 := c.1.1
  have ho12 := c.1.2.1
  have hn := c.2.2.2.1.1
  have hR := c.2.1
  have hv0 := hR.1 0 (by omega)
  unfold t1_load s1_load sM_load
  refine Ag_z (Ag_rgtE 0 99 1 (by decide) (by decide) (by decide) (Or.inl rfl) (fun x _ hx e => ?_))
  subst e
  have hc := loadN_le (n := u.1) (i := u.1) (r := r) (x := x)
  refine Ag_ok (if loadN u.1 r x u.1 = 0 ∧ x ≤ r 1 then J 1 else J (loadN u.1 r x u.1)) ?_ ?_
  · refine Ev.loop2 (i0 := 0) (body := s1_load_L14 (J x) S) (fun i b => b = J (loadN u.1 r x i)) u.1 rfl (by omega) ?_ ?_ (by unfold FUEL; omega)
    · rintro i - hi b rfl rc hrc
      have hb := befN_lt (show 0 < u.1 by omega) hi
      have hv := hR.1 i (by omega)
      have hw := hR.1 (befN u.1 i) (by omega)
      have e1 := (c.2.2.2.2.1.2.1 i (by omega)).1
      have e2 := (c.2.2.2.2.1.2.1 (befN u.1 i) (by omega)).1
      have e3 := tH_before hn (by omega) hi ho12
      unfold s1_load_L14
      by_cases c1 : r (1 + i) < x
      · simp (disch := omega) only [lit_0, lit_1, lit_2, lit_3, lit_4, lit_5, lit_6, lit_7, lit_8, lit_9, lit_10, lit_11, lit_12, lit_13, lit_14, lit_15, lit_20, lit_24, lit_25, lit_37, lit_40, lit_43, lit_48, lit_49, lit_50, lit_60, lit_96, lit_98, lit_99, lit_100, lit_999, lit_62, lit_74, lit_86, lit_92, lit_99999, lit_100000, lit_16, lit_32767, lit_2147483639, J_add, J_mul, J_sub, J_tn, J_le, J_lt, J_eq, Nat.not_lt_zero, false_or, or_false, le_t, le_f, lt_t, lt_f, eq_f, ↓reduceIte, callK_eq, letB_eq, joinB_eq, Nat.add_assoc, hn, e1, c1]
        refine hrc _ ?_
        rw [loadN_s, if_neg (by omega)]; rfl
      · by_cases c2 : x ≤ r (1 + befN u.1 i)
        · simp (disch := omega) only [lit_0, lit_1, lit_2, lit_3, lit_4, lit_5, lit_6, lit_7, lit_8, lit_9, lit_10, lit_11, lit_12, lit_13, lit_14, lit_15, lit_20, lit_24, lit_25, lit_37, lit_40, lit_43, lit_48, lit_49, lit_50, lit_60, lit_96, lit_98, lit_99, lit_100, lit_999, lit_62, lit_74, lit_86, lit_92, lit_99999, lit_100000, lit_16, lit_32767, lit_2147483639, J_add, J_mul, J_sub, J_tn, J_le, J_lt, J_eq, Nat.not_lt_zero, false_or, or_false, le_t, le_f, lt_t, lt_f, eq_f, ↓reduceIte, callK_eq, letB_eq, joinB_eq, Nat.add_assoc, hn, e1, e2, e3, c1, c2]
          refine hrc _ ?_
          rw [loadN_s, if_neg (by omega)]; rfl
        · simp (disch := omega) only [lit_0, lit_1, lit_2, lit_3, lit_4, lit_5, lit_6, lit_7, lit_8, lit_9, lit_10, lit_11, lit_12, lit_13, lit_14, lit_15, lit_20, lit_24, lit_25, lit_37, lit_40, lit_43, lit_48, lit_49, lit_50, lit_60, lit_96, lit_98, lit_99, lit_100, lit_999, lit_62, lit_74, lit_86, lit_92, lit_99999, lit_100000, lit_16, lit_32767, lit_2147483639, J_add, J_mul, J_sub, J_tn, J_le, J_lt, J_eq, Nat.not_lt_zero, false_or, or_false, le_t, le_f, lt_t, lt_f, eq_f, ↓reduceIte, callK_eq, letB_eq, joinB_eq, Nat.add_assoc, hn, e1, e2, e3, c1, c2]
          refine hrc _ ?_
          rw [loadN_s, if_pos (by omega)]
    · rintro b rfl rc
      have e1 := (c.2.2.2.2.1.2.1 0 (by omega)).1
      unfold s1_load_L14
      by_cases hz : loadN u.1 r x u.1 = 0
      · by_cases c1 : r 1 < x
        · simp (disch := omega) only [lit_0, lit_1, lit_2, lit_3, lit_4, lit_5, lit_6, lit_7, lit_8, lit_9, lit_10, lit_11, lit_12, lit_13, lit_14, lit_15, lit_20, lit_24, lit_25, lit_37, lit_40, lit_43, lit_48, lit_49, lit_50, lit_60, lit_96, lit_98, lit_99, lit_100, lit_999, lit_62, lit_74, lit_86, lit_92, lit_99999, lit_100000, lit_16, lit_32767, lit_2147483639, J_add, J_mul, J_sub, J_tn, J_le, J_lt, J_eq, Nat.not_lt_zero, false_or, or_false, le_t, le_f, lt_t, lt_f, eq_f, ↓reduceIte, callK_eq, letB_eq, joinB_eq, Nat.add_assoc, hn, hz, e1, c1]
          refine v_ev ?_
          first | rfl | simp | (simp; omega)
        · simp (disch := omega) only [lit_0, lit_1, lit_2, lit_3, lit_4, lit_5, lit_6, lit_7, lit_8, lit_9, lit_10, lit_11, lit_12, lit_13, lit_14, lit_15, lit_20, lit_24, lit_25, lit_37, lit_40, lit_43, lit_48, lit_49, lit_50, lit_60, lit_96, lit_98, lit_99, lit_100, lit_999, lit_62, lit_74, lit_86, lit_92, lit_99999, lit_100000, lit_16, lit_32767, lit_2147483639, J_add, J_mul, J_sub, J_tn, J_le, J_lt, J_eq, Nat.not_lt_zero, false_or, or_false, le_t, le_f, lt_t, lt_f, eq_f, ↓reduceIte, callK_eq, letB_eq, joinB_eq, Nat.add_assoc, hn, hz, e1, c1]
          refine v_ev ?_
          first | rfl | simp | (simp; omega)
      · simp (disch := omega) only [lit_0, lit_1, lit_2, lit_3, lit_4, lit_5, lit_6, lit_7, lit_8, lit_9, lit_10, lit_11, lit_12, lit_13, lit_14, lit_15, lit_20, lit_24, lit_25, lit_37, lit_40, lit_43, lit_48, lit_49, lit_50, lit_60, lit_96, lit_98, lit_99, lit_100, lit_999, lit_62, lit_74, lit_86, lit_92, lit_99999, lit_100000, lit_16, lit_32767, lit_2147483639, J_add, J_mul, J_sub, J_tn, J_le, J_lt, J_eq, Nat.not_lt_zero, false_or, or_false, le_t, le_f, lt_t, lt_f, eq_f, ↓reduceIte, callK_eq, letB_eq, joinB_eq, Nat.add_assoc, hn, hz]
        refine v_ev ?_
        first | rfl | simp | (simp; omega)
  · refine Ev.loop2 (i0 := 0) (body := sM_load_L26 (J x) (true, Z0 S2)) (fun i b => b = J (loadN u.1 r x i)) u.1 rfl (by omega) ?_ ?_ (by unfold FUEL; omega)
    · rintro i - hi b rfl rc hrc
      have hn := cz.2.2.2.2.2.1.1
      have hb := befN_lt (show 0 < u.1 by omega) hi
      have hv := hR.1 i (by omega)
      have hw := hR.1 (befN u.1 i) (by omega)
      have e1 : Z0 S2 14 (1 + i) = _ := mrow_0 cz.2.2.2.2.2.2 (k := 1 + i) (by omega)
      have e2 : Z0 S2 14 (1 + befN u.1 i) = _ := mrow_0 cz.2.2.2.2.2.2 (k := 1 + befN u.1 i) (by omega)
      have e3 := tM_ahead1 hn (by omega) hi ho12
      unfold sM_load_L26
      by_cases c1 : r (1 + i) < x
      · simp (disch := omega) only [lit_0, lit_1, lit_2, lit_3, lit_4, lit_5, lit_6, lit_7, lit_8, lit_9, lit_10, lit_11, lit_12, lit_13, lit_14, lit_15, lit_20, lit_24, lit_25, lit_37, lit_40, lit_43, lit_48, lit_49, lit_50, lit_60, lit_96, lit_98, lit_99, lit_100, lit_999, lit_62, lit_74, lit_86, lit_92, lit_99999, lit_100000, lit_16, lit_32767, lit_2147483639, J_add, J_mul, J_sub, J_tn, J_le, J_lt, J_eq, Nat.not_lt_zero, false_or, or_false, le_t, le_f, lt_t, lt_f, eq_f, ↓reduceIte, callK_eq, letB_eq, joinB_eq, Nat.add_assoc, hn, e1, c1]
        refine hrc _ ?_
        rw [loadN_s, if_neg (by omega)]
      · by_cases c2 : x ≤ r (1 + befN u.1 i)
        · simp (disch := omega) only [lit_0, lit_1, lit_2, lit_3, lit_4, lit_5, lit_6, lit_7, lit_8, lit_9, lit_10, lit_11, lit_12, lit_13, lit_14, lit_15, lit_20, lit_24, lit_25, lit_37, lit_40, lit_43, lit_48, lit_49, lit_50, lit_60, lit_96, lit_98, lit_99, lit_100, lit_999, lit_62, lit_74, lit_86, lit_92, lit_99999, lit_100000, lit_16, lit_32767, lit_2147483639, J_add, J_mul, J_sub, J_tn, J_le, J_lt, J_eq, Nat.not_lt_zero, false_or, or_false, le_t, le_f, lt_t, lt_f, eq_f, ↓reduceIte, callK_eq, letB_eq, joinB_eq, Nat.add_assoc, hn, e1, e2, e3, c1, c2]
          refine hrc _ ?_
          rw [loadN_s, if_neg (by omega)]
        · simp (disch := omega) only [lit_0, lit_1, lit_2, lit_3, lit_4, lit_5, lit_6, lit_7, lit_8, lit_9, lit_10, lit_11, lit_12, lit_13, lit_14, lit_15, lit_20, lit_24, lit_25, lit_37, lit_40, lit_43, lit_48, lit_49, lit_50, lit_60, lit_96, lit_98, lit_99, lit_100, lit_999, lit_62, lit_74, lit_86, lit_92, lit_99999, lit_100000, lit_16, lit_32767, lit_2147483639, J_add, J_mul, J_sub, J_tn, J_le, J_lt, J_eq, Nat.not_lt_zero, false_or, or_false, le_t, le_f, lt_t, lt_f, eq_f, ↓reduceIte, callK_eq, letB_eq, joinB_eq, Nat.add_assoc, hn, e1, e2, e3, c1, c2]
          refine hrc _ ?_
          rw [loadN_s, if_pos (by omega)]
    · rintro b rfl rc
      have hn := cz.2.2.2.2.2.1.1
      have hv1 : r 1 ≤ 99 := hv0.1
      have e1 : Z0 S2 14 1 = _ := mrow_0 cz.2.2.2.2.2.2 (k := 1) (by omega)
      unfold sM_load_L26
      by_cases hz : loadN u.1 r x u.1 = 0
      · by_cases c1 : r 1 < x
        · simp (disch := omega) only [lit_0, lit_1, lit_2, lit_3, lit_4, lit_5, lit_6, lit_7, lit_8, lit_9, lit_10, lit_11, lit_12, lit_13, lit_14, lit_15, lit_20, lit_24, lit_25, lit_37, lit_40, lit_43, lit_48, lit_49, lit_50, lit_60, lit_96, lit_98, lit_99, lit_100, lit_999, lit_62, lit_74, lit_86, lit_92, lit_99999, lit_100000, lit_16, lit_32767, lit_2147483639, J_add, J_mul, J_sub, J_tn, J_le, J_lt, J_eq, Nat.not_lt_zero, false_or, or_false, le_t, le_f, lt_t, lt_f, eq_f, ↓reduceIte, callK_eq, letB_eq, joinB_eq, Nat.add_assoc, hn, hz, e1, c1]
          refine z_ev ?_
          first | rfl | simp | (simp; omega)
        · simp (disch := omega) only [lit_0, lit_1, lit_2, lit_3, lit_4, lit_5, lit_6, lit_7, lit_8, lit_9, lit_10, lit_11, lit_12, lit_13, lit_14, lit_15, lit_20, lit_24, lit_25, lit_37, lit_40, lit_43, lit_48, lit_49, lit_50, lit_60, lit_96, lit_98, lit_99, lit_100, lit_999, lit_62, lit_74, lit_86, lit_92, lit_99999, lit_100000, lit_16, lit_32767, lit_2147483639, J_add, J_mul, J_sub, J_tn, J_le, J_lt, J_eq, Nat.not_lt_zero, false_or, or_false, le_t, le_f, lt_t, lt_f, eq_f, ↓reduceIte, callK_eq, letB_eq, joinB_eq, Nat.add_assoc, hn, hz, e1, c1]
          refine z_ev ?_
          first | rfl | simp | (simp; omega)
      · simp (disch := omega) only [lit_0, lit_1, lit_2, lit_3, lit_4, lit_5, lit_6, lit_7, lit_8, lit_9, lit_10, lit_11, lit_12, lit_13, lit_14, lit_15, lit_20, lit_24, lit_25, lit_37, lit_40, lit_43, lit_48, lit_49, lit_50, lit_60, lit_96, lit_98, lit_99, lit_100, lit_999, lit_62, lit_74, lit_86, lit_92, lit_99999, lit_100000, lit_16, lit_32767, lit_2147483639, J_add, J_mul, J_sub, J_tn, J_le, J_lt, J_eq, Nat.not_lt_zero, false_or, or_false, le_t, le_f, lt_t, lt_f, eq_f, ↓reduceIte, callK_eq, letB_eq, joinB_eq, Nat.add_assoc, hn, hz]
        refine z_ev ?_
        first | rfl | simp | (simp; omega)
/-! closed -/
/-- a loop that ends at e -/
theorem loop_out {ρ : Type} {body : (Int32 → Option ρ) → Int32 → Option ρ} (e : Nat) {res : Option ρ} (hstep : ∀ i, i < e → ∀ rc, body rc (J i) = rc (J (i + 1))) (hend : ∀ rc, body rc (J e) = res) (he : e < FUEL) : loopK (fun rc (x : Int32) => body rc x) FUEL (J 0) = res :=
  loop_up (body := fun rc x => body rc x) (fun i => J i) e (fun i hi rc => hstep i hi rc) (fun rc => hend rc) FUEL he
def cloN (n : Nat) (r : Nat → Nat) (k : Nat) : Nat := match fstN (fun j => gapN r ((k + j) % n)) (n - 1) with
  | some j => j
  | none => n
theorem fstN_pre {c : Nat → Bool} {N i : Nat} (h : fstN c N = some i) : c i = true ∧ ∀ j, j < i → c j = false := by
  induction N with
  | zero =>
    unfold fstN at h
    split at h
    · rename_i e; cases h; exact ⟨e, fun j hj => absurd hj (Nat.not_lt_zero j)⟩
    · cases h
  | succ N ih =>
    unfold fstN at h
    cases e : fstN c N with
    | some j =>
      rw [e] at h
      cases h
      exact ih e
    | none =>
      rw [e] at h
      have hn : ∀ j, j ≤ N → c j = false := by
        intro j hj
        cases e2 : c j with
        | false => rfl
        | true =>
          exfalso
          have key : ∀ m, m ≤ N → fstN c N = none → c m = true → False := by
            intro m hm e3 e4
            have : ∀ M, fstN c M = none → ∀ k, k ≤ M → c k = false := by
              intro M
              induction M with
              | zero =>
                intro e5 k hk
                have : k = 0 := by omega
                subst this
                unfold fstN at e5
                cases e6 : c 0 with
                | false => rfl
                | true => rw [e6] at e5; cases e5
              | succ M ihM =>
                intro e5 k hk
                unfold fstN at e5
                cases e6 : fstN c M with
                | some x => rw [e6] at e5; cases e5
                | none =>
                  rw [e6] at e5
                  by_cases e7 : k = M + 1
                  · subst e7
                    cases e8 : c (M + 1) with
                    | false => rfl
                    | true =>
                      simp only [e8] at e5
                      cases e5
                  · exact ihM e6 k (by omega)
            rw [this N e3 m hm] at e4
            cases e4
          exact key j hj e e2
      simp only at h
      split at h
      · rename_i e3
        cases h
        exact ⟨e3, fun j hj => hn j (by omega)⟩
      · cases h
theorem fstN_non {c : Nat → Bool} {N : Nat} (h : fstN c N = none) : ∀ j, j ≤ N → c j = false := by
  induction N with
  | zero =>
    intro j hj
    have : j = 0 := by omega
    subst this
    unfold fstN at h
    cases e : c 0 with
    | false => rfl
    | true => rw [e] at h; cases h
  | succ N ih =>
    intro j hj
    unfold fstN at h
    cases e : fstN c N with
    | some i => rw [e] at h; cases h
    | none =>
      rw [e] at h
      by_cases e2 : j = N + 1
      · subst e2
        cases e3 : c (N + 1) with
        | false => rfl
        | true =>
          simp only [e3] at h
          cases h
      · exact ih e j (by omega)
theorem cloN_spec {n : Nat} {r : Nat → Nat} {k : Nat} (h0 : 0 < n) : (∀ j, j < cloN n r k → gapN r ((k + j) % n) = false) ∧ cloN n r k ≤ n ∧ (cloN n r k = n ∨ gapN r ((k + cloN n r k) % n) = true) := by
  unfold cloN
  cases e : fstN (fun j => gapN r ((k + j) % n)) (n - 1) with
  | none =>
    have := fstN_non e
    exact ⟨fun j hj => this j (by have hj : j < n := hj; omega), Nat.le_refl _, Or.inl rfl⟩
  | some i =>
    have h1 := fstN_pre e
    have h2 := fstN_le e
    exact ⟨h1.2, by show i ≤ n; omega, Or.inr h1.1⟩
theorem tH_closedFrom {S : US} {n m k : Nat} {r : Nat → Nat} (hn : S 1 2 = J n) (h0 : 0 < n) (hn2 : n ≤ 12) (h : HRow S 0 r) (hR : ROk n m r) (hk : k < n) : s1_closedFrom S (J k) = some (J (cloN n r k)) := by
  obtain ⟨h1, h2, h3⟩ := cloN_spec (r := r) (k := k) h0
  have ho : ∀ j, s3_isOpen S 0 (J ((k + j) % n)) = some (gapN r ((k + j) % n)) := fun j => by
    have := Nat.mod_lt (k + j) h0
    have hv := hR.1 ((k + j) % n) (by omega)
    exact tH_isOpen h (by omega) (by omega)
  unfold s1_closedFrom
  refine loop_out (body := fun rc v => s1_closedFrom_L2 (J k) S rc v) (cloN n r k) (fun i hi rc => ?_) (fun rc => ?_) (by unfold FUEL; omega)
  · unfold s1_closedFrom_L2
    simp (disch := omega) only [lit_0, lit_1, lit_2, lit_3, lit_4, lit_5, lit_6, lit_7, lit_8, lit_9, lit_10, lit_11, lit_12, lit_13, lit_14, lit_15, lit_20, lit_24, lit_25, lit_37, lit_40, lit_43, lit_48, lit_49, lit_50, lit_60, lit_96, lit_98, lit_99, lit_100, lit_999, lit_62, lit_74, lit_86, lit_92, lit_99999, lit_100000, lit_16, lit_32767, lit_2147483639, J_add, J_mul, J_sub, J_tn, J_le, J_lt, J_eq, Nat.not_lt_zero, false_or, or_false, le_t, le_f, lt_t, lt_f, eq_f, ↓reduceIte, callK_eq, letB_eq, joinB_eq, Nat.add_assoc, hn, J_mod, ho, h1 i hi, bI_f]
  · unfold s1_closedFrom_L2
    rcases h3 with h3 | h3
    · simp (disch := omega) only [lit_0, lit_1, lit_2, lit_3, lit_4, lit_5, lit_6, lit_7, lit_8, lit_9, lit_10, lit_11, lit_12, lit_13, lit_14, lit_15, lit_20, lit_24, lit_25, lit_37, lit_40, lit_43, lit_48, lit_49, lit_50, lit_60, lit_96, lit_98, lit_99, lit_100, lit_999, lit_62, lit_74, lit_86, lit_92, lit_99999, lit_100000, lit_16, lit_32767, lit_2147483639, J_add, J_mul, J_sub, J_tn, J_le, J_lt, J_eq, Nat.not_lt_zero, false_or, or_false, le_t, le_f, lt_t, lt_f, eq_f, ↓reduceIte, callK_eq, letB_eq, joinB_eq, Nat.add_assoc, hn, h3]
    · by_cases h4 : cloN n r k = n
      · simp (disch := omega) only [lit_0, lit_1, lit_2, lit_3, lit_4, lit_5, lit_6, lit_7, lit_8, lit_9, lit_10, lit_11, lit_12, lit_13, lit_14, lit_15, lit_20, lit_24, lit_25, lit_37, lit_40, lit_43, lit_48, lit_49, lit_50, lit_60, lit_96, lit_98, lit_99, lit_100, lit_999, lit_62, lit_74, lit_86, lit_92, lit_99999, lit_100000, lit_16, lit_32767, lit_2147483639, J_add, J_mul, J_sub, J_tn, J_le, J_lt, J_eq, Nat.not_lt_zero, false_or, or_false, le_t, le_f, lt_t, lt_f, eq_f, ↓reduceIte, callK_eq, letB_eq, joinB_eq, Nat.add_assoc, hn, h4]
      · simp (disch := omega) only [lit_0, lit_1, lit_2, lit_3, lit_4, lit_5, lit_6, lit_7, lit_8, lit_9, lit_10, lit_11, lit_12, lit_13, lit_14, lit_15, lit_20, lit_24, lit_25, lit_37, lit_40, lit_43, lit_48, lit_49, lit_50, lit_60, lit_96, lit_98, lit_99, lit_100, lit_999, lit_62, lit_74, lit_86, lit_92, lit_99999, lit_100000, lit_16, lit_32767, lit_2147483639, J_add, J_mul, J_sub, J_tn, J_le, J_lt, J_eq, Nat.not_lt_zero, false_or, or_false, le_t, le_f, lt_t, lt_f, eq_f, ↓reduceIte, callK_eq, letB_eq, joinB_eq, Nat.add_assoc, hn, J_mod, ho, h3, bI_t]
def cN (n : Nat) (r : Nat → Nat) (k : Nat) : Option Nat := some (cloN n r k)
theorem cN_all {n : Nat} {r : Nat → Nat} {i : Nat} (h0 : 0 < n) : ∀ q, selN gtA (cN n r) i = some q → q.2 ≤ n ∧ q.1 < i := selN_le (fun j v _ e => by
  cases e
  exact (cloN_spec h0).2.1)
theorem cN_some {n : Nat} {r : Nat → Nat} {i : Nat} : ∃ q, selN gtA (cN n r) (i + 1) = some q := by
  rw [selN_s (f := cN n r) (i := i) rfl]
  cases e : selN gtA (cN n r) i with
  | none => exact ⟨_, rfl⟩
  | some q => split <;> exact ⟨_, rfl⟩
theorem L_closed {ct : CT} {P : Nat → Nat → Option Nat} {h : AH} {S S2 : US} {u : RU} {r : Nat → Nat} (c : Core ct P h S S2 u r) (p1 : Int32) : AgV [(1, 1)] S2 (t1_closed S ct P h p1) (s1_closed S p1) (sM_closed S2 p1) := by
  have cz := c.z
  have ho3 := c.1.1
  have ho12 := c.1.2.1
  have hn := c.2.2.2.1.1
  have hR := c.2.1
  unfold t1_closed s1_closed sM_closed
  refine Ag_z (Ag_whatE 1 (by decide) (by decide) (fun x hx e => ?_))
  subst e
  obtain ⟨N, hN⟩ : ∃ N, u.1 = N + 1 := ⟨u.1 - 1, by omega⟩
  obtain ⟨q, hq⟩ := cN_some (n := u.1) (r := r) (i := N)
  have hq1 := cN_all (i := N + 1) (show 0 < u.1 by omega) q hq
  have hq2 : cloN u.1 r q.1 = q.2 := Option.some.inj (selN_val q hq)
  refine Ag_ok (if x = 0 then J q.2 else if q.2 = 0 then -J 1 else J q.1) ?_ ?_
  · refine Ev.loop2 (i0 := 1) (body := s1_closed_L9 (J x) S) (fun i b => b = bJ (selN gtA (cN u.1 r) i)) u.1 rfl (by omega) ?_ ?_ (by unfold FUEL; omega)
    · rintro i hi1 hi b rfl rc hrc
      obtain ⟨k, rfl⟩ : ∃ k, i = k + 1 := ⟨i - 1, by omega⟩
      obtain ⟨a, ha⟩ := cN_some (n := u.1) (r := r) (i := k)
      have ha1 := cN_all (i := k + 1) (show 0 < u.1 by omega) a ha
      have ha2 : cloN u.1 r a.1 = a.2 := Option.some.inj (selN_val a ha)
      have hb := (cloN_spec (n := u.1) (r := r) (k := k + 1) (by omega)).2.1
      have e1 := tH_closedFrom (k := k + 1) hn (by omega) ho12 c.2.2.2.2.1 hR hi
      have e2 := tH_closedFrom (k := a.1) hn (by omega) ho12 c.2.2.2.2.1 hR (by omega)
      rw [ha2] at e2
      rw [ha]
      unfold s1_closed_L9 bJ
      by_cases hc : cloN u.1 r (k + 1) ≤ a.2
      · simp (disch := omega) only [lit_0, lit_1, lit_2, lit_3, lit_4, lit_5, lit_6, lit_7, lit_8, lit_9, lit_10, lit_11, lit_12, lit_13, lit_14, lit_15, lit_20, lit_24, lit_25, lit_37, lit_40, lit_43, lit_48, lit_49, lit_50, lit_60, lit_96, lit_98, lit_99, lit_100, lit_999, lit_62, lit_74, lit_86, lit_92, lit_99999, lit_100000, lit_16, lit_32767, lit_2147483639, J_add, J_mul, J_sub, J_tn, J_le, J_lt, J_eq, Nat.not_lt_zero, false_or, or_false, le_t, le_f, lt_t, lt_f, eq_f, ↓reduceIte, callK_eq, letB_eq, joinB_eq, Nat.add_assoc, hn, e1, e2, hc]
        refine hrc _ ?_
        rw [selN_s (f := cN u.1 r) (i := k + 1) rfl, ha, if_neg (by unfold gtA; rw [decide_eq_true_eq]; omega)]
        rfl
      · simp (disch := omega) only [lit_0, lit_1, lit_2, lit_3, lit_4, lit_5, lit_6, lit_7, lit_8, lit_9, lit_10, lit_11, lit_12, lit_13, lit_14, lit_15, lit_20, lit_24, lit_25, lit_37, lit_40, lit_43, lit_48, lit_49, lit_50, lit_60, lit_96, lit_98, lit_99, lit_100, lit_999, lit_62, lit_74, lit_86, lit_92, lit_99999, lit_100000, lit_16, lit_32767, lit_2147483639, J_add, J_mul, J_sub, J_tn, J_le, J_lt, J_eq, Nat.not_lt_zero, false_or, or_false, le_t, le_f, lt_t, lt_f, eq_f, ↓reduceIte, callK_eq, letB_eq, joinB_eq, Nat.add_assoc, hn, e1, e2, hc]
        refine hrc _ ?_
        rw [selN_s (f := cN u.1 r) (i := k + 1) rfl, ha, if_pos (by unfold gtA; rw [decide_eq_true_eq]; omega)]
        rfl
    · rintro b rfl rc
      have e2 := tH_closedFrom (k := q.1) hn (by omega) ho12 c.2.2.2.2.1 hR (by omega)
      rw [hq2] at e2
      have hq' : selN gtA (cN u.1 r) u.1 = some q := by
        have : selN gtA (cN u.1 r) (N + 1) = some q := hq
        rw [← hN] at this; exact this
      rw [hq']
      unfold s1_closed_L9 bJ
      rcases (show x = 0 ∨ x = 1 by omega) with rfl | rfl
      · simp (disch := omega) only [lit_0, lit_1, lit_2, lit_3, lit_4, lit_5, lit_6, lit_7, lit_8, lit_9, lit_10, lit_11, lit_12, lit_13, lit_14, lit_15, lit_20, lit_24, lit_25, lit_37, lit_40, lit_43, lit_48, lit_49, lit_50, lit_60, lit_96, lit_98, lit_99, lit_100, lit_999, lit_62, lit_74, lit_86, lit_92, lit_99999, lit_100000, lit_16, lit_32767, lit_2147483639, J_add, J_mul, J_sub, J_tn, J_le, J_lt, J_eq, Nat.not_lt_zero, false_or, or_false, le_t, le_f, lt_t, lt_f, eq_f, ↓reduceIte, callK_eq, letB_eq, joinB_eq, Nat.add_assoc, hn, e2]
        exact v_ev rfl
      · by_cases hz : q.2 = 0
        · simp (disch := omega) only [lit_0, lit_1, lit_2, lit_3, lit_4, lit_5, lit_6, lit_7, lit_8, lit_9, lit_10, lit_11, lit_12, lit_13, lit_14, lit_15, lit_20, lit_24, lit_25, lit_37, lit_40, lit_43, lit_48, lit_49, lit_50, lit_60, lit_96, lit_98, lit_99, lit_100, lit_999, lit_62, lit_74, lit_86, lit_92, lit_99999, lit_100000, lit_16, lit_32767, lit_2147483639, J_add, J_mul, J_sub, J_tn, J_le, J_lt, J_eq, Nat.not_lt_zero, false_or, or_false, le_t, le_f, lt_t, lt_f, eq_f, ↓reduceIte, callK_eq, letB_eq, joinB_eq, Nat.add_assoc, hn, e2, hz]
          exact v_ev rfl
        · simp (disch := omega) only [lit_0, lit_1, lit_2, lit_3, lit_4, lit_5, lit_6, lit_7, lit_8, lit_9, lit_10, lit_11, lit_12, lit_13, lit_14, lit_15, lit_20, lit_24, lit_25, lit_37, lit_40, lit_43, lit_48, lit_49, lit_50, lit_60, lit_96, lit_98, lit_99, lit_100, lit_999, lit_62, lit_74, lit_86, lit_92, lit_99999, lit_100000, lit_16, lit_32767, lit_2147483639, J_add, J_mul, J_sub, J_tn, J_le, J_lt, J_eq, Nat.not_lt_zero, false_or, or_false, le_t, le_f, lt_t, lt_f, eq_f, ↓reduceIte, callK_eq, letB_eq, joinB_eq, Nat.add_assoc, hn, e2, hz]
          exact v_ev rfl
  · have hM := cz.2.2.2.2.2.1.1
    have ho : ∀ k j, sM_isGap (Z0 S2) (J 0) (J ((k + j) % u.1)) = some (gapN r ((k + j) % u.1)) := fun k j => by
      have := Nat.mod_lt (k + j) (show 0 < u.1 by omega)
      have hv := hR.1 ((k + j) % u.1) (by omega)
      exact tM_isGap cz.2.2.2.2.2.2 (by omega) (by omega) (by omega)
    refine Ev.loop3 (i0 := 0) (body := sM_closed_L23 (J x) (true, Z0 S2)) (fun i m b => (match selN gtA (cN u.1 r) i with | none => m = J 0 ∧ b = -J 1 | some a => m = J a.2 ∧ b = if a.2 = 0 then -J 1 else J a.1)) u.1 ⟨rfl, rfl⟩ (by omega) ?_ ?_ (by unfold FUEL; omega)
    · rintro i - hi m b hI rc hrc
      obtain ⟨h1, h2, h3⟩ := cloN_spec (n := u.1) (r := r) (k := i) (by omega)
      unfold sM_closed_L23
      simp (disch := omega) only [lit_0, lit_1, lit_2, lit_3, lit_4, lit_5, lit_6, lit_7, lit_8, lit_9, lit_10, lit_11, lit_12, lit_13, lit_14, lit_15, lit_20, lit_24, lit_25, lit_37, lit_40, lit_43, lit_48, lit_49, lit_50, lit_60, lit_96, lit_98, lit_99, lit_100, lit_999, lit_62, lit_74, lit_86, lit_92, lit_99999, lit_100000, lit_16, lit_32767, lit_2147483639, J_add, J_mul, J_sub, J_tn, J_le, J_lt, J_eq, Nat.not_lt_zero, false_or, or_false, le_t, le_f, lt_t, lt_f, eq_f, ↓reduceIte, callK_eq, letB_eq, joinB_eq, Nat.add_assoc, hM]
      have hloop : ∀ j8 : Int32 → Option (Int32 × US), loopK (fun rc (x : Int32) => sM_closed_L35 (true, Z0 S2) (J i) j8 rc x) FUEL (J 0) = j8 (J (cloN u.1 r i)) := by
        intro j8
        refine loop_out (body := fun rc v => sM_closed_L35 (true, Z0 S2) (J i) j8 rc v) (cloN u.1 r i) (fun j hj rc => ?_) (fun rc => ?_) (by unfold FUEL; omega)
        · unfold sM_closed_L35
          simp (disch := omega) only [lit_0, lit_1, lit_2, lit_3, lit_4, lit_5, lit_6, lit_7, lit_8, lit_9, lit_10, lit_11, lit_12, lit_13, lit_14, lit_15, lit_20, lit_24, lit_25, lit_37, lit_40, lit_43, lit_48, lit_49, lit_50, lit_60, lit_96, lit_98, lit_99, lit_100, lit_999, lit_62, lit_74, lit_86, lit_92, lit_99999, lit_100000, lit_16, lit_32767, lit_2147483639, J_add, J_mul, J_sub, J_tn, J_le, J_lt, J_eq, Nat.not_lt_zero, false_or, or_false, le_t, le_f, lt_t, lt_f, eq_f, ↓reduceIte, callK_eq, letB_eq, joinB_eq, Nat.add_assoc, hM, J_mod, ho, h1 j hj, bI_f]
        · unfold sM_closed_L35
          rcases h3 with h3 | h3
          · simp (disch := omega) only [lit_0, lit_1, lit_2, lit_3, lit_4, lit_5, lit_6, lit_7, lit_8, lit_9, lit_10, lit_11, lit_12, lit_13, lit_14, lit_15, lit_20, lit_24, lit_25, lit_37, lit_40, lit_43, lit_48, lit_49, lit_50, lit_60, lit_96, lit_98, lit_99, lit_100, lit_999, lit_62, lit_74, lit_86, lit_92, lit_99999, lit_100000, lit_16, lit_32767, lit_2147483639, J_add, J_mul, J_sub, J_tn, J_le, J_lt, J_eq, Nat.not_lt_zero, false_or, or_false, le_t, le_f, lt_t, lt_f, eq_f, ↓reduceIte, callK_eq, letB_eq, joinB_eq, Nat.add_assoc, hM, h3]
          · by_cases h4 : cloN u.1 r i = u.1
            · simp (disch := omega) only [lit_0, lit_1, lit_2, lit_3, lit_4, lit_5, lit_6, lit_7, lit_8, lit_9, lit_10, lit_11, lit_12, lit_13, lit_14, lit_15, lit_20, lit_24, lit_25, lit_37, lit_40, lit_43, lit_48, lit_49, lit_50, lit_60, lit_96, lit_98, lit_99, lit_100, lit_999, lit_62, lit_74, lit_86, lit_92, lit_99999, lit_100000, lit_16, lit_32767, lit_2147483639, J_add, J_mul, J_sub, J_tn, J_le, J_lt, J_eq, Nat.not_lt_zero, false_or, or_false, le_t, le_f, lt_t, lt_f, eq_f, ↓reduceIte, callK_eq, letB_eq, joinB_eq, Nat.add_assoc, hM, h4]
            · simp (disch := omega) only [lit_0, lit_1, lit_2, lit_3, lit_4, lit_5, lit_6, lit_7, lit_8, lit_9, lit_10, lit_11, lit_12, lit_13, lit_14, lit_15, lit_20, lit_24, lit_25, lit_37, lit_40, lit_43, lit_48, lit_49, lit_50, lit_60, lit_96, lit_98, lit_99, lit_100, lit_999, lit_62, lit_74, lit_86, lit_92, lit_99999, lit_100000, lit_16, lit_32767, lit_2147483639, J_add, J_mul, J_sub, J_tn, J_le, J_lt, J_eq, Nat.not_lt_zero, false_or, or_false, le_t, le_f, lt_t, lt_f, eq_f, ↓reduceIte, callK_eq, letB_eq, joinB_eq, Nat.add_assoc, hM, J_mod, ho, h3, bI_t]
      rw [hloop]
      unfold sM_closed_J68
      have hs := selN_s (better := gtA) (f := cN u.1 r) (i := i) rfl
      cases ha : selN gtA (cN u.1 r) i with
      | none =>
        rw [ha] at hI
        obtain ⟨rfl, rfl⟩ := hI
        have hs : selN gtA (cN u.1 r) (i + 1) = some (i, cloN u.1 r i) := by rw [hs, ha]; rfl
        by_cases hz : cloN u.1 r i = 0
        · simp (disch := omega) only [lit_0, lit_1, lit_2, lit_3, lit_4, lit_5, lit_6, lit_7, lit_8, lit_9, lit_10, lit_11, lit_12, lit_13, lit_14, lit_15, lit_20, lit_24, lit_25, lit_37, lit_40, lit_43, lit_48, lit_49, lit_50, lit_60, lit_96, lit_98, lit_99, lit_100, lit_999, lit_62, lit_74, lit_86, lit_92, lit_99999, lit_100000, lit_16, lit_32767, lit_2147483639, J_add, J_mul, J_sub, J_tn, J_le, J_lt, J_eq, Nat.not_lt_zero, false_or, or_false, le_t, le_f, lt_t, lt_f, eq_f, ↓reduceIte, callK_eq, letB_eq, joinB_eq, Nat.add_assoc, hz]
          refine hrc _ _ ?_
          rw [hs]
          exact ⟨by show J 0 = J (cloN u.1 r i); rw [hz], by show -J 1 = if cloN u.1 r i = 0 then -J 1 else J i; rw [if_pos hz]⟩
        · simp (disch := omega) only [lit_0, lit_1, lit_2, lit_3, lit_4, lit_5, lit_6, lit_7, lit_8, lit_9, lit_10, lit_11, lit_12, lit_13, lit_14, lit_15, lit_20, lit_24, lit_25, lit_37, lit_40, lit_43, lit_48, lit_49, lit_50, lit_60, lit_96, lit_98, lit_99, lit_100, lit_999, lit_62, lit_74, lit_86, lit_92, lit_99999, lit_100000, lit_16, lit_32767, lit_2147483639, J_add, J_mul, J_sub, J_tn, J_le, J_lt, J_eq, Nat.not_lt_zero, false_or, or_false, le_t, le_f, lt_t, lt_f, eq_f, ↓reduceIte, callK_eq, letB_eq, joinB_eq, Nat.add_assoc]
          refine hrc _ _ ?_
          rw [hs]
          exact ⟨rfl, by show J i = if cloN u.1 r i = 0 then -J 1 else J i; rw [if_neg hz]⟩
      | some a =>
        rw [ha] at hI
        obtain ⟨rfl, rfl⟩ := hI
        have ha1 := cN_all (i := i) (show 0 < u.1 by omega) a ha
        by_cases hc : a.2 < cloN u.1 r i
        · simp (disch := omega) only [lit_0, lit_1, lit_2, lit_3, lit_4, lit_5, lit_6, lit_7, lit_8, lit_9, lit_10, lit_11, lit_12, lit_13, lit_14, lit_15, lit_20, lit_24, lit_25, lit_37, lit_40, lit_43, lit_48, lit_49, lit_50, lit_60, lit_96, lit_98, lit_99, lit_100, lit_999, lit_62, lit_74, lit_86, lit_92, lit_99999, lit_100000, lit_16, lit_32767, lit_2147483639, J_add, J_mul, J_sub, J_tn, J_le, J_lt, J_eq, Nat.not_lt_zero, false_or, or_false, le_t, le_f, lt_t, lt_f, eq_f, ↓reduceIte, callK_eq, letB_eq, joinB_eq, Nat.add_assoc]
          refine hrc _ _ ?_
          rw [hs, ha, if_pos (by unfold gtA; rw [decide_eq_true_eq]; exact hc)]
          exact ⟨rfl, by show J i = if cloN u.1 r i = 0 then -J 1 else J i; rw [if_neg (by omega)]⟩
        · simp (disch := omega) only [lit_0, lit_1, lit_2, lit_3, lit_4, lit_5, lit_6, lit_7, lit_8, lit_9, lit_10, lit_11, lit_12, lit_13, lit_14, lit_15, lit_20, lit_24, lit_25, lit_37, lit_40, lit_43, lit_48, lit_49, lit_50, lit_60, lit_96, lit_98, lit_99, lit_100, lit_999, lit_62, lit_74, lit_86, lit_92, lit_99999, lit_100000, lit_16, lit_32767, lit_2147483639, J_add, J_mul, J_sub, J_tn, J_le, J_lt, J_eq, Nat.not_lt_zero, false_or, or_false, le_t, le_f, lt_t, lt_f, eq_f, ↓reduceIte, callK_eq, letB_eq, joinB_eq, Nat.add_assoc]
          refine hrc _ _ ?_
          rw [hs, ha, if_neg (by unfold gtA; rw [decide_eq_true_eq]; exact hc)]
          exact ⟨rfl, rfl⟩
    · rintro m b hI rc
      have hq' : selN gtA (cN u.1 r) u.1 = some q := by
        have : selN gtA (cN u.1 r) (N + 1) = some q := hq
        rw [← hN] at this; exact this
      rw [hq'] at hI
      obtain ⟨rfl, rfl⟩ := hI
      unfold sM_closed_L23
      rcases (show x = 0 ∨ x = 1 by omega) with rfl | rfl
      · simp (disch := omega) only [lit_0, lit_1, lit_2, lit_3, lit_4, lit_5, lit_6, lit_7, lit_8, lit_9, lit_10, lit_11, lit_12, lit_13, lit_14, lit_15, lit_20, lit_24, lit_25, lit_37, lit_40, lit_43, lit_48, lit_49, lit_50, lit_60, lit_96, lit_98, lit_99, lit_100, lit_999, lit_62, lit_74, lit_86, lit_92, lit_99999, lit_100000, lit_16, lit_32767, lit_2147483639, J_add, J_mul, J_sub, J_tn, J_le, J_lt, J_eq, Nat.not_lt_zero, false_or, or_false, le_t, le_f, lt_t, lt_f, eq_f, ↓reduceIte, callK_eq, letB_eq, joinB_eq, Nat.add_assoc, hM]
        exact z_ev rfl
      · simp (disch := omega) only [lit_0, lit_1, lit_2, lit_3, lit_4, lit_5, lit_6, lit_7, lit_8, lit_9, lit_10, lit_11, lit_12, lit_13, lit_14, lit_15, lit_20, lit_24, lit_25, lit_37, lit_40, lit_43, lit_48, lit_49, lit_50, lit_60, lit_96, lit_98, lit_99, lit_100, lit_999, lit_62, lit_74, lit_86, lit_92, lit_99999, lit_100000, lit_16, lit_32767, lit_2147483639, J_add, J_mul, J_sub, J_tn, J_le, J_lt, J_eq, Nat.not_lt_zero, false_or, or_false, le_t, le_f, lt_t, lt_f, eq_f, ↓reduceIte, callK_eq, letB_eq, joinB_eq, Nat.add_assoc, hM]
        exact z_ev rfl
