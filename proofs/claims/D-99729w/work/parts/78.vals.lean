set_option maxRecDepth 100000
/-! THE PLAIN LAW, 7: values of a row, on both sides -/
theorem tH_open {S : US} {L n m : Nat} {r : Nat → Nat} (hn : S 1 2 = J n) (hn2 : n ≤ 12) (h : HRow S L r) (hR : ROk n m r) : s3_open S L = some (J (openN r n)) := by
  unfold s3_open
  refine loop_from (i0 := 0) (fun i => (J (openN r i), J i)) n (by omega) (fun i _ hi rc => ?_) (fun rc => ?_) FUEL (by unfold FUEL; omega)
  · unfold s3_open_L4
    have hv := hR.1 i (by omega)
    rw [tH_isOpen h (by omega) (by omega)]
    simp (disch := omega) only [lit_0, lit_1, lit_2, lit_3, lit_4, lit_5, lit_6, lit_7, lit_8, lit_9, lit_10, lit_11, lit_12, lit_13, lit_14, lit_15, lit_20, lit_24, lit_25, lit_37, lit_40, lit_43, lit_48, lit_49, lit_50, lit_60, lit_96, lit_98, lit_99, lit_100, lit_999, lit_62, lit_74, lit_86, lit_92, lit_99999, lit_100000, lit_16, lit_32767, lit_2147483639, J_add, J_mul, J_sub, J_tn, J_le, J_lt, J_eq, Nat.not_lt_zero, false_or, or_false, le_t, le_f, lt_t, lt_f, eq_f, ↓reduceIte, callK_eq, letB_eq, joinB_eq, Nat.add_assoc, hn, openN_s, J_shl, J_or]
    cases hg : gapN r i with
    | true => simp (disch := omega) only [lit_0, lit_1, lit_2, lit_3, lit_4, lit_5, lit_6, lit_7, lit_8, lit_9, lit_10, lit_11, lit_12, lit_13, lit_14, lit_15, lit_20, lit_24, lit_25, lit_37, lit_40, lit_43, lit_48, lit_49, lit_50, lit_60, lit_96, lit_98, lit_99, lit_100, lit_999, lit_62, lit_74, lit_86, lit_92, lit_99999, lit_100000, lit_16, lit_32767, lit_2147483639, J_add, J_mul, J_sub, J_tn, J_le, J_lt, J_eq, Nat.not_lt_zero, false_or, or_false, le_t, le_f, lt_t, lt_f, eq_f, ↓reduceIte, callK_eq, letB_eq, joinB_eq, Nat.add_assoc, bI_t]
    | false => simp only [bI_f, ↓reduceIte, Bool.false_eq_true, Nat.or_zero]
  · unfold s3_open_L4
    simp (disch := omega) only [lit_0, lit_1, lit_2, lit_3, lit_4, lit_5, lit_6, lit_7, lit_8, lit_9, lit_10, lit_11, lit_12, lit_13, lit_14, lit_15, lit_20, lit_24, lit_25, lit_37, lit_40, lit_43, lit_48, lit_49, lit_50, lit_60, lit_96, lit_98, lit_99, lit_100, lit_999, lit_62, lit_74, lit_86, lit_92, lit_99999, lit_100000, lit_16, lit_32767, lit_2147483639, J_add, J_mul, J_sub, J_tn, J_le, J_lt, J_eq, Nat.not_lt_zero, false_or, or_false, le_t, le_f, lt_t, lt_f, eq_f, ↓reduceIte, callK_eq, letB_eq, joinB_eq, Nat.add_assoc, hn]
theorem tM_openOnes {S : US} {b n m : Nat} {r : Nat → Nat} (hn : S 0 1 = J n) (hn2 : n ≤ 12) (hb : b ≤ 49) (h : MRow S b r) (hR : ROk n m r) : sM_openOnes S (J b) = some (J (openN r n)) := by
  unfold sM_openOnes
  refine loop_from (i0 := 0) (fun i => (J (openN r i), J i)) n (by omega) (fun i _ hi rc => ?_) (fun rc => ?_) FUEL (by unfold FUEL; omega)
  · unfold sM_openOnes_L4
    have hv := hR.1 i (by omega)
    rw [tM_isGap h hb (by omega) (by omega)]
    simp (disch := omega) only [lit_0, lit_1, lit_2, lit_3, lit_4, lit_5, lit_6, lit_7, lit_8, lit_9, lit_10, lit_11, lit_12, lit_13, lit_14, lit_15, lit_20, lit_24, lit_25, lit_37, lit_40, lit_43, lit_48, lit_49, lit_50, lit_60, lit_96, lit_98, lit_99, lit_100, lit_999, lit_62, lit_74, lit_86, lit_92, lit_99999, lit_100000, lit_16, lit_32767, lit_2147483639, J_add, J_mul, J_sub, J_tn, J_le, J_lt, J_eq, Nat.not_lt_zero, false_or, or_false, le_t, le_f, lt_t, lt_f, eq_f, ↓reduceIte, callK_eq, letB_eq, joinB_eq, Nat.add_assoc, hn, openN_s, J_shl, J_or]
    cases hg : gapN r i with
    | true => simp (disch := omega) only [lit_0, lit_1, lit_2, lit_3, lit_4, lit_5, lit_6, lit_7, lit_8, lit_9, lit_10, lit_11, lit_12, lit_13, lit_14, lit_15, lit_20, lit_24, lit_25, lit_37, lit_40, lit_43, lit_48, lit_49, lit_50, lit_60, lit_96, lit_98, lit_99, lit_100, lit_999, lit_62, lit_74, lit_86, lit_92, lit_99999, lit_100000, lit_16, lit_32767, lit_2147483639, J_add, J_mul, J_sub, J_tn, J_le, J_lt, J_eq, Nat.not_lt_zero, false_or, or_false, le_t, le_f, lt_t, lt_f, eq_f, ↓reduceIte, callK_eq, letB_eq, joinB_eq, Nat.add_assoc, bI_t]
    | false => simp only [bI_f, ↓reduceIte, Bool.false_eq_true]
  · unfold sM_openOnes_L4
    simp (disch := omega) only [lit_0, lit_1, lit_2, lit_3, lit_4, lit_5, lit_6, lit_7, lit_8, lit_9, lit_10, lit_11, lit_12, lit_13, lit_14, lit_15, lit_20, lit_24, lit_25, lit_37, lit_40, lit_43, lit_48, lit_49, lit_50, lit_60, lit_96, lit_98, lit_99, lit_100, lit_999, lit_62, lit_74, lit_86, lit_92, lit_99999, lit_100000, lit_16, lit_32767, lit_2147483639, J_add, J_mul, J_sub, J_tn, J_le, J_lt, J_eq, Nat.not_lt_zero, false_or, or_false, le_t, le_f, lt_t, lt_f, eq_f, ↓reduceIte, callK_eq, letB_eq, joinB_eq, Nat.add_assoc, hn]
theorem tH_openMany {S : US} {L n m : Nat} {r : Nat → Nat} (hn : S 1 2 = J n) (hn2 : n ≤ 12) (h : HRow S L r) (hR : ROk n m r) : s3_openMany S L = some (J (popN (openN r n) 12)) := by
  unfold s3_openMany
  have := openN_lt12 (r := r) hn2
  rw [tH_open hn hn2 h hR]
  simp (disch := omega) only [lit_0, lit_1, lit_2, lit_3, lit_4, lit_5, lit_6, lit_7, lit_8, lit_9, lit_10, lit_11, lit_12, lit_13, lit_14, lit_15, lit_20, lit_24, lit_25, lit_37, lit_40, lit_43, lit_48, lit_49, lit_50, lit_60, lit_96, lit_98, lit_99, lit_100, lit_999, lit_62, lit_74, lit_86, lit_92, lit_99999, lit_100000, lit_16, lit_32767, lit_2147483639, J_add, J_mul, J_sub, J_tn, J_le, J_lt, J_eq, Nat.not_lt_zero, false_or, or_false, le_t, le_f, lt_t, lt_f, eq_f, ↓reduceIte, callK_eq, letB_eq, joinB_eq, Nat.add_assoc, tN_bitCount]
theorem tH_allSeam {S : US} {L n m : Nat} {r : Nat → Nat} (hn : S 1 2 = J n) (hn2 : n ≤ 12) (h : HRow S L r) (hR : ROk n m r) : s3_allSeam S L = some (J (sumN r 13 n)) := by
  unfold s3_allSeam
  refine loop_from (i0 := 0) (fun i => (J (sumN r 13 i), J i)) n (by omega) (fun i _ hi rc => ?_) (fun rc => ?_) FUEL (by unfold FUEL; omega)
  · unfold s3_allSeam_L4
    have hv := (h.2.1 i (by omega)).2.1
    simp (disch := omega) only [lit_0, lit_1, lit_2, lit_3, lit_4, lit_5, lit_6, lit_7, lit_8, lit_9, lit_10, lit_11, lit_12, lit_13, lit_14, lit_15, lit_20, lit_24, lit_25, lit_37, lit_40, lit_43, lit_48, lit_49, lit_50, lit_60, lit_96, lit_98, lit_99, lit_100, lit_999, lit_62, lit_74, lit_86, lit_92, lit_99999, lit_100000, lit_16, lit_32767, lit_2147483639, J_add, J_mul, J_sub, J_tn, J_le, J_lt, J_eq, Nat.not_lt_zero, false_or, or_false, le_t, le_f, lt_t, lt_f, eq_f, ↓reduceIte, callK_eq, letB_eq, joinB_eq, Nat.add_assoc, hn, hv, sumN_s]
  · unfold s3_allSeam_L4
    simp (disch := omega) only [lit_0, lit_1, lit_2, lit_3, lit_4, lit_5, lit_6, lit_7, lit_8, lit_9, lit_10, lit_11, lit_12, lit_13, lit_14, lit_15, lit_20, lit_24, lit_25, lit_37, lit_40, lit_43, lit_48, lit_49, lit_50, lit_60, lit_96, lit_98, lit_99, lit_100, lit_999, lit_62, lit_74, lit_86, lit_92, lit_99999, lit_100000, lit_16, lit_32767, lit_2147483639, J_add, J_mul, J_sub, J_tn, J_le, J_lt, J_eq, Nat.not_lt_zero, false_or, or_false, le_t, le_f, lt_t, lt_f, eq_f, ↓reduceIte, callK_eq, letB_eq, joinB_eq, Nat.add_assoc, hn]
theorem tH_allThread {ct : CT} {P : Nat → Nat → Option Nat} {h : AH} {S0 S : US} {u : RU} {L : Nat} {r : Nat → Nat} (hu : RulH ct P h S0 u) (ho : RuOk u) (H : HRow S L r) (hR : ROk u.1 u.2.1 r) : s3_allThread S P h L = some (J (sumN r 43 u.2.1)) := by
  have hm := ho.2.2.1
  unfold s3_allThread
  refine loop_from (i0 := 0) (fun i => (J (sumN r 43 i), J i)) u.2.1 (by omega) (fun i _ hi rc => ?_) (fun rc => ?_) FUEL (by unfold FUEL; omega)
  · unfold s3_allThread_L4
    have hv := (H.2.2 i (by omega)).2
    rw [tH_women hu]
    simp (disch := omega) only [lit_0, lit_1, lit_2, lit_3, lit_4, lit_5, lit_6, lit_7, lit_8, lit_9, lit_10, lit_11, lit_12, lit_13, lit_14, lit_15, lit_20, lit_24, lit_25, lit_37, lit_40, lit_43, lit_48, lit_49, lit_50, lit_60, lit_96, lit_98, lit_99, lit_100, lit_999, lit_62, lit_74, lit_86, lit_92, lit_99999, lit_100000, lit_16, lit_32767, lit_2147483639, J_add, J_mul, J_sub, J_tn, J_le, J_lt, J_eq, Nat.not_lt_zero, false_or, or_false, le_t, le_f, lt_t, lt_f, eq_f, ↓reduceIte, callK_eq, letB_eq, joinB_eq, Nat.add_assoc, hv, sumN_s]
  · unfold s3_allThread_L4
    rw [tH_women hu]
    simp (disch := omega) only [lit_0, lit_1, lit_2, lit_3, lit_4, lit_5, lit_6, lit_7, lit_8, lit_9, lit_10, lit_11, lit_12, lit_13, lit_14, lit_15, lit_20, lit_24, lit_25, lit_37, lit_40, lit_43, lit_48, lit_49, lit_50, lit_60, lit_96, lit_98, lit_99, lit_100, lit_999, lit_62, lit_74, lit_86, lit_92, lit_99999, lit_100000, lit_16, lit_32767, lit_2147483639, J_add, J_mul, J_sub, J_tn, J_le, J_lt, J_eq, Nat.not_lt_zero, false_or, or_false, le_t, le_f, lt_t, lt_f, eq_f, ↓reduceIte, callK_eq, letB_eq, joinB_eq, Nat.add_assoc]
theorem tM_sumOf {S : US} {b c n : Nat} {r : Nat → Nat} (hb : b ≤ 49) (h : MRow S b r) (hc : c + n ≤ 49) : sM_sumOf S (J b) (J c) (J n) = some (J (sumN r c n)) := by
  unfold sM_sumOf
  refine loop_from (i0 := 0) (fun i => (J (sumN r c i), J i)) n (by omega) (fun i _ hi rc => ?_) (fun rc => ?_) FUEL (by unfold FUEL; omega)
  · unfold sM_sumOf_L6
    have hv := h (c + i) (by omega)
    simp (disch := omega) only [lit_0, lit_1, lit_2, lit_3, lit_4, lit_5, lit_6, lit_7, lit_8, lit_9, lit_10, lit_11, lit_12, lit_13, lit_14, lit_15, lit_20, lit_24, lit_25, lit_37, lit_40, lit_43, lit_48, lit_49, lit_50, lit_60, lit_96, lit_98, lit_99, lit_100, lit_999, lit_62, lit_74, lit_86, lit_92, lit_99999, lit_100000, lit_16, lit_32767, lit_2147483639, J_add, J_mul, J_sub, J_tn, J_le, J_lt, J_eq, Nat.not_lt_zero, false_or, or_false, le_t, le_f, lt_t, lt_f, eq_f, ↓reduceIte, callK_eq, letB_eq, joinB_eq, Nat.add_assoc, hv, sumN_s]
  · unfold sM_sumOf_L6
    simp (disch := omega) only [lit_0, lit_1, lit_2, lit_3, lit_4, lit_5, lit_6, lit_7, lit_8, lit_9, lit_10, lit_11, lit_12, lit_13, lit_14, lit_15, lit_20, lit_24, lit_25, lit_37, lit_40, lit_43, lit_48, lit_49, lit_50, lit_60, lit_96, lit_98, lit_99, lit_100, lit_999, lit_62, lit_74, lit_86, lit_92, lit_99999, lit_100000, lit_16, lit_32767, lit_2147483639, J_add, J_mul, J_sub, J_tn, J_le, J_lt, J_eq, Nat.not_lt_zero, false_or, or_false, le_t, le_f, lt_t, lt_f, eq_f, ↓reduceIte, callK_eq, letB_eq, joinB_eq, Nat.add_assoc]
theorem extN_s {r : Nat → Nat} {most : Bool} {k : Nat} : extN r most (k + 1) = if (if most = true then r (1 + (k + 1)) ≤ r (1 + extN r most k) else r (1 + extN r most k) ≤ r (1 + (k + 1))) then extN r most k else k + 1 := rfl
theorem tH_tightest {S : US} {L n m : Nat} {r : Nat → Nat} (hn : S 1 2 = J n) (h0 : 0 < n) (hn2 : n ≤ 12) (h : HRow S L r) (hR : ROk n m r) : s3_tightest S L = some (J (extN r true (n - 1))) := by
  unfold s3_tightest
  refine loop_from (i0 := 1) (fun i => (J (extN r true (i - 1)), J i)) n (by omega) (fun i h1 hi rc => ?_) (fun rc => ?_) FUEL (by unfold FUEL; omega)
  · obtain ⟨k, rfl⟩ : ∃ k, i = k + 1 := ⟨i - 1, by omega⟩
    show s3_tightest_L4 L S rc (J (extN r true k)) (J (k + 1)) = rc (J (extN r true (k + 1)), J (k + 1 + 1))
    unfold s3_tightest_L4
    have hb := extN_le r true k
    have hv := (h.2.1 (k + 1) (by omega)).1
    have hw := (h.2.1 (extN r true k) (by omega)).1
    have b1 := (hR.1 (k + 1) (by omega)).1
    have b2 := (hR.1 (extN r true k) (by omega)).1
    simp (disch := omega) only [lit_0, lit_1, lit_2, lit_3, lit_4, lit_5, lit_6, lit_7, lit_8, lit_9, lit_10, lit_11, lit_12, lit_13, lit_14, lit_15, lit_20, lit_24, lit_25, lit_37, lit_40, lit_43, lit_48, lit_49, lit_50, lit_60, lit_96, lit_98, lit_99, lit_100, lit_999, lit_62, lit_74, lit_86, lit_92, lit_99999, lit_100000, lit_16, lit_32767, lit_2147483639, J_add, J_mul, J_sub, J_tn, J_le, J_lt, J_eq, Nat.not_lt_zero, false_or, or_false, le_t, le_f, lt_t, lt_f, eq_f, ↓reduceIte, callK_eq, letB_eq, joinB_eq, Nat.add_assoc, hn, hv, hw, extN_s]
    by_cases c : r (1 + (k + 1)) ≤ r (1 + extN r true k) <;> simp only [c, ↓reduceIte, Nat.add_assoc]
  · unfold s3_tightest_L4
    simp (disch := omega) only [lit_0, lit_1, lit_2, lit_3, lit_4, lit_5, lit_6, lit_7, lit_8, lit_9, lit_10, lit_11, lit_12, lit_13, lit_14, lit_15, lit_20, lit_24, lit_25, lit_37, lit_40, lit_43, lit_48, lit_49, lit_50, lit_60, lit_96, lit_98, lit_99, lit_100, lit_999, lit_62, lit_74, lit_86, lit_92, lit_99999, lit_100000, lit_16, lit_32767, lit_2147483639, J_add, J_mul, J_sub, J_tn, J_le, J_lt, J_eq, Nat.not_lt_zero, false_or, or_false, le_t, le_f, lt_t, lt_f, eq_f, ↓reduceIte, callK_eq, letB_eq, joinB_eq, Nat.add_assoc, hn]
theorem tH_loosest {S : US} {L n m : Nat} {r : Nat → Nat} (hn : S 1 2 = J n) (h0 : 0 < n) (hn2 : n ≤ 12) (h : HRow S L r) (hR : ROk n m r) : s3_loosest S L = some (J (extN r false (n - 1))) := by
  unfold s3_loosest
  refine loop_from (i0 := 1) (fun i => (J (extN r false (i - 1)), J i)) n (by omega) (fun i h1 hi rc => ?_) (fun rc => ?_) FUEL (by unfold FUEL; omega)
  · obtain ⟨k, rfl⟩ : ∃ k, i = k + 1 := ⟨i - 1, by omega⟩
    show s3_loosest_L4 L S rc (J (extN r false k)) (J (k + 1)) = rc (J (extN r false (k + 1)), J (k + 1 + 1))
    unfold s3_loosest_L4
    have hb := extN_le r false k
    have hv := (h.2.1 (k + 1) (by omega)).1
    have hw := (h.2.1 (extN r false k) (by omega)).1
    have b1 := (hR.1 (k + 1) (by omega)).1
    have b2 := (hR.1 (extN r false k) (by omega)).1
    simp (disch := omega) only [lit_0, lit_1, lit_2, lit_3, lit_4, lit_5, lit_6, lit_7, lit_8, lit_9, lit_10, lit_11, lit_12, lit_13, lit_14, lit_15, lit_20, lit_24, lit_25, lit_37, lit_40, lit_43, lit_48, lit_49, lit_50, lit_60, lit_96, lit_98, lit_99, lit_100, lit_999, lit_62, lit_74, lit_86, lit_92, lit_99999, lit_100000, lit_16, lit_32767, lit_2147483639, J_add, J_mul, J_sub, J_tn, J_le, J_lt, J_eq, Nat.not_lt_zero, false_or, or_false, le_t, le_f, lt_t, lt_f, eq_f, ↓reduceIte, callK_eq, letB_eq, joinB_eq, Nat.add_assoc, hn, hv, hw, extN_s, Bool.false_eq_true]
    by_cases c : r (1 + extN r false k) ≤ r (1 + (k + 1)) <;> simp only [c, ↓reduceIte, Nat.add_assoc]
  · unfold s3_loosest_L4
    simp (disch := omega) only [lit_0, lit_1, lit_2, lit_3, lit_4, lit_5, lit_6, lit_7, lit_8, lit_9, lit_10, lit_11, lit_12, lit_13, lit_14, lit_15, lit_20, lit_24, lit_25, lit_37, lit_40, lit_43, lit_48, lit_49, lit_50, lit_60, lit_96, lit_98, lit_99, lit_100, lit_999, lit_62, lit_74, lit_86, lit_92, lit_99999, lit_100000, lit_16, lit_32767, lit_2147483639, J_add, J_mul, J_sub, J_tn, J_le, J_lt, J_eq, Nat.not_lt_zero, false_or, or_false, le_t, le_f, lt_t, lt_f, eq_f, ↓reduceIte, callK_eq, letB_eq, joinB_eq, Nat.add_assoc, hn]
theorem tM_extreme {S : US} {b n m : Nat} {r : Nat → Nat} {most : Bool} (hb : b ≤ 49) (hn : S 0 1 = J n) (h0 : 0 < n) (hn2 : n ≤ 12) (h : MRow S b r) (hR : ROk n m r) : sM_extreme S (J b) (bI most) = some (J (extN r most (n - 1))) := by
  unfold sM_extreme
  refine loop_from (i0 := 1) (fun i => (J (extN r most (i - 1)), J i)) n (by omega) (fun i h1 hi rc => ?_) (fun rc => ?_) FUEL (by unfold FUEL; omega)
  · obtain ⟨k, rfl⟩ : ∃ k, i = k + 1 := ⟨i - 1, by omega⟩
    show sM_extreme_L5 (J b) (bI most) S rc (J (extN r most k)) (J (k + 1)) = rc (J (extN r most (k + 1)), J (k + 1 + 1))
    unfold sM_extreme_L5
    have hb := extN_le r most k
    have hv := h (1 + (k + 1)) (by omega)
    have hw := h (1 + extN r most k) (by omega)
    have b1 := (hR.1 (k + 1) (by omega)).1
    have b2 := (hR.1 (extN r most k) (by omega)).1
    cases most with
    | true =>
      simp (disch := omega) only [lit_0, lit_1, lit_2, lit_3, lit_4, lit_5, lit_6, lit_7, lit_8, lit_9, lit_10, lit_11, lit_12, lit_13, lit_14, lit_15, lit_20, lit_24, lit_25, lit_37, lit_40, lit_43, lit_48, lit_49, lit_50, lit_60, lit_96, lit_98, lit_99, lit_100, lit_999, lit_62, lit_74, lit_86, lit_92, lit_99999, lit_100000, lit_16, lit_32767, lit_2147483639, J_add, J_mul, J_sub, J_tn, J_le, J_lt, J_eq, Nat.not_lt_zero, false_or, or_false, le_t, le_f, lt_t, lt_f, eq_f, ↓reduceIte, callK_eq, letB_eq, joinB_eq, Nat.add_assoc, hn, hv, hw, extN_s, bI_t]
      by_cases c : r (1 + (k + 1)) ≤ r (1 + extN r true k) <;> simp only [c, ↓reduceIte, Nat.add_assoc]
    | false =>
      simp (disch := omega) only [lit_0, lit_1, lit_2, lit_3, lit_4, lit_5, lit_6, lit_7, lit_8, lit_9, lit_10, lit_11, lit_12, lit_13, lit_14, lit_15, lit_20, lit_24, lit_25, lit_37, lit_40, lit_43, lit_48, lit_49, lit_50, lit_60, lit_96, lit_98, lit_99, lit_100, lit_999, lit_62, lit_74, lit_86, lit_92, lit_99999, lit_100000, lit_16, lit_32767, lit_2147483639, J_add, J_mul, J_sub, J_tn, J_le, J_lt, J_eq, Nat.not_lt_zero, false_or, or_false, le_t, le_f, lt_t, lt_f, eq_f, ↓reduceIte, callK_eq, letB_eq, joinB_eq, Nat.add_assoc, hn, hv, hw, extN_s, bI_f, Bool.false_eq_true]
      by_cases c : r (1 + extN r false k) ≤ r (1 + (k + 1)) <;> simp only [c, ↓reduceIte, Nat.add_assoc]
  · unfold sM_extreme_L5
    simp (disch := omega) only [lit_0, lit_1, lit_2, lit_3, lit_4, lit_5, lit_6, lit_7, lit_8, lit_9, lit_10, lit_11, lit_12, lit_13, lit_14, lit_15, lit_20, lit_24, lit_25, lit_37, lit_40, lit_43, lit_48, lit_49, lit_50, lit_60, lit_96, lit_98, lit_99, lit_100, lit_999, lit_62, lit_74, lit_86, lit_92, lit_99999, lit_100000, lit_16, lit_32767, lit_2147483639, J_add, J_mul, J_sub, J_tn, J_le, J_lt, J_eq, Nat.not_lt_zero, false_or, or_false, le_t, le_f, lt_t, lt_f, eq_f, ↓reduceIte, callK_eq, letB_eq, joinB_eq, Nat.add_assoc, hn]
/-! arguments within bounds -/
def inN (p : Int32) (a b : Nat) : Bool := decide (J a ≤ p) && decide (p ≤ J b)
theorem J_of {p : Int32} {a b : Nat} (ha : a < 2147483648) (hb : b < 2147483648) (h : inN p a b = true) : ∃ k, a ≤ k ∧ k ≤ b ∧ p = J k := by
  unfold inN at h
  rw [Bool.and_eq_true, decide_eq_true_eq, decide_eq_true_eq, Int32.le_iff_toInt_le, Int32.le_iff_toInt_le, J_ti ha, J_ti hb] at h
  have h0 : 0 ≤ p := by rw [Int32.le_iff_toInt_le, show (0 : Int32).toInt = 0 from rfl]; omega
  have h1 : p.toNatClampNeg = p.toInt.toNat := (Int32.toNat_toInt p).symm
  exact ⟨p.toNatClampNeg, by omega, by omega, (Int32.ofNat_toNatClampNeg p h0).symm⟩
theorem inN_J {k a b : Nat} (hk : k < 2147483648) (ha : a < 2147483648) (hb : b < 2147483648) : inN (J k) a b = (decide (a ≤ k) && decide (k ≤ b)) := by
  unfold inN
  simp only [J_le ha hk, J_le hk hb]
theorem tH_in {p : Int32} {a b : Nat} : s1_in p (J a) (J b) = some (inN p a b) := by
  unfold s1_in inN
  have h1 : (J a ≤ p) = ¬ (p < J a) := propext Int32.not_lt.symm
  have h2 : (p ≤ J b) = ¬ (J b < p) := propext Int32.not_lt.symm
  simp only [h1, h2]
  by_cases c : p < J a <;> by_cases d : J b < p <;> simp [c, d]
theorem tM_within {p : Int32} {a b : Nat} : sM_within p (J a) (J b) = some (inN p a b) := by
  unfold sM_within inN
  have h1 : (J a ≤ p) = ¬ (p < J a) := propext Int32.not_lt.symm
  have h2 : (p ≤ J b) = ¬ (J b < p) := propext Int32.not_lt.symm
  simp only [h1, h2]
  by_cases c : p < J a <;> by_cases d : J b < p <;> simp [c, d]
theorem tM_right {S : US} {c : Bool} {k : Nat} (h0 : S 0 0 = J 0) (hk : k = 1 ∨ k = 2) : sM_right S (bI c) (J k) = some (if c = true then (true, S) else (false, u2 S 0 0 (J k))) := by
  unfold sM_right
  cases c with
  | true =>
    simp (disch := omega) only [lit_0, lit_1, lit_2, lit_3, lit_4, lit_5, lit_6, lit_7, lit_8, lit_9, lit_10, lit_11, lit_12, lit_13, lit_14, lit_15, lit_20, lit_24, lit_25, lit_37, lit_40, lit_43, lit_48, lit_49, lit_50, lit_60, lit_96, lit_98, lit_99, lit_100, lit_999, lit_62, lit_74, lit_86, lit_92, lit_99999, lit_100000, lit_16, lit_32767, lit_2147483639, J_add, J_mul, J_sub, J_tn, J_le, J_lt, J_eq, Nat.not_lt_zero, false_or, or_false, le_t, le_f, lt_t, lt_f, eq_f, ↓reduceIte, callK_eq, letB_eq, joinB_eq, Nat.add_assoc, h0, bI_t]
    unfold sM_right_J16
    simp (disch := omega) only [lit_0, lit_1, lit_2, lit_3, lit_4, lit_5, lit_6, lit_7, lit_8, lit_9, lit_10, lit_11, lit_12, lit_13, lit_14, lit_15, lit_20, lit_24, lit_25, lit_37, lit_40, lit_43, lit_48, lit_49, lit_50, lit_60, lit_96, lit_98, lit_99, lit_100, lit_999, lit_62, lit_74, lit_86, lit_92, lit_99999, lit_100000, lit_16, lit_32767, lit_2147483639, J_add, J_mul, J_sub, J_tn, J_le, J_lt, J_eq, Nat.not_lt_zero, false_or, or_false, le_t, le_f, lt_t, lt_f, eq_f, ↓reduceIte, callK_eq, letB_eq, joinB_eq, Nat.add_assoc, h0]
  | false =>
    simp (disch := omega) only [lit_0, lit_1, lit_2, lit_3, lit_4, lit_5, lit_6, lit_7, lit_8, lit_9, lit_10, lit_11, lit_12, lit_13, lit_14, lit_15, lit_20, lit_24, lit_25, lit_37, lit_40, lit_43, lit_48, lit_49, lit_50, lit_60, lit_96, lit_98, lit_99, lit_100, lit_999, lit_62, lit_74, lit_86, lit_92, lit_99999, lit_100000, lit_16, lit_32767, lit_2147483639, J_add, J_mul, J_sub, J_tn, J_le, J_lt, J_eq, Nat.not_lt_zero, false_or, or_false, le_t, le_f, lt_t, lt_f, eq_f, ↓reduceIte, callK_eq, letB_eq, joinB_eq, Nat.add_assoc, h0, bI_f]
    unfold sM_right_J16
    rcases hk with rfl | rfl <;> simp (disch := omega) only [lit_0, lit_1, lit_2, lit_3, lit_4, lit_5, lit_6, lit_7, lit_8, lit_9, lit_10, lit_11, lit_12, lit_13, lit_14, lit_15, lit_20, lit_24, lit_25, lit_37, lit_40, lit_43, lit_48, lit_49, lit_50, lit_60, lit_96, lit_98, lit_99, lit_100, lit_999, lit_62, lit_74, lit_86, lit_92, lit_99999, lit_100000, lit_16, lit_32767, lit_2147483639, J_add, J_mul, J_sub, J_tn, J_le, J_lt, J_eq, Nat.not_lt_zero, false_or, or_false, le_t, le_f, lt_t, lt_f, eq_f, ↓reduceIte, callK_eq, letB_eq, joinB_eq, Nat.add_assoc, u2_at, Bool.false_eq_true]
theorem tM_isStretch {S : US} {n : Nat} {p : Int32} (h0 : S 0 0 = J 0) (hn : S 0 1 = J n) (h1 : 0 < n) (hn2 : n ≤ 12) : sM_isStretch S p = some (if inN p 0 (n - 1) = true then (true, S) else (false, u2 S 0 0 (J 1))) := by
  have hT := tM_right (c := true) (k := 1) h0 (Or.inl rfl)
  have hF := tM_right (c := false) (k := 1) h0 (Or.inl rfl)
  rw [bI_t] at hT
  rw [bI_f] at hF
  unfold sM_isStretch
  cases c : inN p 0 (n - 1) with
  | true =>
    obtain ⟨k, -, hk, rfl⟩ := J_of (by omega) (by omega) c
    simp (disch := omega) only [lit_0, lit_1, lit_2, lit_3, lit_4, lit_5, lit_6, lit_7, lit_8, lit_9, lit_10, lit_11, lit_12, lit_13, lit_14, lit_15, lit_20, lit_24, lit_25, lit_37, lit_40, lit_43, lit_48, lit_49, lit_50, lit_60, lit_96, lit_98, lit_99, lit_100, lit_999, lit_62, lit_74, lit_86, lit_92, lit_99999, lit_100000, lit_16, lit_32767, lit_2147483639, J_add, J_mul, J_sub, J_tn, J_le, J_lt, J_eq, Nat.not_lt_zero, false_or, or_false, le_t, le_f, lt_t, lt_f, eq_f, ↓reduceIte, callK_eq, letB_eq, joinB_eq, Nat.add_assoc, hn, hT]
  | false =>
    unfold inN at c
    by_cases d : p < J 0
    · simp (disch := omega) only [lit_0, lit_1, lit_2, lit_3, lit_4, lit_5, lit_6, lit_7, lit_8, lit_9, lit_10, lit_11, lit_12, lit_13, lit_14, lit_15, lit_20, lit_24, lit_25, lit_37, lit_40, lit_43, lit_48, lit_49, lit_50, lit_60, lit_96, lit_98, lit_99, lit_100, lit_999, lit_62, lit_74, lit_86, lit_92, lit_99999, lit_100000, lit_16, lit_32767, lit_2147483639, J_add, J_mul, J_sub, J_tn, J_le, J_lt, J_eq, Nat.not_lt_zero, false_or, or_false, le_t, le_f, lt_t, lt_f, eq_f, ↓reduceIte, callK_eq, letB_eq, joinB_eq, Nat.add_assoc, hn, hF, d, Bool.false_eq_true]
    · have e : J n ≤ p := by
        have h2 : J 0 ≤ p := Int32.not_lt.mp d
        rw [decide_eq_true h2, Bool.true_and, decide_eq_false_iff_not] at c
        rw [Int32.le_iff_toInt_le, J_ti (by omega)] at c ⊢
        omega
      simp (disch := omega) only [lit_0, lit_1, lit_2, lit_3, lit_4, lit_5, lit_6, lit_7, lit_8, lit_9, lit_10, lit_11, lit_12, lit_13, lit_14, lit_15, lit_20, lit_24, lit_25, lit_37, lit_40, lit_43, lit_48, lit_49, lit_50, lit_60, lit_96, lit_98, lit_99, lit_100, lit_999, lit_62, lit_74, lit_86, lit_92, lit_99999, lit_100000, lit_16, lit_32767, lit_2147483639, J_add, J_mul, J_sub, J_tn, J_le, J_lt, J_eq, Nat.not_lt_zero, false_or, or_false, le_t, le_f, lt_t, lt_f, eq_f, ↓reduceIte, callK_eq, letB_eq, joinB_eq, Nat.add_assoc, hn, hF, d, e, Bool.false_eq_true]
theorem tM_isWoman {S : US} {n : Nat} {p : Int32} (h0 : S 0 0 = J 0) (hn : S 0 2 = J n) (hn2 : n ≤ 6) : sM_isWoman S p = some (if (decide (0 < n) && inN p 0 (n - 1)) = true then (true, S) else (false, u2 S 0 0 (J 1))) := by
  have hT := tM_right (c := true) (k := 1) h0 (Or.inl rfl)
  have hF := tM_right (c := false) (k := 1) h0 (Or.inl rfl)
  rw [bI_t] at hT
  rw [bI_f] at hF
  unfold sM_isWoman
  cases c : (decide (0 < n) && inN p 0 (n - 1)) with
  | true =>
    rw [Bool.and_eq_true, decide_eq_true_eq] at c
    obtain ⟨c0, c⟩ := c
    obtain ⟨k, -, hk, rfl⟩ := J_of (by omega) (by omega) c
    simp (disch := omega) only [lit_0, lit_1, lit_2, lit_3, lit_4, lit_5, lit_6, lit_7, lit_8, lit_9, lit_10, lit_11, lit_12, lit_13, lit_14, lit_15, lit_20, lit_24, lit_25, lit_37, lit_40, lit_43, lit_48, lit_49, lit_50, lit_60, lit_96, lit_98, lit_99, lit_100, lit_999, lit_62, lit_74, lit_86, lit_92, lit_99999, lit_100000, lit_16, lit_32767, lit_2147483639, J_add, J_mul, J_sub, J_tn, J_le, J_lt, J_eq, Nat.not_lt_zero, false_or, or_false, le_t, le_f, lt_t, lt_f, eq_f, ↓reduceIte, callK_eq, letB_eq, joinB_eq, Nat.add_assoc, hn, hT]
  | false =>
    unfold inN at c
    by_cases d : p < J 0
    · simp (disch := omega) only [lit_0, lit_1, lit_2, lit_3, lit_4, lit_5, lit_6, lit_7, lit_8, lit_9, lit_10, lit_11, lit_12, lit_13, lit_14, lit_15, lit_20, lit_24, lit_25, lit_37, lit_40, lit_43, lit_48, lit_49, lit_50, lit_60, lit_96, lit_98, lit_99, lit_100, lit_999, lit_62, lit_74, lit_86, lit_92, lit_99999, lit_100000, lit_16, lit_32767, lit_2147483639, J_add, J_mul, J_sub, J_tn, J_le, J_lt, J_eq, Nat.not_lt_zero, false_or, or_false, le_t, le_f, lt_t, lt_f, eq_f, ↓reduceIte, callK_eq, letB_eq, joinB_eq, Nat.add_assoc, hn, hF, d, Bool.false_eq_true]
    · have e : J n ≤ p := by
        have h2 : J 0 ≤ p := Int32.not_lt.mp d
        by_cases z : 0 < n
        · rw [decide_eq_true z, Bool.true_and, decide_eq_true h2, Bool.true_and, decide_eq_false_iff_not] at c
          rw [Int32.le_iff_toInt_le, J_ti (by omega)] at c ⊢
          omega
        · rw [show n = 0 by omega]; exact h2
      simp (disch := omega) only [lit_0, lit_1, lit_2, lit_3, lit_4, lit_5, lit_6, lit_7, lit_8, lit_9, lit_10, lit_11, lit_12, lit_13, lit_14, lit_15, lit_20, lit_24, lit_25, lit_37, lit_40, lit_43, lit_48, lit_49, lit_50, lit_60, lit_96, lit_98, lit_99, lit_100, lit_999, lit_62, lit_74, lit_86, lit_92, lit_99999, lit_100000, lit_16, lit_32767, lit_2147483639, J_add, J_mul, J_sub, J_tn, J_le, J_lt, J_eq, Nat.not_lt_zero, false_or, or_false, le_t, le_f, lt_t, lt_f, eq_f, ↓reduceIte, callK_eq, letB_eq, joinB_eq, Nat.add_assoc, hn, hF, d, e, Bool.false_eq_true]
theorem tM_isWhat {S : US} {b : Nat} {p : Int32} (h0 : S 0 0 = J 0) : sM_isWhat S p (J b) = some (if inN p 0 b = true then (true, S) else (false, u2 S 0 0 (J 1))) := by
  have h := tM_right (c := inN p 0 b) (k := 1) h0 (Or.inl rfl)
  have e := tM_within (p := p) (a := 0) (b := b)
  unfold sM_isWhat
  simp (disch := omega) only [lit_0, lit_1, lit_2, lit_3, lit_4, lit_5, lit_6, lit_7, lit_8, lit_9, lit_10, lit_11, lit_12, lit_13, lit_14, lit_15, lit_20, lit_24, lit_25, lit_37, lit_40, lit_43, lit_48, lit_49, lit_50, lit_60, lit_96, lit_98, lit_99, lit_100, lit_999, lit_62, lit_74, lit_86, lit_92, lit_99999, lit_100000, lit_16, lit_32767, lit_2147483639, J_add, J_mul, J_sub, J_tn, J_le, J_lt, J_eq, Nat.not_lt_zero, false_or, or_false, le_t, le_f, lt_t, lt_f, eq_f, ↓reduceIte, callK_eq, letB_eq, joinB_eq, Nat.add_assoc, e, h]
theorem tM_isDays {S : US} {a k : Nat} {p : Int32} (h0 : S 0 0 = J 0) (hk : k = 1 ∨ k = 2) : sM_isDays S p (J a) (J k) = some (if inN p a 60 = true then (true, S) else (false, u2 S 0 0 (J k))) := by
  have h := tM_right (c := inN p a 60) (k := k) h0 hk
  have e := tM_within (p := p) (a := a) (b := 60)
  unfold sM_isDays
  simp (disch := omega) only [lit_0, lit_1, lit_2, lit_3, lit_4, lit_5, lit_6, lit_7, lit_8, lit_9, lit_10, lit_11, lit_12, lit_13, lit_14, lit_15, lit_20, lit_24, lit_25, lit_37, lit_40, lit_43, lit_48, lit_49, lit_50, lit_60, lit_96, lit_98, lit_99, lit_100, lit_999, lit_62, lit_74, lit_86, lit_92, lit_99999, lit_100000, lit_16, lit_32767, lit_2147483639, J_add, J_mul, J_sub, J_tn, J_le, J_lt, J_eq, Nat.not_lt_zero, false_or, or_false, le_t, le_f, lt_t, lt_f, eq_f, ↓reduceIte, callK_eq, letB_eq, joinB_eq, Nat.add_assoc, e, h]
theorem tH_found {c : Bool} : t1_found (bI c) = (if c = true then none else some (J 1)) ∧ s1_found (bI c) = (if c = true then some () else none) := by
  cases c <;> exact ⟨rfl, rfl⟩
theorem tH_right {c : Bool} : t1_right (bI c) = (if c = true then none else some (J 2)) ∧ s1_right (bI c) = (if c = true then some () else none) := by
  cases c <;> exact ⟨rfl, rfl⟩
theorem callK_none {α β : Type} {k : α → Option β} : callK (none : Option α) k = none := asEq rfl
theorem tB_n {ρ : Type} {b : Option ρ} : tB none b = b := asEq rfl
theorem tB_s {ρ : Type} {x : ρ} {b : Option ρ} : tB (some x) b = some x := asEq rfl
theorem tH_aStretch {ct : CT} {P : Nat → Nat → Option Nat} {h : AH} {S : US} {n : Nat} {p : Int32} (hn : S 1 2 = J n) (h1 : 0 < n) : t1_aStretch S ct P h p = (if inN p 0 (n - 1) = true then none else some (J 1)) ∧ s1_aStretch S p = (if inN p 0 (n - 1) = true then some () else none) := by
  have e := tH_in (p := p) (a := 0) (b := n - 1)
  have f := tH_found (c := inN p 0 (n - 1))
  unfold t1_aStretch s1_aStretch
  simp (disch := omega) only [lit_0, lit_1, lit_2, lit_3, lit_4, lit_5, lit_6, lit_7, lit_8, lit_9, lit_10, lit_11, lit_12, lit_13, lit_14, lit_15, lit_20, lit_24, lit_25, lit_37, lit_40, lit_43, lit_48, lit_49, lit_50, lit_60, lit_96, lit_98, lit_99, lit_100, lit_999, lit_62, lit_74, lit_86, lit_92, lit_99999, lit_100000, lit_16, lit_32767, lit_2147483639, J_add, J_mul, J_sub, J_tn, J_le, J_lt, J_eq, Nat.not_lt_zero, false_or, or_false, le_t, le_f, lt_t, lt_f, eq_f, ↓reduceIte, callK_eq, letB_eq, joinB_eq, Nat.add_assoc, hn, e, f.1, f.2]
  cases inN p 0 (n - 1) <;> exact ⟨trivial, rfl⟩
theorem tH_oneOf {b : Nat} {p : Int32} : t1_oneOf p (J b) = (if inN p 0 b = true then none else some (J 1)) ∧ s1_oneOf p (J b) = (if inN p 0 b = true then some () else none) := by
  have e := tH_in (p := p) (a := 0) (b := b)
  have f := tH_found (c := inN p 0 b)
  unfold t1_oneOf s1_oneOf
  simp (disch := omega) only [lit_0, lit_1, lit_2, lit_3, lit_4, lit_5, lit_6, lit_7, lit_8, lit_9, lit_10, lit_11, lit_12, lit_13, lit_14, lit_15, lit_20, lit_24, lit_25, lit_37, lit_40, lit_43, lit_48, lit_49, lit_50, lit_60, lit_96, lit_98, lit_99, lit_100, lit_999, lit_62, lit_74, lit_86, lit_92, lit_99999, lit_100000, lit_16, lit_32767, lit_2147483639, J_add, J_mul, J_sub, J_tn, J_le, J_lt, J_eq, Nat.not_lt_zero, false_or, or_false, le_t, le_f, lt_t, lt_f, eq_f, ↓reduceIte, callK_eq, letB_eq, joinB_eq, Nat.add_assoc, e, f.1, f.2]
  cases inN p 0 b <;> exact ⟨trivial, rfl⟩
theorem tH_aWoman {ct : CT} {P : Nat → Nat → Option Nat} {h : AH} {S : US} {u : RU} {p : Int32} (hu : RulH ct P h S u) (hm : u.2.1 ≤ 6) : t1_aWoman S ct P h p = (if (decide (0 < u.2.1) && inN p 0 (u.2.1 - 1)) = true then none else some (J 1)) ∧ s1_aWoman S P h p = (if (decide (0 < u.2.1) && inN p 0 (u.2.1 - 1)) = true then some () else none) := by
  unfold t1_aWoman s1_aWoman
  rw [tH_women hu]
  by_cases z : 0 < u.2.1
  · have e := tH_in (p := p) (a := 0) (b := u.2.1 - 1)
    have f := tH_found (c := inN p 0 (u.2.1 - 1))
    simp (disch := omega) only [lit_0, lit_1, lit_2, lit_3, lit_4, lit_5, lit_6, lit_7, lit_8, lit_9, lit_10, lit_11, lit_12, lit_13, lit_14, lit_15, lit_20, lit_24, lit_25, lit_37, lit_40, lit_43, lit_48, lit_49, lit_50, lit_60, lit_96, lit_98, lit_99, lit_100, lit_999, lit_62, lit_74, lit_86, lit_92, lit_99999, lit_100000, lit_16, lit_32767, lit_2147483639, J_add, J_mul, J_sub, J_tn, J_le, J_lt, J_eq, Nat.not_lt_zero, false_or, or_false, le_t, le_f, lt_t, lt_f, eq_f, ↓reduceIte, callK_eq, letB_eq, joinB_eq, Nat.add_assoc, e, f.1, f.2]
    cases inN p 0 (u.2.1 - 1) <;> simp [z, callK]
  · have z0 : u.2.1 = 0 := by omega
    have e : s1_in p (J 0) (J 0 - J 1) = some false := by
      unfold s1_in
      have e1 : (J 0 - J 1).toInt = -1 := by decide
      by_cases c : p < J 0
      · rw [if_pos c]
      · rw [if_neg c, if_pos]
        rw [Int32.lt_iff_toInt_lt, J_ti (by omega)] at c
        rw [Int32.lt_iff_toInt_lt, e1]
        omega
    have f := tH_found (c := false)
    rw [z0]
    simp only [callK_eq, lit_0, lit_1, e, f.1, f.2]
    simp [callK]
