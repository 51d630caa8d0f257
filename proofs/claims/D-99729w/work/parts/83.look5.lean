set_option maxRecDepth 100000
/-! THE PLAIN LAW, 12: methods that only look, 5 -/
theorem z_ev {S : US} {v v' : Int32} (hv : v = v') : Ev (some (v, Z0 S)) (fun o => o.1 = v' ∧ o.2 0 0 = J 0 ∧ KeepM S o.2) := ⟨_, rfl, hv, (Z0_0 : Z0 S 0 0 = J 0), Z0_k⟩
theorem v_ev {v v' : Int32} (hv : v = v') : Ev (some v) (fun o => o = v' ∧ True) := ⟨_, rfl, hv, trivial⟩
/-! bare -/
def thrN (r : Nat → Nat) : Nat → Nat
  | 0 => 0
  | w + 1 => thrN r w ||| (if r (43 + w) = 0 then 1 <<< w else 0)
theorem thrN_s {r : Nat → Nat} {w : Nat} : thrN r (w + 1) = thrN r w ||| (if r (43 + w) = 0 then 1 <<< w else 0) := rfl
theorem L_bare {ct : CT} {P : Nat → Nat → Option Nat} {h : AH} {S S2 : US} {u : RU} {r : Nat → Nat} (c : Core ct P h S S2 u r) (p1 : Int32) : AgW [(2, 1)] S S2 (t1_bare S ct P h p1) (s1_bare S ct P h p1) (sM_bare S2 p1) := by
  have cz := c.z
  have ho := c.1
  have ho6 := c.1.2.2.1
  unfold t1_bare s1_bare sM_bare
  refine Ag_z (Ag_dayE 0 1 (by decide) (by decide) (Or.inl rfl) (fun d _ hd e => ?_))
  subst e
  have hR1 := c.2.1.aftr (d := d) ho
  refine Ag_ok (J (thrN (aftrN u r d) u.2.1)) ?_ ?_
  · refine Ev.call (tH_tryOn cz hd) (fun S1 h1 => ?_)
    refine Ev.loop2 (i0 := 0) (body := s1_bare_L20 P h S1) (fun i b => b = J (thrN (aftrN u r d) i)) u.2.1 rfl (by omega) ?_ ?_ (by unfold FUEL; omega)
    · rintro i - hi b rfl rc hrc
      have e1 := (h1.1.2.2 i (by omega)).2
      have b1 := (hR1.2.1 i (by omega)).1
      unfold s1_bare_L20
      rw [tH_women c.2.2.2.1]
      by_cases hz : aftrN u r d (43 + i) = 0
      · simp (disch := omega) only [lit_0, lit_1, lit_2, lit_3, lit_4, lit_5, lit_6, lit_7, lit_8, lit_9, lit_10, lit_11, lit_12, lit_13, lit_14, lit_15, lit_20, lit_24, lit_25, lit_37, lit_40, lit_43, lit_48, lit_49, lit_50, lit_60, lit_96, lit_98, lit_99, lit_100, lit_999, lit_62, lit_74, lit_86, lit_92, lit_99999, lit_100000, lit_16, lit_32767, lit_2147483639, J_add, J_mul, J_sub, J_tn, J_le, J_lt, J_eq, Nat.not_lt_zero, false_or, or_false, le_t, le_f, lt_t, lt_f, eq_f, ↓reduceIte, callK_eq, letB_eq, joinB_eq, Nat.add_assoc, e1, hz, J_shl, J_or]
        refine hrc _ ?_
        rw [thrN_s, if_pos hz]
      · simp (disch := omega) only [lit_0, lit_1, lit_2, lit_3, lit_4, lit_5, lit_6, lit_7, lit_8, lit_9, lit_10, lit_11, lit_12, lit_13, lit_14, lit_15, lit_20, lit_24, lit_25, lit_37, lit_40, lit_43, lit_48, lit_49, lit_50, lit_60, lit_96, lit_98, lit_99, lit_100, lit_999, lit_62, lit_74, lit_86, lit_92, lit_99999, lit_100000, lit_16, lit_32767, lit_2147483639, J_add, J_mul, J_sub, J_tn, J_le, J_lt, J_eq, Nat.not_lt_zero, false_or, or_false, le_t, le_f, lt_t, lt_f, eq_f, ↓reduceIte, callK_eq, letB_eq, joinB_eq, Nat.add_assoc, e1, hz, J_shl, J_or]
        refine hrc _ ?_
        rw [thrN_s, if_neg hz, Nat.or_zero]
    · rintro b rfl rc
      unfold s1_bare_L20
      rw [tH_women c.2.2.2.1]
      simp (disch := omega) only [lit_0, lit_1, lit_2, lit_3, lit_4, lit_5, lit_6, lit_7, lit_8, lit_9, lit_10, lit_11, lit_12, lit_13, lit_14, lit_15, lit_20, lit_24, lit_25, lit_37, lit_40, lit_43, lit_48, lit_49, lit_50, lit_60, lit_96, lit_98, lit_99, lit_100, lit_999, lit_62, lit_74, lit_86, lit_92, lit_99999, lit_100000, lit_16, lit_32767, lit_2147483639, J_add, J_mul, J_sub, J_tn, J_le, J_lt, J_eq, Nat.not_lt_zero, false_or, or_false, le_t, le_f, lt_t, lt_f, eq_f, ↓reduceIte, callK_eq, letB_eq, joinB_eq, Nat.add_assoc]
      exact hr_ev h1 rfl
  · refine Ev.call (tM_goesTo cz hd) (fun S1 h1 => ?_)
    refine Ev.loop2 (i0 := 0) (body := sM_bare_L26 S1) (fun i b => b = J (thrN (aftrN u r d) i)) u.2.1 rfl (by omega) ?_ ?_ (by unfold FUEL; omega)
    · rintro i - hi b rfl rc hrc
      have e1 : S1 14 (92 + i) = _ := mrow_at h1.1 (k := 43 + i) (by omega) (by omega)
      have e2 := (h1.rul cz.2.2.2.2.2.1).2.1
      have b1 := (hR1.2.1 i (by omega)).1
      unfold sM_bare_L26
      by_cases hz : aftrN u r d (43 + i) = 0
      · simp (disch := omega) only [lit_0, lit_1, lit_2, lit_3, lit_4, lit_5, lit_6, lit_7, lit_8, lit_9, lit_10, lit_11, lit_12, lit_13, lit_14, lit_15, lit_20, lit_24, lit_25, lit_37, lit_40, lit_43, lit_48, lit_49, lit_50, lit_60, lit_96, lit_98, lit_99, lit_100, lit_999, lit_62, lit_74, lit_86, lit_92, lit_99999, lit_100000, lit_16, lit_32767, lit_2147483639, J_add, J_mul, J_sub, J_tn, J_le, J_lt, J_eq, Nat.not_lt_zero, false_or, or_false, le_t, le_f, lt_t, lt_f, eq_f, ↓reduceIte, callK_eq, letB_eq, joinB_eq, Nat.add_assoc, e1, e2, hz, J_shl, J_or]
        refine hrc _ ?_
        rw [thrN_s, if_pos hz]
      · simp (disch := omega) only [lit_0, lit_1, lit_2, lit_3, lit_4, lit_5, lit_6, lit_7, lit_8, lit_9, lit_10, lit_11, lit_12, lit_13, lit_14, lit_15, lit_20, lit_24, lit_25, lit_37, lit_40, lit_43, lit_48, lit_49, lit_50, lit_60, lit_96, lit_98, lit_99, lit_100, lit_999, lit_62, lit_74, lit_86, lit_92, lit_99999, lit_100000, lit_16, lit_32767, lit_2147483639, J_add, J_mul, J_sub, J_tn, J_le, J_lt, J_eq, Nat.not_lt_zero, false_or, or_false, le_t, le_f, lt_t, lt_f, eq_f, ↓reduceIte, callK_eq, letB_eq, joinB_eq, Nat.add_assoc, e1, e2, hz, J_shl, J_or]
        refine hrc _ ?_
        rw [thrN_s, if_neg hz]
    · rintro b rfl rc
      have e2 := (h1.rul cz.2.2.2.2.2.1).2.1
      unfold sM_bare_L26
      simp (disch := omega) only [lit_0, lit_1, lit_2, lit_3, lit_4, lit_5, lit_6, lit_7, lit_8, lit_9, lit_10, lit_11, lit_12, lit_13, lit_14, lit_15, lit_20, lit_24, lit_25, lit_37, lit_40, lit_43, lit_48, lit_49, lit_50, lit_60, lit_96, lit_98, lit_99, lit_100, lit_999, lit_62, lit_74, lit_86, lit_92, lit_99999, lit_100000, lit_16, lit_32767, lit_2147483639, J_add, J_mul, J_sub, J_tn, J_le, J_lt, J_eq, Nat.not_lt_zero, false_or, or_false, le_t, le_f, lt_t, lt_f, eq_f, ↓reduceIte, callK_eq, letB_eq, joinB_eq, Nat.add_assoc, e2]
      exact mr_ev h1 rfl
/-! meet -/
theorem L_meet {ct : CT} {P : Nat → Nat → Option Nat} {h : AH} {S S2 : US} {u : RU} {r : Nat → Nat} (c : Core ct P h S S2 u r) (p1 p2 : Int32) : AgW [(1, 1)] S S2 (t1_meet S ct P h p1 p2) (s1_meet S ct P h p1 p2) (sM_meet S2 p1 p2) := by
  have cz := c.z
  have ho := c.1
  have ho6 := c.1.2.2.1
  have ho12 := c.1.2.1
  have hd9 := c.2.2.1
  unfold t1_meet s1_meet sM_meet
  refine Ag_z (Ag_wom c (by decide) (fun w hw e => ?_))
  subst e
  refine Ag_womE c (by decide) (fun o ho2 e => ?_)
  subst e
  refine Ag_ok (if w = o then -J 1 else oJ (fstN (fun d => decide (aftrN u r d (37 + w) = aftrN u r d (37 + o))) 60)) ?_ ?_
  · refine Ev.call (tH_be (S0 := S) (L := 1) HFr.rf c.2.2.2.2.1 (by decide)) (fun S1 h1 => ?_)
    refine Ev.loop2 (i0 := 0) (fun i x => HR S 1 (aftrN u r i) x ∧ ∀ j, j < i → decide (aftrN u r j (37 + w) = aftrN u r j (37 + o)) = false) 61 ⟨h1.1, fun j hj => absurd hj (Nat.not_lt_zero j)⟩ (by omega) ?_ ?_ (by unfold FUEL; omega)
    · rintro i - hi S3 ⟨h3, h4⟩ rc hrc
      have hR3 := c.2.1.aftr (d := i) ho
      have e1 := (h3.1.2.2 w (by omega)).1
      have e2 := (h3.1.2.2 o (by omega)).1
      have b1 := (hR3.2.1 w (by omega)).2
      have b2 := (hR3.2.1 o (by omega)).2
      unfold s1_meet_L24
      by_cases hwo : w = o
      · simp (disch := omega) only [lit_0, lit_1, lit_2, lit_3, lit_4, lit_5, lit_6, lit_7, lit_8, lit_9, lit_10, lit_11, lit_12, lit_13, lit_14, lit_15, lit_20, lit_24, lit_25, lit_37, lit_40, lit_43, lit_48, lit_49, lit_50, lit_60, lit_96, lit_98, lit_99, lit_100, lit_999, lit_62, lit_74, lit_86, lit_92, lit_99999, lit_100000, lit_16, lit_32767, lit_2147483639, J_add, J_mul, J_sub, J_tn, J_le, J_lt, J_eq, Nat.not_lt_zero, false_or, or_false, le_t, le_f, lt_t, lt_f, eq_f, ↓reduceIte, callK_eq, letB_eq, joinB_eq, Nat.add_assoc, hwo, eq_self]
        exact hr_ev h3 rfl
      · by_cases hz : aftrN u r i (37 + w) = aftrN u r i (37 + o)
        · simp (disch := omega) only [lit_0, lit_1, lit_2, lit_3, lit_4, lit_5, lit_6, lit_7, lit_8, lit_9, lit_10, lit_11, lit_12, lit_13, lit_14, lit_15, lit_20, lit_24, lit_25, lit_37, lit_40, lit_43, lit_48, lit_49, lit_50, lit_60, lit_96, lit_98, lit_99, lit_100, lit_999, lit_62, lit_74, lit_86, lit_92, lit_99999, lit_100000, lit_16, lit_32767, lit_2147483639, J_add, J_mul, J_sub, J_tn, J_le, J_lt, J_eq, Nat.not_lt_zero, false_or, or_false, le_t, le_f, lt_t, lt_f, eq_f, ↓reduceIte, callK_eq, letB_eq, joinB_eq, Nat.add_assoc, e1, e2, hz, hwo, eq_self]
          refine hr_ev h3 ?_
          rw [fstN_some (c := fun d => decide (aftrN u r d (37 + w) = aftrN u r d (37 + o))) (i := i) (by omega) (decide_eq_true hz) h4]
          rfl
        · simp (disch := omega) only [lit_0, lit_1, lit_2, lit_3, lit_4, lit_5, lit_6, lit_7, lit_8, lit_9, lit_10, lit_11, lit_12, lit_13, lit_14, lit_15, lit_20, lit_24, lit_25, lit_37, lit_40, lit_43, lit_48, lit_49, lit_50, lit_60, lit_96, lit_98, lit_99, lit_100, lit_999, lit_62, lit_74, lit_86, lit_92, lit_99999, lit_100000, lit_16, lit_32767, lit_2147483639, J_add, J_mul, J_sub, J_tn, J_le, J_lt, J_eq, Nat.not_lt_zero, false_or, or_false, le_t, le_f, lt_t, lt_f, eq_f, ↓reduceIte, callK_eq, letB_eq, joinB_eq, Nat.add_assoc, e1, e2, hz, hwo]
          refine Ev.call (tH_pass c.2.2.2.1 ho h3 hR3 (by rw [aftrN_0]; omega)) (fun S4 h5 => ?_)
          refine ev_fun (hrc _ ⟨h5, fun j hj => ?_⟩) (fun v hv => ?_)
          · by_cases e : j = i
            · subst e; exact decide_eq_false hz
            · exact h4 j (by omega)
          · simp only [hwo, ↓reduceIte] at hv
            exact hv
    · rintro S3 ⟨h3, h4⟩ rc
      unfold s1_meet_L24
      simp (disch := omega) only [lit_0, lit_1, lit_2, lit_3, lit_4, lit_5, lit_6, lit_7, lit_8, lit_9, lit_10, lit_11, lit_12, lit_13, lit_14, lit_15, lit_20, lit_24, lit_25, lit_37, lit_40, lit_43, lit_48, lit_49, lit_50, lit_60, lit_96, lit_98, lit_99, lit_100, lit_999, lit_62, lit_74, lit_86, lit_92, lit_99999, lit_100000, lit_16, lit_32767, lit_2147483639, J_add, J_mul, J_sub, J_tn, J_le, J_lt, J_eq, Nat.not_lt_zero, false_or, or_false, le_t, le_f, lt_t, lt_f, eq_f, ↓reduceIte, callK_eq, letB_eq, joinB_eq, Nat.add_assoc]
      refine hr_ev h3 ?_
      by_cases hwo : w = o
      · rw [if_pos hwo]
      · rw [if_neg hwo, fstN_none (c := fun d => decide (aftrN u r d (37 + w) = aftrN u r d (37 + o))) (fun j hj => h4 j (by omega))]
        rfl
  · refine Ev.call (tM_tries (S0 := Z0 S2) MFr.rf cz.2.2.2.2.2.2) (fun S1 h1 => ?_)
    refine Ev.loop2 (i0 := 0) (fun i x => MR (Z0 S2) 49 (aftrN u r i) x ∧ ∀ j, j < i → decide (aftrN u r j (37 + w) = aftrN u r j (37 + o)) = false) 61 ⟨h1, fun j hj => absurd hj (Nat.not_lt_zero j)⟩ (by omega) ?_ ?_ (by unfold FUEL; omega)
    · rintro i - hi S3 ⟨h3, h4⟩ rc hrc
      have hR3 := c.2.1.aftr (d := i) ho
      have e1 : S3 14 (86 + w) = _ := mrow_at h3.1 (k := 37 + w) (by omega) (by omega)
      have e2 : S3 14 (86 + o) = _ := mrow_at h3.1 (k := 37 + o) (by omega) (by omega)
      have b1 := (hR3.2.1 w (by omega)).2
      have b2 := (hR3.2.1 o (by omega)).2
      unfold sM_meet_L29
      by_cases hwo : w = o
      · simp (disch := omega) only [lit_0, lit_1, lit_2, lit_3, lit_4, lit_5, lit_6, lit_7, lit_8, lit_9, lit_10, lit_11, lit_12, lit_13, lit_14, lit_15, lit_20, lit_24, lit_25, lit_37, lit_40, lit_43, lit_48, lit_49, lit_50, lit_60, lit_96, lit_98, lit_99, lit_100, lit_999, lit_62, lit_74, lit_86, lit_92, lit_99999, lit_100000, lit_16, lit_32767, lit_2147483639, J_add, J_mul, J_sub, J_tn, J_le, J_lt, J_eq, Nat.not_lt_zero, false_or, or_false, le_t, le_f, lt_t, lt_f, eq_f, ↓reduceIte, callK_eq, letB_eq, joinB_eq, Nat.add_assoc, hwo, eq_self]
        exact mr_ev h3 rfl
      · by_cases hz : aftrN u r i (37 + w) = aftrN u r i (37 + o)
        · simp (disch := omega) only [lit_0, lit_1, lit_2, lit_3, lit_4, lit_5, lit_6, lit_7, lit_8, lit_9, lit_10, lit_11, lit_12, lit_13, lit_14, lit_15, lit_20, lit_24, lit_25, lit_37, lit_40, lit_43, lit_48, lit_49, lit_50, lit_60, lit_96, lit_98, lit_99, lit_100, lit_999, lit_62, lit_74, lit_86, lit_92, lit_99999, lit_100000, lit_16, lit_32767, lit_2147483639, J_add, J_mul, J_sub, J_tn, J_le, J_lt, J_eq, Nat.not_lt_zero, false_or, or_false, le_t, le_f, lt_t, lt_f, eq_f, ↓reduceIte, callK_eq, letB_eq, joinB_eq, Nat.add_assoc, e1, e2, hz, hwo, eq_self]
          refine mr_ev h3 ?_
          rw [fstN_some (c := fun d => decide (aftrN u r d (37 + w) = aftrN u r d (37 + o))) (i := i) (by omega) (decide_eq_true hz) h4]
          rfl
        · simp (disch := omega) only [lit_0, lit_1, lit_2, lit_3, lit_4, lit_5, lit_6, lit_7, lit_8, lit_9, lit_10, lit_11, lit_12, lit_13, lit_14, lit_15, lit_20, lit_24, lit_25, lit_37, lit_40, lit_43, lit_48, lit_49, lit_50, lit_60, lit_96, lit_98, lit_99, lit_100, lit_999, lit_62, lit_74, lit_86, lit_92, lit_99999, lit_100000, lit_16, lit_32767, lit_2147483639, J_add, J_mul, J_sub, J_tn, J_le, J_lt, J_eq, Nat.not_lt_zero, false_or, or_false, le_t, le_f, lt_t, lt_f, eq_f, ↓reduceIte, callK_eq, letB_eq, joinB_eq, Nat.add_assoc, e1, e2, hz, hwo]
          refine Ev.call (tM_dayGoes cz.2.2.2.2.2.1 ho h3 hR3 (by decide) (by rw [aftrN_0]; omega)) (fun S4 h5 => ?_)
          refine ev_fun (hrc _ ⟨h5, fun j hj => ?_⟩) (fun v hv => ?_)
          · by_cases e : j = i
            · subst e; exact decide_eq_false hz
            · exact h4 j (by omega)
          · simp only [hwo, ↓reduceIte] at hv
            exact hv
    · rintro S3 ⟨h3, h4⟩ rc
      unfold sM_meet_L29
      simp (disch := omega) only [lit_0, lit_1, lit_2, lit_3, lit_4, lit_5, lit_6, lit_7, lit_8, lit_9, lit_10, lit_11, lit_12, lit_13, lit_14, lit_15, lit_20, lit_24, lit_25, lit_37, lit_40, lit_43, lit_48, lit_49, lit_50, lit_60, lit_96, lit_98, lit_99, lit_100, lit_999, lit_62, lit_74, lit_86, lit_92, lit_99999, lit_100000, lit_16, lit_32767, lit_2147483639, J_add, J_mul, J_sub, J_tn, J_le, J_lt, J_eq, Nat.not_lt_zero, false_or, or_false, le_t, le_f, lt_t, lt_f, eq_f, ↓reduceIte, callK_eq, letB_eq, joinB_eq, Nat.add_assoc]
      refine mr_ev h3 ?_
      by_cases hwo : w = o
      · rw [if_pos hwo]
      · rw [if_neg hwo, fstN_none (c := fun d => decide (aftrN u r d (37 + w) = aftrN u r d (37 + o))) (fun j hj => h4 j (by omega))]
        rfl
/-! far, nearest -/
def farN (n a b : Nat) : Nat := min (if b ≤ a then a - b else b - a) (n - (if b ≤ a then a - b else b - a))
theorem tH_far {S : US} {n a b : Nat} (hn : S 1 2 = J n) (hn2 : n ≤ 12) (ha : a < n) (hb : b < n) : s2_far S (J a) (J b) = some (J (farN n a b)) := by
  have e : (if 0 ≤ (J a - J b) then (J a - J b) else 0 - (J a - J b)) = J (if b ≤ a then a - b else b - a) := by
    by_cases h : b ≤ a
    · rw [if_pos h, J_sub h, if_pos (by rw [lit_0, J_le (by omega) (by omega)]; omega)]
    · have t : (J a - J b).toInt = (a : Int) - b := by
        rw [Int32.toInt_sub, J_ti (by omega), J_ti (by omega)]
        exact Int.bmod_eq_of_le (by omega) (by omega)
      rw [if_neg h, if_neg (by rw [Int32.le_iff_toInt_le, t, show (0 : Int32).toInt = 0 from rfl]; omega)]
      refine Int32.toInt_inj.mp ?_
      rw [Int32.toInt_sub, t, show (0 : Int32).toInt = 0 from rfl, J_ti (by omega), Int.bmod_eq_of_le (by omega) (by omega)]
      omega
  unfold s2_far farN
  rw [e, hn]
  generalize hd : (if b ≤ a then a - b else b - a) = d
  have hd2 : d < n := by rw [← hd]; split <;> omega
  rw [J_sub (by omega)]
  by_cases c : n - d < d
  · rw [if_pos (by rw [J_lt (by omega) (by omega)]; exact c), Nat.min_eq_right (by omega)]
  · rw [if_neg (by rw [J_lt (by omega) (by omega)]; exact c), Nat.min_eq_left (by omega)]
theorem tM_stepsBy {S : US} {n a b : Nat} (hn : S 0 1 = J n) (hn2 : n ≤ 12) (ha : a < n) (hb : b < n) : sM_stepsBy S (J a) (J b) = some (J (farN n a b)) := by
  unfold sM_stepsBy farN
  by_cases h : b ≤ a
  · simp (disch := omega) only [J_le, h, ↓reduceIte, J_sub, hn, tM_lesser, callK_eq]
  · simp (disch := omega) only [J_le, h, ↓reduceIte, J_sub, hn, tM_lesser, callK_eq]
theorem L_far {ct : CT} {P : Nat → Nat → Option Nat} {h : AH} {S S2 : US} {u : RU} {r : Nat → Nat} (c : Core ct P h S S2 u r) (p1 p2 : Int32) : AgV [(1, 1)] S2 (t1_far S ct P h p1 p2) (s1_far S p1 p2) (sM_far S2 p1 p2) := by
  have cz := c.z
  unfold t1_far s1_far sM_far
  refine Ag_z (Ag_str c (by decide) (fun a ha e => ?_))
  subst e
  refine Ag_strE c (by decide) (fun b hb e => ?_)
  subst e
  refine Ag_ok (J (farN u.1 a b)) ?_ ?_
  · rw [tH_far c.2.2.2.1.1 c.1.2.1 ha hb]
    exact ⟨_, rfl, rfl, trivial⟩
  · show Ev (callK (sM_stepsBy (Z0 S2) (J a) (J b)) _) _
    rw [tM_stepsBy cz.2.2.2.2.2.1.1 c.1.2.1 ha hb]
    exact z_ev rfl
theorem selN_val {better : Nat → Option (Nat × Nat) → Bool} {f : Nat → Option Nat} {i : Nat} : ∀ q, selN better f i = some q → f q.1 = some q.2 := by
  induction i with
  | zero => intro q h; cases h
  | succ i ih =>
    intro q h
    cases e : f i with
    | none => rw [selN_n e] at h; exact ih q h
    | some v =>
      rw [selN_s e] at h
      split at h
      · cases h; exact e
      · exact ih q h
theorem farN_le {n a b : Nat} (ha : a < n) (hb : b < n) : farN n a b ≤ n := by
  unfold farN
  split <;> omega
theorem L_nearest {ct : CT} {P : Nat → Nat → Option Nat} {h : AH} {S S2 : US} {u : RU} {r : Nat → Nat} (c : Core ct P h S S2 u r) (p1 : Int32) : AgV [(1, 1)] S2 (t1_nearest S ct P h p1) (s1_nearest S P h p1) (sM_nearest S2 p1) := by
  have cz := c.z
  have ho6 := c.1.2.2.1
  have ho12 := c.1.2.1
  unfold t1_nearest s1_nearest sM_nearest
  refine Ag_z (Ag_strE c (by decide) (fun p hp e => ?_))
  subst e
  have hw : ∀ w, w < u.2.1 → r (37 + w) < u.1 := c.2.1.2.2
  refine Ag_ok (bJ (selN ltA (fun w => some (farN u.1 (r (37 + w)) p)) u.2.1)) ?_ ?_
  · refine Ev.loop2 (i0 := 0) (body := s1_nearest_L9 (J p) S P h) (fun i b => b = bJ (selN ltA (fun w => some (farN u.1 (r (37 + w)) p)) i)) u.2.1 rfl (by omega) ?_ ?_ (by unfold FUEL; omega)
    · rintro i - hi b rfl rc hrc
      have e1 := (c.2.2.2.2.1.2.2 i (by omega)).1
      have e2 := tH_far c.2.2.2.1.1 ho12 (hw i hi) hp
      have b2 := farN_le (hw i hi) hp
      unfold s1_nearest_L9
      rw [tH_women c.2.2.2.1]
      cases hs : selN ltA (fun w => some (farN u.1 (r (37 + w)) p)) i with
      | none =>
        unfold bJ
        simp (disch := omega) only [lit_0, lit_1, lit_2, lit_3, lit_4, lit_5, lit_6, lit_7, lit_8, lit_9, lit_10, lit_11, lit_12, lit_13, lit_14, lit_15, lit_20, lit_24, lit_25, lit_37, lit_40, lit_43, lit_48, lit_49, lit_50, lit_60, lit_96, lit_98, lit_99, lit_100, lit_999, lit_62, lit_74, lit_86, lit_92, lit_99999, lit_100000, lit_16, lit_32767, lit_2147483639, J_add, J_mul, J_sub, J_tn, J_le, J_lt, J_eq, Nat.not_lt_zero, false_or, or_false, le_t, le_f, lt_t, lt_f, eq_f, ↓reduceIte, callK_eq, letB_eq, joinB_eq, Nat.add_assoc, eq_self]
        refine hrc _ ?_
        rw [selN_s (i := i) (f := fun w => some (farN u.1 (r (37 + w)) p)) rfl, hs]
        rfl
      | some q =>
        have hq := selN_val q hs
        have hq1 := (selN_le (B := 12) (f := fun w => some (farN u.1 (r (37 + w)) p)) (i := i) (fun j v hj e => by
          cases e
          exact Nat.le_trans (farN_le (hw j (by omega)) hp) ho12) q hs)
        have e3 := (c.2.2.2.2.1.2.2 q.1 (by omega)).1
        have e4 := tH_far c.2.2.2.1.1 ho12 (hw q.1 (by omega)) hp
        have b4 := farN_le (hw q.1 (by omega)) hp
        have hq2 : q.2 = farN u.1 (r (37 + q.1)) p := (Option.some.inj hq).symm
        unfold bJ s1_steps
        by_cases hc : farN u.1 (r (37 + q.1)) p ≤ farN u.1 (r (37 + i)) p
        · simp (disch := omega) only [lit_0, lit_1, lit_2, lit_3, lit_4, lit_5, lit_6, lit_7, lit_8, lit_9, lit_10, lit_11, lit_12, lit_13, lit_14, lit_15, lit_20, lit_24, lit_25, lit_37, lit_40, lit_43, lit_48, lit_49, lit_50, lit_60, lit_96, lit_98, lit_99, lit_100, lit_999, lit_62, lit_74, lit_86, lit_92, lit_99999, lit_100000, lit_16, lit_32767, lit_2147483639, J_add, J_mul, J_sub, J_tn, J_le, J_lt, J_eq, Nat.not_lt_zero, false_or, or_false, le_t, le_f, lt_t, lt_f, eq_f, ↓reduceIte, callK_eq, letB_eq, joinB_eq, Nat.add_assoc, J_neg, e1, e2, e3, e4, hc]
          refine hrc _ ?_
          rw [selN_s (i := i) (f := fun w => some (farN u.1 (r (37 + w)) p)) rfl, hs, if_neg (by unfold ltA; rw [decide_eq_true_eq]; omega)]
          rfl
        · simp (disch := omega) only [lit_0, lit_1, lit_2, lit_3, lit_4, lit_5, lit_6, lit_7, lit_8, lit_9, lit_10, lit_11, lit_12, lit_13, lit_14, lit_15, lit_20, lit_24, lit_25, lit_37, lit_40, lit_43, lit_48, lit_49, lit_50, lit_60, lit_96, lit_98, lit_99, lit_100, lit_999, lit_62, lit_74, lit_86, lit_92, lit_99999, lit_100000, lit_16, lit_32767, lit_2147483639, J_add, J_mul, J_sub, J_tn, J_le, J_lt, J_eq, Nat.not_lt_zero, false_or, or_false, le_t, le_f, lt_t, lt_f, eq_f, ↓reduceIte, callK_eq, letB_eq, joinB_eq, Nat.add_assoc, J_neg, e1, e2, e3, e4, hc]
          refine hrc _ ?_
          rw [selN_s (i := i) (f := fun w => some (farN u.1 (r (37 + w)) p)) rfl, hs, if_pos (by unfold ltA; rw [decide_eq_true_eq]; omega)]
          rfl
    · rintro b rfl rc
      unfold s1_nearest_L9
      rw [tH_women c.2.2.2.1]
      simp (disch := omega) only [lit_0, lit_1, lit_2, lit_3, lit_4, lit_5, lit_6, lit_7, lit_8, lit_9, lit_10, lit_11, lit_12, lit_13, lit_14, lit_15, lit_20, lit_24, lit_25, lit_37, lit_40, lit_43, lit_48, lit_49, lit_50, lit_60, lit_96, lit_98, lit_99, lit_100, lit_999, lit_62, lit_74, lit_86, lit_92, lit_99999, lit_100000, lit_16, lit_32767, lit_2147483639, J_add, J_mul, J_sub, J_tn, J_le, J_lt, J_eq, Nat.not_lt_zero, false_or, or_false, le_t, le_f, lt_t, lt_f, eq_f, ↓reduceIte, callK_eq, letB_eq, joinB_eq, Nat.add_assoc]
      exact ⟨_, rfl, rfl, trivial⟩
  · refine Ev.loop2 (i0 := 0) (body := sM_nearest_L19 (J p) (true, Z0 S2)) (fun i b => b = bJ (selN ltA (fun w => some (farN u.1 (r (37 + w)) p)) i)) u.2.1 rfl (by omega) ?_ ?_ (by unfold FUEL; omega)
    · rintro i - hi b rfl rc hrc
      have e0 := cz.2.2.2.2.2.1.2.1
      have e1 : Z0 S2 14 (37 + i) = _ := mrow_0 cz.2.2.2.2.2.2 (k := 37 + i) (by omega)
      have e2 := tM_stepsBy cz.2.2.2.2.2.1.1 ho12 (hw i hi) hp
      have b2 := farN_le (hw i hi) hp
      unfold sM_nearest_L19
      cases hs : selN ltA (fun w => some (farN u.1 (r (37 + w)) p)) i with
      | none =>
        unfold bJ
        simp (disch := omega) only [lit_0, lit_1, lit_2, lit_3, lit_4, lit_5, lit_6, lit_7, lit_8, lit_9, lit_10, lit_11, lit_12, lit_13, lit_14, lit_15, lit_20, lit_24, lit_25, lit_37, lit_40, lit_43, lit_48, lit_49, lit_50, lit_60, lit_96, lit_98, lit_99, lit_100, lit_999, lit_62, lit_74, lit_86, lit_92, lit_99999, lit_100000, lit_16, lit_32767, lit_2147483639, J_add, J_mul, J_sub, J_tn, J_le, J_lt, J_eq, Nat.not_lt_zero, false_or, or_false, le_t, le_f, lt_t, lt_f, eq_f, ↓reduceIte, callK_eq, letB_eq, joinB_eq, Nat.add_assoc, e0, eq_self]
        refine hrc _ ?_
        rw [selN_s (i := i) (f := fun w => some (farN u.1 (r (37 + w)) p)) rfl, hs]
        rfl
      | some q =>
        have hq := selN_val q hs
        have hq1 := (selN_le (B := 12) (f := fun w => some (farN u.1 (r (37 + w)) p)) (i := i) (fun j v hj e => by
          cases e
          exact Nat.le_trans (farN_le (hw j (by omega)) hp) ho12) q hs)
        have e3 : Z0 S2 14 (37 + q.1) = _ := mrow_0 cz.2.2.2.2.2.2 (k := 37 + q.1) (by omega)
        have e4 := tM_stepsBy cz.2.2.2.2.2.1.1 ho12 (hw q.1 (by omega)) hp
        have b4 := farN_le (hw q.1 (by omega)) hp
        have hq2 : q.2 = farN u.1 (r (37 + q.1)) p := (Option.some.inj hq).symm
        unfold bJ
        by_cases hc : farN u.1 (r (37 + q.1)) p ≤ farN u.1 (r (37 + i)) p
        · simp (disch := omega) only [lit_0, lit_1, lit_2, lit_3, lit_4, lit_5, lit_6, lit_7, lit_8, lit_9, lit_10, lit_11, lit_12, lit_13, lit_14, lit_15, lit_20, lit_24, lit_25, lit_37, lit_40, lit_43, lit_48, lit_49, lit_50, lit_60, lit_96, lit_98, lit_99, lit_100, lit_999, lit_62, lit_74, lit_86, lit_92, lit_99999, lit_100000, lit_16, lit_32767, lit_2147483639, J_add, J_mul, J_sub, J_tn, J_le, J_lt, J_eq, Nat.not_lt_zero, false_or, or_false, le_t, le_f, lt_t, lt_f, eq_f, ↓reduceIte, callK_eq, letB_eq, joinB_eq, Nat.add_assoc, J_neg, e0, e1, e2, e3, e4, hc]
          refine hrc _ ?_
          rw [selN_s (i := i) (f := fun w => some (farN u.1 (r (37 + w)) p)) rfl, hs, if_neg (by unfold ltA; rw [decide_eq_true_eq]; omega)]
          rfl
        · simp (disch := omega) only [lit_0, lit_1, lit_2, lit_3, lit_4, lit_5, lit_6, lit_7, lit_8, lit_9, lit_10, lit_11, lit_12, lit_13, lit_14, lit_15, lit_20, lit_24, lit_25, lit_37, lit_40, lit_43, lit_48, lit_49, lit_50, lit_60, lit_96, lit_98, lit_99, lit_100, lit_999, lit_62, lit_74, lit_86, lit_92, lit_99999, lit_100000, lit_16, lit_32767, lit_2147483639, J_add, J_mul, J_sub, J_tn, J_le, J_lt, J_eq, Nat.not_lt_zero, false_or, or_false, le_t, le_f, lt_t, lt_f, eq_f, ↓reduceIte, callK_eq, letB_eq, joinB_eq, Nat.add_assoc, J_neg, e0, e1, e2, e3, e4, hc]
          refine hrc _ ?_
          rw [selN_s (i := i) (f := fun w => some (farN u.1 (r (37 + w)) p)) rfl, hs, if_pos (by unfold ltA; rw [decide_eq_true_eq]; omega)]
          rfl
    · rintro b rfl rc
      have e0 := cz.2.2.2.2.2.1.2.1
      unfold sM_nearest_L19
      simp (disch := omega) only [lit_0, lit_1, lit_2, lit_3, lit_4, lit_5, lit_6, lit_7, lit_8, lit_9, lit_10, lit_11, lit_12, lit_13, lit_14, lit_15, lit_20, lit_24, lit_25, lit_37, lit_40, lit_43, lit_48, lit_49, lit_50, lit_60, lit_96, lit_98, lit_99, lit_100, lit_999, lit_62, lit_74, lit_86, lit_92, lit_99999, lit_100000, lit_16, lit_32767, lit_2147483639, J_add, J_mul, J_sub, J_tn, J_le, J_lt, J_eq, Nat.not_lt_zero, false_or, or_false, le_t, le_f, lt_t, lt_f, eq_f, ↓reduceIte, callK_eq, letB_eq, joinB_eq, Nat.add_assoc, e0]
      exact z_ev rfl
