set_option maxRecDepth 100000
/-! THE PLAIN LAW, 10: methods that only look, 3 -/
/-! bestStitch -/
def bestN (u : RU) (r : Nat → Nat) (s d k : Nat) : Option Nat := some (aftrN u (upN r (25 + s) k) d (13 + s))
theorem L_bestStitch {ct : CT} {P : Nat → Nat → Option Nat} {h : AH} {S S2 : US} {u : RU} {r : Nat → Nat} (c : Core ct P h S S2 u r) (p1 p2 : Int32) : AgW [(1, 1), (2, 2)] S S2 (t1_bestStitch S ct P h p1 p2) (s1_bestStitch S ct P h p1 p2) (sM_bestStitch S2 p1 p2) := by
  have cz := c.z
  have ho := c.1
  have ho12 := c.1.2.1
  have hd9 := c.2.2.1
  unfold t1_bestStitch s1_bestStitch sM_bestStitch
  refine Ag_z (Ag_str c (by decide) (fun s hs e => ?_))
  subst e
  refine Ag_dayE 1 2 (by decide) (by decide) (Or.inr rfl) (fun d _ hd e => ?_)
  subst e
  have hRk : ∀ k, k < 3 → ROk u.1 u.2.1 (aftrN u (upN r (25 + s) k) d) := fun k hk => (c.2.1.upC (by omega) (by omega)).aftr ho
  have hle : ∀ i, i ≤ 3 → ∀ q, selN gtA (bestN u r s d) i = some q → q.2 ≤ 99 ∧ q.1 < i := fun i hi => selN_le (fun j v hj e => by
    unfold bestN at e
    cases e
    exact ((hRk j (by omega)).1 s (by omega)).2.1)
  refine Ag_ok (bJ (selN gtA (bestN u r s d) 3)) ?_ ?_
  · refine Ev.loop4 (i0 := 0) (fun i x b l => HFr S 1 x ∧ b = bJ (selN gtA (bestN u r s d) i) ∧ l = lJ (-J 1) (selN gtA (bestN u r s d) i)) 3 ⟨HFr.rf, rfl, rfl⟩ (by omega) ?_ ?_ (by unfold FUEL; omega)
    · rintro i - hi S1 b l ⟨h1, rfl, rfl⟩ rc hrc
      have hR' := c.2.1.upC (s := s) (v := i) (by omega) (by omega)
      have hv := (hRk i hi).1 s (by omega)
      unfold s1_bestStitch_L23
      simp (disch := omega) only [lit_0, lit_1, lit_2, lit_3, lit_4, lit_5, lit_6, lit_7, lit_8, lit_9, lit_10, lit_11, lit_12, lit_13, lit_14, lit_15, lit_20, lit_24, lit_25, lit_37, lit_40, lit_43, lit_48, lit_49, lit_50, lit_60, lit_96, lit_98, lit_99, lit_100, lit_999, lit_62, lit_74, lit_86, lit_92, lit_99999, lit_100000, lit_16, lit_32767, lit_2147483639, J_add, J_mul, J_sub, J_tn, J_le, J_lt, J_eq, Nat.not_lt_zero, false_or, or_false, le_t, le_f, lt_t, lt_f, eq_f, ↓reduceIte, callK_eq, letB_eq, joinB_eq, Nat.add_assoc]
      refine Ev.call (tH_be (S0 := S) (L := 1) h1 ((KeepH.of (by omega) h1).row c.2.2.2.2.1) (by decide)) (fun S3 h3 => ?_)
      try simp (disch := omega) only [lit_0, lit_1, lit_2, lit_3, lit_4, lit_5, lit_6, lit_7, lit_8, lit_9, lit_10, lit_11, lit_12, lit_13, lit_14, lit_15, lit_20, lit_24, lit_25, lit_37, lit_40, lit_43, lit_48, lit_49, lit_50, lit_60, lit_96, lit_98, lit_99, lit_100, lit_999, lit_62, lit_74, lit_86, lit_92, lit_99999, lit_100000, lit_16, lit_32767, lit_2147483639, J_add, J_mul, J_sub, J_tn, J_le, J_lt, J_eq, Nat.not_lt_zero, false_or, or_false, le_t, le_f, lt_t, lt_f, eq_f, ↓reduceIte, callK_eq, letB_eq, joinB_eq, Nat.add_assoc]
      refine Ev.call (tH_aftr (S0 := S) c.2.2.2.1 ho (h3.1.up3 (s := s) (v := i) (by omega)) hR' (by rw [upN_off (by omega)]; omega) (by omega)) (fun S4 h4 => ?_)
      simp (disch := omega) only [lit_0, lit_1, lit_2, lit_3, lit_4, lit_5, lit_6, lit_7, lit_8, lit_9, lit_10, lit_11, lit_12, lit_13, lit_14, lit_15, lit_20, lit_24, lit_25, lit_37, lit_40, lit_43, lit_48, lit_49, lit_50, lit_60, lit_96, lit_98, lit_99, lit_100, lit_999, lit_62, lit_74, lit_86, lit_92, lit_99999, lit_100000, lit_16, lit_32767, lit_2147483639, J_add, J_mul, J_sub, J_tn, J_le, J_lt, J_eq, Nat.not_lt_zero, false_or, or_false, le_t, le_f, lt_t, lt_f, eq_f, ↓reduceIte, callK_eq, letB_eq, joinB_eq, Nat.add_assoc, (h4.1.2.1 s (by omega)).2.1, gtA_J (v := aftrN u (upN r (25 + s) i) d (13 + s)) (B := 99) (by omega) (by omega) (fun q hq => (hle i (by omega) q hq).1)]
      cases hlt : gtA (aftrN u (upN r (25 + s) i) d (13 + s)) (selN gtA (bestN u r s d) i) with
      | true =>
        simp (disch := omega) only [lit_0, lit_1, lit_2, lit_3, lit_4, lit_5, lit_6, lit_7, lit_8, lit_9, lit_10, lit_11, lit_12, lit_13, lit_14, lit_15, lit_20, lit_24, lit_25, lit_37, lit_40, lit_43, lit_48, lit_49, lit_50, lit_60, lit_96, lit_98, lit_99, lit_100, lit_999, lit_62, lit_74, lit_86, lit_92, lit_99999, lit_100000, lit_16, lit_32767, lit_2147483639, J_add, J_mul, J_sub, J_tn, J_le, J_lt, J_eq, Nat.not_lt_zero, false_or, or_false, le_t, le_f, lt_t, lt_f, eq_f, ↓reduceIte, callK_eq, letB_eq, joinB_eq, Nat.add_assoc]
        exact hrc _ _ _ ⟨h4.2, by rw [selN_s (f := bestN u r s d) (i := i) rfl, hlt]; rfl, by rw [selN_s (f := bestN u r s d) (i := i) rfl, hlt]; rfl⟩
      | false =>
        simp (disch := omega) only [lit_0, lit_1, lit_2, lit_3, lit_4, lit_5, lit_6, lit_7, lit_8, lit_9, lit_10, lit_11, lit_12, lit_13, lit_14, lit_15, lit_20, lit_24, lit_25, lit_37, lit_40, lit_43, lit_48, lit_49, lit_50, lit_60, lit_96, lit_98, lit_99, lit_100, lit_999, lit_62, lit_74, lit_86, lit_92, lit_99999, lit_100000, lit_16, lit_32767, lit_2147483639, J_add, J_mul, J_sub, J_tn, J_le, J_lt, J_eq, Nat.not_lt_zero, false_or, or_false, le_t, le_f, lt_t, lt_f, eq_f, ↓reduceIte, callK_eq, letB_eq, joinB_eq, Nat.add_assoc, Bool.false_eq_true]
        exact hrc _ _ _ ⟨h4.2, by rw [selN_s (f := bestN u r s d) (i := i) rfl, hlt]; rfl, by rw [selN_s (f := bestN u r s d) (i := i) rfl, hlt]; rfl⟩
    · rintro S1 b l ⟨h1, rfl, rfl⟩ rc
      unfold s1_bestStitch_L23
      simp (disch := omega) only [lit_0, lit_1, lit_2, lit_3, lit_4, lit_5, lit_6, lit_7, lit_8, lit_9, lit_10, lit_11, lit_12, lit_13, lit_14, lit_15, lit_20, lit_24, lit_25, lit_37, lit_40, lit_43, lit_48, lit_49, lit_50, lit_60, lit_96, lit_98, lit_99, lit_100, lit_999, lit_62, lit_74, lit_86, lit_92, lit_99999, lit_100000, lit_16, lit_32767, lit_2147483639, J_add, J_mul, J_sub, J_tn, J_le, J_lt, J_eq, Nat.not_lt_zero, false_or, or_false, le_t, le_f, lt_t, lt_f, eq_f, ↓reduceIte, callK_eq, letB_eq, joinB_eq, Nat.add_assoc]
      exact hfr_ev h1 rfl
  · refine Ev.loop4 (i0 := 0) (fun i x b l => MFr (Z0 S2) 49 x ∧ b = bJ (selN gtA (bestN u r s d) i) ∧ l = lJ (-J 1) (selN gtA (bestN u r s d) i)) 3 ⟨MFr.rf, rfl, rfl⟩ (by omega) ?_ ?_ (by unfold FUEL; omega)
    · rintro i - hi S1 b l ⟨h1, rfl, rfl⟩ rc hrc
      have hR' := c.2.1.upC (s := s) (v := i) (by omega) (by omega)
      have hv := (hRk i hi).1 s (by omega)
      unfold sM_bestStitch_L33
      simp (disch := omega) only [lit_0, lit_1, lit_2, lit_3, lit_4, lit_5, lit_6, lit_7, lit_8, lit_9, lit_10, lit_11, lit_12, lit_13, lit_14, lit_15, lit_20, lit_24, lit_25, lit_37, lit_40, lit_43, lit_48, lit_49, lit_50, lit_60, lit_96, lit_98, lit_99, lit_100, lit_999, lit_62, lit_74, lit_86, lit_92, lit_99999, lit_100000, lit_16, lit_32767, lit_2147483639, J_add, J_mul, J_sub, J_tn, J_le, J_lt, J_eq, Nat.not_lt_zero, false_or, or_false, le_t, le_f, lt_t, lt_f, eq_f, ↓reduceIte, callK_eq, letB_eq, joinB_eq, Nat.add_assoc]
      refine Ev.call (tM_tries (S0 := Z0 S2) h1 ((KeepM.of h1).row cz.2.2.2.2.2.2)) (fun S3 h3 => ?_)
      have h3' := h3.up (k := 25 + s) (v := i) (by omega)
      rw [show 49 + (25 + s) = 74 + s by omega] at h3'
      try simp (disch := omega) only [lit_0, lit_1, lit_2, lit_3, lit_4, lit_5, lit_6, lit_7, lit_8, lit_9, lit_10, lit_11, lit_12, lit_13, lit_14, lit_15, lit_20, lit_24, lit_25, lit_37, lit_40, lit_43, lit_48, lit_49, lit_50, lit_60, lit_96, lit_98, lit_99, lit_100, lit_999, lit_62, lit_74, lit_86, lit_92, lit_99999, lit_100000, lit_16, lit_32767, lit_2147483639, J_add, J_mul, J_sub, J_tn, J_le, J_lt, J_eq, Nat.not_lt_zero, false_or, or_false, le_t, le_f, lt_t, lt_f, eq_f, ↓reduceIte, callK_eq, letB_eq, joinB_eq, Nat.add_assoc]
      refine Ev.call (tM_daysGo (S0 := Z0 S2) cz.2.2.2.2.2.1 ho h3' hR' (by rw [upN_off (by omega)]; omega) (by omega)) (fun S4 h4 => ?_)
      have e4 : S4 14 (62 + s) = _ := mrow_at h4.1 (k := 13 + s) (by omega) (by omega)
      simp (disch := omega) only [lit_0, lit_1, lit_2, lit_3, lit_4, lit_5, lit_6, lit_7, lit_8, lit_9, lit_10, lit_11, lit_12, lit_13, lit_14, lit_15, lit_20, lit_24, lit_25, lit_37, lit_40, lit_43, lit_48, lit_49, lit_50, lit_60, lit_96, lit_98, lit_99, lit_100, lit_999, lit_62, lit_74, lit_86, lit_92, lit_99999, lit_100000, lit_16, lit_32767, lit_2147483639, J_add, J_mul, J_sub, J_tn, J_le, J_lt, J_eq, Nat.not_lt_zero, false_or, or_false, le_t, le_f, lt_t, lt_f, eq_f, ↓reduceIte, callK_eq, letB_eq, joinB_eq, Nat.add_assoc, e4, gtA_J (v := aftrN u (upN r (25 + s) i) d (13 + s)) (B := 99) (by omega) (by omega) (fun q hq => (hle i (by omega) q hq).1)]
      cases hlt : gtA (aftrN u (upN r (25 + s) i) d (13 + s)) (selN gtA (bestN u r s d) i) with
      | true =>
        simp (disch := omega) only [lit_0, lit_1, lit_2, lit_3, lit_4, lit_5, lit_6, lit_7, lit_8, lit_9, lit_10, lit_11, lit_12, lit_13, lit_14, lit_15, lit_20, lit_24, lit_25, lit_37, lit_40, lit_43, lit_48, lit_49, lit_50, lit_60, lit_96, lit_98, lit_99, lit_100, lit_999, lit_62, lit_74, lit_86, lit_92, lit_99999, lit_100000, lit_16, lit_32767, lit_2147483639, J_add, J_mul, J_sub, J_tn, J_le, J_lt, J_eq, Nat.not_lt_zero, false_or, or_false, le_t, le_f, lt_t, lt_f, eq_f, ↓reduceIte, callK_eq, letB_eq, joinB_eq, Nat.add_assoc]
        exact hrc _ _ _ ⟨h4.2, by rw [selN_s (f := bestN u r s d) (i := i) rfl, hlt]; rfl, by rw [selN_s (f := bestN u r s d) (i := i) rfl, hlt]; rfl⟩
      | false =>
        simp (disch := omega) only [lit_0, lit_1, lit_2, lit_3, lit_4, lit_5, lit_6, lit_7, lit_8, lit_9, lit_10, lit_11, lit_12, lit_13, lit_14, lit_15, lit_20, lit_24, lit_25, lit_37, lit_40, lit_43, lit_48, lit_49, lit_50, lit_60, lit_96, lit_98, lit_99, lit_100, lit_999, lit_62, lit_74, lit_86, lit_92, lit_99999, lit_100000, lit_16, lit_32767, lit_2147483639, J_add, J_mul, J_sub, J_tn, J_le, J_lt, J_eq, Nat.not_lt_zero, false_or, or_false, le_t, le_f, lt_t, lt_f, eq_f, ↓reduceIte, callK_eq, letB_eq, joinB_eq, Nat.add_assoc, Bool.false_eq_true]
        exact hrc _ _ _ ⟨h4.2, by rw [selN_s (f := bestN u r s d) (i := i) rfl, hlt]; rfl, by rw [selN_s (f := bestN u r s d) (i := i) rfl, hlt]; rfl⟩
    · rintro S1 b l ⟨h1, rfl, rfl⟩ rc
      unfold sM_bestStitch_L33
      simp (disch := omega) only [lit_0, lit_1, lit_2, lit_3, lit_4, lit_5, lit_6, lit_7, lit_8, lit_9, lit_10, lit_11, lit_12, lit_13, lit_14, lit_15, lit_20, lit_24, lit_25, lit_37, lit_40, lit_43, lit_48, lit_49, lit_50, lit_60, lit_96, lit_98, lit_99, lit_100, lit_999, lit_62, lit_74, lit_86, lit_92, lit_99999, lit_100000, lit_16, lit_32767, lit_2147483639, J_add, J_mul, J_sub, J_tn, J_le, J_lt, J_eq, Nat.not_lt_zero, false_or, or_false, le_t, le_f, lt_t, lt_f, eq_f, ↓reduceIte, callK_eq, letB_eq, joinB_eq, Nat.add_assoc]
      exact mfr_ev h1 rfl
/-! worst -/
def worstN (u : RU) (r : Nat → Nat) (v s : Nat) : Option Nat := if gapN r s = true then none else some (popN (openN (aftrN u (loosN u.1 r s v) 7) u.1) 12)
theorem worstN_le {u : RU} {r : Nat → Nat} {w s v : Nat} (h : worstN u r w s = some v) : v ≤ 12 := by
  unfold worstN at h
  split at h
  · cases h
  · cases h
    exact popN_le _ _
theorem L_worst {ct : CT} {P : Nat → Nat → Option Nat} {h : AH} {S S2 : US} {u : RU} {r : Nat → Nat} (c : Core ct P h S S2 u r) (p1 : Int32) : AgW [(2, 1)] S S2 (t1_worst S ct P h p1) (s1_worst S ct P h p1) (sM_worst S2 p1) := by
  have cz := c.z
  have ho := c.1
  have ho3 := c.1.1
  have ho12 := c.1.2.1
  have hd9 := c.2.2.1
  unfold t1_worst s1_worst sM_worst
  refine Ag_z (Ag_rgtE 1 50 1 (by decide) (by decide) (by decide) (Or.inl rfl) (fun d _ hd e => ?_))
  subst e
  have hle : ∀ i q, selN gtA (worstN u r d) i = some q → q.2 ≤ 12 ∧ q.1 < i := fun i => selN_le (fun j v hj e => worstN_le e)
  refine Ag_ok (bJ (selN gtA (worstN u r d) u.1)) ?_ ?_
  · refine Ev.loop4 (i0 := 0) (fun i x b l => HFr S 1 x ∧ b = bJ (selN gtA (worstN u r d) i) ∧ l = lJ (-J 1) (selN gtA (worstN u r d) i)) u.1 ⟨HFr.rf, rfl, rfl⟩ (by omega) ?_ ?_ (by unfold FUEL; omega)
    · rintro i - hi S1 b l ⟨h1, rfl, rfl⟩ rc hrc
      have hn : S1 1 2 = J u.1 := by rw [h1.one]; exact c.2.2.2.1.1
      have hr0 := (KeepH.of (by omega) h1).row c.2.2.2.2.1
      have hR' := c.2.1.loos (v := d) (by omega) ho12 hi
      have hs1 := popN_le (openN (aftrN u (loosN u.1 r i d) 7) u.1) 12
      have hv := c.2.1.1 i (by omega)
      unfold s1_worst_L17
      rw [tH_isOpen hr0 (by omega) (by omega)]
      cases hg : gapN r i with
      | true =>
        have e : worstN u r d i = none := by unfold worstN; simp [hg]
        simp (disch := omega) only [lit_0, lit_1, lit_2, lit_3, lit_4, lit_5, lit_6, lit_7, lit_8, lit_9, lit_10, lit_11, lit_12, lit_13, lit_14, lit_15, lit_20, lit_24, lit_25, lit_37, lit_40, lit_43, lit_48, lit_49, lit_50, lit_60, lit_96, lit_98, lit_99, lit_100, lit_999, lit_62, lit_74, lit_86, lit_92, lit_99999, lit_100000, lit_16, lit_32767, lit_2147483639, J_add, J_mul, J_sub, J_tn, J_le, J_lt, J_eq, Nat.not_lt_zero, false_or, or_false, le_t, le_f, lt_t, lt_f, eq_f, ↓reduceIte, callK_eq, letB_eq, joinB_eq, Nat.add_assoc, hn, bI_t]
        exact hrc _ _ _ ⟨h1, by rw [selN_n e], by rw [selN_n e]⟩
      | false =>
        have e : worstN u r d i = some (popN (openN (aftrN u (loosN u.1 r i d) 7) u.1) 12) := by unfold worstN; simp [hg]
        simp (disch := omega) only [lit_0, lit_1, lit_2, lit_3, lit_4, lit_5, lit_6, lit_7, lit_8, lit_9, lit_10, lit_11, lit_12, lit_13, lit_14, lit_15, lit_20, lit_24, lit_25, lit_37, lit_40, lit_43, lit_48, lit_49, lit_50, lit_60, lit_96, lit_98, lit_99, lit_100, lit_999, lit_62, lit_74, lit_86, lit_92, lit_99999, lit_100000, lit_16, lit_32767, lit_2147483639, J_add, J_mul, J_sub, J_tn, J_le, J_lt, J_eq, Nat.not_lt_zero, false_or, or_false, le_t, le_f, lt_t, lt_f, eq_f, ↓reduceIte, callK_eq, letB_eq, joinB_eq, Nat.add_assoc, hn, bI_f]
        refine Ev.call (tH_be (S0 := S) (L := 1) h1 hr0 (by decide)) (fun S3 h3 => ?_)
        refine Ev.call (tH_loosen c.2.2.2.1.1 ho3 ho12 h3.1 c.2.1 hi (by omega)) (fun S5 h5 => ?_)
        refine Ev.call (tH_aftr (S0 := S) c.2.2.2.1 ho h5 hR' (by rw [loos_0]; omega) (by omega)) (fun S4 h4 => ?_)
        rw [tH_openMany (h4.rul c.2.2.2.1).1 ho12 h4.1 (hR'.aftr ho)]
        simp (disch := omega) only [lit_0, lit_1, lit_2, lit_3, lit_4, lit_5, lit_6, lit_7, lit_8, lit_9, lit_10, lit_11, lit_12, lit_13, lit_14, lit_15, lit_20, lit_24, lit_25, lit_37, lit_40, lit_43, lit_48, lit_49, lit_50, lit_60, lit_96, lit_98, lit_99, lit_100, lit_999, lit_62, lit_74, lit_86, lit_92, lit_99999, lit_100000, lit_16, lit_32767, lit_2147483639, J_add, J_mul, J_sub, J_tn, J_le, J_lt, J_eq, Nat.not_lt_zero, false_or, or_false, le_t, le_f, lt_t, lt_f, eq_f, ↓reduceIte, callK_eq, letB_eq, joinB_eq, Nat.add_assoc, gtA_J (v := popN (openN (aftrN u (loosN u.1 r i d) 7) u.1) 12) (B := 12) (by omega) (by omega) (fun q hq => (hle i q hq).1)]
        cases hlt : gtA (popN (openN (aftrN u (loosN u.1 r i d) 7) u.1) 12) (selN gtA (worstN u r d) i) with
        | true =>
          simp (disch := omega) only [lit_0, lit_1, lit_2, lit_3, lit_4, lit_5, lit_6, lit_7, lit_8, lit_9, lit_10, lit_11, lit_12, lit_13, lit_14, lit_15, lit_20, lit_24, lit_25, lit_37, lit_40, lit_43, lit_48, lit_49, lit_50, lit_60, lit_96, lit_98, lit_99, lit_100, lit_999, lit_62, lit_74, lit_86, lit_92, lit_99999, lit_100000, lit_16, lit_32767, lit_2147483639, J_add, J_mul, J_sub, J_tn, J_le, J_lt, J_eq, Nat.not_lt_zero, false_or, or_false, le_t, le_f, lt_t, lt_f, eq_f, ↓reduceIte, callK_eq, letB_eq, joinB_eq, Nat.add_assoc]
          exact hrc _ _ _ ⟨h4.2, by rw [selN_s e, hlt]; rfl, by rw [selN_s e, hlt]; rfl⟩
        | false =>
          simp (disch := omega) only [lit_0, lit_1, lit_2, lit_3, lit_4, lit_5, lit_6, lit_7, lit_8, lit_9, lit_10, lit_11, lit_12, lit_13, lit_14, lit_15, lit_20, lit_24, lit_25, lit_37, lit_40, lit_43, lit_48, lit_49, lit_50, lit_60, lit_96, lit_98, lit_99, lit_100, lit_999, lit_62, lit_74, lit_86, lit_92, lit_99999, lit_100000, lit_16, lit_32767, lit_2147483639, J_add, J_mul, J_sub, J_tn, J_le, J_lt, J_eq, Nat.not_lt_zero, false_or, or_false, le_t, le_f, lt_t, lt_f, eq_f, ↓reduceIte, callK_eq, letB_eq, joinB_eq, Nat.add_assoc, Bool.false_eq_true]
          exact hrc _ _ _ ⟨h4.2, by rw [selN_s e, hlt]; rfl, by rw [selN_s e, hlt]; rfl⟩
    · rintro S1 b l ⟨h1, rfl, rfl⟩ rc
      have hn : S1 1 2 = J u.1 := by rw [h1.one]; exact c.2.2.2.1.1
      unfold s1_worst_L17
      simp (disch := omega) only [lit_0, lit_1, lit_2, lit_3, lit_4, lit_5, lit_6, lit_7, lit_8, lit_9, lit_10, lit_11, lit_12, lit_13, lit_14, lit_15, lit_20, lit_24, lit_25, lit_37, lit_40, lit_43, lit_48, lit_49, lit_50, lit_60, lit_96, lit_98, lit_99, lit_100, lit_999, lit_62, lit_74, lit_86, lit_92, lit_99999, lit_100000, lit_16, lit_32767, lit_2147483639, J_add, J_mul, J_sub, J_tn, J_le, J_lt, J_eq, Nat.not_lt_zero, false_or, or_false, le_t, le_f, lt_t, lt_f, eq_f, ↓reduceIte, callK_eq, letB_eq, joinB_eq, Nat.add_assoc, hn]
      exact hfr_ev h1 rfl
  · refine Ev.loop4 (i0 := 0) (fun i x b l => MFr (Z0 S2) 49 x ∧ b = bJ (selN gtA (worstN u r d) i) ∧ l = lJ (-J 1) (selN gtA (worstN u r d) i)) u.1 ⟨MFr.rf, rfl, rfl⟩ (by omega) ?_ ?_ (by unfold FUEL; omega)
    · rintro i - hi S1 b l ⟨h1, rfl, rfl⟩ rc hrc
      have hn : S1 0 1 = J u.1 := (h1.rul cz.2.2.2.2.2.1).1
      have hr0 := (KeepM.of h1).row cz.2.2.2.2.2.2
      have hR' := c.2.1.loos (v := d) (by omega) ho12 hi
      have hs1 := popN_le (openN (aftrN u (loosN u.1 r i d) 7) u.1) 12
      have hv := c.2.1.1 i (by omega)
      have eg := tM_isGap (b := 0) hr0 (by omega) (show i < 12 by omega) (by omega)
      unfold sM_worst_L29
      cases hg : gapN r i with
      | true =>
        have e : worstN u r d i = none := by unfold worstN; simp [hg]
        simp (disch := omega) only [lit_0, lit_1, lit_2, lit_3, lit_4, lit_5, lit_6, lit_7, lit_8, lit_9, lit_10, lit_11, lit_12, lit_13, lit_14, lit_15, lit_20, lit_24, lit_25, lit_37, lit_40, lit_43, lit_48, lit_49, lit_50, lit_60, lit_96, lit_98, lit_99, lit_100, lit_999, lit_62, lit_74, lit_86, lit_92, lit_99999, lit_100000, lit_16, lit_32767, lit_2147483639, J_add, J_mul, J_sub, J_tn, J_le, J_lt, J_eq, Nat.not_lt_zero, false_or, or_false, le_t, le_f, lt_t, lt_f, eq_f, ↓reduceIte, callK_eq, letB_eq, joinB_eq, Nat.add_assoc, hn, eg, hg, bI_t]
        exact hrc _ _ _ ⟨h1, by rw [selN_n e], by rw [selN_n e]⟩
      | false =>
        have e : worstN u r d i = some (popN (openN (aftrN u (loosN u.1 r i d) 7) u.1) 12) := by unfold worstN; simp [hg]
        simp (disch := omega) only [lit_0, lit_1, lit_2, lit_3, lit_4, lit_5, lit_6, lit_7, lit_8, lit_9, lit_10, lit_11, lit_12, lit_13, lit_14, lit_15, lit_20, lit_24, lit_25, lit_37, lit_40, lit_43, lit_48, lit_49, lit_50, lit_60, lit_96, lit_98, lit_99, lit_100, lit_999, lit_62, lit_74, lit_86, lit_92, lit_99999, lit_100000, lit_16, lit_32767, lit_2147483639, J_add, J_mul, J_sub, J_tn, J_le, J_lt, J_eq, Nat.not_lt_zero, false_or, or_false, le_t, le_f, lt_t, lt_f, eq_f, ↓reduceIte, callK_eq, letB_eq, joinB_eq, Nat.add_assoc, hn, eg, hg, bI_f]
        refine Ev.call (tM_tries (S0 := Z0 S2) h1 hr0) (fun S3 h3 => ?_)
        refine Ev.call (tM_loosens cz.2.2.2.2.2.1.1 ho3 ho12 h3 c.2.1 (by decide) hi (by omega)) (fun S5 h5 => ?_)
        refine Ev.call (tM_daysGo (S0 := Z0 S2) cz.2.2.2.2.2.1 ho h5 hR' (by rw [loos_0]; omega) (by omega)) (fun S4 h4 => ?_)
        rw [tM_openMany (b := 49) (h4.rul cz.2.2.2.2.2.1).1 ho12 (by decide) h4.1 (hR'.aftr ho)]
        simp (disch := omega) only [lit_0, lit_1, lit_2, lit_3, lit_4, lit_5, lit_6, lit_7, lit_8, lit_9, lit_10, lit_11, lit_12, lit_13, lit_14, lit_15, lit_20, lit_24, lit_25, lit_37, lit_40, lit_43, lit_48, lit_49, lit_50, lit_60, lit_96, lit_98, lit_99, lit_100, lit_999, lit_62, lit_74, lit_86, lit_92, lit_99999, lit_100000, lit_16, lit_32767, lit_2147483639, J_add, J_mul, J_sub, J_tn, J_le, J_lt, J_eq, Nat.not_lt_zero, false_or, or_false, le_t, le_f, lt_t, lt_f, eq_f, ↓reduceIte, callK_eq, letB_eq, joinB_eq, Nat.add_assoc, gtA_J (v := popN (openN (aftrN u (loosN u.1 r i d) 7) u.1) 12) (B := 12) (by omega) (by omega) (fun q hq => (hle i q hq).1)]
        cases hlt : gtA (popN (openN (aftrN u (loosN u.1 r i d) 7) u.1) 12) (selN gtA (worstN u r d) i) with
        | true =>
          simp (disch := omega) only [lit_0, lit_1, lit_2, lit_3, lit_4, lit_5, lit_6, lit_7, lit_8, lit_9, lit_10, lit_11, lit_12, lit_13, lit_14, lit_15, lit_20, lit_24, lit_25, lit_37, lit_40, lit_43, lit_48, lit_49, lit_50, lit_60, lit_96, lit_98, lit_99, lit_100, lit_999, lit_62, lit_74, lit_86, lit_92, lit_99999, lit_100000, lit_16, lit_32767, lit_2147483639, J_add, J_mul, J_sub, J_tn, J_le, J_lt, J_eq, Nat.not_lt_zero, false_or, or_false, le_t, le_f, lt_t, lt_f, eq_f, ↓reduceIte, callK_eq, letB_eq, joinB_eq, Nat.add_assoc]
          exact hrc _ _ _ ⟨h4.2, by rw [selN_s e, hlt]; rfl, by rw [selN_s e, hlt]; rfl⟩
        | false =>
          simp (disch := omega) only [lit_0, lit_1, lit_2, lit_3, lit_4, lit_5, lit_6, lit_7, lit_8, lit_9, lit_10, lit_11, lit_12, lit_13, lit_14, lit_15, lit_20, lit_24, lit_25, lit_37, lit_40, lit_43, lit_48, lit_49, lit_50, lit_60, lit_96, lit_98, lit_99, lit_100, lit_999, lit_62, lit_74, lit_86, lit_92, lit_99999, lit_100000, lit_16, lit_32767, lit_2147483639, J_add, J_mul, J_sub, J_tn, J_le, J_lt, J_eq, Nat.not_lt_zero, false_or, or_false, le_t, le_f, lt_t, lt_f, eq_f, ↓reduceIte, callK_eq, letB_eq, joinB_eq, Nat.add_assoc, Bool.false_eq_true]
          exact hrc _ _ _ ⟨h4.2, by rw [selN_s e, hlt]; rfl, by rw [selN_s e, hlt]; rfl⟩
    · rintro S1 b l ⟨h1, rfl, rfl⟩ rc
      have hn : S1 0 1 = J u.1 := (h1.rul cz.2.2.2.2.2.1).1
      unfold sM_worst_L29
      simp (disch := omega) only [lit_0, lit_1, lit_2, lit_3, lit_4, lit_5, lit_6, lit_7, lit_8, lit_9, lit_10, lit_11, lit_12, lit_13, lit_14, lit_15, lit_20, lit_24, lit_25, lit_37, lit_40, lit_43, lit_48, lit_49, lit_50, lit_60, lit_96, lit_98, lit_99, lit_100, lit_999, lit_62, lit_74, lit_86, lit_92, lit_99999, lit_100000, lit_16, lit_32767, lit_2147483639, J_add, J_mul, J_sub, J_tn, J_le, J_lt, J_eq, Nat.not_lt_zero, false_or, or_false, le_t, le_f, lt_t, lt_f, eq_f, ↓reduceIte, callK_eq, letB_eq, joinB_eq, Nat.add_assoc, hn]
      exact mfr_ev h1 rfl
/-! spent -/
def oJ (a : Option Nat) : Int32 := match a with
  | none => -J 1
  | some d => J d
theorem L_spent {ct : CT} {P : Nat → Nat → Option Nat} {h : AH} {S S2 : US} {u : RU} {r : Nat → Nat} (c : Core ct P h S S2 u r) : AgW [] S S2 none (s1_spent S ct P h) (sM_spent S2) := by
  have cz := c.z
  have ho := c.1
  have ho6 := c.1.2.2.1
  have hd9 := c.2.2.1
  unfold s1_spent sM_spent
  refine Ag_z (Ag_ok (oJ (fstN (fun d => decide (sumN (aftrN u r d) 43 u.2.1 = 0)) 60)) ?_ ?_)
  · refine Ev.call (tH_be (S0 := S) (L := 1) HFr.rf c.2.2.2.2.1 (by decide)) (fun S1 h1 => ?_)
    refine Ev.loop2 (i0 := 0) (fun i x => HR S 1 (aftrN u r i) x ∧ ∀ j, j < i → decide (sumN (aftrN u r j) 43 u.2.1 = 0) = false) 61 ⟨h1.1, fun j hj => absurd hj (Nat.not_lt_zero j)⟩ (by omega) ?_ ?_ (by unfold FUEL; omega)
    · rintro i - hi S3 ⟨h3, h4⟩ rc hrc
      have hR3 := c.2.1.aftr (d := i) ho
      have hd : aftrN u r i 0 < 10000 := by rw [aftrN_0]; omega
      have hs : sumN (aftrN u r i) 43 u.2.1 ≤ 99 * u.2.1 := sumN_le (fun k hk => (hR3.2.1 k (by omega)).1)
      unfold s1_spent_L14
      rw [tH_allThread c.2.2.2.1 ho h3.1 hR3]
      by_cases hz : sumN (aftrN u r i) 43 u.2.1 = 0
      · simp (disch := omega) only [lit_0, lit_1, lit_2, lit_3, lit_4, lit_5, lit_6, lit_7, lit_8, lit_9, lit_10, lit_11, lit_12, lit_13, lit_14, lit_15, lit_20, lit_24, lit_25, lit_37, lit_40, lit_43, lit_48, lit_49, lit_50, lit_60, lit_96, lit_98, lit_99, lit_100, lit_999, lit_62, lit_74, lit_86, lit_92, lit_99999, lit_100000, lit_16, lit_32767, lit_2147483639, J_add, J_mul, J_sub, J_tn, J_le, J_lt, J_eq, Nat.not_lt_zero, false_or, or_false, le_t, le_f, lt_t, lt_f, eq_f, ↓reduceIte, callK_eq, letB_eq, joinB_eq, Nat.add_assoc, hz]
        refine hr_ev h3 ?_
        rw [fstN_some (c := fun d => decide (sumN (aftrN u r d) 43 u.2.1 = 0)) (i := i) (by omega) (decide_eq_true hz) h4]
        rfl
      · simp (disch := omega) only [lit_0, lit_1, lit_2, lit_3, lit_4, lit_5, lit_6, lit_7, lit_8, lit_9, lit_10, lit_11, lit_12, lit_13, lit_14, lit_15, lit_20, lit_24, lit_25, lit_37, lit_40, lit_43, lit_48, lit_49, lit_50, lit_60, lit_96, lit_98, lit_99, lit_100, lit_999, lit_62, lit_74, lit_86, lit_92, lit_99999, lit_100000, lit_16, lit_32767, lit_2147483639, J_add, J_mul, J_sub, J_tn, J_le, J_lt, J_eq, Nat.not_lt_zero, false_or, or_false, le_t, le_f, lt_t, lt_f, eq_f, ↓reduceIte, callK_eq, letB_eq, joinB_eq, Nat.add_assoc, hz]
        refine Ev.call (tH_pass c.2.2.2.1 ho h3 hR3 hd) (fun S4 h5 => hrc _ ⟨h5, fun j hj => ?_⟩)
        by_cases e : j = i
        · subst e; exact decide_eq_false hz
        · exact h4 j (by omega)
    · rintro S3 ⟨h3, h4⟩ rc
      unfold s1_spent_L14
      simp (disch := omega) only [lit_0, lit_1, lit_2, lit_3, lit_4, lit_5, lit_6, lit_7, lit_8, lit_9, lit_10, lit_11, lit_12, lit_13, lit_14, lit_15, lit_20, lit_24, lit_25, lit_37, lit_40, lit_43, lit_48, lit_49, lit_50, lit_60, lit_96, lit_98, lit_99, lit_100, lit_999, lit_62, lit_74, lit_86, lit_92, lit_99999, lit_100000, lit_16, lit_32767, lit_2147483639, J_add, J_mul, J_sub, J_tn, J_le, J_lt, J_eq, Nat.not_lt_zero, false_or, or_false, le_t, le_f, lt_t, lt_f, eq_f, ↓reduceIte, callK_eq, letB_eq, joinB_eq, Nat.add_assoc]
      refine hr_ev h3 ?_
      rw [fstN_none (c := fun d => decide (sumN (aftrN u r d) 43 u.2.1 = 0)) (fun j hj => h4 j (by omega))]
      rfl
  · refine Ev.call (tM_tries (S0 := Z0 S2) MFr.rf cz.2.2.2.2.2.2) (fun S1 h1 => ?_)
    refine Ev.loop2 (i0 := 0) (fun i x => MR (Z0 S2) 49 (aftrN u r i) x ∧ ∀ j, j < i → decide (sumN (aftrN u r j) 43 u.2.1 = 0) = false) 61 ⟨h1, fun j hj => absurd hj (Nat.not_lt_zero j)⟩ (by omega) ?_ ?_ (by unfold FUEL; omega)
    · rintro i - hi S3 ⟨h3, h4⟩ rc hrc
      have hR3 := c.2.1.aftr (d := i) ho
      have hd : aftrN u r i 0 < 10000 := by rw [aftrN_0]; omega
      have hs : sumN (aftrN u r i) 43 u.2.1 ≤ 99 * u.2.1 := sumN_le (fun k hk => (hR3.2.1 k (by omega)).1)
      have e1 := tM_sumOf (b := 49) (c := 43) (n := u.2.1) (by decide) h3.1 (by omega)
      have e2 := (h3.rul cz.2.2.2.2.2.1).2.1
      unfold sM_spent_L11
      by_cases hz : sumN (aftrN u r i) 43 u.2.1 = 0
      · simp (disch := omega) only [lit_0, lit_1, lit_2, lit_3, lit_4, lit_5, lit_6, lit_7, lit_8, lit_9, lit_10, lit_11, lit_12, lit_13, lit_14, lit_15, lit_20, lit_24, lit_25, lit_37, lit_40, lit_43, lit_48, lit_49, lit_50, lit_60, lit_96, lit_98, lit_99, lit_100, lit_999, lit_62, lit_74, lit_86, lit_92, lit_99999, lit_100000, lit_16, lit_32767, lit_2147483639, J_add, J_mul, J_sub, J_tn, J_le, J_lt, J_eq, Nat.not_lt_zero, false_or, or_false, le_t, le_f, lt_t, lt_f, eq_f, ↓reduceIte, callK_eq, letB_eq, joinB_eq, Nat.add_assoc, e1, e2, hz]
        refine mr_ev h3 ?_
        rw [fstN_some (c := fun d => decide (sumN (aftrN u r d) 43 u.2.1 = 0)) (i := i) (by omega) (decide_eq_true hz) h4]
        rfl
      · simp (disch := omega) only [lit_0, lit_1, lit_2, lit_3, lit_4, lit_5, lit_6, lit_7, lit_8, lit_9, lit_10, lit_11, lit_12, lit_13, lit_14, lit_15, lit_20, lit_24, lit_25, lit_37, lit_40, lit_43, lit_48, lit_49, lit_50, lit_60, lit_96, lit_98, lit_99, lit_100, lit_999, lit_62, lit_74, lit_86, lit_92, lit_99999, lit_100000, lit_16, lit_32767, lit_2147483639, J_add, J_mul, J_sub, J_tn, J_le, J_lt, J_eq, Nat.not_lt_zero, false_or, or_false, le_t, le_f, lt_t, lt_f, eq_f, ↓reduceIte, callK_eq, letB_eq, joinB_eq, Nat.add_assoc, e1, e2, hz]
        refine Ev.call (tM_dayGoes cz.2.2.2.2.2.1 ho h3 hR3 (by decide) hd) (fun S4 h5 => hrc _ ⟨h5, fun j hj => ?_⟩)
        by_cases e : j = i
        · subst e; exact decide_eq_false hz
        · exact h4 j (by omega)
    · rintro S3 ⟨h3, h4⟩ rc
      unfold sM_spent_L11
      simp (disch := omega) only [lit_0, lit_1, lit_2, lit_3, lit_4, lit_5, lit_6, lit_7, lit_8, lit_9, lit_10, lit_11, lit_12, lit_13, lit_14, lit_15, lit_20, lit_24, lit_25, lit_37, lit_40, lit_43, lit_48, lit_49, lit_50, lit_60, lit_96, lit_98, lit_99, lit_100, lit_999, lit_62, lit_74, lit_86, lit_92, lit_99999, lit_100000, lit_16, lit_32767, lit_2147483639, J_add, J_mul, J_sub, J_tn, J_le, J_lt, J_eq, Nat.not_lt_zero, false_or, or_false, le_t, le_f, lt_t, lt_f, eq_f, ↓reduceIte, callK_eq, letB_eq, joinB_eq, Nat.add_assoc]
      refine mr_ev h3 ?_
      rw [fstN_none (c := fun d => decide (sumN (aftrN u r d) 43 u.2.1 = 0)) (fun j hj => h4 j (by omega))]
      rfl
/-! toHold -/
def holdN (u : RU) (r : Nat → Nat) (s d more : Nat) : Bool := (fstN (fun j => gapN (aftrN u (upN r (13 + s) (min 99 (r (13 + s) + more))) (j + 1)) s) (d - 1)).isNone
theorem tH_holds {ct : CT} {P : Nat → Nat → Option Nat} {h : AH} {S0 S : US} {u : RU} {s d : Nat} {r : Nat → Nat} (hu : RulH ct P h S0 u) (ho : RuOk u) (H : HR S0 1 r S) (hR : ROk u.1 u.2.1 r) (hs : s < u.1) (hd : r 0 ≤ 999) (hd1 : 1 ≤ d) (hd2 : d ≤ 60) : Ev (s1_holds S ct P h (J s) (J d)) (fun o => o.1 = (fstN (fun j => gapN (aftrN u r (j + 1)) s) (d - 1)).isNone ∧ HFr S0 1 o.2) := by
  have ho12 := ho.2.1
  unfold s1_holds
  refine Ev.loop2 (i0 := 0) (fun i x => HR S0 1 (aftrN u r i) x ∧ ∀ j, j < i → gapN (aftrN u r (j + 1)) s = false) d ⟨H, fun j hj => absurd hj (Nat.not_lt_zero j)⟩ (by omega) ?_ ?_ (by unfold FUEL; omega)
  · rintro i - hi S1 ⟨h1, h2⟩ rc hrc
    have hR1 := hR.aftr (d := i) ho
    have hR2 := hR.aftr (d := i + 1) ho
    have hv := hR2.1 s (by omega)
    unfold s1_holds_L2
    simp (disch := omega) only [lit_0, lit_1, lit_2, lit_3, lit_4, lit_5, lit_6, lit_7, lit_8, lit_9, lit_10, lit_11, lit_12, lit_13, lit_14, lit_15, lit_20, lit_24, lit_25, lit_37, lit_40, lit_43, lit_48, lit_49, lit_50, lit_60, lit_96, lit_98, lit_99, lit_100, lit_999, lit_62, lit_74, lit_86, lit_92, lit_99999, lit_100000, lit_16, lit_32767, lit_2147483639, J_add, J_mul, J_sub, J_tn, J_le, J_lt, J_eq, Nat.not_lt_zero, false_or, or_false, le_t, le_f, lt_t, lt_f, eq_f, ↓reduceIte, callK_eq, letB_eq, joinB_eq, Nat.add_assoc]
    refine Ev.call (tH_pass hu ho h1 hR1 (by rw [aftrN_0]; omega)) (fun S3 h3 => ?_)
    have h3 : HR S0 1 (aftrN u r (i + 1)) S3 := h3
    rw [tH_isOpen h3.1 (by omega) (by omega)]
    cases hg : gapN (aftrN u r (i + 1)) s with
    | true =>
      simp (disch := omega) only [lit_0, lit_1, lit_2, lit_3, lit_4, lit_5, lit_6, lit_7, lit_8, lit_9, lit_10, lit_11, lit_12, lit_13, lit_14, lit_15, lit_20, lit_24, lit_25, lit_37, lit_40, lit_43, lit_48, lit_49, lit_50, lit_60, lit_96, lit_98, lit_99, lit_100, lit_999, lit_62, lit_74, lit_86, lit_92, lit_99999, lit_100000, lit_16, lit_32767, lit_2147483639, J_add, J_mul, J_sub, J_tn, J_le, J_lt, J_eq, Nat.not_lt_zero, false_or, or_false, le_t, le_f, lt_t, lt_f, eq_f, ↓reduceIte, callK_eq, letB_eq, joinB_eq, Nat.add_assoc, bI_t]
      refine ⟨_, rfl, ?_, h3.2⟩
      rw [fstN_some (c := fun j => gapN (aftrN u r (j + 1)) s) (i := i) (by omega) hg h2]
      rfl
    | false =>
      simp (disch := omega) only [lit_0, lit_1, lit_2, lit_3, lit_4, lit_5, lit_6, lit_7, lit_8, lit_9, lit_10, lit_11, lit_12, lit_13, lit_14, lit_15, lit_20, lit_24, lit_25, lit_37, lit_40, lit_43, lit_48, lit_49, lit_50, lit_60, lit_96, lit_98, lit_99, lit_100, lit_999, lit_62, lit_74, lit_86, lit_92, lit_99999, lit_100000, lit_16, lit_32767, lit_2147483639, J_add, J_mul, J_sub, J_tn, J_le, J_lt, J_eq, Nat.not_lt_zero, false_or, or_false, le_t, le_f, lt_t, lt_f, eq_f, ↓reduceIte, callK_eq, letB_eq, joinB_eq, Nat.add_assoc, bI_f]
      refine hrc _ ⟨h3, fun j hj => ?_⟩
      by_cases e : j = i
      · subst e; exact hg
      · exact h2 j (by omega)
  · rintro S1 ⟨h1, h2⟩ rc
    unfold s1_holds_L2
    simp (disch := omega) only [lit_0, lit_1, lit_2, lit_3, lit_4, lit_5, lit_6, lit_7, lit_8, lit_9, lit_10, lit_11, lit_12, lit_13, lit_14, lit_15, lit_20, lit_24, lit_25, lit_37, lit_40, lit_43, lit_48, lit_49, lit_50, lit_60, lit_96, lit_98, lit_99, lit_100, lit_999, lit_62, lit_74, lit_86, lit_92, lit_99999, lit_100000, lit_16, lit_32767, lit_2147483639, J_add, J_mul, J_sub, J_tn, J_le, J_lt, J_eq, Nat.not_lt_zero, false_or, or_false, le_t, le_f, lt_t, lt_f, eq_f, ↓reduceIte, callK_eq, letB_eq, joinB_eq, Nat.add_assoc]
    refine ⟨_, rfl, ?_, h1.2⟩
    rw [fstN_none (c := fun j => gapN (aftrN u r (j + 1)) s) (fun j hj => h2 j (by omega))]
    rfl
theorem L_toHold {ct : CT} {P : Nat → Nat → Option Nat} {h : AH} {S S2 : US} {u : RU} {r : Nat → Nat} (c : Core ct P h S S2 u r) (p1 p2 : Int32) : AgW [(1, 1), (2, 2)] S S2 (t1_toHold S ct P h p1 p2) (s1_toHold S ct P h p1 p2) (sM_toHold S2 p1 p2) := by
  have cz := c.z
  have ho := c.1
  have ho12 := c.1.2.1
  have hd9 := c.2.2.1
  unfold t1_toHold s1_toHold sM_toHold
  refine Ag_z (Ag_str c (by decide) (fun s hs e => ?_))
  subst e
  refine Ag_dayE 1 2 (by decide) (by decide) (Or.inr rfl) (fun d hd1 hd e => ?_)
  subst e
  have hv := c.2.1.1 s (by omega)
  refine Ag_ok (oJ (fstN (holdN u r s d) 99)) ?_ ?_
  · refine Ev.loop2 (i0 := 0) (fun i x => HFr S 1 x ∧ ∀ j, j < i → holdN u r s d j = false) 100 ⟨HFr.rf, fun j hj => absurd hj (Nat.not_lt_zero j)⟩ (by omega) ?_ ?_ (by unfold FUEL; omega)
    · rintro i - hi S1 ⟨h1, h2⟩ rc hrc
      have hr0 := (KeepH.of (by omega) h1).row c.2.2.2.2.1
      unfold s1_toHold_L17
      simp (disch := omega) only [lit_0, lit_1, lit_2, lit_3, lit_4, lit_5, lit_6, lit_7, lit_8, lit_9, lit_10, lit_11, lit_12, lit_13, lit_14, lit_15, lit_20, lit_24, lit_25, lit_37, lit_40, lit_43, lit_48, lit_49, lit_50, lit_60, lit_96, lit_98, lit_99, lit_100, lit_999, lit_62, lit_74, lit_86, lit_92, lit_99999, lit_100000, lit_16, lit_32767, lit_2147483639, J_add, J_mul, J_sub, J_tn, J_le, J_lt, J_eq, Nat.not_lt_zero, false_or, or_false, le_t, le_f, lt_t, lt_f, eq_f, ↓reduceIte, callK_eq, letB_eq, joinB_eq, Nat.add_assoc]
      refine Ev.call (tH_be (S0 := S) (L := 1) h1 hr0 (by decide)) (fun S3 h3 => ?_)
      have e3 := (h3.1.1.2.1 s (by omega)).2.1
      have e4 : (if r (13 + s) + i < 99 then J (r (13 + s) + i) else J 99) = J (min 99 (r (13 + s) + i)) := by
        split
        · rw [Nat.min_eq_right (by omega)]
        · rw [Nat.min_eq_left (by omega)]
      simp (disch := omega) only [lit_0, lit_1, lit_2, lit_3, lit_4, lit_5, lit_6, lit_7, lit_8, lit_9, lit_10, lit_11, lit_12, lit_13, lit_14, lit_15, lit_20, lit_24, lit_25, lit_37, lit_40, lit_43, lit_48, lit_49, lit_50, lit_60, lit_96, lit_98, lit_99, lit_100, lit_999, lit_62, lit_74, lit_86, lit_92, lit_99999, lit_100000, lit_16, lit_32767, lit_2147483639, J_add, J_mul, J_sub, J_tn, J_le, J_lt, J_eq, Nat.not_lt_zero, false_or, or_false, le_t, le_f, lt_t, lt_f, eq_f, ↓reduceIte, callK_eq, letB_eq, joinB_eq, Nat.add_assoc, e3, e4]
      refine Ev.call (tH_holds c.2.2.2.1 ho (h3.1.up2 (s := s) (v := min 99 (r (13 + s) + i)) (by omega)) (c.2.1.upB (by omega) (by omega)) hs (by rw [upN_off (by omega)]; exact hd9) hd1 hd) (fun o h4 => ?_)
      have h5 : o.1 = holdN u r s d i := h4.1
      rw [h5]
      cases hh : holdN u r s d i with
      | true =>
        simp (disch := omega) only [lit_0, lit_1, lit_2, lit_3, lit_4, lit_5, lit_6, lit_7, lit_8, lit_9, lit_10, lit_11, lit_12, lit_13, lit_14, lit_15, lit_20, lit_24, lit_25, lit_37, lit_40, lit_43, lit_48, lit_49, lit_50, lit_60, lit_96, lit_98, lit_99, lit_100, lit_999, lit_62, lit_74, lit_86, lit_92, lit_99999, lit_100000, lit_16, lit_32767, lit_2147483639, J_add, J_mul, J_sub, J_tn, J_le, J_lt, J_eq, Nat.not_lt_zero, false_or, or_false, le_t, le_f, lt_t, lt_f, eq_f, ↓reduceIte, callK_eq, letB_eq, joinB_eq, Nat.add_assoc, bI_t]
        refine hfr_ev h4.2 ?_
        rw [fstN_some (c := holdN u r s d) (i := i) (by omega) hh h2]
        rfl
      | false =>
        simp (disch := omega) only [lit_0, lit_1, lit_2, lit_3, lit_4, lit_5, lit_6, lit_7, lit_8, lit_9, lit_10, lit_11, lit_12, lit_13, lit_14, lit_15, lit_20, lit_24, lit_25, lit_37, lit_40, lit_43, lit_48, lit_49, lit_50, lit_60, lit_96, lit_98, lit_99, lit_100, lit_999, lit_62, lit_74, lit_86, lit_92, lit_99999, lit_100000, lit_16, lit_32767, lit_2147483639, J_add, J_mul, J_sub, J_tn, J_le, J_lt, J_eq, Nat.not_lt_zero, false_or, or_false, le_t, le_f, lt_t, lt_f, eq_f, ↓reduceIte, callK_eq, letB_eq, joinB_eq, Nat.add_assoc, bI_f]
        refine hrc _ ⟨h4.2, fun j hj => ?_⟩
        by_cases e : j = i
        · subst e; exact hh
        · exact h2 j (by omega)
    · rintro S1 ⟨h1, h2⟩ rc
      unfold s1_toHold_L17
      simp (disch := omega) only [lit_0, lit_1, lit_2, lit_3, lit_4, lit_5, lit_6, lit_7, lit_8, lit_9, lit_10, lit_11, lit_12, lit_13, lit_14, lit_15, lit_20, lit_24, lit_25, lit_37, lit_40, lit_43, lit_48, lit_49, lit_50, lit_60, lit_96, lit_98, lit_99, lit_100, lit_999, lit_62, lit_74, lit_86, lit_92, lit_99999, lit_100000, lit_16, lit_32767, lit_2147483639, J_add, J_mul, J_sub, J_tn, J_le, J_lt, J_eq, Nat.not_lt_zero, false_or, or_false, le_t, le_f, lt_t, lt_f, eq_f, ↓reduceIte, callK_eq, letB_eq, joinB_eq, Nat.add_assoc]
      refine hfr_ev h1 ?_
      rw [fstN_none (c := holdN u r s d) (fun j hj => h2 j (by omega))]
      rfl
  · refine Ev.loop2 (i0 := 0) (fun i x => MFr (Z0 S2) 49 x ∧ ∀ j, j < i → holdN u r s d j = false) 100 ⟨MFr.rf, fun j hj => absurd hj (Nat.not_lt_zero j)⟩ (by omega) ?_ ?_ (by unfold FUEL; omega)
    · rintro i - hi S1 ⟨h1, h2⟩ rc hrc
      have hr0 := (KeepM.of h1).row cz.2.2.2.2.2.2
      unfold sM_toHold_L27
      simp (disch := omega) only [lit_0, lit_1, lit_2, lit_3, lit_4, lit_5, lit_6, lit_7, lit_8, lit_9, lit_10, lit_11, lit_12, lit_13, lit_14, lit_15, lit_20, lit_24, lit_25, lit_37, lit_40, lit_43, lit_48, lit_49, lit_50, lit_60, lit_96, lit_98, lit_99, lit_100, lit_999, lit_62, lit_74, lit_86, lit_92, lit_99999, lit_100000, lit_16, lit_32767, lit_2147483639, J_add, J_mul, J_sub, J_tn, J_le, J_lt, J_eq, Nat.not_lt_zero, false_or, or_false, le_t, le_f, lt_t, lt_f, eq_f, ↓reduceIte, callK_eq, letB_eq, joinB_eq, Nat.add_assoc]
      refine Ev.call (tM_tries (S0 := Z0 S2) h1 hr0) (fun S3 h3 => ?_)
      have e3 : S3 14 (62 + s) = _ := mrow_at h3.1 (k := 13 + s) (by omega) (by omega)
      have h3' := h3.up (k := 13 + s) (v := min 99 (r (13 + s) + i)) (by omega)
      rw [show 49 + (13 + s) = 62 + s by omega] at h3'
      simp (disch := omega) only [lit_0, lit_1, lit_2, lit_3, lit_4, lit_5, lit_6, lit_7, lit_8, lit_9, lit_10, lit_11, lit_12, lit_13, lit_14, lit_15, lit_20, lit_24, lit_25, lit_37, lit_40, lit_43, lit_48, lit_49, lit_50, lit_60, lit_96, lit_98, lit_99, lit_100, lit_999, lit_62, lit_74, lit_86, lit_92, lit_99999, lit_100000, lit_16, lit_32767, lit_2147483639, J_add, J_mul, J_sub, J_tn, J_le, J_lt, J_eq, Nat.not_lt_zero, false_or, or_false, le_t, le_f, lt_t, lt_f, eq_f, ↓reduceIte, callK_eq, letB_eq, joinB_eq, Nat.add_assoc, e3, tM_lesser]
      generalize hr' : upN r (13 + s) (min 99 (r (13 + s) + i)) = r' at h3'
      have hR' : ROk u.1 u.2.1 r' := by rw [← hr']; exact c.2.1.upB (by omega) (by omega)
      have hd' : r' 0 ≤ 999 := by rw [← hr', upN_off (by omega)]; exact hd9
      have hh' : holdN u r s d i = (fstN (fun j => gapN (aftrN u r' (j + 1)) s) (d - 1)).isNone := by unfold holdN; rw [hr']
      refine Ev.loop3 (i0 := 0) (fun k x b => (b = J 1 ∧ MR (Z0 S2) 49 (aftrN u r' k) x ∧ ∀ j, j < k → gapN (aftrN u r' (j + 1)) s = false) ∨ (b = J 0 ∧ MFr (Z0 S2) 49 x ∧ holdN u r s d i = false)) d (Or.inl ⟨rfl, h3', fun j hj => absurd hj (Nat.not_lt_zero j)⟩) (by omega) ?_ ?_ (by unfold FUEL; omega)
      · rintro k - hk S5 b hI rc2 hrc2
        unfold sM_toHold_L68
        rcases hI with ⟨rfl, h5, h6⟩ | ⟨rfl, h5, h6⟩
        · have hR1 := hR'.aftr (d := k) ho
          have hR2 := hR'.aftr (d := k + 1) ho
          have hv2 := hR2.1 s (by omega)
          simp (disch := omega) only [lit_0, lit_1, lit_2, lit_3, lit_4, lit_5, lit_6, lit_7, lit_8, lit_9, lit_10, lit_11, lit_12, lit_13, lit_14, lit_15, lit_20, lit_24, lit_25, lit_37, lit_40, lit_43, lit_48, lit_49, lit_50, lit_60, lit_96, lit_98, lit_99, lit_100, lit_999, lit_62, lit_74, lit_86, lit_92, lit_99999, lit_100000, lit_16, lit_32767, lit_2147483639, J_add, J_mul, J_sub, J_tn, J_le, J_lt, J_eq, Nat.not_lt_zero, false_or, or_false, le_t, le_f, lt_t, lt_f, eq_f, ↓reduceIte, callK_eq, letB_eq, joinB_eq, Nat.add_assoc]
          refine Ev.call (tM_dayGoes cz.2.2.2.2.2.1 ho h5 hR1 (by decide) (by rw [aftrN_0]; omega)) (fun S7 h7 => ?_)
          have h7 : MR (Z0 S2) 49 (aftrN u r' (k + 1)) S7 := h7
          have eg := tM_isGap (b := 49) h7.1 (by decide) (show s < 12 by omega) (by omega)
          rw [eg]
          cases hg : gapN (aftrN u r' (k + 1)) s with
          | true =>
            simp (disch := omega) only [lit_0, lit_1, lit_2, lit_3, lit_4, lit_5, lit_6, lit_7, lit_8, lit_9, lit_10, lit_11, lit_12, lit_13, lit_14, lit_15, lit_20, lit_24, lit_25, lit_37, lit_40, lit_43, lit_48, lit_49, lit_50, lit_60, lit_96, lit_98, lit_99, lit_100, lit_999, lit_62, lit_74, lit_86, lit_92, lit_99999, lit_100000, lit_16, lit_32767, lit_2147483639, J_add, J_mul, J_sub, J_tn, J_le, J_lt, J_eq, Nat.not_lt_zero, false_or, or_false, le_t, le_f, lt_t, lt_f, eq_f, ↓reduceIte, callK_eq, letB_eq, joinB_eq, Nat.add_assoc, bI_t]
            refine hrc2 _ _ (Or.inr ⟨rfl, h7.2, ?_⟩)
            rw [hh', fstN_some (c := fun j => gapN (aftrN u r' (j + 1)) s) (i := k) (by omega) hg h6]
            rfl
          | false =>
            simp (disch := omega) only [lit_0, lit_1, lit_2, lit_3, lit_4, lit_5, lit_6, lit_7, lit_8, lit_9, lit_10, lit_11, lit_12, lit_13, lit_14, lit_15, lit_20, lit_24, lit_25, lit_37, lit_40, lit_43, lit_48, lit_49, lit_50, lit_60, lit_96, lit_98, lit_99, lit_100, lit_999, lit_62, lit_74, lit_86, lit_92, lit_99999, lit_100000, lit_16, lit_32767, lit_2147483639, J_add, J_mul, J_sub, J_tn, J_le, J_lt, J_eq, Nat.not_lt_zero, false_or, or_false, le_t, le_f, lt_t, lt_f, eq_f, ↓reduceIte, callK_eq, letB_eq, joinB_eq, Nat.add_assoc, bI_f]
            refine hrc2 _ _ (Or.inl ⟨rfl, h7, fun j hj => ?_⟩)
            by_cases e : j = k
            · subst e; exact hg
            · exact h6 j (by omega)
        · simp (disch := omega) only [lit_0, lit_1, lit_2, lit_3, lit_4, lit_5, lit_6, lit_7, lit_8, lit_9, lit_10, lit_11, lit_12, lit_13, lit_14, lit_15, lit_20, lit_24, lit_25, lit_37, lit_40, lit_43, lit_48, lit_49, lit_50, lit_60, lit_96, lit_98, lit_99, lit_100, lit_999, lit_62, lit_74, lit_86, lit_92, lit_99999, lit_100000, lit_16, lit_32767, lit_2147483639, J_add, J_mul, J_sub, J_tn, J_le, J_lt, J_eq, Nat.not_lt_zero, false_or, or_false, le_t, le_f, lt_t, lt_f, eq_f, ↓reduceIte, callK_eq, letB_eq, joinB_eq, Nat.add_assoc]
          unfold sM_toHold_J108
          simp (disch := omega) only [lit_0, lit_1, lit_2, lit_3, lit_4, lit_5, lit_6, lit_7, lit_8, lit_9, lit_10, lit_11, lit_12, lit_13, lit_14, lit_15, lit_20, lit_24, lit_25, lit_37, lit_40, lit_43, lit_48, lit_49, lit_50, lit_60, lit_96, lit_98, lit_99, lit_100, lit_999, lit_62, lit_74, lit_86, lit_92, lit_99999, lit_100000, lit_16, lit_32767, lit_2147483639, J_add, J_mul, J_sub, J_tn, J_le, J_lt, J_eq, Nat.not_lt_zero, false_or, or_false, le_t, le_f, lt_t, lt_f, eq_f, ↓reduceIte, callK_eq, letB_eq, joinB_eq, Nat.add_assoc]
          refine hrc _ ⟨h5, fun j hj => ?_⟩
          by_cases e : j = i
          · subst e; exact h6
          · exact h2 j (by omega)
      · rintro S5 b hI rc2
        unfold sM_toHold_L68
        rcases hI with ⟨rfl, h5, h6⟩ | ⟨rfl, h5, h6⟩
        · simp (disch := omega) only [lit_0, lit_1, lit_2, lit_3, lit_4, lit_5, lit_6, lit_7, lit_8, lit_9, lit_10, lit_11, lit_12, lit_13, lit_14, lit_15, lit_20, lit_24, lit_25, lit_37, lit_40, lit_43, lit_48, lit_49, lit_50, lit_60, lit_96, lit_98, lit_99, lit_100, lit_999, lit_62, lit_74, lit_86, lit_92, lit_99999, lit_100000, lit_16, lit_32767, lit_2147483639, J_add, J_mul, J_sub, J_tn, J_le, J_lt, J_eq, Nat.not_lt_zero, false_or, or_false, le_t, le_f, lt_t, lt_f, eq_f, ↓reduceIte, callK_eq, letB_eq, joinB_eq, Nat.add_assoc]
          unfold sM_toHold_J108
          simp (disch := omega) only [lit_0, lit_1, lit_2, lit_3, lit_4, lit_5, lit_6, lit_7, lit_8, lit_9, lit_10, lit_11, lit_12, lit_13, lit_14, lit_15, lit_20, lit_24, lit_25, lit_37, lit_40, lit_43, lit_48, lit_49, lit_50, lit_60, lit_96, lit_98, lit_99, lit_100, lit_999, lit_62, lit_74, lit_86, lit_92, lit_99999, lit_100000, lit_16, lit_32767, lit_2147483639, J_add, J_mul, J_sub, J_tn, J_le, J_lt, J_eq, Nat.not_lt_zero, false_or, or_false, le_t, le_f, lt_t, lt_f, eq_f, ↓reduceIte, callK_eq, letB_eq, joinB_eq, Nat.add_assoc]
          refine mr_ev h5 ?_
          rw [fstN_some (c := holdN u r s d) (i := i) (by omega) (by rw [hh', fstN_none (c := fun j => gapN (aftrN u r' (j + 1)) s) (fun j hj => h6 j (by omega))]; rfl) h2]
          rfl
        · simp (disch := omega) only [lit_0, lit_1, lit_2, lit_3, lit_4, lit_5, lit_6, lit_7, lit_8, lit_9, lit_10, lit_11, lit_12, lit_13, lit_14, lit_15, lit_20, lit_24, lit_25, lit_37, lit_40, lit_43, lit_48, lit_49, lit_50, lit_60, lit_96, lit_98, lit_99, lit_100, lit_999, lit_62, lit_74, lit_86, lit_92, lit_99999, lit_100000, lit_16, lit_32767, lit_2147483639, J_add, J_mul, J_sub, J_tn, J_le, J_lt, J_eq, Nat.not_lt_zero, false_or, or_false, le_t, le_f, lt_t, lt_f, eq_f, ↓reduceIte, callK_eq, letB_eq, joinB_eq, Nat.add_assoc]
          unfold sM_toHold_J108
          simp (disch := omega) only [lit_0, lit_1, lit_2, lit_3, lit_4, lit_5, lit_6, lit_7, lit_8, lit_9, lit_10, lit_11, lit_12, lit_13, lit_14, lit_15, lit_20, lit_24, lit_25, lit_37, lit_40, lit_43, lit_48, lit_49, lit_50, lit_60, lit_96, lit_98, lit_99, lit_100, lit_999, lit_62, lit_74, lit_86, lit_92, lit_99999, lit_100000, lit_16, lit_32767, lit_2147483639, J_add, J_mul, J_sub, J_tn, J_le, J_lt, J_eq, Nat.not_lt_zero, false_or, or_false, le_t, le_f, lt_t, lt_f, eq_f, ↓reduceIte, callK_eq, letB_eq, joinB_eq, Nat.add_assoc]
          refine hrc _ ⟨h5, fun j hj => ?_⟩
          by_cases e : j = i
          · subst e; exact h6
          · exact h2 j (by omega)
    · rintro S1 ⟨h1, h2⟩ rc
      unfold sM_toHold_L27
      simp (disch := omega) only [lit_0, lit_1, lit_2, lit_3, lit_4, lit_5, lit_6, lit_7, lit_8, lit_9, lit_10, lit_11, lit_12, lit_13, lit_14, lit_15, lit_20, lit_24, lit_25, lit_37, lit_40, lit_43, lit_48, lit_49, lit_50, lit_60, lit_96, lit_98, lit_99, lit_100, lit_999, lit_62, lit_74, lit_86, lit_92, lit_99999, lit_100000, lit_16, lit_32767, lit_2147483639, J_add, J_mul, J_sub, J_tn, J_le, J_lt, J_eq, Nat.not_lt_zero, false_or, or_false, le_t, le_f, lt_t, lt_f, eq_f, ↓reduceIte, callK_eq, letB_eq, joinB_eq, Nat.add_assoc]
      refine mfr_ev h1 ?_
      rw [fstN_none (c := holdN u r s d) (fun j hj => h2 j (by omega))]
      rfl
