set_option maxRecDepth 100000
/-! THE PLAIN LAW, 30: a game -/
def plB (u : RU) (r : Nat → Nat) (w : Nat) (b : Bool) : Nat → Nat := mendN u.2.2.2.1 (if b = true then goN u.1 r w else r) w
theorem ROk.pl {u : RU} {r : Nat → Nat} {w : Nat} {b : Bool} (ho : RuOk u) (h : ROk u.1 u.2.1 r) (hw : w < u.2.1) : ROk u.1 u.2.1 (plB u r w b) := by
  unfold plB
  refine ROk.mend ?_ ho.2.1 ho.2.2.1 hw
  cases b with
  | true => exact h.goOn (by have := ho.1; omega) ho.2.1 ho.2.2.1 hw
  | false => exact h
theorem pl_0 {u : RU} {r : Nat → Nat} {w : Nat} {b : Bool} : plB u r w b 0 = r 0 := by
  unfold plB
  rw [mend_0]
  cases b with
  | true => show goN u.1 r w 0 = r 0; unfold goN; exact upN_off (by omega)
  | false => rfl
def gnR (u : RU) (r : Nat → Nat) (w o : Nat) (c d : Int32) : Nat → Nat := aftrN u (if w < o then plB u (plB u r w (decide (c = J 1))) o (decide (d = J 1)) else plB u (plB u r o (decide (d = J 1))) w (decide (c = J 1))) 5
def gvN (rr r : Nat → Nat) (w : Nat) (c : Int32) : Int32 := J (rr (13 + r (37 + w)) / 10) - c
theorem gnR_sw {u : RU} {r : Nat → Nat} {w o : Nat} {c d : Int32} (h : w ≠ o) : gnR u r w o c d = gnR u r o w d c := by
  unfold gnR
  by_cases h1 : w < o
  · rw [if_pos h1, if_neg (by omega)]
  · rw [if_neg h1, if_pos (by omega)]
theorem tH_moves {ct : CT} {P : Nat → Nat → Option Nat} {h : AH} {S0 S : US} {u : RU} {w : Nat} {r : Nat → Nat} {b : Bool} (hu : RulH ct P h S0 u) (ho : RuOk u) (H : HR S0 1 r S) (hR : ROk u.1 u.2.1 r) (hw : w < u.2.1) : Ev (s1_moves S P h (J w) (bI b)) (HR S0 1 (plB u r w b)) := by
  unfold s1_moves plB
  cases b with
  | true =>
    simp (disch := omega) only [lit_0, lit_1, lit_2, lit_3, lit_4, lit_5, lit_6, lit_7, lit_8, lit_9, lit_10, lit_11, lit_12, lit_13, lit_14, lit_15, lit_20, lit_24, lit_25, lit_37, lit_40, lit_43, lit_48, lit_49, lit_50, lit_60, lit_96, lit_98, lit_99, lit_100, lit_999, lit_62, lit_74, lit_86, lit_92, lit_99999, lit_100000, lit_16, lit_32767, lit_2147483639, J_add, J_mul, J_sub, J_tn, J_le, J_lt, J_eq, Nat.not_lt_zero, false_or, or_false, le_t, le_f, lt_t, lt_f, eq_f, ↓reduceIte, callK_eq, letB_eq, joinB_eq, Nat.add_assoc, bI_t]
    refine Ev.call (tH_goOn hu.1 ho.1 ho.2.1 ho.2.2.1 H hR hw) (fun S1 h1 => ?_)
    refine Ev.call (tH_mend hu ho h1 (hR.goOn (by have := ho.1; omega) ho.2.1 ho.2.2.1 hw) hw) (fun S3 h3 => ⟨_, rfl, h3⟩)
  | false =>
    simp (disch := omega) only [lit_0, lit_1, lit_2, lit_3, lit_4, lit_5, lit_6, lit_7, lit_8, lit_9, lit_10, lit_11, lit_12, lit_13, lit_14, lit_15, lit_20, lit_24, lit_25, lit_37, lit_40, lit_43, lit_48, lit_49, lit_50, lit_60, lit_96, lit_98, lit_99, lit_100, lit_999, lit_62, lit_74, lit_86, lit_92, lit_99999, lit_100000, lit_16, lit_32767, lit_2147483639, J_add, J_mul, J_sub, J_tn, J_le, J_lt, J_eq, Nat.not_lt_zero, false_or, or_false, le_t, le_f, lt_t, lt_f, eq_f, ↓reduceIte, callK_eq, letB_eq, joinB_eq, Nat.add_assoc, bI_f]
    exact Ev.call (tH_mend hu ho H hR hw) (fun S3 h3 => ⟨_, rfl, h3⟩)
theorem tM_plays {S0 S : US} {u : RU} {w : Nat} {r : Nat → Nat} {c : Int32} (hu : RulM S0 u) (ho : RuOk u) (H : MR S0 49 r S) (hR : ROk u.1 u.2.1 r) (hw : w < u.2.1) : Ev (sM_plays S (J w) c) (MR S0 49 (plB u r w (decide (c = J 1)))) := by
  unfold sM_plays plB
  by_cases h : c = J 1
  · rw [if_pos (show c = 1 from h), decide_eq_true h]
    refine Ev.call (tM_goesOn (b := 49) hu.1 ho.1 ho.2.1 ho.2.2.1 H hR (by omega) hw) (fun S1 h1 => ?_)
    refine Ev.call (tM_mends (b := 49) hu.2.2.2.1 ho.2.2.2.2.2 ho.2.1 ho.2.2.1 h1 (hR.goOn (by have := ho.1; omega) ho.2.1 ho.2.2.1 hw) (by omega) hw) (fun S3 h3 => ⟨_, rfl, h3⟩)
  · rw [if_neg (show ¬ c = 1 from h), decide_eq_false h]
    exact Ev.call (tM_mends (b := 49) hu.2.2.2.1 ho.2.2.2.2.2 ho.2.1 ho.2.2.1 H hR (by omega) hw) (fun S3 h3 => ⟨_, rfl, h3⟩)
theorem bI_1 {c : Int32} {α : Type} {k : Int32 → α} : (if c = J 1 then k (J 1) else k (J 0)) = k (bI (decide (c = J 1))) := by
  by_cases h : c = J 1
  · rw [if_pos h, decide_eq_true h]; rfl
  · rw [if_neg h, decide_eq_false h]; rfl
theorem tM_gains {S0 S : US} {u : RU} {w o : Nat} {r : Nat → Nat} {c d : Int32} (hu : RulM S0 u) (ho : RuOk u) (hr : MRow S0 0 r) (hF : MFr S0 49 S) (hR : ROk u.1 u.2.1 r) (hd : r 0 ≤ 999) (hw : w < u.2.1) (hwo : o < u.2.1) (hne : w ≠ o) : Ev (sM_gains S (J w) (J o) c d) (fun x => x.1 = gvN (gnR u r w o c d) r w c ∧ MFr S0 49 x.2) := by
  have hm := ho.2.2.1
  have ho12 := ho.2.1
  have hend : ∀ S5 rr, MR S0 49 rr S5 → ROk u.1 u.2.1 rr → rr 0 = r 0 → aftrN u rr 5 = gnR u r w o c d → Ev (sM_gains_J33 (J w) c S5) (fun x => x.1 = gvN (gnR u r w o c d) r w c ∧ MFr S0 49 x.2) := by
    intro S5 rr h5 hR5 h50 he
    unfold sM_gains_J33
    refine Ev.call (tM_daysGo (S0 := S0) (d := 5) hu ho h5 hR5 (by omega) (by omega)) (fun S6 h6 => ?_)
    have a1 : S6 14 (37 + w) = J (r (37 + w)) := by
      rw [h6.2.2 (37 + w) (Or.inl (by omega))]
      exact mrow_0 hr (by omega)
    have b1 := hR.2.2 w hw
    have a2 := mrow_at (k := 13 + r (37 + w)) (j := 62 + r (37 + w)) h6.1 (by omega) (by omega)
    have b2 := ((hR5.aftr (d := 5) ho).1 (r (37 + w)) (by omega)).2.1
    simp (disch := omega) only [lit_0, lit_1, lit_2, lit_3, lit_4, lit_5, lit_6, lit_7, lit_8, lit_9, lit_10, lit_11, lit_12, lit_13, lit_14, lit_15, lit_20, lit_24, lit_25, lit_37, lit_40, lit_43, lit_48, lit_49, lit_50, lit_60, lit_96, lit_98, lit_99, lit_100, lit_999, lit_62, lit_74, lit_86, lit_92, lit_99999, lit_100000, lit_16, lit_32767, lit_2147483639, J_add, J_mul, J_sub, J_tn, J_le, J_lt, J_eq, Nat.not_lt_zero, false_or, or_false, le_t, le_f, lt_t, lt_f, eq_f, ↓reduceIte, callK_eq, letB_eq, joinB_eq, Nat.add_assoc, a1, a2, J_div]
    refine ⟨_, rfl, ?_, h6.2⟩
    rw [he]
    rfl
  have hr1 : MRow S 0 r := fun k hk => by
    rw [Nat.zero_add, hF.2 k (Or.inl hk)]
    exact mrow_0 hr hk
  unfold sM_gains
  refine Ev.call (tM_tries (S0 := S0) hF hr1) (fun S1 h1 => ?_)
  by_cases hlt : w < o
  · simp (disch := omega) only [lit_0, lit_1, lit_2, lit_3, lit_4, lit_5, lit_6, lit_7, lit_8, lit_9, lit_10, lit_11, lit_12, lit_13, lit_14, lit_15, lit_20, lit_24, lit_25, lit_37, lit_40, lit_43, lit_48, lit_49, lit_50, lit_60, lit_96, lit_98, lit_99, lit_100, lit_999, lit_62, lit_74, lit_86, lit_92, lit_99999, lit_100000, lit_16, lit_32767, lit_2147483639, J_add, J_mul, J_sub, J_tn, J_le, J_lt, J_eq, Nat.not_lt_zero, false_or, or_false, le_t, le_f, lt_t, lt_f, eq_f, ↓reduceIte, callK_eq, letB_eq, joinB_eq, Nat.add_assoc]
    refine Ev.call (tM_plays (c := c) hu ho h1 hR hw) (fun S3 h3 => ?_)
    unfold sM_gains_J15
    refine Ev.call (tM_plays (c := d) hu ho h3 (hR.pl ho hw) hwo) (fun S4 h4 => ?_)
    simp (disch := omega) only [lit_0, lit_1, lit_2, lit_3, lit_4, lit_5, lit_6, lit_7, lit_8, lit_9, lit_10, lit_11, lit_12, lit_13, lit_14, lit_15, lit_20, lit_24, lit_25, lit_37, lit_40, lit_43, lit_48, lit_49, lit_50, lit_60, lit_96, lit_98, lit_99, lit_100, lit_999, lit_62, lit_74, lit_86, lit_92, lit_99999, lit_100000, lit_16, lit_32767, lit_2147483639, J_add, J_mul, J_sub, J_tn, J_le, J_lt, J_eq, Nat.not_lt_zero, false_or, or_false, le_t, le_f, lt_t, lt_f, eq_f, ↓reduceIte, callK_eq, letB_eq, joinB_eq, Nat.add_assoc]
    refine hend S4 _ h4 ((hR.pl ho hw).pl ho hwo) (by rw [pl_0, pl_0]) ?_
    unfold gnR
    rw [if_pos hlt]
  · simp (disch := omega) only [lit_0, lit_1, lit_2, lit_3, lit_4, lit_5, lit_6, lit_7, lit_8, lit_9, lit_10, lit_11, lit_12, lit_13, lit_14, lit_15, lit_20, lit_24, lit_25, lit_37, lit_40, lit_43, lit_48, lit_49, lit_50, lit_60, lit_96, lit_98, lit_99, lit_100, lit_999, lit_62, lit_74, lit_86, lit_92, lit_99999, lit_100000, lit_16, lit_32767, lit_2147483639, J_add, J_mul, J_sub, J_tn, J_le, J_lt, J_eq, Nat.not_lt_zero, false_or, or_false, le_t, le_f, lt_t, lt_f, eq_f, ↓reduceIte, callK_eq, letB_eq, joinB_eq, Nat.add_assoc]
    unfold sM_gains_J15
    refine Ev.call (tM_plays (c := d) hu ho h1 hR hwo) (fun S4 h4 => ?_)
    simp (disch := omega) only [lit_0, lit_1, lit_2, lit_3, lit_4, lit_5, lit_6, lit_7, lit_8, lit_9, lit_10, lit_11, lit_12, lit_13, lit_14, lit_15, lit_20, lit_24, lit_25, lit_37, lit_40, lit_43, lit_48, lit_49, lit_50, lit_60, lit_96, lit_98, lit_99, lit_100, lit_999, lit_62, lit_74, lit_86, lit_92, lit_99999, lit_100000, lit_16, lit_32767, lit_2147483639, J_add, J_mul, J_sub, J_tn, J_le, J_lt, J_eq, Nat.not_lt_zero, false_or, or_false, le_t, le_f, lt_t, lt_f, eq_f, ↓reduceIte, callK_eq, letB_eq, joinB_eq, Nat.add_assoc]
    refine Ev.call (tM_plays (c := c) hu ho h4 (hR.pl ho hwo) hw) (fun S5 h5 => ?_)
    refine hend S5 _ h5 ((hR.pl ho hwo).pl ho hw) (by rw [pl_0, pl_0]) ?_
    unfold gnR
    rw [if_neg hlt]
theorem tH_gains {ct : CT} {ad : Nat → Nat} {P : Nat → Nat → Option Nat} {G : GS} {S0 S : US} {u : RU} {w o : Nat} {r : Nat → Nat} {c d : Int32} (hu : RulH ct P G.1 S0 u) (ho : RuOk u) (hr : HRow S0 0 r) (hF : HFr S0 1 S) (hR : ROk u.1 u.2.1 r) (hd : r 0 ≤ 999) (hw : w < u.2.1) (hwo : o < u.2.1) (hne : w ≠ o) (hb : Bd G) (hm : Rm ct G 1 2) : Ev (s1_gains ct ad P S G (J w) (J o) c d) (fun x => (∃ b f, x.1 = some b ∧ x.2.2.1 b = some (true, .inl (0, 2, .inl f)) ∧ f 0 = gvN (gnR u r w o c d) r w c ∧ f 1 = gvN (gnR u r w o c d) r o d) ∧ HFr S0 1 x.2.1 ∧ Gr (fun _ => False) G x.2.2 1 2) := by
  have hm6 := ho.2.2.1
  have ho12 := ho.2.1
  have hend : ∀ S5 rr b, HR S0 1 rr S5 → ROk u.1 u.2.1 rr → rr 0 = r 0 → ∀ hi, hi < u.2.1 → (if w < o then J o else J w) = J hi → aftrN u (plB u rr hi b) 5 = gnR u r w o c d → Ev (s1_gains_J67 (J w) (J o) c d P G ct S5 (bI b)) (fun x => (∃ b f, x.1 = some b ∧ x.2.2.1 b = some (true, .inl (0, 2, .inl f)) ∧ f 0 = gvN (gnR u r w o c d) r w c ∧ f 1 = gvN (gnR u r w o c d) r o d) ∧ HFr S0 1 x.2.1 ∧ Gr (fun _ => False) G x.2.2 1 2) := by
    intro S5 rr b h5 hR5 h50 hi hhi ehi he
    unfold s1_gains_J67
    simp (disch := omega) only [lit_0, lit_1, lit_2, lit_3, lit_4, lit_5, lit_6, lit_7, lit_8, lit_9, lit_10, lit_11, lit_12, lit_13, lit_14, lit_15, lit_20, lit_24, lit_25, lit_37, lit_40, lit_43, lit_48, lit_49, lit_50, lit_60, lit_96, lit_98, lit_99, lit_100, lit_999, lit_62, lit_74, lit_86, lit_92, lit_99999, lit_100000, lit_16, lit_32767, lit_2147483639, J_add, J_mul, J_sub, J_tn, J_le, J_lt, J_eq, Nat.not_lt_zero, false_or, or_false, le_t, le_f, lt_t, lt_f, eq_f, ↓reduceIte, callK_eq, letB_eq, joinB_eq, Nat.add_assoc, ehi]
    refine Ev.call (tH_moves hu ho h5 hR5 hhi) (fun S6 h6 => ?_)
    refine Ev.call (tH_aftr (S0 := S0) (d := 5) hu ho h6 (hR5.pl ho hhi) (by rw [pl_0]; omega) (by omega)) (fun S7 h7 => ?_)
    have hrow := (KeepH.of (by omega) h7.2).row hr
    have a1 := (hrow.2.2 w (by omega)).1
    have a2 := (hrow.2.2 o (by omega)).1
    have b1 := hR.2.2 w hw
    have b2 := hR.2.2 o hwo
    have v1 := (h7.1.2.1 (r (37 + w)) (by omega)).2.1
    have v2 := (h7.1.2.1 (r (37 + o)) (by omega)).2.1
    have x1 := (((hR5.pl (b := b) ho hhi).aftr (d := 5) ho).1 (r (37 + w)) (by omega)).2.1
    have x2 := (((hR5.pl (b := b) ho hhi).aftr (d := 5) ho).1 (r (37 + o)) (by omega)).2.1
    simp (disch := omega) only [lit_0, lit_1, lit_2, lit_3, lit_4, lit_5, lit_6, lit_7, lit_8, lit_9, lit_10, lit_11, lit_12, lit_13, lit_14, lit_15, lit_20, lit_24, lit_25, lit_37, lit_40, lit_43, lit_48, lit_49, lit_50, lit_60, lit_96, lit_98, lit_99, lit_100, lit_999, lit_62, lit_74, lit_86, lit_92, lit_99999, lit_100000, lit_16, lit_32767, lit_2147483639, J_add, J_mul, J_sub, J_tn, J_le, J_lt, J_eq, Nat.not_lt_zero, false_or, or_false, le_t, le_f, lt_t, lt_f, eq_f, ↓reduceIte, callK_eq, letB_eq, joinB_eq, Nat.add_assoc, a1, a2, v1, v2, J_div]
    rw [newB_eq hm]
    have ga : Gr (fun _ => False) G (addG G 2 (.inl (0, 2, .inl (fun _ => J 0)))) 1 2 := grw_add hb
    refine Ev.pz addG_at (by omega) (by omega) (fun G1 k1 g1 _ => ?_)
    refine Ev.pz k1 (by omega) (by omega) (fun G2 k2 g2 _ => ?_)
    rw [he] at k2
    refine ⟨_, rfl, ⟨_, _, rfl, k2, ?_, ?_⟩, h7.2, (ga.fresh (g1.tr g2) hb (fun a ha => by rw [ha]; exact Nat.le_refl _))⟩
    · rw [upd_ne (by omega), upd_at]; rfl
    · rw [upd_at]; rfl
  unfold s1_gains
  refine Ev.call (tH_be (S0 := S0) (L := 1) hF ((KeepH.of (by omega) hF).row hr) (by decide)) (fun S1 h1 => ?_)
  by_cases hlt : w < o
  · simp (disch := omega) only [lit_0, lit_1, lit_2, lit_3, lit_4, lit_5, lit_6, lit_7, lit_8, lit_9, lit_10, lit_11, lit_12, lit_13, lit_14, lit_15, lit_20, lit_24, lit_25, lit_37, lit_40, lit_43, lit_48, lit_49, lit_50, lit_60, lit_96, lit_98, lit_99, lit_100, lit_999, lit_62, lit_74, lit_86, lit_92, lit_99999, lit_100000, lit_16, lit_32767, lit_2147483639, J_add, J_mul, J_sub, J_tn, J_le, J_lt, J_eq, Nat.not_lt_zero, false_or, or_false, le_t, le_f, lt_t, lt_f, eq_f, ↓reduceIte, callK_eq, letB_eq, joinB_eq, Nat.add_assoc]
    unfold s1_gains_J29
    simp only [lit_0, lit_1, joinB_eq]
    rw [bI_1 (k := fun z => s1_gains_J38 (J w) (J o) c d P G ct S1 z)]
    unfold s1_gains_J38
    simp (disch := omega) only [lit_0, lit_1, lit_2, lit_3, lit_4, lit_5, lit_6, lit_7, lit_8, lit_9, lit_10, lit_11, lit_12, lit_13, lit_14, lit_15, lit_20, lit_24, lit_25, lit_37, lit_40, lit_43, lit_48, lit_49, lit_50, lit_60, lit_96, lit_98, lit_99, lit_100, lit_999, lit_62, lit_74, lit_86, lit_92, lit_99999, lit_100000, lit_16, lit_32767, lit_2147483639, J_add, J_mul, J_sub, J_tn, J_le, J_lt, J_eq, Nat.not_lt_zero, false_or, or_false, le_t, le_f, lt_t, lt_f, eq_f, ↓reduceIte, callK_eq, letB_eq, joinB_eq, Nat.add_assoc]
    refine Ev.call (tH_moves hu ho h1.1 hR hw) (fun S3 h3 => ?_)
    unfold s1_gains_J58
    simp only [lit_0, lit_1, joinB_eq]
    rw [bI_1 (k := fun z => s1_gains_J67 (J w) (J o) c d P G ct S3 z)]
    refine hend S3 _ _ h3 (hR.pl ho hw) pl_0 o hwo (if_pos hlt) ?_
    unfold gnR
    rw [if_pos hlt]
  · simp (disch := omega) only [lit_0, lit_1, lit_2, lit_3, lit_4, lit_5, lit_6, lit_7, lit_8, lit_9, lit_10, lit_11, lit_12, lit_13, lit_14, lit_15, lit_20, lit_24, lit_25, lit_37, lit_40, lit_43, lit_48, lit_49, lit_50, lit_60, lit_96, lit_98, lit_99, lit_100, lit_999, lit_62, lit_74, lit_86, lit_92, lit_99999, lit_100000, lit_16, lit_32767, lit_2147483639, J_add, J_mul, J_sub, J_tn, J_le, J_lt, J_eq, Nat.not_lt_zero, false_or, or_false, le_t, le_f, lt_t, lt_f, eq_f, ↓reduceIte, callK_eq, letB_eq, joinB_eq, Nat.add_assoc]
    unfold s1_gains_J29
    simp only [lit_0, lit_1, joinB_eq]
    rw [bI_1 (k := fun z => s1_gains_J38 (J w) (J o) c d P G ct S1 z)]
    unfold s1_gains_J38
    simp (disch := omega) only [lit_0, lit_1, lit_2, lit_3, lit_4, lit_5, lit_6, lit_7, lit_8, lit_9, lit_10, lit_11, lit_12, lit_13, lit_14, lit_15, lit_20, lit_24, lit_25, lit_37, lit_40, lit_43, lit_48, lit_49, lit_50, lit_60, lit_96, lit_98, lit_99, lit_100, lit_999, lit_62, lit_74, lit_86, lit_92, lit_99999, lit_100000, lit_16, lit_32767, lit_2147483639, J_add, J_mul, J_sub, J_tn, J_le, J_lt, J_eq, Nat.not_lt_zero, false_or, or_false, le_t, le_f, lt_t, lt_f, eq_f, ↓reduceIte, callK_eq, letB_eq, joinB_eq, Nat.add_assoc]
    refine Ev.call (tH_moves hu ho h1.1 hR hwo) (fun S3 h3 => ?_)
    unfold s1_gains_J58
    simp only [lit_0, lit_1, joinB_eq]
    rw [bI_1 (k := fun z => s1_gains_J67 (J w) (J o) c d P G ct S3 z)]
    refine hend S3 _ _ h3 (hR.pl ho hwo) pl_0 w hw (if_neg hlt) ?_
    unfold gnR
    rw [if_neg hlt]
/-- no one gains by another choice -/
def naN (u : RU) (r : Nat → Nat) (w o a b : Nat) : Bool := !decide (gvN (gnR u r w o (J a) (J b)) r w (J a) < gvN (gnR u r w o (J (1 - a)) (J b)) r w (J (1 - a))) && decide (gvN (gnR u r w o (J a) (J (1 - b))) r o (J (1 - b)) ≤ gvN (gnR u r w o (J a) (J b)) r o (J b))
def gmN (u : RU) (r : Nat → Nat) (w o : Nat) : Nat → Nat × Int32
  | 0 => (0, -J 1)
  | k + 1 => if naN u r w o (k / 2) (k % 2) = true then ((gmN u r w o k).1 + 1, if (gmN u r w o k).1 = 0 then J (10 * (k / 2) + k % 2) else (gmN u r w o k).2) else gmN u r w o k
theorem gmN_s {u : RU} {r : Nat → Nat} {w o k : Nat} : gmN u r w o (k + 1) = if naN u r w o (k / 2) (k % 2) = true then ((gmN u r w o k).1 + 1, if (gmN u r w o k).1 = 0 then J (10 * (k / 2) + k % 2) else (gmN u r w o k).2) else gmN u r w o k := rfl
theorem gmN_b {u : RU} {r : Nat → Nat} {w o k : Nat} : (gmN u r w o k).1 ≤ k ∧ ((gmN u r w o k).1 = 0 → (gmN u r w o k).2 = -J 1) ∧ ((gmN u r w o k).1 ≠ 0 → ∃ x, x < 10000 * (k + 1) ∧ (gmN u r w o k).2 = J x) := by
  induction k with
  | zero => exact ⟨Nat.le_refl _, fun _ => rfl, fun h => absurd rfl h⟩
  | succ k ih =>
    obtain ⟨i1, i2, i3⟩ := ih
    rw [gmN_s]
    split
    · refine ⟨by dsimp only; omega, fun h => by dsimp only at h; omega, fun _ => ?_⟩
      dsimp only
      split
      · exact ⟨10 * (k / 2) + k % 2, by omega, rfl⟩
      · rename_i h
        obtain ⟨x, x1, x2⟩ := i3 h
        exact ⟨x, by omega, x2⟩
    · exact ⟨by omega, i2, fun h => by obtain ⟨x, x1, x2⟩ := i3 h; exact ⟨x, by omega, x2⟩⟩
theorem A_game {ct : CT} {a0 q0 j : Nat} {S : US} {G : GS} {P : Nat → Nat → Option Nat} {ad : Nat → Nat} {S2 : US} {u : RU} {r : Nat → Nat} {q1 e1 c1 : Nat} {f1 : Nat → Option Nat} {R1 : Nat → Nat → Nat} {q2 e2 c2 : Nat} {f2 : Nat → Option Nat} {sn : Nat → Nat} {t : Nat} (hj : j < 24) (H : InvD ct a0 q0 j S G P ad S2 u r q1 e1 c1 f1 R1 q2 e2 c2 f2 sn t) (p1 p2 p3 : Int32) : AgR [(1, 1), (2, 2)] S2 (RG S S2 G 100 100) (t1_game S ct P G.1 p1 p2 p3) (s1_game ct ad P S G p1 p2 p3) (sM_game S2 p1 p2 p3) := by
  have Hz := H.z
  have hCo := H.core
  have hZ := Hz.core
  have ho12 := hCo.1.2.1
  have ho6 := hCo.1.2.2.1
  have ho := hCo.1
  have hR := hCo.2.1
  have hd := hCo.2.2.1
  have B := H.1.2.1
  have hrm : Rm ct G 49000 228000 := H.1.2.2.1.rm H.1.2.1 hj (by omega) (by omega)
  unfold t1_game s1_game sM_game
  refine Ar_z (Ar_wom hCo (by decide) (fun w hw e => ?_))
  subst e
  refine Ar_wom hCo (by decide) (fun o hwo e => ?_)
  subst e
  refine Ar_what 1 (by decide) (by decide) (fun x hx e => ?_)
  subst e
  have hT := tM_right (S := Z0 S2) (c := true) (k := 2) Z0_0 (Or.inr rfl)
  have hF := tM_right (S := Z0 S2) (c := false) (k := 2) Z0_0 (Or.inr rfl)
  rw [bI_t, if_pos rfl] at hT
  rw [bI_f, if_neg (by decide)] at hF
  unfold t1_game_J25 s1_game_J25 sM_game_J41
  simp only [lit_0, lit_1, lit_2, joinB_eq]
  by_cases hne : w = o
  · subst hne
    simp only [↓reduceIte, ri_0, re_0, callK_none, hF, callK_eq, bI_f]
    exact Or.inl ⟨2, 2, by decide, rfl, ev_thr⟩
  · have hne2 : ¬ J w = J o := by rw [J_eq (by omega) (by omega)]; exact hne
    simp only [hne2, ↓reduceIte, ri_1, re_1, hT, callK_eq, bI_t, show ¬ J 1 = J 0 by decide]
    have hxJ : ∀ v : Nat, (J x = (J 0 : Int32)) = (x = 0) := fun _ => J_eq (b := 0) (by omega) (by omega)
    refine Ar_ok (RG.mk (if x = 0 then J (gmN u r w o 4).1 else (gmN u r w o 4).2) ?_ ?_)
    · have hG : ∀ (S' : US) (G' : GS) (a b : Int32) (cc zz : Nat), HFr S 1 S' → Gr (fun _ => False) G G' cc zz → cc ≤ 50 → zz ≤ 50 → Ev (s1_gains ct ad P S' G' (J w) (J o) a b) (fun y => (∃ b' f, y.1 = some b' ∧ y.2.2.1 b' = some (true, .inl (0, 2, .inl f)) ∧ f 0 = gvN (gnR u r w o a b) r w a ∧ f 1 = gvN (gnR u r w o a b) r o b) ∧ HFr S 1 y.2.1 ∧ Gr (fun _ => False) G' y.2.2 1 2) := fun S' G' a b cc zz h1 h2 h3 h4 => tH_gains (hCo.2.2.2.1.sub h2.sub) ho hCo.2.2.2.2.1 h1 hR hd hw hwo hne (h2.2.2.2.1 B.1) (Rm.gr (hrm.le (by omega) (by omega)) h2)
      refine Ev.loop (I := fun a y => HFr S 1 y.1 ∧ Gr (fun _ => False) G y.2.1 (3 * (2 * a)) (6 * (2 * a)) ∧ y.2.2.1 = J (gmN u r w o (2 * a)).1 ∧ y.2.2.2.1 = (gmN u r w o (2 * a)).2 ∧ y.2.2.2.2 = J a) 2 ?_ ?_ ⟨HFr.rf, Gr.rf, rfl, rfl, rfl⟩ (by unfold FUEL; omega)
      · rintro a ha ⟨S7, G8, v9, v10, v11⟩ ⟨y1, y2, y3, y4, y5⟩ rc hrc
        simp only at y1 y2 y3 y4 y5
        subst y3
        subst y4
        subst y5
        show Ev (s1_game_L37 (J w) (J o) (J x) P ad ct rc S7 G8 _ _ (J a)) _
        unfold s1_game_L37
        simp (disch := omega) only [lit_0, lit_1, lit_2, lit_3, lit_4, lit_5, lit_6, lit_7, lit_8, lit_9, lit_10, lit_11, lit_12, lit_13, lit_14, lit_15, lit_20, lit_24, lit_25, lit_37, lit_40, lit_43, lit_48, lit_49, lit_50, lit_60, lit_96, lit_98, lit_99, lit_100, lit_999, lit_62, lit_74, lit_86, lit_92, lit_99999, lit_100000, lit_16, lit_32767, lit_2147483639, J_add, J_mul, J_sub, J_tn, J_le, J_lt, J_eq, Nat.not_lt_zero, false_or, or_false, le_t, le_f, lt_t, lt_f, eq_f, ↓reduceIte, callK_eq, letB_eq, joinB_eq, Nat.add_assoc]
        refine Ev.loop (I := fun b y => HFr S 1 y.1 ∧ Gr (fun _ => False) G y.2.1 (3 * (2 * a + b)) (6 * (2 * a + b)) ∧ y.2.2.1 = J (gmN u r w o (2 * a + b)).1 ∧ y.2.2.2.1 = (gmN u r w o (2 * a + b)).2 ∧ y.2.2.2.2 = J b) 2 ?_ ?_ ⟨y1, y2, rfl, rfl, rfl⟩ (by unfold FUEL; omega)
        · rintro b hb ⟨S13, G14, v15, v16, v17⟩ ⟨z1, z2, z3, z4, z5⟩ rc2 hrc2
          simp only at z1 z2 z3 z4 z5
          subst z3
          subst z4
          subst z5
          show Ev (s1_game_L46 (J w) (J o) P ad ct (J a) rc rc2 S13 G14 _ _ (J b)) _
          have hgb := gmN_b (u := u) (r := r) (w := w) (o := o) (k := 2 * a + b)
          have hgs := gmN_s (u := u) (r := r) (w := w) (o := o) (k := 2 * a + b)
          rw [show (2 * a + b) / 2 = a by omega, show (2 * a + b) % 2 = b by omega] at hgs
          unfold s1_game_L46
          simp (disch := omega) only [lit_0, lit_1, lit_2, lit_3, lit_4, lit_5, lit_6, lit_7, lit_8, lit_9, lit_10, lit_11, lit_12, lit_13, lit_14, lit_15, lit_20, lit_24, lit_25, lit_37, lit_40, lit_43, lit_48, lit_49, lit_50, lit_60, lit_96, lit_98, lit_99, lit_100, lit_999, lit_62, lit_74, lit_86, lit_92, lit_99999, lit_100000, lit_16, lit_32767, lit_2147483639, J_add, J_mul, J_sub, J_tn, J_le, J_lt, J_eq, Nat.not_lt_zero, false_or, or_false, le_t, le_f, lt_t, lt_f, eq_f, ↓reduceIte, callK_eq, letB_eq, joinB_eq, Nat.add_assoc]
          refine Ev.call (hG S13 G14 (J a) (J b) _ _ z1 z2 (by omega) (by omega)) (fun o19 g1 => ?_)
          obtain ⟨⟨b1, f1, t1, t2, t3, t4⟩, t5, t6⟩ := g1
          rw [t1, onR_eq]
          refine Ev.call (hG o19.2.1 o19.2.2 (J (1 - a)) (J b) _ _ t5 (z2.tr t6) (by omega) (by omega)) (fun o21 g2 => ?_)
          obtain ⟨⟨b2, f2, s1, s2, s3, s4⟩, s5, s6⟩ := g2
          rw [s1, onR_eq, hZ_eq s2 (by omega) (by omega), hZ_eq (s6.sub _ _ t2) (by omega) (by omega), s3, t3]
          have hend : naN u r w o a b = false → ∀ S' G' c z, HFr S 1 S' → Gr (fun _ => False) G G' c z → c ≤ 3 * (2 * a + b) + 3 → z ≤ 6 * (2 * a + b) + 6 → Ev (rc2 (S', G', J (gmN u r w o (2 * a + b)).1, (gmN u r w o (2 * a + b)).2, J (b + 1))) (fun o_1 => (o_1.1 = if x = 0 then J (gmN u r w o 4).1 else (gmN u r w o 4).2) ∧ KeepH S o_1.2.1 ∧ Gr (fun _ => False) G o_1.2.2 100 100) := by
            intro hna S' G' c z k1 k2 k3 k4
            rw [hna] at hgs
            refine hrc2 _ ⟨k1, k2.le (by omega) (by omega), ?_, ?_, rfl⟩
            · rw [← Nat.add_assoc, hgs]; rfl
            · rw [← Nat.add_assoc, hgs]; rfl
          by_cases c1 : gvN (gnR u r w o (J a) (J b)) r w (J a) < gvN (gnR u r w o (J (1 - a)) (J b)) r w (J (1 - a))
          · rw [if_pos c1]
            refine hend ?_ _ _ _ _ s5 ((z2.tr t6).tr s6) (by omega) (by omega)
            unfold naN
            rw [decide_eq_true c1]
            rfl
          · rw [if_neg c1]
            refine Ev.call (hG o21.2.1 o21.2.2 (J a) (J (1 - b)) _ _ s5 ((z2.tr t6).tr s6) (by omega) (by omega)) (fun o25 g3 => ?_)
            obtain ⟨⟨b3, f3, m1, m2, m3, m4⟩, m5, m6⟩ := g3
            rw [m1, onR_eq, hZ_eq m2 (by omega) (by omega), hZ_eq (m6.sub _ _ (s6.sub _ _ t2)) (by omega) (by omega), m4, t4]
            have hgr := ((z2.tr t6).tr s6).tr m6
            by_cases c2 : gvN (gnR u r w o (J a) (J (1 - b))) r o (J (1 - b)) ≤ gvN (gnR u r w o (J a) (J b)) r o (J b)
            · rw [if_pos c2]
              have hna : naN u r w o a b = true := by
                unfold naN
                rw [decide_eq_false c1, decide_eq_true c2]
                rfl
              rw [hna, if_pos rfl] at hgs
              by_cases c3 : (gmN u r w o (2 * a + b)).1 = 0
              · rw [if_pos c3]
                refine hrc2 _ ⟨m5, hgr.le (by omega) (by omega), ?_, ?_, rfl⟩
                · rw [← Nat.add_assoc, hgs]
                · rw [← Nat.add_assoc, hgs]; dsimp only; rw [if_pos c3]
              · rw [if_neg c3]
                refine hrc2 _ ⟨m5, hgr.le (by omega) (by omega), ?_, ?_, rfl⟩
                · rw [← Nat.add_assoc, hgs]
                · rw [← Nat.add_assoc, hgs]; dsimp only; rw [if_neg c3]
            · rw [if_neg c2]
              refine hend ?_ _ _ _ _ m5 hgr (by omega) (by omega)
              unfold naN
              rw [decide_eq_false c2, Bool.and_false]
        · rintro ⟨S13, G14, v15, v16, v17⟩ ⟨z1, z2, z3, z4, z5⟩ rc2
          simp only at z1 z2 z3 z4 z5
          subst z3
          subst z4
          subst z5
          show Ev (s1_game_L46 (J w) (J o) P ad ct (J a) rc rc2 S13 G14 _ _ (J 2)) _
          unfold s1_game_L46
          simp (disch := omega) only [lit_0, lit_1, lit_2, lit_3, lit_4, lit_5, lit_6, lit_7, lit_8, lit_9, lit_10, lit_11, lit_12, lit_13, lit_14, lit_15, lit_20, lit_24, lit_25, lit_37, lit_40, lit_43, lit_48, lit_49, lit_50, lit_60, lit_96, lit_98, lit_99, lit_100, lit_999, lit_62, lit_74, lit_86, lit_92, lit_99999, lit_100000, lit_16, lit_32767, lit_2147483639, J_add, J_mul, J_sub, J_tn, J_le, J_lt, J_eq, Nat.not_lt_zero, false_or, or_false, le_t, le_f, lt_t, lt_f, eq_f, ↓reduceIte, callK_eq, letB_eq, joinB_eq, Nat.add_assoc]
          exact hrc _ ⟨z1, z2.le (by omega) (by omega), rfl, rfl, rfl⟩
      · rintro ⟨S7, G8, v9, v10, v11⟩ ⟨y1, y2, y3, y4, y5⟩ rc
        simp only at y1 y2 y3 y4 y5
        subst y3
        subst y4
        subst y5
        show Ev (s1_game_L37 (J w) (J o) (J x) P ad ct rc S7 G8 _ _ (J 2)) _
        unfold s1_game_L37
        have hk := KeepH.of (by omega) y1
        have hg := y2.le (c' := 100) (z' := 100) (by omega) (by omega)
        rcases (show x = 0 ∨ x = 1 by omega) with rfl | rfl
        · simp (disch := omega) only [lit_0, lit_1, lit_2, lit_3, lit_4, lit_5, lit_6, lit_7, lit_8, lit_9, lit_10, lit_11, lit_12, lit_13, lit_14, lit_15, lit_20, lit_24, lit_25, lit_37, lit_40, lit_43, lit_48, lit_49, lit_50, lit_60, lit_96, lit_98, lit_99, lit_100, lit_999, lit_62, lit_74, lit_86, lit_92, lit_99999, lit_100000, lit_16, lit_32767, lit_2147483639, J_add, J_mul, J_sub, J_tn, J_le, J_lt, J_eq, Nat.not_lt_zero, false_or, or_false, le_t, le_f, lt_t, lt_f, eq_f, ↓reduceIte, callK_eq, letB_eq, joinB_eq, Nat.add_assoc]; exact ⟨_, rfl, rfl, hk, hg⟩
        · simp (disch := omega) only [lit_0, lit_1, lit_2, lit_3, lit_4, lit_5, lit_6, lit_7, lit_8, lit_9, lit_10, lit_11, lit_12, lit_13, lit_14, lit_15, lit_20, lit_24, lit_25, lit_37, lit_40, lit_43, lit_48, lit_49, lit_50, lit_60, lit_96, lit_98, lit_99, lit_100, lit_999, lit_62, lit_74, lit_86, lit_92, lit_99999, lit_100000, lit_16, lit_32767, lit_2147483639, J_add, J_mul, J_sub, J_tn, J_le, J_lt, J_eq, Nat.not_lt_zero, false_or, or_false, le_t, le_f, lt_t, lt_f, eq_f, ↓reduceIte, callK_eq, letB_eq, joinB_eq, Nat.add_assoc]; exact ⟨_, rfl, rfl, hk, hg⟩
    · refine Ev.loop4 (i0 := 0) (fun k y b l => MFr (Z0 S2) 49 y ∧ b = J (gmN u r w o k).1 ∧ l = (gmN u r w o k).2) 4 ⟨MFr.rf, rfl, rfl⟩ (by omega) ?_ ?_ (by unfold FUEL; omega)
      · rintro k - hk S1 b l ⟨h1, rfl, rfl⟩ rc hrc
        have hM := hZ.2.2.2.2.2.1
        have hMr := hZ.2.2.2.2.2.2
        have hgb := gmN_b (u := u) (r := r) (w := w) (o := o) (k := k)
        have hmod : k - k / 2 * 2 = k % 2 := by omega
        have n1 := gnR_sw (u := u) (r := r) (c := J (k / 2)) (d := J (1 - k % 2)) hne
        have n2 := gnR_sw (u := u) (r := r) (c := J (k / 2)) (d := J (k % 2)) hne
        unfold sM_game_L59
        simp (disch := omega) only [lit_0, lit_1, lit_2, lit_3, lit_4, lit_5, lit_6, lit_7, lit_8, lit_9, lit_10, lit_11, lit_12, lit_13, lit_14, lit_15, lit_20, lit_24, lit_25, lit_37, lit_40, lit_43, lit_48, lit_49, lit_50, lit_60, lit_96, lit_98, lit_99, lit_100, lit_999, lit_62, lit_74, lit_86, lit_92, lit_99999, lit_100000, lit_16, lit_32767, lit_2147483639, J_add, J_mul, J_sub, J_tn, J_le, J_lt, J_eq, Nat.not_lt_zero, false_or, or_false, le_t, le_f, lt_t, lt_f, eq_f, ↓reduceIte, callK_eq, letB_eq, joinB_eq, Nat.add_assoc, J_div, hmod]
        refine Ev.call (tM_gains (S0 := Z0 S2) (c := J (1 - k / 2)) (d := J (k % 2)) hM ho hMr h1 hR hd hw hwo hne) (fun o13 g1 => ?_)
        refine Ev.call (tM_gains (S0 := Z0 S2) (c := J (k / 2)) (d := J (k % 2)) hM ho hMr g1.2 hR hd hw hwo hne) (fun o14 g2 => ?_)
        rw [g1.1, g2.1]
        by_cases c1 : gvN (gnR u r w o (J (k / 2)) (J (k % 2))) r w (J (k / 2)) < gvN (gnR u r w o (J (1 - k / 2)) (J (k % 2))) r w (J (1 - k / 2))
        · rw [if_pos c1]
          have hna : naN u r w o (k / 2) (k % 2) = false := by
            unfold naN
            rw [decide_eq_true c1]
            rfl
          exact hrc _ _ _ ⟨g2.2, by rw [gmN_s, hna]; rfl, by rw [gmN_s, hna]; rfl⟩
        · rw [if_neg c1]
          refine Ev.call (tM_gains (S0 := Z0 S2) (w := o) (o := w) (c := J (1 - k % 2)) (d := J (k / 2)) hM ho hMr g2.2 hR hd hwo hw (fun z => hne z.symm)) (fun o15 g3 => ?_)
          refine Ev.call (tM_gains (S0 := Z0 S2) (w := o) (o := w) (c := J (k % 2)) (d := J (k / 2)) hM ho hMr g3.2 hR hd hwo hw (fun z => hne z.symm)) (fun o16 g4 => ?_)
          rw [g3.1, g4.1, ← n1, ← n2]
          by_cases c2 : gvN (gnR u r w o (J (k / 2)) (J (1 - k % 2))) r o (J (1 - k % 2)) ≤ gvN (gnR u r w o (J (k / 2)) (J (k % 2))) r o (J (k % 2))
          · rw [if_pos c2]
            have hna : naN u r w o (k / 2) (k % 2) = true := by
              unfold naN
              rw [decide_eq_false c1, decide_eq_true c2]
              rfl
            by_cases c3 : (gmN u r w o k).1 = 0
            · rw [if_pos (hgb.2.1 c3)]
              exact hrc _ _ _ ⟨g4.2, by rw [gmN_s, hna, if_pos rfl], by rw [gmN_s, hna, if_pos rfl]; dsimp only; rw [if_pos c3]⟩
            · obtain ⟨y, y1, y2⟩ := hgb.2.2 c3
              rw [if_neg (by rw [y2, J_neg (by omega)]; exact fun z => z)]
              exact hrc _ _ _ ⟨g4.2, by rw [gmN_s, hna, if_pos rfl], by rw [gmN_s, hna, if_pos rfl]; dsimp only; rw [if_neg c3]⟩
          · rw [if_neg c2]
            have hna : naN u r w o (k / 2) (k % 2) = false := by
              unfold naN
              rw [decide_eq_false c2, Bool.and_false]
            exact hrc _ _ _ ⟨g4.2, by rw [gmN_s, hna]; rfl, by rw [gmN_s, hna]; rfl⟩
      · rintro S1 b l ⟨h1, rfl, rfl⟩ rc
        unfold sM_game_L59
        rcases (show x = 0 ∨ x = 1 by omega) with rfl | rfl
        · simp (disch := omega) only [lit_0, lit_1, lit_2, lit_3, lit_4, lit_5, lit_6, lit_7, lit_8, lit_9, lit_10, lit_11, lit_12, lit_13, lit_14, lit_15, lit_20, lit_24, lit_25, lit_37, lit_40, lit_43, lit_48, lit_49, lit_50, lit_60, lit_96, lit_98, lit_99, lit_100, lit_999, lit_62, lit_74, lit_86, lit_92, lit_99999, lit_100000, lit_16, lit_32767, lit_2147483639, J_add, J_mul, J_sub, J_tn, J_le, J_lt, J_eq, Nat.not_lt_zero, false_or, or_false, le_t, le_f, lt_t, lt_f, eq_f, ↓reduceIte, callK_eq, letB_eq, joinB_eq, Nat.add_assoc]; exact ⟨_, rfl, rfl, MFs.of h1⟩
        · simp (disch := omega) only [lit_0, lit_1, lit_2, lit_3, lit_4, lit_5, lit_6, lit_7, lit_8, lit_9, lit_10, lit_11, lit_12, lit_13, lit_14, lit_15, lit_20, lit_24, lit_25, lit_37, lit_40, lit_43, lit_48, lit_49, lit_50, lit_60, lit_96, lit_98, lit_99, lit_100, lit_999, lit_62, lit_74, lit_86, lit_92, lit_99999, lit_100000, lit_16, lit_32767, lit_2147483639, J_add, J_mul, J_sub, J_tn, J_le, J_lt, J_eq, Nat.not_lt_zero, false_or, or_false, le_t, le_f, lt_t, lt_f, eq_f, ↓reduceIte, callK_eq, letB_eq, joinB_eq, Nat.add_assoc]; exact ⟨_, rfl, rfl, MFs.of h1⟩
