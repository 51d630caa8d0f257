set_option maxRecDepth 100000
/-! THE PLAIN LAW, 11: methods that only look, 4 -/
/-! beyond the ring nothing changes -/
theorem over_out {r : Nat → Nat} {s v j : Nat} (h : j ≠ 1 + s) : overN r s v j = r j := by
  unfold overN straN
  split
  · rfl
  · exact upN_off (by omega)
theorem loos_out {n : Nat} {r : Nat → Nat} {s v j : Nat} (h0 : 0 < n) (hs : s < n) (h : n + 13 ≤ j ∨ (n + 1 ≤ j ∧ j < 13)) (hn : n ≤ 12) : loosN n r s v j = r j := by
  have h1 := befN_lt h0 hs
  have h2 := aftN_lt h0 hs
  unfold loosN
  split
  · exact upN_off (by omega)
  · rw [over_out (by omega), over_out (by omega), upN_off (by omega), upN_off (by omega)]
theorem pullAll_out {n : Nat} {p : Nat → Int32} {r : Nat → Nat} {i j : Nat} (hi : i ≤ n) (h : n + 1 ≤ j) : pullAll p r i j = r j := by
  induction i with
  | zero => rfl
  | succ i ih =>
    rw [pullAll_s]
    split
    · exact ih (by omega)
    · rw [upN_off (by omega)]; exact ih (by omega)
theorem loosAll_out {n m : Nat} {f : Option FV} {r : Nat → Nat} {i j : Nat} (h0 : 0 < n) (hn : n ≤ 12) (hi : i ≤ n) (h : n + 13 ≤ j ∨ (n + 1 ≤ j ∧ j < 13)) : loosAll n m f r i j = r j := by
  induction i with
  | zero => rfl
  | succ i ih =>
    rw [loosAll_s]
    split
    · exact ih (by omega)
    · rw [loos_out h0 (by omega) h hn]; exact ih (by omega)
theorem womAll_s {n : Nat} {sk : Nat → Nat} {r : Nat → Nat} {i : Nat} : womAll n sk r (i + 1) = goN n (mendN sk (womAll n sk r i) i) i := rfl
theorem womAll_out {n m : Nat} {sk : Nat → Nat} {r : Nat → Nat} {i j : Nat} (h0 : 0 < n) (hn : n ≤ 12) (hm : m ≤ 6) (hR : ROk n m r) (hi : i ≤ m) (h : (n + 13 ≤ j ∧ j < 25) ∨ (n + 1 ≤ j ∧ j < 13)) : womAll n sk r i j = r j := by
  induction i with
  | zero => rfl
  | succ i ih =>
    have hR1 := hR.womAll (i := i) (sk := sk) h0 hn hm (by omega)
    have h2 := hR1.2.2 i (by omega)
    rw [womAll_s]
    unfold goN
    rw [upN_off (by omega)]
    unfold mendN
    split
    · exact ih (by omega)
    · rw [upN_off (by omega), upN_off (by omega)]; exact ih (by omega)
theorem pass_out {u : RU} {r : Nat → Nat} {j : Nat} (ho : RuOk u) (hR : ROk u.1 u.2.1 r) (h : (u.1 + 13 ≤ j ∧ j < 25) ∨ (u.1 + 1 ≤ j ∧ j < 13)) : passN u r j = r j := by
  have h0 : 0 < u.1 := by have := ho.1; omega
  have h2 : pass2 u r j = r j := by
    unfold pass2
    rw [loosAll_out h0 ho.2.1 (Nat.le_refl _) (by omega), pullAll_out (Nat.le_refl _) (by omega)]
  unfold passN
  show upN _ 0 _ j = r j
  rw [upN_off (by omega)]
  split
  · rw [womAll_out h0 ho.2.1 ho.2.2.1 (hR.pass2 ho) (Nat.le_refl _) h, h2]
  · exact h2
/-! steady -/
def likeN (r r' : Nat → Nat) : Nat → Bool
  | 0 => true
  | i + 1 => likeN r r' i && (decide (r (1 + i) = r' (1 + i)) && decide (r (13 + i) = r' (13 + i)))
def likeM (r r' : Nat → Nat) : Nat → Bool
  | 0 => true
  | i + 1 => likeM r r' i && decide (r (1 + i) = r' (1 + i))
theorem likeN_s {r r' : Nat → Nat} {i : Nat} : likeN r r' (i + 1) = (likeN r r' i && (decide (r (1 + i) = r' (1 + i)) && decide (r (13 + i) = r' (13 + i)))) := rfl
theorem likeM_s {r r' : Nat → Nat} {i : Nat} : likeM r r' (i + 1) = (likeM r r' i && decide (r (1 + i) = r' (1 + i))) := rfl
theorem likeN_iff {r r' : Nat → Nat} {n : Nat} : likeN r r' n = true ↔ ∀ i, i < n → r (1 + i) = r' (1 + i) ∧ r (13 + i) = r' (13 + i) := by
  induction n with
  | zero => exact ⟨fun _ i hi => absurd hi (Nat.not_lt_zero i), fun _ => rfl⟩
  | succ n ih =>
    rw [likeN_s, Bool.and_eq_true, Bool.and_eq_true, decide_eq_true_eq, decide_eq_true_eq, ih]
    constructor
    · rintro ⟨h1, h2⟩ i hi
      by_cases e : i = n
      · subst e; exact h2
      · exact h1 i (by omega)
    · intro h
      exact ⟨fun i hi => h i (by omega), h n (by omega)⟩
theorem likeM_iff {r r' : Nat → Nat} {n : Nat} : likeM r r' n = true ↔ ∀ i, i < n → r (1 + i) = r' (1 + i) := by
  induction n with
  | zero => exact ⟨fun _ i hi => absurd hi (Nat.not_lt_zero i), fun _ => rfl⟩
  | succ n ih =>
    rw [likeM_s, Bool.and_eq_true, decide_eq_true_eq, ih]
    constructor
    · rintro ⟨h1, h2⟩ i hi
      by_cases e : i = n
      · subst e; exact h2
      · exact h1 i (by omega)
    · intro h
      exact ⟨fun i hi => h i (by omega), h n (by omega)⟩
theorem like_both {u : RU} {r : Nat → Nat} (ho : RuOk u) (hR : ROk u.1 u.2.1 r) : likeM r (passN u r) 24 = likeN (passN u r) r u.1 := by
  rw [Bool.eq_iff_iff, likeN_iff, likeM_iff]
  constructor
  · intro h i hi
    have h12 := ho.2.1
    refine ⟨(h i (by omega)).symm, ?_⟩
    have := h (12 + i) (by omega)
    rw [show 1 + (12 + i) = 13 + i by omega] at this
    exact this.symm
  · intro h i hi
    have h12 := ho.2.1
    by_cases e : i < u.1
    · exact (h i e).1.symm
    · by_cases e2 : i < 12
      · exact (pass_out ho hR (Or.inr (by omega))).symm
      · by_cases e3 : i - 12 < u.1
        · have := (h (i - 12) e3).2
          rw [show 13 + (i - 12) = 1 + i by omega] at this
          exact this.symm
        · exact (pass_out ho hR (Or.inl (by omega))).symm
theorem tH_isLike {S : US} {L M n m : Nat} {r r' : Nat → Nat} (hn : S 1 2 = J n) (hn2 : n ≤ 12) (h : HRow S L r) (h' : HRow S M r') (hR : ROk n m r) (hR' : ROk n m r') : s3_isLike S L M = some (likeN r r' n) := by
  unfold s3_isLike
  refine loop_from (i0 := 0) (fun i => (bI (likeN r r' i), J i)) n (by omega) (fun i _ hi rc => ?_) (fun rc => ?_) FUEL (by unfold FUEL; omega)
  · have g1 := (h.2.1 i (by omega)).1
    have g2 := (h.2.1 i (by omega)).2.1
    have g3 := (h'.2.1 i (by omega)).1
    have g4 := (h'.2.1 i (by omega)).2.1
    have b1 := hR.1 i (by omega)
    have b2 := hR'.1 i (by omega)
    have e1 : ∀ b : Bool, bI b &&& J 1 = bI b := by intro b; cases b <;> rfl
    have e0 : ∀ b : Bool, bI b &&& J 0 = bI false := by intro b; cases b <;> rfl
    unfold s3_isLike_L4
    by_cases c1 : r (1 + i) = r' (1 + i)
    · by_cases c2 : r (13 + i) = r' (13 + i)
      · simp (disch := omega) only [lit_0, lit_1, lit_2, lit_3, lit_4, lit_5, lit_6, lit_7, lit_8, lit_9, lit_10, lit_11, lit_12, lit_13, lit_14, lit_15, lit_20, lit_24, lit_25, lit_37, lit_40, lit_43, lit_48, lit_49, lit_50, lit_60, lit_96, lit_98, lit_99, lit_100, lit_999, lit_62, lit_74, lit_86, lit_92, lit_99999, lit_100000, lit_16, lit_32767, lit_2147483639, J_add, J_mul, J_sub, J_tn, J_le, J_lt, J_eq, Nat.not_lt_zero, false_or, or_false, le_t, le_f, lt_t, lt_f, eq_f, ↓reduceIte, callK_eq, letB_eq, joinB_eq, Nat.add_assoc, hn, g1, g2, g3, g4, c1, c2, e1, likeN_s, decide_true, Bool.and_true, eq_self]
      · simp (disch := omega) only [lit_0, lit_1, lit_2, lit_3, lit_4, lit_5, lit_6, lit_7, lit_8, lit_9, lit_10, lit_11, lit_12, lit_13, lit_14, lit_15, lit_20, lit_24, lit_25, lit_37, lit_40, lit_43, lit_48, lit_49, lit_50, lit_60, lit_96, lit_98, lit_99, lit_100, lit_999, lit_62, lit_74, lit_86, lit_92, lit_99999, lit_100000, lit_16, lit_32767, lit_2147483639, J_add, J_mul, J_sub, J_tn, J_le, J_lt, J_eq, Nat.not_lt_zero, false_or, or_false, le_t, le_f, lt_t, lt_f, eq_f, ↓reduceIte, callK_eq, letB_eq, joinB_eq, Nat.add_assoc, hn, g1, g2, g3, g4, c1, c2, e0, likeN_s, decide_true, decide_false, Bool.and_false, eq_self]
    · simp (disch := omega) only [lit_0, lit_1, lit_2, lit_3, lit_4, lit_5, lit_6, lit_7, lit_8, lit_9, lit_10, lit_11, lit_12, lit_13, lit_14, lit_15, lit_20, lit_24, lit_25, lit_37, lit_40, lit_43, lit_48, lit_49, lit_50, lit_60, lit_96, lit_98, lit_99, lit_100, lit_999, lit_62, lit_74, lit_86, lit_92, lit_99999, lit_100000, lit_16, lit_32767, lit_2147483639, J_add, J_mul, J_sub, J_tn, J_le, J_lt, J_eq, Nat.not_lt_zero, false_or, or_false, le_t, le_f, lt_t, lt_f, eq_f, ↓reduceIte, callK_eq, letB_eq, joinB_eq, Nat.add_assoc, hn, g1, g2, g3, g4, c1, e0, likeN_s, decide_false, Bool.false_and, Bool.and_false]
  · unfold s3_isLike_L4
    cases hb : likeN r r' n with
    | true => simp (disch := omega) only [lit_0, lit_1, lit_2, lit_3, lit_4, lit_5, lit_6, lit_7, lit_8, lit_9, lit_10, lit_11, lit_12, lit_13, lit_14, lit_15, lit_20, lit_24, lit_25, lit_37, lit_40, lit_43, lit_48, lit_49, lit_50, lit_60, lit_96, lit_98, lit_99, lit_100, lit_999, lit_62, lit_74, lit_86, lit_92, lit_99999, lit_100000, lit_16, lit_32767, lit_2147483639, J_add, J_mul, J_sub, J_tn, J_le, J_lt, J_eq, Nat.not_lt_zero, false_or, or_false, le_t, le_f, lt_t, lt_f, eq_f, ↓reduceIte, callK_eq, letB_eq, joinB_eq, Nat.add_assoc, hn, bI_t]
    | false => simp (disch := omega) only [lit_0, lit_1, lit_2, lit_3, lit_4, lit_5, lit_6, lit_7, lit_8, lit_9, lit_10, lit_11, lit_12, lit_13, lit_14, lit_15, lit_20, lit_24, lit_25, lit_37, lit_40, lit_43, lit_48, lit_49, lit_50, lit_60, lit_96, lit_98, lit_99, lit_100, lit_999, lit_62, lit_74, lit_86, lit_92, lit_99999, lit_100000, lit_16, lit_32767, lit_2147483639, J_add, J_mul, J_sub, J_tn, J_le, J_lt, J_eq, Nat.not_lt_zero, false_or, or_false, le_t, le_f, lt_t, lt_f, eq_f, ↓reduceIte, callK_eq, letB_eq, joinB_eq, Nat.add_assoc, hn, bI_f]
theorem L_steady {ct : CT} {P : Nat → Nat → Option Nat} {h : AH} {S S2 : US} {u : RU} {r : Nat → Nat} (c : Core ct P h S S2 u r) : AgW [] S S2 none (s1_steady S ct P h) (sM_steady S2) := by
  have cz := c.z
  have ho := c.1
  have ho12 := c.1.2.1
  have hd9 := c.2.2.1
  unfold s1_steady sM_steady
  refine Ag_z (Ag_ok (match fstN (fun j => likeN (aftrN u r (j + 1)) (aftrN u r j) u.1) 59 with | some j => J (j + 1) | none => -J 1) ?_ ?_)
  · refine Ev.call (tH_be (S0 := S) (L := 1) HFr.rf c.2.2.2.2.1 (by decide)) (fun S1 h1 => ?_)
    refine Ev.loop2 (i0 := 1) (fun i x => (HRow x 1 (aftrN u r (i - 1)) ∧ KeepH S x) ∧ ∀ j, j + 1 < i → likeN (aftrN u r (j + 1)) (aftrN u r j) u.1 = false) 61 ⟨⟨h1.1.1, KeepH.of (by omega) h1.1.2⟩, fun j hj => absurd hj (by omega)⟩ (by omega) ?_ ?_ (by unfold FUEL; omega)
    · rintro i hi1 hi S3 ⟨⟨h3, h3k⟩, h4⟩ rc hrc
      obtain ⟨k, rfl⟩ : ∃ k, i = k + 1 := ⟨i - 1, by omega⟩
      have h3 : HRow S3 1 (aftrN u r k) := h3
      have hR3 := c.2.1.aftr (d := k) ho
      have hR4 := c.2.1.aftr (d := k + 1) ho
      have hu3 : RulH ct P h S3 u := c.2.2.2.1.of (h3k.1 1 (Or.inl rfl))
      unfold s1_steady_L14
      simp (disch := omega) only [lit_0, lit_1, lit_2, lit_3, lit_4, lit_5, lit_6, lit_7, lit_8, lit_9, lit_10, lit_11, lit_12, lit_13, lit_14, lit_15, lit_20, lit_24, lit_25, lit_37, lit_40, lit_43, lit_48, lit_49, lit_50, lit_60, lit_96, lit_98, lit_99, lit_100, lit_999, lit_62, lit_74, lit_86, lit_92, lit_99999, lit_100000, lit_16, lit_32767, lit_2147483639, J_add, J_mul, J_sub, J_tn, J_le, J_lt, J_eq, Nat.not_lt_zero, false_or, or_false, le_t, le_f, lt_t, lt_f, eq_f, ↓reduceIte, callK_eq, letB_eq, joinB_eq, Nat.add_assoc]
      refine Ev.call (tH_be (S0 := S3) (L := 2) HFr.rf h3 (by decide)) (fun S5 h5 => ?_)
      have h51 : HRow S5 1 (aftrN u r k) := h3.of (fun i hi => (h5.2 i).resolve_right (by omega))
      have hu5 : RulH ct P h S5 u := hu3.of h5.1.2.one
      refine Ev.call (tH_pass (S0 := S5) hu5 ho ⟨h51, HFr.rf⟩ hR3 (by rw [aftrN_0]; omega)) (fun S6 h6 => ?_)
      have h6 : HR S5 1 (aftrN u r (k + 1)) S6 := h6
      have h62 : HRow S6 2 (aftrN u r k) := h5.1.1.of (fun i hi => h6.2 _ (by unfold lc; omega) (by unfold lc; omega))
      have hk6 : KeepH S S6 := (h3k.tr (KeepH.of (by omega) h5.1.2)).tr (KeepH.of (by omega) h6.2)
      rw [tH_isLike (h6.rul hu5).1 ho12 h6.1 h62 hR4 hR3]
      cases hl : likeN (aftrN u r (k + 1)) (aftrN u r k) u.1 with
      | true =>
        simp (disch := omega) only [lit_0, lit_1, lit_2, lit_3, lit_4, lit_5, lit_6, lit_7, lit_8, lit_9, lit_10, lit_11, lit_12, lit_13, lit_14, lit_15, lit_20, lit_24, lit_25, lit_37, lit_40, lit_43, lit_48, lit_49, lit_50, lit_60, lit_96, lit_98, lit_99, lit_100, lit_999, lit_62, lit_74, lit_86, lit_92, lit_99999, lit_100000, lit_16, lit_32767, lit_2147483639, J_add, J_mul, J_sub, J_tn, J_le, J_lt, J_eq, Nat.not_lt_zero, false_or, or_false, le_t, le_f, lt_t, lt_f, eq_f, ↓reduceIte, callK_eq, letB_eq, joinB_eq, Nat.add_assoc, bI_t]
        refine ⟨_, rfl, ?_, hk6⟩
        rw [fstN_some (c := fun j => likeN (aftrN u r (j + 1)) (aftrN u r j) u.1) (i := k) (by omega) hl (fun j hj => h4 j (by omega))]
      | false =>
        simp (disch := omega) only [lit_0, lit_1, lit_2, lit_3, lit_4, lit_5, lit_6, lit_7, lit_8, lit_9, lit_10, lit_11, lit_12, lit_13, lit_14, lit_15, lit_20, lit_24, lit_25, lit_37, lit_40, lit_43, lit_48, lit_49, lit_50, lit_60, lit_96, lit_98, lit_99, lit_100, lit_999, lit_62, lit_74, lit_86, lit_92, lit_99999, lit_100000, lit_16, lit_32767, lit_2147483639, J_add, J_mul, J_sub, J_tn, J_le, J_lt, J_eq, Nat.not_lt_zero, false_or, or_false, le_t, le_f, lt_t, lt_f, eq_f, ↓reduceIte, callK_eq, letB_eq, joinB_eq, Nat.add_assoc, bI_f]
        refine hrc _ ⟨⟨h6.1, hk6⟩, fun j hj => ?_⟩
        by_cases e : j = k
        · subst e; exact hl
        · exact h4 j (by omega)
    · rintro S3 ⟨⟨h3, h3k⟩, h4⟩ rc
      unfold s1_steady_L14
      simp (disch := omega) only [lit_0, lit_1, lit_2, lit_3, lit_4, lit_5, lit_6, lit_7, lit_8, lit_9, lit_10, lit_11, lit_12, lit_13, lit_14, lit_15, lit_20, lit_24, lit_25, lit_37, lit_40, lit_43, lit_48, lit_49, lit_50, lit_60, lit_96, lit_98, lit_99, lit_100, lit_999, lit_62, lit_74, lit_86, lit_92, lit_99999, lit_100000, lit_16, lit_32767, lit_2147483639, J_add, J_mul, J_sub, J_tn, J_le, J_lt, J_eq, Nat.not_lt_zero, false_or, or_false, le_t, le_f, lt_t, lt_f, eq_f, ↓reduceIte, callK_eq, letB_eq, joinB_eq, Nat.add_assoc]
      refine ⟨_, rfl, ?_, h3k⟩
      rw [fstN_none (c := fun j => likeN (aftrN u r (j + 1)) (aftrN u r j) u.1) (fun j hj => h4 j (by omega))]
  · refine Ev.call (tM_tries (S0 := Z0 S2) MFr.rf cz.2.2.2.2.2.2) (fun S1 h1 => ?_)
    refine Ev.loop2 (i0 := 1) (fun i x => (MRow x 49 (aftrN u r (i - 1)) ∧ KeepM S2 x ∧ x 0 0 = J 0) ∧ ∀ j, j + 1 < i → likeN (aftrN u r (j + 1)) (aftrN u r j) u.1 = false) 61 ⟨⟨h1.1, Z0_k.tr (KeepM.of h1.2), mr_0 h1 Z0_0⟩, fun j hj => absurd hj (by omega)⟩ (by omega) ?_ ?_ (by unfold FUEL; omega)
    · rintro i hi1 hi S3 ⟨⟨h3, h3k, h30⟩, h4⟩ rc hrc
      obtain ⟨k, rfl⟩ : ∃ k, i = k + 1 := ⟨i - 1, by omega⟩
      have h3 : MRow S3 49 (aftrN u r k) := h3
      have hR3 := c.2.1.aftr (d := k) ho
      have hR4 := c.2.1.aftr (d := k + 1) ho
      unfold sM_steady_L11
      simp (disch := omega) only [lit_0, lit_1, lit_2, lit_3, lit_4, lit_5, lit_6, lit_7, lit_8, lit_9, lit_10, lit_11, lit_12, lit_13, lit_14, lit_15, lit_20, lit_24, lit_25, lit_37, lit_40, lit_43, lit_48, lit_49, lit_50, lit_60, lit_96, lit_98, lit_99, lit_100, lit_999, lit_62, lit_74, lit_86, lit_92, lit_99999, lit_100000, lit_16, lit_32767, lit_2147483639, J_add, J_mul, J_sub, J_tn, J_le, J_lt, J_eq, Nat.not_lt_zero, false_or, or_false, le_t, le_f, lt_t, lt_f, eq_f, ↓reduceIte, callK_eq, letB_eq, joinB_eq, Nat.add_assoc]
      refine Ev.loop2 (i0 := 0) (fun i x => (MRow x 49 (aftrN u r k) ∧ KeepM S2 x ∧ x 0 0 = J 0) ∧ ∀ j, j < i → x 27 j = J (aftrN u r k (1 + j))) 24 ⟨⟨h3, h3k, h30⟩, fun j hj => absurd hj (Nat.not_lt_zero j)⟩ (by omega) ?_ ?_ (by unfold FUEL; omega)
      · rintro i - hi S5 ⟨⟨h5, h5k, h50⟩, h6⟩ rc2 hrc2
        have e5 : S5 14 (50 + i) = _ := mrow_at h5 (k := 1 + i) (by omega) (by omega)
        unfold sM_steady_L19
        simp (disch := omega) only [lit_0, lit_1, lit_2, lit_3, lit_4, lit_5, lit_6, lit_7, lit_8, lit_9, lit_10, lit_11, lit_12, lit_13, lit_14, lit_15, lit_20, lit_24, lit_25, lit_37, lit_40, lit_43, lit_48, lit_49, lit_50, lit_60, lit_96, lit_98, lit_99, lit_100, lit_999, lit_62, lit_74, lit_86, lit_92, lit_99999, lit_100000, lit_16, lit_32767, lit_2147483639, J_add, J_mul, J_sub, J_tn, J_le, J_lt, J_eq, Nat.not_lt_zero, false_or, or_false, le_t, le_f, lt_t, lt_f, eq_f, ↓reduceIte, callK_eq, letB_eq, joinB_eq, Nat.add_assoc, e5]
        refine hrc2 _ ⟨⟨h5.of (u2_row' (by omega)), ⟨fun a ha => ?_, fun j hj => ?_, fun j h1 h2 => ?_⟩, ?_⟩, fun j hj => ?_⟩
        · rw [u2_row' (by omega)]; exact h5k.1 a ha
        · rw [u2_row' (by omega)]; exact h5k.2.1 j hj
        · rw [u2_row' (by omega)]; exact h5k.2.2 j h1 h2
        · rw [u2_row' (by omega)]; exact h50
        · by_cases e : j = i
          · subst e; rw [u2_at]
          · rw [u2_off (by omega)]; exact h6 j (by omega)
      · rintro S5 ⟨⟨h5, h5k, h50⟩, h6⟩ rc2
        unfold sM_steady_L19
        simp (disch := omega) only [lit_0, lit_1, lit_2, lit_3, lit_4, lit_5, lit_6, lit_7, lit_8, lit_9, lit_10, lit_11, lit_12, lit_13, lit_14, lit_15, lit_20, lit_24, lit_25, lit_37, lit_40, lit_43, lit_48, lit_49, lit_50, lit_60, lit_96, lit_98, lit_99, lit_100, lit_999, lit_62, lit_74, lit_86, lit_92, lit_99999, lit_100000, lit_16, lit_32767, lit_2147483639, J_add, J_mul, J_sub, J_tn, J_le, J_lt, J_eq, Nat.not_lt_zero, false_or, or_false, le_t, le_f, lt_t, lt_f, eq_f, ↓reduceIte, callK_eq, letB_eq, joinB_eq, Nat.add_assoc]
        refine Ev.call (tM_dayGoes (S0 := S5) (b := 49) (h5k.rul c.2.2.2.2.2.1) ho ⟨h5, MFr.rf⟩ hR3 (by decide) (by rw [aftrN_0]; omega)) (fun S7 h7 => ?_)
        have h7 : MR S5 49 (aftrN u r (k + 1)) S7 := h7
        have h7w : ∀ j, j < 24 → S7 27 j = J (aftrN u r k (1 + j)) := fun j hj => by rw [h7.2.1 27 (by decide) (by decide) (by decide) (by decide)]; exact h6 j hj
        have h7k : KeepM S2 S7 := h5k.tr (KeepM.of h7.2)
        have h70 : S7 0 0 = J 0 := mr_0 h7 h50
        have hl := like_both (u := u) (r := aftrN u r k) ho hR3
        refine Ev.loop2 (i0 := 0) (body := sM_steady_L56 (J (k + 1)) rc S7) (fun i b => b = bI (likeM (aftrN u r k) (aftrN u r (k + 1)) i)) 24 rfl (by omega) ?_ ?_ (by unfold FUEL; omega)
        · rintro i - hi b rfl rc3 hrc3
          have e7 : S7 14 (50 + i) = _ := mrow_at h7.1 (k := 1 + i) (by omega) (by omega)
          have e8 := h7w i hi
          have b1 : aftrN u r k (1 + i) < 2147483648 := by
            by_cases e : i < 12
            · have := (hR3.1 i e).1; omega
            · have := (hR3.1 (i - 12) (by omega)).2.1
              rw [show 13 + (i - 12) = 1 + i by omega] at this; omega
          have b2 : aftrN u r (k + 1) (1 + i) < 2147483648 := by
            by_cases e : i < 12
            · have := (hR4.1 i e).1; omega
            · have := (hR4.1 (i - 12) (by omega)).2.1
              rw [show 13 + (i - 12) = 1 + i by omega] at this; omega
          unfold sM_steady_L56
          cases hb : likeM (aftrN u r k) (aftrN u r (k + 1)) i with
          | false =>
            simp (disch := omega) only [lit_0, lit_1, lit_2, lit_3, lit_4, lit_5, lit_6, lit_7, lit_8, lit_9, lit_10, lit_11, lit_12, lit_13, lit_14, lit_15, lit_20, lit_24, lit_25, lit_37, lit_40, lit_43, lit_48, lit_49, lit_50, lit_60, lit_96, lit_98, lit_99, lit_100, lit_999, lit_62, lit_74, lit_86, lit_92, lit_99999, lit_100000, lit_16, lit_32767, lit_2147483639, J_add, J_mul, J_sub, J_tn, J_le, J_lt, J_eq, Nat.not_lt_zero, false_or, or_false, le_t, le_f, lt_t, lt_f, eq_f, ↓reduceIte, callK_eq, letB_eq, joinB_eq, Nat.add_assoc, bI_f]
            refine hrc3 _ ?_
            rw [likeM_s, hb]; rfl
          | true =>
            by_cases ec : aftrN u r k (1 + i) = aftrN u r (k + 1) (1 + i)
            · rw [bI_t]
              simp (disch := omega) only [lit_0, lit_1, lit_2, lit_3, lit_4, lit_5, lit_6, lit_7, lit_8, lit_9, lit_10, lit_11, lit_12, lit_13, lit_14, lit_15, lit_20, lit_24, lit_25, lit_37, lit_40, lit_43, lit_48, lit_49, lit_50, lit_60, lit_96, lit_98, lit_99, lit_100, lit_999, lit_62, lit_74, lit_86, lit_92, lit_99999, lit_100000, lit_16, lit_32767, lit_2147483639, J_add, J_mul, J_sub, J_tn, J_le, J_lt, J_eq, Nat.not_lt_zero, false_or, or_false, le_t, le_f, lt_t, lt_f, eq_f, ↓reduceIte, callK_eq, letB_eq, joinB_eq, Nat.add_assoc, e7, e8, ec, eq_self]
              refine hrc3 _ ?_
              rw [likeM_s, hb, decide_eq_true ec]; rfl
            · rw [bI_t]
              simp (disch := omega) only [lit_0, lit_1, lit_2, lit_3, lit_4, lit_5, lit_6, lit_7, lit_8, lit_9, lit_10, lit_11, lit_12, lit_13, lit_14, lit_15, lit_20, lit_24, lit_25, lit_37, lit_40, lit_43, lit_48, lit_49, lit_50, lit_60, lit_96, lit_98, lit_99, lit_100, lit_999, lit_62, lit_74, lit_86, lit_92, lit_99999, lit_100000, lit_16, lit_32767, lit_2147483639, J_add, J_mul, J_sub, J_tn, J_le, J_lt, J_eq, Nat.not_lt_zero, false_or, or_false, le_t, le_f, lt_t, lt_f, eq_f, ↓reduceIte, callK_eq, letB_eq, joinB_eq, Nat.add_assoc, e7, e8, ec]
              refine hrc3 _ ?_
              rw [likeM_s, hb, decide_eq_false ec]; rfl
        · rintro b rfl rc3
          unfold sM_steady_L56
          have hl : likeM (aftrN u r k) (aftrN u r (k + 1)) 24 = likeN (aftrN u r (k + 1)) (aftrN u r k) u.1 := hl
          rw [hl]
          cases hb : likeN (aftrN u r (k + 1)) (aftrN u r k) u.1 with
          | true =>
            simp (disch := omega) only [lit_0, lit_1, lit_2, lit_3, lit_4, lit_5, lit_6, lit_7, lit_8, lit_9, lit_10, lit_11, lit_12, lit_13, lit_14, lit_15, lit_20, lit_24, lit_25, lit_37, lit_40, lit_43, lit_48, lit_49, lit_50, lit_60, lit_96, lit_98, lit_99, lit_100, lit_999, lit_62, lit_74, lit_86, lit_92, lit_99999, lit_100000, lit_16, lit_32767, lit_2147483639, J_add, J_mul, J_sub, J_tn, J_le, J_lt, J_eq, Nat.not_lt_zero, false_or, or_false, le_t, le_f, lt_t, lt_f, eq_f, ↓reduceIte, callK_eq, letB_eq, joinB_eq, Nat.add_assoc, bI_t]
            refine ⟨_, rfl, ?_, h70, h7k⟩
            rw [fstN_some (c := fun j => likeN (aftrN u r (j + 1)) (aftrN u r j) u.1) (i := k) (by omega) hb (fun j hj => h4 j (by omega))]
          | false =>
            simp (disch := omega) only [lit_0, lit_1, lit_2, lit_3, lit_4, lit_5, lit_6, lit_7, lit_8, lit_9, lit_10, lit_11, lit_12, lit_13, lit_14, lit_15, lit_20, lit_24, lit_25, lit_37, lit_40, lit_43, lit_48, lit_49, lit_50, lit_60, lit_96, lit_98, lit_99, lit_100, lit_999, lit_62, lit_74, lit_86, lit_92, lit_99999, lit_100000, lit_16, lit_32767, lit_2147483639, J_add, J_mul, J_sub, J_tn, J_le, J_lt, J_eq, Nat.not_lt_zero, false_or, or_false, le_t, le_f, lt_t, lt_f, eq_f, ↓reduceIte, callK_eq, letB_eq, joinB_eq, Nat.add_assoc, bI_f]
            refine hrc _ ⟨⟨h7.1, h7k, h70⟩, fun j hj => ?_⟩
            by_cases e : j = k
            · subst e; exact hb
            · exact h4 j (by omega)
    · rintro S3 ⟨⟨h3, h3k, h30⟩, h4⟩ rc
      unfold sM_steady_L11
      simp (disch := omega) only [lit_0, lit_1, lit_2, lit_3, lit_4, lit_5, lit_6, lit_7, lit_8, lit_9, lit_10, lit_11, lit_12, lit_13, lit_14, lit_15, lit_20, lit_24, lit_25, lit_37, lit_40, lit_43, lit_48, lit_49, lit_50, lit_60, lit_96, lit_98, lit_99, lit_100, lit_999, lit_62, lit_74, lit_86, lit_92, lit_99999, lit_100000, lit_16, lit_32767, lit_2147483639, J_add, J_mul, J_sub, J_tn, J_le, J_lt, J_eq, Nat.not_lt_zero, false_or, or_false, le_t, le_f, lt_t, lt_f, eq_f, ↓reduceIte, callK_eq, letB_eq, joinB_eq, Nat.add_assoc]
      refine ⟨_, rfl, ?_, h30, h3k⟩
      rw [fstN_none (c := fun j => likeN (aftrN u r (j + 1)) (aftrN u r j) u.1) (fun j hj => h4 j (by omega))]
