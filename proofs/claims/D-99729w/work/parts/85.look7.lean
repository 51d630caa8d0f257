set_option maxRecDepth 100000
/-! THE PLAIN LAW, 14: methods that only look, 7 -/
/-! tight -/
def strN (n : Nat) (r : Nat → Nat) (k : Nat) : Nat → Nat
  | 0 => 0
  | i + 1 => strN n r k i + r (1 + (k + i) % n)
theorem strN_s {n k i : Nat} {r : Nat → Nat} : strN n r k (i + 1) = strN n r k i + r (1 + (k + i) % n) := rfl
theorem strN_le {n m k i : Nat} {r : Nat → Nat} (h0 : 0 < n) (hn : n ≤ 12) (hR : ROk n m r) : strN n r k i ≤ 99 * i := by
  induction i with
  | zero => exact Nat.le_refl _
  | succ i ih =>
    have := Nat.mod_lt (k + i) h0
    have := hR.1 ((k + i) % n) (by omega)
    rw [strN_s]; omega
theorem tH_strainFrom {S : US} {n m k many : Nat} {r : Nat → Nat} (hn : S 1 2 = J n) (h0 : 0 < n) (hn2 : n ≤ 12) (h : HRow S 0 r) (hk : k < n) (hm : many ≤ 12) : s1_strainFrom S (J k) (J many) = some (J (strN n r k many)) := by
  unfold s1_strainFrom
  refine loop_from (i0 := 0) (fun i => (J (strN n r k i), J i)) many (by omega) (fun i _ hi rc => ?_) (fun rc => ?_) FUEL (by unfold FUEL; omega)
  · have := Nat.mod_lt (k + i) h0
    have e := (h.2.1 ((k + i) % n) (by omega)).1
    unfold s1_strainFrom_L5
    simp (disch := omega) only [lit_0, lit_1, lit_2, lit_3, lit_4, lit_5, lit_6, lit_7, lit_8, lit_9, lit_10, lit_11, lit_12, lit_13, lit_14, lit_15, lit_20, lit_24, lit_25, lit_37, lit_40, lit_43, lit_48, lit_49, lit_50, lit_60, lit_96, lit_98, lit_99, lit_100, lit_999, lit_62, lit_74, lit_86, lit_92, lit_99999, lit_100000, lit_16, lit_32767, lit_2147483639, J_add, J_mul, J_sub, J_tn, J_le, J_lt, J_eq, Nat.not_lt_zero, false_or, or_false, le_t, le_f, lt_t, lt_f, eq_f, ↓reduceIte, callK_eq, letB_eq, joinB_eq, Nat.add_assoc, hn, J_mod, e, strN_s]
  · unfold s1_strainFrom_L5
    simp (disch := omega) only [lit_0, lit_1, lit_2, lit_3, lit_4, lit_5, lit_6, lit_7, lit_8, lit_9, lit_10, lit_11, lit_12, lit_13, lit_14, lit_15, lit_20, lit_24, lit_25, lit_37, lit_40, lit_43, lit_48, lit_49, lit_50, lit_60, lit_96, lit_98, lit_99, lit_100, lit_999, lit_62, lit_74, lit_86, lit_92, lit_99999, lit_100000, lit_16, lit_32767, lit_2147483639, J_add, J_mul, J_sub, J_tn, J_le, J_lt, J_eq, Nat.not_lt_zero, false_or, or_false, le_t, le_f, lt_t, lt_f, eq_f, ↓reduceIte, callK_eq, letB_eq, joinB_eq, Nat.add_assoc]
def tiN (n : Nat) (r : Nat → Nat) (many k : Nat) : Option Nat := some (strN n r k many)
theorem sel_some {f : Nat → Option Nat} {better : Nat → Option (Nat × Nat) → Bool} (hb : ∀ v, better v none = true) (hf : ∀ i, f i ≠ none) {i : Nat} : ∃ q, selN better f (i + 1) = some q := by
  obtain ⟨v, hv⟩ := Option.ne_none_iff_exists'.mp (hf i)
  rw [selN_s hv]
  cases e : selN better f i with
  | none => rw [hb]; exact ⟨_, rfl⟩
  | some q => split <;> exact ⟨_, rfl⟩
theorem L_tight {ct : CT} {P : Nat → Nat → Option Nat} {h : AH} {S S2 : US} {u : RU} {r : Nat → Nat} (c : Core ct P h S S2 u r) (p1 p2 : Int32) : AgV [(1, 1), (2, 2)] S2 (t1_tight S ct P h p1 p2) (s1_tight S p1 p2) (sM_tight S2 p1 p2) := by
  have cz := c.z
  have ho3 := c.1.1
  have ho12 := c.1.2.1
  have hn := c.2.2.2.1.1
  have hM := cz.2.2.2.2.2.1.1
  have hR := c.2.1
  unfold t1_tight s1_tight sM_tight
  refine Ag_z (Ag_what 1 (by decide) (by decide) (fun x hx e => ?_))
  subst e
  refine Ag_rgtE 1 12 2 (by decide) (by decide) (by decide) (Or.inr rfl) (fun d hd1 hd e => ?_)
  subst e
  by_cases hmany : d ≤ u.1
  · obtain ⟨N, hN⟩ : ∃ N, u.1 = N + 1 := ⟨u.1 - 1, by omega⟩
    have hsome : ∀ i, ∃ q, selN gtA (tiN u.1 r d) (i + 1) = some q := fun i => sel_some (fun _ => rfl) (fun i => by unfold tiN; simp)
    have hle : ∀ i q, selN gtA (tiN u.1 r d) i = some q → q.2 ≤ 99 * 12 ∧ q.1 < i := fun i => selN_le (fun j v _ e => by
      cases e
      exact Nat.le_trans (strN_le (by omega) ho12 hR) (by omega))
    obtain ⟨q, hq⟩ := hsome N
    have hq1 := hle _ q hq
    have hq2 : strN u.1 r q.1 d = q.2 := Option.some.inj (selN_val q hq)
    have hq' : selN gtA (tiN u.1 r d) u.1 = some q := by
      have : selN gtA (tiN u.1 r d) (N + 1) = some q := hq
      rw [← hN] at this; exact this
    refine Ag_ok (if x = 0 then J q.2 else J q.1) ?_ ?_
    · simp (disch := omega) only [lit_0, lit_1, lit_2, lit_3, lit_4, lit_5, lit_6, lit_7, lit_8, lit_9, lit_10, lit_11, lit_12, lit_13, lit_14, lit_15, lit_20, lit_24, lit_25, lit_37, lit_40, lit_43, lit_48, lit_49, lit_50, lit_60, lit_96, lit_98, lit_99, lit_100, lit_999, lit_62, lit_74, lit_86, lit_92, lit_99999, lit_100000, lit_16, lit_32767, lit_2147483639, J_add, J_mul, J_sub, J_tn, J_le, J_lt, J_eq, Nat.not_lt_zero, false_or, or_false, le_t, le_f, lt_t, lt_f, eq_f, ↓reduceIte, callK_eq, letB_eq, joinB_eq, Nat.add_assoc, hn]
      refine Ev.loop2 (i0 := 1) (body := s1_tight_L33 (J d) (J x) S) (fun i b => b = bJ (selN gtA (tiN u.1 r d) i)) u.1 rfl (by omega) ?_ ?_ (by unfold FUEL; omega)
      · rintro i hi1 hi b rfl rc hrc
        obtain ⟨k, rfl⟩ : ∃ k, i = k + 1 := ⟨i - 1, by omega⟩
        obtain ⟨a, ha⟩ := hsome k
        have ha1 := hle _ a ha
        have ha2 : strN u.1 r a.1 d = a.2 := Option.some.inj (selN_val a ha)
        have hb := strN_le (k := k + 1) (i := d) (show 0 < u.1 by omega) ho12 hR
        have e1 := tH_strainFrom (m := u.2.1) (k := k + 1) (many := d) hn (by omega) ho12 c.2.2.2.2.1 hi hd
        have e2 := tH_strainFrom (m := u.2.1) (k := a.1) (many := d) hn (by omega) ho12 c.2.2.2.2.1 (by omega) hd
        rw [ha2] at e2
        rw [ha]
        unfold s1_tight_L33 bJ
        by_cases hc : strN u.1 r (k + 1) d ≤ a.2
        · simp (disch := omega) only [lit_0, lit_1, lit_2, lit_3, lit_4, lit_5, lit_6, lit_7, lit_8, lit_9, lit_10, lit_11, lit_12, lit_13, lit_14, lit_15, lit_20, lit_24, lit_25, lit_37, lit_40, lit_43, lit_48, lit_49, lit_50, lit_60, lit_96, lit_98, lit_99, lit_100, lit_999, lit_62, lit_74, lit_86, lit_92, lit_99999, lit_100000, lit_16, lit_32767, lit_2147483639, J_add, J_mul, J_sub, J_tn, J_le, J_lt, J_eq, Nat.not_lt_zero, false_or, or_false, le_t, le_f, lt_t, lt_f, eq_f, ↓reduceIte, callK_eq, letB_eq, joinB_eq, Nat.add_assoc, hn, e1, e2, hc]
          refine hrc _ ?_
          rw [selN_s (f := tiN u.1 r d) (i := k + 1) rfl, ha, if_neg (by unfold gtA; rw [decide_eq_true_eq]; omega)]
          rfl
        · simp (disch := omega) only [lit_0, lit_1, lit_2, lit_3, lit_4, lit_5, lit_6, lit_7, lit_8, lit_9, lit_10, lit_11, lit_12, lit_13, lit_14, lit_15, lit_20, lit_24, lit_25, lit_37, lit_40, lit_43, lit_48, lit_49, lit_50, lit_60, lit_96, lit_98, lit_99, lit_100, lit_999, lit_62, lit_74, lit_86, lit_92, lit_99999, lit_100000, lit_16, lit_32767, lit_2147483639, J_add, J_mul, J_sub, J_tn, J_le, J_lt, J_eq, Nat.not_lt_zero, false_or, or_false, le_t, le_f, lt_t, lt_f, eq_f, ↓reduceIte, callK_eq, letB_eq, joinB_eq, Nat.add_assoc, hn, e1, e2, hc]
          refine hrc _ ?_
          rw [selN_s (f := tiN u.1 r d) (i := k + 1) rfl, ha, if_pos (by unfold gtA; rw [decide_eq_true_eq]; omega)]
          rfl
      · rintro b rfl rc
        have e2 := tH_strainFrom (m := u.2.1) (k := q.1) (many := d) hn (by omega) ho12 c.2.2.2.2.1 (by omega) hd
        rw [hq2] at e2
        rw [hq']
        unfold s1_tight_L33 bJ
        rcases (show x = 0 ∨ x = 1 by omega) with rfl | rfl
        · simp (disch := omega) only [lit_0, lit_1, lit_2, lit_3, lit_4, lit_5, lit_6, lit_7, lit_8, lit_9, lit_10, lit_11, lit_12, lit_13, lit_14, lit_15, lit_20, lit_24, lit_25, lit_37, lit_40, lit_43, lit_48, lit_49, lit_50, lit_60, lit_96, lit_98, lit_99, lit_100, lit_999, lit_62, lit_74, lit_86, lit_92, lit_99999, lit_100000, lit_16, lit_32767, lit_2147483639, J_add, J_mul, J_sub, J_tn, J_le, J_lt, J_eq, Nat.not_lt_zero, false_or, or_false, le_t, le_f, lt_t, lt_f, eq_f, ↓reduceIte, callK_eq, letB_eq, joinB_eq, Nat.add_assoc, hn, e2]
          exact v_ev rfl
        · simp (disch := omega) only [lit_0, lit_1, lit_2, lit_3, lit_4, lit_5, lit_6, lit_7, lit_8, lit_9, lit_10, lit_11, lit_12, lit_13, lit_14, lit_15, lit_20, lit_24, lit_25, lit_37, lit_40, lit_43, lit_48, lit_49, lit_50, lit_60, lit_96, lit_98, lit_99, lit_100, lit_999, lit_62, lit_74, lit_86, lit_92, lit_99999, lit_100000, lit_16, lit_32767, lit_2147483639, J_add, J_mul, J_sub, J_tn, J_le, J_lt, J_eq, Nat.not_lt_zero, false_or, or_false, le_t, le_f, lt_t, lt_f, eq_f, ↓reduceIte, callK_eq, letB_eq, joinB_eq, Nat.add_assoc, hn, e2]
          exact v_ev rfl
    · simp (disch := omega) only [lit_0, lit_1, lit_2, lit_3, lit_4, lit_5, lit_6, lit_7, lit_8, lit_9, lit_10, lit_11, lit_12, lit_13, lit_14, lit_15, lit_20, lit_24, lit_25, lit_37, lit_40, lit_43, lit_48, lit_49, lit_50, lit_60, lit_96, lit_98, lit_99, lit_100, lit_999, lit_62, lit_74, lit_86, lit_92, lit_99999, lit_100000, lit_16, lit_32767, lit_2147483639, J_add, J_mul, J_sub, J_tn, J_le, J_lt, J_eq, Nat.not_lt_zero, false_or, or_false, le_t, le_f, lt_t, lt_f, eq_f, ↓reduceIte, callK_eq, letB_eq, joinB_eq, Nat.add_assoc, bI_t]
      refine Ev.loop3 (i0 := 0) (body := sM_tight_L39 (J d) (true, Z0 S2) (fun x7 => sM_tight_J119 (J x) (true, Z0 S2) x7.1 x7.2)) (fun i b m => b = bJ (selN gtA (tiN u.1 r d) i) ∧ m = lJ (-J 1) (selN gtA (tiN u.1 r d) i)) u.1 ⟨rfl, rfl⟩ (by omega) ?_ ?_ (by unfold FUEL; omega)
      · rintro i - hi b m ⟨rfl, rfl⟩ rc hrc
        have hv := strN_le (k := i) (i := d) (show 0 < u.1 by omega) ho12 hR
        have e3 := gtA_J (v := strN u.1 r i d) (B := 99 * 12) (a := selN gtA (tiN u.1 r d) i) (by omega) (by omega) (fun q hq => (hle i q hq).1)
        have hs := selN_s (better := gtA) (f := tiN u.1 r d) (i := i) rfl
        unfold sM_tight_L39
        simp (disch := omega) only [lit_0, lit_1, lit_2, lit_3, lit_4, lit_5, lit_6, lit_7, lit_8, lit_9, lit_10, lit_11, lit_12, lit_13, lit_14, lit_15, lit_20, lit_24, lit_25, lit_37, lit_40, lit_43, lit_48, lit_49, lit_50, lit_60, lit_96, lit_98, lit_99, lit_100, lit_999, lit_62, lit_74, lit_86, lit_92, lit_99999, lit_100000, lit_16, lit_32767, lit_2147483639, J_add, J_mul, J_sub, J_tn, J_le, J_lt, J_eq, Nat.not_lt_zero, false_or, or_false, le_t, le_f, lt_t, lt_f, eq_f, ↓reduceIte, callK_eq, letB_eq, joinB_eq, Nat.add_assoc, hM]
        refine Ev.loop2 (i0 := 0) (body := sM_tight_L62 (J d) (true, Z0 S2) (bJ (selN gtA (tiN u.1 r d) i)) (lJ (-J 1) (selN gtA (tiN u.1 r d) i)) (J i) rc) (fun j v => v = J (strN u.1 r i j)) d rfl (by omega) ?_ ?_ (by unfold FUEL; omega)
        · rintro j - hj v rfl rc2 hrc2
          have := Nat.mod_lt (i + j) (show 0 < u.1 by omega)
          have e : Z0 S2 14 (1 + (i + j) % u.1) = _ := mrow_0 cz.2.2.2.2.2.2 (k := 1 + (i + j) % u.1) (by omega)
          unfold sM_tight_L62
          simp (disch := omega) only [lit_0, lit_1, lit_2, lit_3, lit_4, lit_5, lit_6, lit_7, lit_8, lit_9, lit_10, lit_11, lit_12, lit_13, lit_14, lit_15, lit_20, lit_24, lit_25, lit_37, lit_40, lit_43, lit_48, lit_49, lit_50, lit_60, lit_96, lit_98, lit_99, lit_100, lit_999, lit_62, lit_74, lit_86, lit_92, lit_99999, lit_100000, lit_16, lit_32767, lit_2147483639, J_add, J_mul, J_sub, J_tn, J_le, J_lt, J_eq, Nat.not_lt_zero, false_or, or_false, le_t, le_f, lt_t, lt_f, eq_f, ↓reduceIte, callK_eq, letB_eq, joinB_eq, Nat.add_assoc, hM, J_mod, e]
          refine hrc2 _ ?_
          rw [strN_s]
        · rintro v rfl rc2
          unfold sM_tight_L62
          simp (disch := omega) only [lit_0, lit_1, lit_2, lit_3, lit_4, lit_5, lit_6, lit_7, lit_8, lit_9, lit_10, lit_11, lit_12, lit_13, lit_14, lit_15, lit_20, lit_24, lit_25, lit_37, lit_40, lit_43, lit_48, lit_49, lit_50, lit_60, lit_96, lit_98, lit_99, lit_100, lit_999, lit_62, lit_74, lit_86, lit_92, lit_99999, lit_100000, lit_16, lit_32767, lit_2147483639, J_add, J_mul, J_sub, J_tn, J_le, J_lt, J_eq, Nat.not_lt_zero, false_or, or_false, le_t, le_f, lt_t, lt_f, eq_f, ↓reduceIte, callK_eq, letB_eq, joinB_eq, Nat.add_assoc, e3]
          cases hg : gtA (strN u.1 r i d) (selN gtA (tiN u.1 r d) i) with
          | true =>
            simp (disch := omega) only [lit_0, lit_1, lit_2, lit_3, lit_4, lit_5, lit_6, lit_7, lit_8, lit_9, lit_10, lit_11, lit_12, lit_13, lit_14, lit_15, lit_20, lit_24, lit_25, lit_37, lit_40, lit_43, lit_48, lit_49, lit_50, lit_60, lit_96, lit_98, lit_99, lit_100, lit_999, lit_62, lit_74, lit_86, lit_92, lit_99999, lit_100000, lit_16, lit_32767, lit_2147483639, J_add, J_mul, J_sub, J_tn, J_le, J_lt, J_eq, Nat.not_lt_zero, false_or, or_false, le_t, le_f, lt_t, lt_f, eq_f, ↓reduceIte, callK_eq, letB_eq, joinB_eq, Nat.add_assoc]
            refine hrc _ _ ?_
            rw [hs, hg]
            exact ⟨rfl, rfl⟩
          | false =>
            simp (disch := omega) only [lit_0, lit_1, lit_2, lit_3, lit_4, lit_5, lit_6, lit_7, lit_8, lit_9, lit_10, lit_11, lit_12, lit_13, lit_14, lit_15, lit_20, lit_24, lit_25, lit_37, lit_40, lit_43, lit_48, lit_49, lit_50, lit_60, lit_96, lit_98, lit_99, lit_100, lit_999, lit_62, lit_74, lit_86, lit_92, lit_99999, lit_100000, lit_16, lit_32767, lit_2147483639, J_add, J_mul, J_sub, J_tn, J_le, J_lt, J_eq, Nat.not_lt_zero, false_or, or_false, le_t, le_f, lt_t, lt_f, eq_f, ↓reduceIte, callK_eq, letB_eq, joinB_eq, Nat.add_assoc, Bool.false_eq_true]
            refine hrc _ _ ?_
            rw [hs, hg]
            exact ⟨rfl, rfl⟩
      · rintro b m ⟨rfl, rfl⟩ rc
        unfold sM_tight_L39 sM_tight_J119
        rw [hq']
        unfold bJ lJ
        rcases (show x = 0 ∨ x = 1 by omega) with rfl | rfl
        · simp (disch := omega) only [lit_0, lit_1, lit_2, lit_3, lit_4, lit_5, lit_6, lit_7, lit_8, lit_9, lit_10, lit_11, lit_12, lit_13, lit_14, lit_15, lit_20, lit_24, lit_25, lit_37, lit_40, lit_43, lit_48, lit_49, lit_50, lit_60, lit_96, lit_98, lit_99, lit_100, lit_999, lit_62, lit_74, lit_86, lit_92, lit_99999, lit_100000, lit_16, lit_32767, lit_2147483639, J_add, J_mul, J_sub, J_tn, J_le, J_lt, J_eq, Nat.not_lt_zero, false_or, or_false, le_t, le_f, lt_t, lt_f, eq_f, ↓reduceIte, callK_eq, letB_eq, joinB_eq, Nat.add_assoc, hM]
          exact z_ev rfl
        · simp (disch := omega) only [lit_0, lit_1, lit_2, lit_3, lit_4, lit_5, lit_6, lit_7, lit_8, lit_9, lit_10, lit_11, lit_12, lit_13, lit_14, lit_15, lit_20, lit_24, lit_25, lit_37, lit_40, lit_43, lit_48, lit_49, lit_50, lit_60, lit_96, lit_98, lit_99, lit_100, lit_999, lit_62, lit_74, lit_86, lit_92, lit_99999, lit_100000, lit_16, lit_32767, lit_2147483639, J_add, J_mul, J_sub, J_tn, J_le, J_lt, J_eq, Nat.not_lt_zero, false_or, or_false, le_t, le_f, lt_t, lt_f, eq_f, ↓reduceIte, callK_eq, letB_eq, joinB_eq, Nat.add_assoc, hM]
          exact z_ev rfl
  · refine Ag_ok (-J 1) ?_ ?_
    · simp (disch := omega) only [lit_0, lit_1, lit_2, lit_3, lit_4, lit_5, lit_6, lit_7, lit_8, lit_9, lit_10, lit_11, lit_12, lit_13, lit_14, lit_15, lit_20, lit_24, lit_25, lit_37, lit_40, lit_43, lit_48, lit_49, lit_50, lit_60, lit_96, lit_98, lit_99, lit_100, lit_999, lit_62, lit_74, lit_86, lit_92, lit_99999, lit_100000, lit_16, lit_32767, lit_2147483639, J_add, J_mul, J_sub, J_tn, J_le, J_lt, J_eq, Nat.not_lt_zero, false_or, or_false, le_t, le_f, lt_t, lt_f, eq_f, ↓reduceIte, callK_eq, letB_eq, joinB_eq, Nat.add_assoc, hn]
      exact v_ev rfl
    · simp (disch := omega) only [lit_0, lit_1, lit_2, lit_3, lit_4, lit_5, lit_6, lit_7, lit_8, lit_9, lit_10, lit_11, lit_12, lit_13, lit_14, lit_15, lit_20, lit_24, lit_25, lit_37, lit_40, lit_43, lit_48, lit_49, lit_50, lit_60, lit_96, lit_98, lit_99, lit_100, lit_999, lit_62, lit_74, lit_86, lit_92, lit_99999, lit_100000, lit_16, lit_32767, lit_2147483639, J_add, J_mul, J_sub, J_tn, J_le, J_lt, J_eq, Nat.not_lt_zero, false_or, or_false, le_t, le_f, lt_t, lt_f, eq_f, ↓reduceIte, callK_eq, letB_eq, joinB_eq, Nat.add_assoc, bI_t]
      show Ev (sM_tight_L39 (J d) (true, Z0 S2) (fun x7 => sM_tight_J119 (J x) (true, Z0 S2) x7.1 x7.2) _ (-J 1) (-J 1) (J 0)) _
      unfold sM_tight_L39 sM_tight_J119
      rcases (show x = 0 ∨ x = 1 by omega) with rfl | rfl
      · simp (disch := omega) only [lit_0, lit_1, lit_2, lit_3, lit_4, lit_5, lit_6, lit_7, lit_8, lit_9, lit_10, lit_11, lit_12, lit_13, lit_14, lit_15, lit_20, lit_24, lit_25, lit_37, lit_40, lit_43, lit_48, lit_49, lit_50, lit_60, lit_96, lit_98, lit_99, lit_100, lit_999, lit_62, lit_74, lit_86, lit_92, lit_99999, lit_100000, lit_16, lit_32767, lit_2147483639, J_add, J_mul, J_sub, J_tn, J_le, J_lt, J_eq, Nat.not_lt_zero, false_or, or_false, le_t, le_f, lt_t, lt_f, eq_f, ↓reduceIte, callK_eq, letB_eq, joinB_eq, Nat.add_assoc, hM]
        exact z_ev rfl
      · simp (disch := omega) only [lit_0, lit_1, lit_2, lit_3, lit_4, lit_5, lit_6, lit_7, lit_8, lit_9, lit_10, lit_11, lit_12, lit_13, lit_14, lit_15, lit_20, lit_24, lit_25, lit_37, lit_40, lit_43, lit_48, lit_49, lit_50, lit_60, lit_96, lit_98, lit_99, lit_100, lit_999, lit_62, lit_74, lit_86, lit_92, lit_99999, lit_100000, lit_16, lit_32767, lit_2147483639, J_add, J_mul, J_sub, J_tn, J_le, J_lt, J_eq, Nat.not_lt_zero, false_or, or_false, le_t, le_f, lt_t, lt_f, eq_f, ↓reduceIte, callK_eq, letB_eq, joinB_eq, Nat.add_assoc, hM]
        exact z_ev rfl
/-! stretch, woman -/
theorem inN_ne {p : Int32} {b k : Nat} (h : inN p 0 b = false) (hk : k ≤ b) (hb : b < 2147483648) : (p = J k) = False := by
  refine eq_false (fun e => ?_)
  rw [e, inN_J (by omega) (by omega) hb] at h
  simp at h
  omega
theorem L_stretch {ct : CT} {P : Nat → Nat → Option Nat} {h : AH} {S S2 : US} {u : RU} {r : Nat → Nat} (c : Core ct P h S S2 u r) (p1 p2 : Int32) : AgW [(1, 1)] S S2 (t1_stretch S ct P h p1 p2) (s1_stretch S ct P h p1 p2) (sM_stretch S2 p1 p2) := by
  have cz := c.z
  have ho := c.1
  have ho12 := c.1.2.1
  have ho6 := c.1.2.2.1
  have hR := c.2.1
  have hr := c.2.2.2.2.1
  have hm := cz.2.2.2.2.2.2
  have hM := cz.2.2.2.2.2.1
  have hd9 := c.2.2.1
  unfold t1_stretch s1_stretch sM_stretch
  refine Ag_z (Ag_str c (by decide) (fun s hs e => ?_))
  subst e
  have m2 := tM_isWhat (b := 5) (p := p2) (Z0_0 (S := S2))
  have hkH : ∀ S', (∀ a, a ≠ 2 → S' a = S a) → KeepH S S' := fun S' hq => ⟨fun a ha => hq a (by omega), fun k _ => by rw [hq 0 (by decide)]⟩
  have hkM : ∀ S' : US, (∀ a, a ≠ 16 → a ≠ 17 → S' a = Z0 S2 a) → KeepM S2 S' ∧ S' 0 0 = J 0 := fun S' hq => ⟨Z0_k.tr ⟨fun a ha => hq a (by omega) (by omega), fun k _ => by rw [hq 14 (by decide) (by decide)], fun k _ _ => by rw [hq 0 (by decide) (by decide)]⟩, by rw [hq 0 (by decide) (by decide)]; exact Z0_0⟩
  cases c2 : inN p2 0 5 with
  | false =>
    have n0 := inN_ne (k := 0) c2 (by omega) (by omega)
    have n1 := inN_ne (k := 1) c2 (by omega) (by omega)
    have n2 := inN_ne (k := 2) c2 (by omega) (by omega)
    have n3 := inN_ne (k := 3) c2 (by omega) (by omega)
    have n4 := inN_ne (k := 4) c2 (by omega) (by omega)
    have n5 := inN_ne (k := 5) c2 (by omega) (by omega)
    refine Or.inl ⟨1, 1, by decide, ?_, ?_⟩
    · simp (disch := omega) only [lit_0, lit_1, lit_2, lit_3, lit_4, lit_5, lit_6, lit_7, lit_8, lit_9, lit_10, lit_11, lit_12, lit_13, lit_14, lit_15, lit_20, lit_24, lit_25, lit_37, lit_40, lit_43, lit_48, lit_49, lit_50, lit_60, lit_96, lit_98, lit_99, lit_100, lit_999, lit_62, lit_74, lit_86, lit_92, lit_99999, lit_100000, lit_16, lit_32767, lit_2147483639, J_add, J_mul, J_sub, J_tn, J_le, J_lt, J_eq, Nat.not_lt_zero, false_or, or_false, le_t, le_f, lt_t, lt_f, eq_f, ↓reduceIte, callK_eq, letB_eq, joinB_eq, Nat.add_assoc, n0, n1, n2, n3, n4, n5, bI_t, bI_f, Bool.false_eq_true, tB_s, tB_n, fd_1, fd_0, fe_1, fe_0, ri_1, ri_0, re_1, re_0]
    · simp (disch := omega) only [lit_0, lit_1, lit_2, lit_3, lit_4, lit_5, lit_6, lit_7, lit_8, lit_9, lit_10, lit_11, lit_12, lit_13, lit_14, lit_15, lit_20, lit_24, lit_25, lit_37, lit_40, lit_43, lit_48, lit_49, lit_50, lit_60, lit_96, lit_98, lit_99, lit_100, lit_999, lit_62, lit_74, lit_86, lit_92, lit_99999, lit_100000, lit_16, lit_32767, lit_2147483639, J_add, J_mul, J_sub, J_tn, J_le, J_lt, J_eq, Nat.not_lt_zero, false_or, or_false, le_t, le_f, lt_t, lt_f, eq_f, ↓reduceIte, callK_eq, letB_eq, joinB_eq, Nat.add_assoc, m2, c2, bI_t, bI_f, Bool.false_eq_true, tB_s, tB_n, fd_1, fd_0, fe_1, fe_0, ri_1, ri_0, re_1, re_0]
      exact ev_thr
  | true =>
    obtain ⟨w, -, hw, rfl⟩ := J_of (by omega) (by omega) c2
    have g1 := hr.2.1 s (by omega)
    have q1 : Z0 S2 14 (1 + s) = _ := mrow_0 hm (k := 1 + s) (by omega)
    have q2 : Z0 S2 14 (13 + s) = _ := mrow_0 hm (k := 13 + s) (by omega)
    have q3 : Z0 S2 14 (25 + s) = _ := mrow_0 hm (k := 25 + s) (by omega)
    rcases (show w = 0 ∨ w = 1 ∨ w = 2 ∨ w = 3 ∨ w = 4 ∨ w = 5 by omega) with rfl | rfl | rfl | rfl | rfl | rfl
    · refine Or.inr ⟨by simp (disch := omega) only [lit_0, lit_1, lit_2, lit_3, lit_4, lit_5, lit_6, lit_7, lit_8, lit_9, lit_10, lit_11, lit_12, lit_13, lit_14, lit_15, lit_20, lit_24, lit_25, lit_37, lit_40, lit_43, lit_48, lit_49, lit_50, lit_60, lit_96, lit_98, lit_99, lit_100, lit_999, lit_62, lit_74, lit_86, lit_92, lit_99999, lit_100000, lit_16, lit_32767, lit_2147483639, J_add, J_mul, J_sub, J_tn, J_le, J_lt, J_eq, Nat.not_lt_zero, false_or, or_false, le_t, le_f, lt_t, lt_f, eq_f, ↓reduceIte, callK_eq, letB_eq, joinB_eq, Nat.add_assoc, bI_t, bI_f, Bool.false_eq_true, tB_s, tB_n, fd_1, fd_0, fe_1, fe_0, ri_1, ri_0, re_1, re_0], J (r (1 + s)), ?_, ?_⟩
      · simp (disch := omega) only [lit_0, lit_1, lit_2, lit_3, lit_4, lit_5, lit_6, lit_7, lit_8, lit_9, lit_10, lit_11, lit_12, lit_13, lit_14, lit_15, lit_20, lit_24, lit_25, lit_37, lit_40, lit_43, lit_48, lit_49, lit_50, lit_60, lit_96, lit_98, lit_99, lit_100, lit_999, lit_62, lit_74, lit_86, lit_92, lit_99999, lit_100000, lit_16, lit_32767, lit_2147483639, J_add, J_mul, J_sub, J_tn, J_le, J_lt, J_eq, Nat.not_lt_zero, false_or, or_false, le_t, le_f, lt_t, lt_f, eq_f, ↓reduceIte, callK_eq, letB_eq, joinB_eq, Nat.add_assoc, g1.1]
        exact ⟨_, rfl, rfl, KeepH.rf⟩
      · simp (disch := omega) only [lit_0, lit_1, lit_2, lit_3, lit_4, lit_5, lit_6, lit_7, lit_8, lit_9, lit_10, lit_11, lit_12, lit_13, lit_14, lit_15, lit_20, lit_24, lit_25, lit_37, lit_40, lit_43, lit_48, lit_49, lit_50, lit_60, lit_96, lit_98, lit_99, lit_100, lit_999, lit_62, lit_74, lit_86, lit_92, lit_99999, lit_100000, lit_16, lit_32767, lit_2147483639, J_add, J_mul, J_sub, J_tn, J_le, J_lt, J_eq, Nat.not_lt_zero, false_or, or_false, le_t, le_f, lt_t, lt_f, eq_f, ↓reduceIte, callK_eq, letB_eq, joinB_eq, Nat.add_assoc, m2, c2, q1, bI_t, bI_f, Bool.false_eq_true, tB_s, tB_n, fd_1, fd_0, fe_1, fe_0, ri_1, ri_0, re_1, re_0]
        exact z_ev rfl
    · refine Or.inr ⟨by simp (disch := omega) only [lit_0, lit_1, lit_2, lit_3, lit_4, lit_5, lit_6, lit_7, lit_8, lit_9, lit_10, lit_11, lit_12, lit_13, lit_14, lit_15, lit_20, lit_24, lit_25, lit_37, lit_40, lit_43, lit_48, lit_49, lit_50, lit_60, lit_96, lit_98, lit_99, lit_100, lit_999, lit_62, lit_74, lit_86, lit_92, lit_99999, lit_100000, lit_16, lit_32767, lit_2147483639, J_add, J_mul, J_sub, J_tn, J_le, J_lt, J_eq, Nat.not_lt_zero, false_or, or_false, le_t, le_f, lt_t, lt_f, eq_f, ↓reduceIte, callK_eq, letB_eq, joinB_eq, Nat.add_assoc, bI_t, bI_f, Bool.false_eq_true, tB_s, tB_n, fd_1, fd_0, fe_1, fe_0, ri_1, ri_0, re_1, re_0], J (r (13 + s)), ?_, ?_⟩
      · simp (disch := omega) only [lit_0, lit_1, lit_2, lit_3, lit_4, lit_5, lit_6, lit_7, lit_8, lit_9, lit_10, lit_11, lit_12, lit_13, lit_14, lit_15, lit_20, lit_24, lit_25, lit_37, lit_40, lit_43, lit_48, lit_49, lit_50, lit_60, lit_96, lit_98, lit_99, lit_100, lit_999, lit_62, lit_74, lit_86, lit_92, lit_99999, lit_100000, lit_16, lit_32767, lit_2147483639, J_add, J_mul, J_sub, J_tn, J_le, J_lt, J_eq, Nat.not_lt_zero, false_or, or_false, le_t, le_f, lt_t, lt_f, eq_f, ↓reduceIte, callK_eq, letB_eq, joinB_eq, Nat.add_assoc, g1.2.1]
        exact ⟨_, rfl, rfl, KeepH.rf⟩
      · simp (disch := omega) only [lit_0, lit_1, lit_2, lit_3, lit_4, lit_5, lit_6, lit_7, lit_8, lit_9, lit_10, lit_11, lit_12, lit_13, lit_14, lit_15, lit_20, lit_24, lit_25, lit_37, lit_40, lit_43, lit_48, lit_49, lit_50, lit_60, lit_96, lit_98, lit_99, lit_100, lit_999, lit_62, lit_74, lit_86, lit_92, lit_99999, lit_100000, lit_16, lit_32767, lit_2147483639, J_add, J_mul, J_sub, J_tn, J_le, J_lt, J_eq, Nat.not_lt_zero, false_or, or_false, le_t, le_f, lt_t, lt_f, eq_f, ↓reduceIte, callK_eq, letB_eq, joinB_eq, Nat.add_assoc, m2, c2, q2, bI_t, bI_f, Bool.false_eq_true, tB_s, tB_n, fd_1, fd_0, fe_1, fe_0, ri_1, ri_0, re_1, re_0]
        exact z_ev rfl
    · refine Or.inr ⟨by simp (disch := omega) only [lit_0, lit_1, lit_2, lit_3, lit_4, lit_5, lit_6, lit_7, lit_8, lit_9, lit_10, lit_11, lit_12, lit_13, lit_14, lit_15, lit_20, lit_24, lit_25, lit_37, lit_40, lit_43, lit_48, lit_49, lit_50, lit_60, lit_96, lit_98, lit_99, lit_100, lit_999, lit_62, lit_74, lit_86, lit_92, lit_99999, lit_100000, lit_16, lit_32767, lit_2147483639, J_add, J_mul, J_sub, J_tn, J_le, J_lt, J_eq, Nat.not_lt_zero, false_or, or_false, le_t, le_f, lt_t, lt_f, eq_f, ↓reduceIte, callK_eq, letB_eq, joinB_eq, Nat.add_assoc, bI_t, bI_f, Bool.false_eq_true, tB_s, tB_n, fd_1, fd_0, fe_1, fe_0, ri_1, ri_0, re_1, re_0], J (r (25 + s)), ?_, ?_⟩
      · simp (disch := omega) only [lit_0, lit_1, lit_2, lit_3, lit_4, lit_5, lit_6, lit_7, lit_8, lit_9, lit_10, lit_11, lit_12, lit_13, lit_14, lit_15, lit_20, lit_24, lit_25, lit_37, lit_40, lit_43, lit_48, lit_49, lit_50, lit_60, lit_96, lit_98, lit_99, lit_100, lit_999, lit_62, lit_74, lit_86, lit_92, lit_99999, lit_100000, lit_16, lit_32767, lit_2147483639, J_add, J_mul, J_sub, J_tn, J_le, J_lt, J_eq, Nat.not_lt_zero, false_or, or_false, le_t, le_f, lt_t, lt_f, eq_f, ↓reduceIte, callK_eq, letB_eq, joinB_eq, Nat.add_assoc, g1.2.2]
        exact ⟨_, rfl, rfl, KeepH.rf⟩
      · simp (disch := omega) only [lit_0, lit_1, lit_2, lit_3, lit_4, lit_5, lit_6, lit_7, lit_8, lit_9, lit_10, lit_11, lit_12, lit_13, lit_14, lit_15, lit_20, lit_24, lit_25, lit_37, lit_40, lit_43, lit_48, lit_49, lit_50, lit_60, lit_96, lit_98, lit_99, lit_100, lit_999, lit_62, lit_74, lit_86, lit_92, lit_99999, lit_100000, lit_16, lit_32767, lit_2147483639, J_add, J_mul, J_sub, J_tn, J_le, J_lt, J_eq, Nat.not_lt_zero, false_or, or_false, le_t, le_f, lt_t, lt_f, eq_f, ↓reduceIte, callK_eq, letB_eq, joinB_eq, Nat.add_assoc, m2, c2, q3, bI_t, bI_f, Bool.false_eq_true, tB_s, tB_n, fd_1, fd_0, fe_1, fe_0, ri_1, ri_0, re_1, re_0]
        exact z_ev rfl
    · have e1 := tH_womenAt (S := S) (s := s) c.2.2.2.1 hr ho6 (by omega) (fun w hw => by have := (hR.2.1 w hw).2; omega)
      have e2 := tM_womenAt (b := 0) (s := s) hm (by omega) hM.2.1 ho6 (by omega) (fun w hw => by have := (hR.2.1 w hw).2; omega)
      refine Or.inr ⟨by simp (disch := omega) only [lit_0, lit_1, lit_2, lit_3, lit_4, lit_5, lit_6, lit_7, lit_8, lit_9, lit_10, lit_11, lit_12, lit_13, lit_14, lit_15, lit_20, lit_24, lit_25, lit_37, lit_40, lit_43, lit_48, lit_49, lit_50, lit_60, lit_96, lit_98, lit_99, lit_100, lit_999, lit_62, lit_74, lit_86, lit_92, lit_99999, lit_100000, lit_16, lit_32767, lit_2147483639, J_add, J_mul, J_sub, J_tn, J_le, J_lt, J_eq, Nat.not_lt_zero, false_or, or_false, le_t, le_f, lt_t, lt_f, eq_f, ↓reduceIte, callK_eq, letB_eq, joinB_eq, Nat.add_assoc, bI_t, bI_f, Bool.false_eq_true, tB_s, tB_n, fd_1, fd_0, fe_1, fe_0, ri_1, ri_0, re_1, re_0], J (womN r s u.2.1), ?_, ?_⟩
      · simp (disch := omega) only [lit_0, lit_1, lit_2, lit_3, lit_4, lit_5, lit_6, lit_7, lit_8, lit_9, lit_10, lit_11, lit_12, lit_13, lit_14, lit_15, lit_20, lit_24, lit_25, lit_37, lit_40, lit_43, lit_48, lit_49, lit_50, lit_60, lit_96, lit_98, lit_99, lit_100, lit_999, lit_62, lit_74, lit_86, lit_92, lit_99999, lit_100000, lit_16, lit_32767, lit_2147483639, J_add, J_mul, J_sub, J_tn, J_le, J_lt, J_eq, Nat.not_lt_zero, false_or, or_false, le_t, le_f, lt_t, lt_f, eq_f, ↓reduceIte, callK_eq, letB_eq, joinB_eq, Nat.add_assoc, e1]
        exact ⟨_, rfl, rfl, KeepH.rf⟩
      · simp (disch := omega) only [lit_0, lit_1, lit_2, lit_3, lit_4, lit_5, lit_6, lit_7, lit_8, lit_9, lit_10, lit_11, lit_12, lit_13, lit_14, lit_15, lit_20, lit_24, lit_25, lit_37, lit_40, lit_43, lit_48, lit_49, lit_50, lit_60, lit_96, lit_98, lit_99, lit_100, lit_999, lit_62, lit_74, lit_86, lit_92, lit_99999, lit_100000, lit_16, lit_32767, lit_2147483639, J_add, J_mul, J_sub, J_tn, J_le, J_lt, J_eq, Nat.not_lt_zero, false_or, or_false, le_t, le_f, lt_t, lt_f, eq_f, ↓reduceIte, callK_eq, letB_eq, joinB_eq, Nat.add_assoc, m2, c2, e2, bI_t, bI_f, Bool.false_eq_true, tB_s, tB_n, fd_1, fd_0, fe_1, fe_0, ri_1, ri_0, re_1, re_0]
        exact z_ev rfl
    · refine Or.inr ⟨by simp (disch := omega) only [lit_0, lit_1, lit_2, lit_3, lit_4, lit_5, lit_6, lit_7, lit_8, lit_9, lit_10, lit_11, lit_12, lit_13, lit_14, lit_15, lit_20, lit_24, lit_25, lit_37, lit_40, lit_43, lit_48, lit_49, lit_50, lit_60, lit_96, lit_98, lit_99, lit_100, lit_999, lit_62, lit_74, lit_86, lit_92, lit_99999, lit_100000, lit_16, lit_32767, lit_2147483639, J_add, J_mul, J_sub, J_tn, J_le, J_lt, J_eq, Nat.not_lt_zero, false_or, or_false, le_t, le_f, lt_t, lt_f, eq_f, ↓reduceIte, callK_eq, letB_eq, joinB_eq, Nat.add_assoc, bI_t, bI_f, Bool.false_eq_true, tB_s, tB_n, fd_1, fd_0, fe_1, fe_0, ri_1, ri_0, re_1, re_0], J (freN u.1 u.2.1 u.2.2.2.2.1 r s), ?_, ?_⟩
      · simp (disch := omega) only [lit_0, lit_1, lit_2, lit_3, lit_4, lit_5, lit_6, lit_7, lit_8, lit_9, lit_10, lit_11, lit_12, lit_13, lit_14, lit_15, lit_20, lit_24, lit_25, lit_37, lit_40, lit_43, lit_48, lit_49, lit_50, lit_60, lit_96, lit_98, lit_99, lit_100, lit_999, lit_62, lit_74, lit_86, lit_92, lit_99999, lit_100000, lit_16, lit_32767, lit_2147483639, J_add, J_mul, J_sub, J_tn, J_le, J_lt, J_eq, Nat.not_lt_zero, false_or, or_false, le_t, le_f, lt_t, lt_f, eq_f, ↓reduceIte, callK_eq, letB_eq, joinB_eq, Nat.add_assoc]
        refine Ev.call (tH_frays c.2.2.2.1 ho hr hR hs) (fun o h1 => ⟨_, rfl, h1.1, hkH _ h1.2⟩)
      · simp (disch := omega) only [lit_0, lit_1, lit_2, lit_3, lit_4, lit_5, lit_6, lit_7, lit_8, lit_9, lit_10, lit_11, lit_12, lit_13, lit_14, lit_15, lit_20, lit_24, lit_25, lit_37, lit_40, lit_43, lit_48, lit_49, lit_50, lit_60, lit_96, lit_98, lit_99, lit_100, lit_999, lit_62, lit_74, lit_86, lit_92, lit_99999, lit_100000, lit_16, lit_32767, lit_2147483639, J_add, J_mul, J_sub, J_tn, J_le, J_lt, J_eq, Nat.not_lt_zero, false_or, or_false, le_t, le_f, lt_t, lt_f, eq_f, ↓reduceIte, callK_eq, letB_eq, joinB_eq, Nat.add_assoc, m2, c2, bI_t, bI_f, Bool.false_eq_true, tB_s, tB_n, fd_1, fd_0, fe_1, fe_0, ri_1, ri_0, re_1, re_0]
        refine Ev.call (tM_fraysOf hM ho hm hR (by omega) hs (by omega)) (fun o h1 => ⟨_, rfl, h1.1, (hkM _ h1.2).2, (hkM _ h1.2).1⟩)
    · refine Or.inr ⟨by simp (disch := omega) only [lit_0, lit_1, lit_2, lit_3, lit_4, lit_5, lit_6, lit_7, lit_8, lit_9, lit_10, lit_11, lit_12, lit_13, lit_14, lit_15, lit_20, lit_24, lit_25, lit_37, lit_40, lit_43, lit_48, lit_49, lit_50, lit_60, lit_96, lit_98, lit_99, lit_100, lit_999, lit_62, lit_74, lit_86, lit_92, lit_99999, lit_100000, lit_16, lit_32767, lit_2147483639, J_add, J_mul, J_sub, J_tn, J_le, J_lt, J_eq, Nat.not_lt_zero, false_or, or_false, le_t, le_f, lt_t, lt_f, eq_f, ↓reduceIte, callK_eq, letB_eq, joinB_eq, Nat.add_assoc, bI_t, bI_f, Bool.false_eq_true, tB_s, tB_n, fd_1, fd_0, fe_1, fe_0, ri_1, ri_0, re_1, re_0], pulN u.1 u.2.1 u.2.2.2.2.2 r s, ?_, ?_⟩
      · simp (disch := omega) only [lit_0, lit_1, lit_2, lit_3, lit_4, lit_5, lit_6, lit_7, lit_8, lit_9, lit_10, lit_11, lit_12, lit_13, lit_14, lit_15, lit_20, lit_24, lit_25, lit_37, lit_40, lit_43, lit_48, lit_49, lit_50, lit_60, lit_96, lit_98, lit_99, lit_100, lit_999, lit_62, lit_74, lit_86, lit_92, lit_99999, lit_100000, lit_16, lit_32767, lit_2147483639, J_add, J_mul, J_sub, J_tn, J_le, J_lt, J_eq, Nat.not_lt_zero, false_or, or_false, le_t, le_f, lt_t, lt_f, eq_f, ↓reduceIte, callK_eq, letB_eq, joinB_eq, Nat.add_assoc, bI_t, bI_f, Bool.false_eq_true, tB_s, tB_n, fd_1, fd_0, fe_1, fe_0, ri_1, ri_0, re_1, re_0]
        refine Ev.call (tH_pulls c.2.2.2.1 ho hr hR hs) (fun o h1 => ⟨_, rfl, h1.1, hkH _ h1.2⟩)
      · simp (disch := omega) only [lit_0, lit_1, lit_2, lit_3, lit_4, lit_5, lit_6, lit_7, lit_8, lit_9, lit_10, lit_11, lit_12, lit_13, lit_14, lit_15, lit_20, lit_24, lit_25, lit_37, lit_40, lit_43, lit_48, lit_49, lit_50, lit_60, lit_96, lit_98, lit_99, lit_100, lit_999, lit_62, lit_74, lit_86, lit_92, lit_99999, lit_100000, lit_16, lit_32767, lit_2147483639, J_add, J_mul, J_sub, J_tn, J_le, J_lt, J_eq, Nat.not_lt_zero, false_or, or_false, le_t, le_f, lt_t, lt_f, eq_f, ↓reduceIte, callK_eq, letB_eq, joinB_eq, Nat.add_assoc, m2, c2, bI_t, bI_f, Bool.false_eq_true, tB_s, tB_n, fd_1, fd_0, fe_1, fe_0, ri_1, ri_0, re_1, re_0]
        refine Ev.call (tM_pullsOf hM ho hm hR (by omega) hs (by omega)) (fun o h1 => ⟨_, rfl, h1.1, (hkM _ h1.2).2, (hkM _ h1.2).1⟩)
theorem L_woman {ct : CT} {P : Nat → Nat → Option Nat} {h : AH} {S S2 : US} {u : RU} {r : Nat → Nat} (c : Core ct P h S S2 u r) (p1 p2 : Int32) : AgV [(1, 1)] S2 (t1_woman S ct P h p1 p2) (s1_woman S P h p1 p2) (sM_woman S2 p1 p2) := by
  have cz := c.z
  have ho6 := c.1.2.2.1
  have hr := c.2.2.2.2.1
  have hm := cz.2.2.2.2.2.2
  have hM := cz.2.2.2.2.2.1
  unfold t1_woman s1_woman sM_woman
  refine Ag_z (Ag_wom c (by decide) (fun w hw e => ?_))
  subst e
  refine Ag_whatE 2 (by decide) (by decide) (fun x hx e => ?_)
  subst e
  have g1 := hr.2.2 w (by omega)
  have q1 : Z0 S2 14 (37 + w) = _ := mrow_0 hm (k := 37 + w) (by omega)
  have q2 : Z0 S2 14 (43 + w) = _ := mrow_0 hm (k := 43 + w) (by omega)
  have q3 : Z0 S2 1 w = _ := hM.2.2.2.1 w hw
  rcases (show x = 0 ∨ x = 1 ∨ x = 2 by omega) with rfl | rfl | rfl
  · refine Ag_ok (J (u.2.2.2.1 w)) ?_ ?_
    · obtain ⟨h1, h2, ⟨q, h3, f, h4, h7⟩, h5, h6⟩ := c.2.2.2.1
      obtain ⟨b, o, h8, h9⟩ := h7 w hw
      have e8 : sN_intValue h b = some (J (u.2.2.2.1 w)) := by unfold sN_intValue; rw [hI_eq h9 rfl]
      rw [h3]
      simp (disch := omega) only [lit_0, lit_1, lit_2, lit_3, lit_4, lit_5, lit_6, lit_7, lit_8, lit_9, lit_10, lit_11, lit_12, lit_13, lit_14, lit_15, lit_20, lit_24, lit_25, lit_37, lit_40, lit_43, lit_48, lit_49, lit_50, lit_60, lit_96, lit_98, lit_99, lit_100, lit_999, lit_62, lit_74, lit_86, lit_92, lit_99999, lit_100000, lit_16, lit_32767, lit_2147483639, J_add, J_mul, J_sub, J_tn, J_le, J_lt, J_eq, Nat.not_lt_zero, false_or, or_false, le_t, le_f, lt_t, lt_f, eq_f, ↓reduceIte, callK_eq, letB_eq, joinB_eq, Nat.add_assoc, onR_eq, tL_cls h4, tL_get h4 hw, h8, hC_eq h9, e8]
      exact v_ev rfl
    · simp (disch := omega) only [lit_0, lit_1, lit_2, lit_3, lit_4, lit_5, lit_6, lit_7, lit_8, lit_9, lit_10, lit_11, lit_12, lit_13, lit_14, lit_15, lit_20, lit_24, lit_25, lit_37, lit_40, lit_43, lit_48, lit_49, lit_50, lit_60, lit_96, lit_98, lit_99, lit_100, lit_999, lit_62, lit_74, lit_86, lit_92, lit_99999, lit_100000, lit_16, lit_32767, lit_2147483639, J_add, J_mul, J_sub, J_tn, J_le, J_lt, J_eq, Nat.not_lt_zero, false_or, or_false, le_t, le_f, lt_t, lt_f, eq_f, ↓reduceIte, callK_eq, letB_eq, joinB_eq, Nat.add_assoc, q3]
      exact z_ev rfl
  · refine Ag_ok (J (r (37 + w))) ?_ ?_
    · simp (disch := omega) only [lit_0, lit_1, lit_2, lit_3, lit_4, lit_5, lit_6, lit_7, lit_8, lit_9, lit_10, lit_11, lit_12, lit_13, lit_14, lit_15, lit_20, lit_24, lit_25, lit_37, lit_40, lit_43, lit_48, lit_49, lit_50, lit_60, lit_96, lit_98, lit_99, lit_100, lit_999, lit_62, lit_74, lit_86, lit_92, lit_99999, lit_100000, lit_16, lit_32767, lit_2147483639, J_add, J_mul, J_sub, J_tn, J_le, J_lt, J_eq, Nat.not_lt_zero, false_or, or_false, le_t, le_f, lt_t, lt_f, eq_f, ↓reduceIte, callK_eq, letB_eq, joinB_eq, Nat.add_assoc, g1.1]
      exact v_ev rfl
    · simp (disch := omega) only [lit_0, lit_1, lit_2, lit_3, lit_4, lit_5, lit_6, lit_7, lit_8, lit_9, lit_10, lit_11, lit_12, lit_13, lit_14, lit_15, lit_20, lit_24, lit_25, lit_37, lit_40, lit_43, lit_48, lit_49, lit_50, lit_60, lit_96, lit_98, lit_99, lit_100, lit_999, lit_62, lit_74, lit_86, lit_92, lit_99999, lit_100000, lit_16, lit_32767, lit_2147483639, J_add, J_mul, J_sub, J_tn, J_le, J_lt, J_eq, Nat.not_lt_zero, false_or, or_false, le_t, le_f, lt_t, lt_f, eq_f, ↓reduceIte, callK_eq, letB_eq, joinB_eq, Nat.add_assoc, q1]
      exact z_ev rfl
  · refine Ag_ok (J (r (43 + w))) ?_ ?_
    · simp (disch := omega) only [lit_0, lit_1, lit_2, lit_3, lit_4, lit_5, lit_6, lit_7, lit_8, lit_9, lit_10, lit_11, lit_12, lit_13, lit_14, lit_15, lit_20, lit_24, lit_25, lit_37, lit_40, lit_43, lit_48, lit_49, lit_50, lit_60, lit_96, lit_98, lit_99, lit_100, lit_999, lit_62, lit_74, lit_86, lit_92, lit_99999, lit_100000, lit_16, lit_32767, lit_2147483639, J_add, J_mul, J_sub, J_tn, J_le, J_lt, J_eq, Nat.not_lt_zero, false_or, or_false, le_t, le_f, lt_t, lt_f, eq_f, ↓reduceIte, callK_eq, letB_eq, joinB_eq, Nat.add_assoc, g1.2]
      exact v_ev rfl
    · simp (disch := omega) only [lit_0, lit_1, lit_2, lit_3, lit_4, lit_5, lit_6, lit_7, lit_8, lit_9, lit_10, lit_11, lit_12, lit_13, lit_14, lit_15, lit_20, lit_24, lit_25, lit_37, lit_40, lit_43, lit_48, lit_49, lit_50, lit_60, lit_96, lit_98, lit_99, lit_100, lit_999, lit_62, lit_74, lit_86, lit_92, lit_99999, lit_100000, lit_16, lit_32767, lit_2147483639, J_add, J_mul, J_sub, J_tn, J_le, J_lt, J_eq, Nat.not_lt_zero, false_or, or_false, le_t, le_f, lt_t, lt_f, eq_f, ↓reduceIte, callK_eq, letB_eq, joinB_eq, Nat.add_assoc, q2]
      exact z_ev rfl
