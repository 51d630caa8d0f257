set_option maxRecDepth 100000
/-! THE PLAIN LAW, 9: methods that only look, 2 -/
theorem Ev.loop4 {α ρ : Type} {body : (α × Int32 × Int32 × Int32 → Option ρ) → α → Int32 → Int32 → Int32 → Option ρ} {Q : ρ → Prop} (I : Nat → α → Int32 → Int32 → Prop) (N : Nat) {i0 : Nat} {a0 : α} {b0 c0 : Int32} (h0 : I i0 a0 b0 c0) (hN : i0 ≤ N) (hstep : ∀ i, i0 ≤ i → i < N → ∀ a b c, I i a b c → ∀ rc, (∀ a' b' c', I (i + 1) a' b' c' → Ev (rc (a', b', c', J (i + 1))) Q) → Ev (body rc a b c (J i)) Q) (hend : ∀ a b c, I N a b c → ∀ rc, Ev (body rc a b c (J N)) Q) {fuel : Nat} (hf : N < fuel) : Ev (loopK (fun rc (x : α × Int32 × Int32 × Int32) => body rc x.1 x.2.1 x.2.2.1 x.2.2.2) fuel (a0, b0, c0, J i0)) Q := by
  have key : ∀ m i, i0 ≤ i → i + m = N → ∀ fuel, m < fuel → ∀ a b c, I i a b c → Ev (loopK (fun rc (x : α × Int32 × Int32 × Int32) => body rc x.1 x.2.1 x.2.2.1 x.2.2.2) fuel (a, b, c, J i)) Q := by
    intro m
    induction m with
    | zero =>
      intro i hi0 hi fuel hf a b c ha
      have hi : i = N := by omega
      subst hi
      cases fuel with
      | zero => omega
      | succ f => exact hend a b c ha _
    | succ m ih =>
      intro i hi0 hi fuel hf a b c ha
      cases fuel with
      | zero => omega
      | succ f => exact hstep i hi0 (by omega) a b c ha _ (fun a' b' c' ha' => ih (i + 1) (by omega) (by omega) f (by omega) a' b' c' ha')
  exact key (N - i0) i0 (Nat.le_refl _) (by omega) fuel (by omega) a0 b0 c0 h0
theorem Ev.loop3 {α ρ : Type} {body : (α × Int32 × Int32 → Option ρ) → α → Int32 → Int32 → Option ρ} {Q : ρ → Prop} (I : Nat → α → Int32 → Prop) (N : Nat) {i0 : Nat} {a0 : α} {b0 : Int32} (h0 : I i0 a0 b0) (hN : i0 ≤ N) (hstep : ∀ i, i0 ≤ i → i < N → ∀ a b, I i a b → ∀ rc, (∀ a' b', I (i + 1) a' b' → Ev (rc (a', b', J (i + 1))) Q) → Ev (body rc a b (J i)) Q) (hend : ∀ a b, I N a b → ∀ rc, Ev (body rc a b (J N)) Q) {fuel : Nat} (hf : N < fuel) : Ev (loopK (fun rc (x : α × Int32 × Int32) => body rc x.1 x.2.1 x.2.2) fuel (a0, b0, J i0)) Q := by
  have key : ∀ m i, i0 ≤ i → i + m = N → ∀ fuel, m < fuel → ∀ a b, I i a b → Ev (loopK (fun rc (x : α × Int32 × Int32) => body rc x.1 x.2.1 x.2.2) fuel (a, b, J i)) Q := by
    intro m
    induction m with
    | zero =>
      intro i hi0 hi fuel hf a b ha
      have hi : i = N := by omega
      subst hi
      cases fuel with
      | zero => omega
      | succ f => exact hend a b ha _
    | succ m ih =>
      intro i hi0 hi fuel hf a b ha
      cases fuel with
      | zero => omega
      | succ f => exact hstep i hi0 (by omega) a b ha _ (fun a' b' ha' => ih (i + 1) (by omega) (by omega) f (by omega) a' b' ha')
  exact key (N - i0) i0 (Nat.le_refl _) (by omega) fuel (by omega) a0 b0 h0
/-- the first with least (or most), of those that are asked -/
def ltA (v : Nat) (a : Option (Nat × Nat)) : Bool := match a with
  | none => true
  | some q => decide (v < q.2)
def gtA (v : Nat) (a : Option (Nat × Nat)) : Bool := match a with
  | none => true
  | some q => decide (q.2 < v)
def selN (better : Nat → Option (Nat × Nat) → Bool) (f : Nat → Option Nat) : Nat → Option (Nat × Nat)
  | 0 => none
  | i + 1 => match f i with
    | none => selN better f i
    | some v => if better v (selN better f i) = true then some (i, v) else selN better f i
theorem selN_n {better : Nat → Option (Nat × Nat) → Bool} {f : Nat → Option Nat} {i : Nat} (h : f i = none) : selN better f (i + 1) = selN better f i := by
  show (match f i with
    | none => selN better f i
    | some v => if better v (selN better f i) = true then some (i, v) else selN better f i) = _
  rw [h]
theorem selN_s {better : Nat → Option (Nat × Nat) → Bool} {f : Nat → Option Nat} {i v : Nat} (h : f i = some v) : selN better f (i + 1) = if better v (selN better f i) = true then some (i, v) else selN better f i := by
  show (match f i with
    | none => selN better f i
    | some v => if better v (selN better f i) = true then some (i, v) else selN better f i) = _
  rw [h]
theorem selN_le {better : Nat → Option (Nat × Nat) → Bool} {f : Nat → Option Nat} {B i : Nat} (hf : ∀ j v, j < i → f j = some v → v ≤ B) : ∀ q, selN better f i = some q → q.2 ≤ B ∧ q.1 < i := by
  induction i with
  | zero => intro q h; cases h
  | succ i ih =>
    intro q h
    have ih := ih (fun j v hj e => hf j v (by omega) e)
    cases e : f i with
    | none =>
      rw [selN_n e] at h
      have := ih q h
      omega
    | some v =>
      rw [selN_s e] at h
      split at h
      · cases h
        exact ⟨hf i v (by omega) e, by show i < i + 1; omega⟩
      · have := ih q h
        omega
def bJ (a : Option (Nat × Nat)) : Int32 := match a with
  | none => -J 1
  | some q => J q.1
def lJ (d : Int32) (a : Option (Nat × Nat)) : Int32 := match a with
  | none => d
  | some q => J q.2
theorem neg_lt {a : Nat} (h : a < 2147483648) : (-J 1 < J a) = True := by
  refine eq_true (Int32.lt_iff_toInt_lt.mpr ?_)
  rw [J_ti h]
  have h2 : (-J 1).toInt = -1 := by decide
  omega
theorem ltA_J {v D B : Nat} {a : Option (Nat × Nat)} (hv : v < D) (hD : D < 2147483648) (hB : B < 2147483648) (ha : ∀ q, a = some q → q.2 ≤ B) : (J v < lJ (J D) a) = (ltA v a = true) := by
  unfold lJ ltA
  cases a with
  | none => simp (disch := omega) only [lit_0, lit_1, lit_2, lit_3, lit_4, lit_5, lit_6, lit_7, lit_8, lit_9, lit_10, lit_11, lit_12, lit_13, lit_14, lit_15, lit_20, lit_24, lit_25, lit_37, lit_40, lit_43, lit_48, lit_49, lit_50, lit_60, lit_96, lit_98, lit_99, lit_100, lit_999, lit_62, lit_74, lit_86, lit_92, lit_99999, lit_100000, lit_16, lit_32767, lit_2147483639, J_add, J_mul, J_sub, J_tn, J_le, J_lt, J_eq, Nat.not_lt_zero, false_or, or_false, le_t, le_f, lt_t, lt_f, eq_f, ↓reduceIte, callK_eq, letB_eq, joinB_eq, Nat.add_assoc]
  | some q =>
    have := ha q rfl
    simp (disch := omega) only [lit_0, lit_1, lit_2, lit_3, lit_4, lit_5, lit_6, lit_7, lit_8, lit_9, lit_10, lit_11, lit_12, lit_13, lit_14, lit_15, lit_20, lit_24, lit_25, lit_37, lit_40, lit_43, lit_48, lit_49, lit_50, lit_60, lit_96, lit_98, lit_99, lit_100, lit_999, lit_62, lit_74, lit_86, lit_92, lit_99999, lit_100000, lit_16, lit_32767, lit_2147483639, J_add, J_mul, J_sub, J_tn, J_le, J_lt, J_eq, Nat.not_lt_zero, false_or, or_false, le_t, le_f, lt_t, lt_f, eq_f, ↓reduceIte, callK_eq, letB_eq, joinB_eq, Nat.add_assoc, decide_eq_true_eq]
theorem gtA_J {v B : Nat} {a : Option (Nat × Nat)} (hv : v < 2147483648) (hB : B < 2147483648) (ha : ∀ q, a = some q → q.2 ≤ B) : (lJ (-J 1) a < J v) = (gtA v a = true) := by
  unfold lJ gtA
  cases a with
  | none => simp only [neg_lt hv]
  | some q =>
    have := ha q rfl
    simp (disch := omega) only [lit_0, lit_1, lit_2, lit_3, lit_4, lit_5, lit_6, lit_7, lit_8, lit_9, lit_10, lit_11, lit_12, lit_13, lit_14, lit_15, lit_20, lit_24, lit_25, lit_37, lit_40, lit_43, lit_48, lit_49, lit_50, lit_60, lit_96, lit_98, lit_99, lit_100, lit_999, lit_62, lit_74, lit_86, lit_92, lit_99999, lit_100000, lit_16, lit_32767, lit_2147483639, J_add, J_mul, J_sub, J_tn, J_le, J_lt, J_eq, Nat.not_lt_zero, false_or, or_false, le_t, le_f, lt_t, lt_f, eq_f, ↓reduceIte, callK_eq, letB_eq, joinB_eq, Nat.add_assoc, decide_eq_true_eq]
/-! first -/
def firN (u : RU) (r : Nat → Nat) (s : Nat) : Option Nat := match opnN u r s with
  | some d => if 1 ≤ d then some d else none
  | none => none
theorem firN_le {u : RU} {r : Nat → Nat} {s v : Nat} (h : firN u r s = some v) : v ≤ 60 := by
  unfold firN at h
  split at h
  · rename_i d e
    split at h
    · cases h; exact fstN_le e
    · cases h
  · cases h
theorem L_first {ct : CT} {P : Nat → Nat → Option Nat} {h : AH} {S S2 : US} {u : RU} {r : Nat → Nat} (c : Core ct P h S S2 u r) : AgW [] S S2 none (s1_first S ct P h) (sM_first S2) := by
  have cz := c.z
  have ho12 := c.1.2.1
  unfold s1_first sM_first
  have hle : ∀ i q, selN ltA (firN u r) i = some q → q.2 ≤ 60 ∧ q.1 < i := fun i => selN_le (fun j v _ e => firN_le e)
  refine Ag_z (Ag_ok (bJ (selN ltA (firN u r) u.1)) ?_ ?_)
  · refine Ev.loop4 (i0 := 0) (fun i x b l => HFr S 1 x ∧ b = bJ (selN ltA (firN u r) i) ∧ l = lJ (J 100000) (selN ltA (firN u r) i)) u.1 ⟨HFr.rf, rfl, rfl⟩ (by omega) ?_ ?_ (by unfold FUEL; omega)
    · rintro i - hi S1 b l ⟨h1, rfl, rfl⟩ rc hrc
      have hn : S1 1 2 = J u.1 := by rw [h1.one]; exact c.2.2.2.1.1
      unfold s1_first_L7
      simp (disch := omega) only [lit_0, lit_1, lit_2, lit_3, lit_4, lit_5, lit_6, lit_7, lit_8, lit_9, lit_10, lit_11, lit_12, lit_13, lit_14, lit_15, lit_20, lit_24, lit_25, lit_37, lit_40, lit_43, lit_48, lit_49, lit_50, lit_60, lit_96, lit_98, lit_99, lit_100, lit_999, lit_62, lit_74, lit_86, lit_92, lit_99999, lit_100000, lit_16, lit_32767, lit_2147483639, J_add, J_mul, J_sub, J_tn, J_le, J_lt, J_eq, Nat.not_lt_zero, false_or, or_false, le_t, le_f, lt_t, lt_f, eq_f, ↓reduceIte, callK_eq, letB_eq, joinB_eq, Nat.add_assoc, hn]
      refine Ev.call (tH_opensIn c h1 hi) (fun o h2 => ?_)
      rw [h2.1]
      cases hop : opnN u r i with
      | none =>
        have e : firN u r i = none := by unfold firN; rw [hop]
        simp (disch := omega) only [lit_0, lit_1, lit_2, lit_3, lit_4, lit_5, lit_6, lit_7, lit_8, lit_9, lit_10, lit_11, lit_12, lit_13, lit_14, lit_15, lit_20, lit_24, lit_25, lit_37, lit_40, lit_43, lit_48, lit_49, lit_50, lit_60, lit_96, lit_98, lit_99, lit_100, lit_999, lit_62, lit_74, lit_86, lit_92, lit_99999, lit_100000, lit_16, lit_32767, lit_2147483639, J_add, J_mul, J_sub, J_tn, J_le, J_lt, J_eq, Nat.not_lt_zero, false_or, or_false, le_t, le_f, lt_t, lt_f, eq_f, ↓reduceIte, callK_eq, letB_eq, joinB_eq, Nat.add_assoc, neg_lt]
        exact hrc _ _ _ ⟨h2.2, by rw [selN_n e], by rw [selN_n e]⟩
      | some d =>
        have hd := fstN_le hop
        by_cases hd0 : d = 0
        · have e : firN u r i = none := by unfold firN; rw [hop]; simp [hd0]
          subst hd0
          simp (disch := omega) only [lit_0, lit_1, lit_2, lit_3, lit_4, lit_5, lit_6, lit_7, lit_8, lit_9, lit_10, lit_11, lit_12, lit_13, lit_14, lit_15, lit_20, lit_24, lit_25, lit_37, lit_40, lit_43, lit_48, lit_49, lit_50, lit_60, lit_96, lit_98, lit_99, lit_100, lit_999, lit_62, lit_74, lit_86, lit_92, lit_99999, lit_100000, lit_16, lit_32767, lit_2147483639, J_add, J_mul, J_sub, J_tn, J_le, J_lt, J_eq, Nat.not_lt_zero, false_or, or_false, le_t, le_f, lt_t, lt_f, eq_f, ↓reduceIte, callK_eq, letB_eq, joinB_eq, Nat.add_assoc]
          exact hrc _ _ _ ⟨h2.2, by rw [selN_n e], by rw [selN_n e]⟩
        · have e : firN u r i = some d := by unfold firN; rw [hop]; simp [show 1 ≤ d by omega]
          simp (disch := omega) only [lit_0, lit_1, lit_2, lit_3, lit_4, lit_5, lit_6, lit_7, lit_8, lit_9, lit_10, lit_11, lit_12, lit_13, lit_14, lit_15, lit_20, lit_24, lit_25, lit_37, lit_40, lit_43, lit_48, lit_49, lit_50, lit_60, lit_96, lit_98, lit_99, lit_100, lit_999, lit_62, lit_74, lit_86, lit_92, lit_99999, lit_100000, lit_16, lit_32767, lit_2147483639, J_add, J_mul, J_sub, J_tn, J_le, J_lt, J_eq, Nat.not_lt_zero, false_or, or_false, le_t, le_f, lt_t, lt_f, eq_f, ↓reduceIte, callK_eq, letB_eq, joinB_eq, Nat.add_assoc, ltA_J (v := d) (D := 100000) (B := 60) (by omega) (by omega) (by omega) (fun q hq => (hle i q hq).1)]
          cases hlt : ltA d (selN ltA (firN u r) i) with
          | true =>
            simp (disch := omega) only [lit_0, lit_1, lit_2, lit_3, lit_4, lit_5, lit_6, lit_7, lit_8, lit_9, lit_10, lit_11, lit_12, lit_13, lit_14, lit_15, lit_20, lit_24, lit_25, lit_37, lit_40, lit_43, lit_48, lit_49, lit_50, lit_60, lit_96, lit_98, lit_99, lit_100, lit_999, lit_62, lit_74, lit_86, lit_92, lit_99999, lit_100000, lit_16, lit_32767, lit_2147483639, J_add, J_mul, J_sub, J_tn, J_le, J_lt, J_eq, Nat.not_lt_zero, false_or, or_false, le_t, le_f, lt_t, lt_f, eq_f, ↓reduceIte, callK_eq, letB_eq, joinB_eq, Nat.add_assoc]
            exact hrc _ _ _ ⟨h2.2, by rw [selN_s e, hlt]; rfl, by rw [selN_s e, hlt]; rfl⟩
          | false =>
            simp (disch := omega) only [lit_0, lit_1, lit_2, lit_3, lit_4, lit_5, lit_6, lit_7, lit_8, lit_9, lit_10, lit_11, lit_12, lit_13, lit_14, lit_15, lit_20, lit_24, lit_25, lit_37, lit_40, lit_43, lit_48, lit_49, lit_50, lit_60, lit_96, lit_98, lit_99, lit_100, lit_999, lit_62, lit_74, lit_86, lit_92, lit_99999, lit_100000, lit_16, lit_32767, lit_2147483639, J_add, J_mul, J_sub, J_tn, J_le, J_lt, J_eq, Nat.not_lt_zero, false_or, or_false, le_t, le_f, lt_t, lt_f, eq_f, ↓reduceIte, callK_eq, letB_eq, joinB_eq, Nat.add_assoc, Bool.false_eq_true]
            exact hrc _ _ _ ⟨h2.2, by rw [selN_s e, hlt]; rfl, by rw [selN_s e, hlt]; rfl⟩
    · rintro S1 b l ⟨h1, rfl, rfl⟩ rc
      have hn : S1 1 2 = J u.1 := by rw [h1.one]; exact c.2.2.2.1.1
      unfold s1_first_L7
      simp (disch := omega) only [lit_0, lit_1, lit_2, lit_3, lit_4, lit_5, lit_6, lit_7, lit_8, lit_9, lit_10, lit_11, lit_12, lit_13, lit_14, lit_15, lit_20, lit_24, lit_25, lit_37, lit_40, lit_43, lit_48, lit_49, lit_50, lit_60, lit_96, lit_98, lit_99, lit_100, lit_999, lit_62, lit_74, lit_86, lit_92, lit_99999, lit_100000, lit_16, lit_32767, lit_2147483639, J_add, J_mul, J_sub, J_tn, J_le, J_lt, J_eq, Nat.not_lt_zero, false_or, or_false, le_t, le_f, lt_t, lt_f, eq_f, ↓reduceIte, callK_eq, letB_eq, joinB_eq, Nat.add_assoc, hn]
      exact hfr_ev h1 rfl
  · refine Ev.loop4 (i0 := 0) (fun i x b l => MFr (Z0 S2) 49 x ∧ b = bJ (selN ltA (firN u r) i) ∧ l = lJ (J 99999) (selN ltA (firN u r) i)) u.1 ⟨MFr.rf, rfl, rfl⟩ (by omega) ?_ ?_ (by unfold FUEL; omega)
    · rintro i - hi S1 b l ⟨h1, rfl, rfl⟩ rc hrc
      have hn : S1 0 1 = J u.1 := (h1.rul cz.2.2.2.2.2.1).1
      unfold sM_first_L13
      simp (disch := omega) only [lit_0, lit_1, lit_2, lit_3, lit_4, lit_5, lit_6, lit_7, lit_8, lit_9, lit_10, lit_11, lit_12, lit_13, lit_14, lit_15, lit_20, lit_24, lit_25, lit_37, lit_40, lit_43, lit_48, lit_49, lit_50, lit_60, lit_96, lit_98, lit_99, lit_100, lit_999, lit_62, lit_74, lit_86, lit_92, lit_99999, lit_100000, lit_16, lit_32767, lit_2147483639, J_add, J_mul, J_sub, J_tn, J_le, J_lt, J_eq, Nat.not_lt_zero, false_or, or_false, le_t, le_f, lt_t, lt_f, eq_f, ↓reduceIte, callK_eq, letB_eq, joinB_eq, Nat.add_assoc, hn]
      refine Ev.call (tM_opensIn cz h1 hi) (fun o h2 => ?_)
      rw [h2.1]
      cases hop : opnN u r i with
      | none =>
        have e : firN u r i = none := by unfold firN; rw [hop]
        have e2 : (J 99999 < lJ (J 99999) (selN ltA (firN u r) i)) = False := by
          refine eq_false ?_
          unfold lJ
          split
          · simp (disch := omega) only [lit_0, lit_1, lit_2, lit_3, lit_4, lit_5, lit_6, lit_7, lit_8, lit_9, lit_10, lit_11, lit_12, lit_13, lit_14, lit_15, lit_20, lit_24, lit_25, lit_37, lit_40, lit_43, lit_48, lit_49, lit_50, lit_60, lit_96, lit_98, lit_99, lit_100, lit_999, lit_62, lit_74, lit_86, lit_92, lit_99999, lit_100000, lit_16, lit_32767, lit_2147483639, J_add, J_mul, J_sub, J_tn, J_le, J_lt, J_eq, Nat.not_lt_zero, false_or, or_false, le_t, le_f, lt_t, lt_f, eq_f, ↓reduceIte, callK_eq, letB_eq, joinB_eq, Nat.add_assoc, not_false_eq_true]
          · rename_i q hq
            have := (hle i q hq).1
            simp (disch := omega) only [lit_0, lit_1, lit_2, lit_3, lit_4, lit_5, lit_6, lit_7, lit_8, lit_9, lit_10, lit_11, lit_12, lit_13, lit_14, lit_15, lit_20, lit_24, lit_25, lit_37, lit_40, lit_43, lit_48, lit_49, lit_50, lit_60, lit_96, lit_98, lit_99, lit_100, lit_999, lit_62, lit_74, lit_86, lit_92, lit_99999, lit_100000, lit_16, lit_32767, lit_2147483639, J_add, J_mul, J_sub, J_tn, J_le, J_lt, J_eq, Nat.not_lt_zero, false_or, or_false, le_t, le_f, lt_t, lt_f, eq_f, ↓reduceIte, callK_eq, letB_eq, joinB_eq, Nat.add_assoc, not_false_eq_true]
        simp (disch := omega) only [lit_0, lit_1, lit_2, lit_3, lit_4, lit_5, lit_6, lit_7, lit_8, lit_9, lit_10, lit_11, lit_12, lit_13, lit_14, lit_15, lit_20, lit_24, lit_25, lit_37, lit_40, lit_43, lit_48, lit_49, lit_50, lit_60, lit_96, lit_98, lit_99, lit_100, lit_999, lit_62, lit_74, lit_86, lit_92, lit_99999, lit_100000, lit_16, lit_32767, lit_2147483639, J_add, J_mul, J_sub, J_tn, J_le, J_lt, J_eq, Nat.not_lt_zero, false_or, or_false, le_t, le_f, lt_t, lt_f, eq_f, ↓reduceIte, callK_eq, letB_eq, joinB_eq, Nat.add_assoc, e2]
        exact hrc _ _ _ ⟨h2.2, by rw [selN_n e], by rw [selN_n e]⟩
      | some d =>
        have hd := fstN_le hop
        by_cases hd0 : d = 0
        · have e : firN u r i = none := by unfold firN; rw [hop]; simp [hd0]
          subst hd0
          simp (disch := omega) only [lit_0, lit_1, lit_2, lit_3, lit_4, lit_5, lit_6, lit_7, lit_8, lit_9, lit_10, lit_11, lit_12, lit_13, lit_14, lit_15, lit_20, lit_24, lit_25, lit_37, lit_40, lit_43, lit_48, lit_49, lit_50, lit_60, lit_96, lit_98, lit_99, lit_100, lit_999, lit_62, lit_74, lit_86, lit_92, lit_99999, lit_100000, lit_16, lit_32767, lit_2147483639, J_add, J_mul, J_sub, J_tn, J_le, J_lt, J_eq, Nat.not_lt_zero, false_or, or_false, le_t, le_f, lt_t, lt_f, eq_f, ↓reduceIte, callK_eq, letB_eq, joinB_eq, Nat.add_assoc]
          exact hrc _ _ _ ⟨h2.2, by rw [selN_n e], by rw [selN_n e]⟩
        · have e : firN u r i = some d := by unfold firN; rw [hop]; simp [show 1 ≤ d by omega]
          simp (disch := omega) only [lit_0, lit_1, lit_2, lit_3, lit_4, lit_5, lit_6, lit_7, lit_8, lit_9, lit_10, lit_11, lit_12, lit_13, lit_14, lit_15, lit_20, lit_24, lit_25, lit_37, lit_40, lit_43, lit_48, lit_49, lit_50, lit_60, lit_96, lit_98, lit_99, lit_100, lit_999, lit_62, lit_74, lit_86, lit_92, lit_99999, lit_100000, lit_16, lit_32767, lit_2147483639, J_add, J_mul, J_sub, J_tn, J_le, J_lt, J_eq, Nat.not_lt_zero, false_or, or_false, le_t, le_f, lt_t, lt_f, eq_f, ↓reduceIte, callK_eq, letB_eq, joinB_eq, Nat.add_assoc, ltA_J (v := d) (D := 99999) (B := 60) (by omega) (by omega) (by omega) (fun q hq => (hle i q hq).1)]
          cases hlt : ltA d (selN ltA (firN u r) i) with
          | true =>
            simp (disch := omega) only [lit_0, lit_1, lit_2, lit_3, lit_4, lit_5, lit_6, lit_7, lit_8, lit_9, lit_10, lit_11, lit_12, lit_13, lit_14, lit_15, lit_20, lit_24, lit_25, lit_37, lit_40, lit_43, lit_48, lit_49, lit_50, lit_60, lit_96, lit_98, lit_99, lit_100, lit_999, lit_62, lit_74, lit_86, lit_92, lit_99999, lit_100000, lit_16, lit_32767, lit_2147483639, J_add, J_mul, J_sub, J_tn, J_le, J_lt, J_eq, Nat.not_lt_zero, false_or, or_false, le_t, le_f, lt_t, lt_f, eq_f, ↓reduceIte, callK_eq, letB_eq, joinB_eq, Nat.add_assoc]
            exact hrc _ _ _ ⟨h2.2, by rw [selN_s e, hlt]; rfl, by rw [selN_s e, hlt]; rfl⟩
          | false =>
            simp (disch := omega) only [lit_0, lit_1, lit_2, lit_3, lit_4, lit_5, lit_6, lit_7, lit_8, lit_9, lit_10, lit_11, lit_12, lit_13, lit_14, lit_15, lit_20, lit_24, lit_25, lit_37, lit_40, lit_43, lit_48, lit_49, lit_50, lit_60, lit_96, lit_98, lit_99, lit_100, lit_999, lit_62, lit_74, lit_86, lit_92, lit_99999, lit_100000, lit_16, lit_32767, lit_2147483639, J_add, J_mul, J_sub, J_tn, J_le, J_lt, J_eq, Nat.not_lt_zero, false_or, or_false, le_t, le_f, lt_t, lt_f, eq_f, ↓reduceIte, callK_eq, letB_eq, joinB_eq, Nat.add_assoc, Bool.false_eq_true]
            exact hrc _ _ _ ⟨h2.2, by rw [selN_s e, hlt]; rfl, by rw [selN_s e, hlt]; rfl⟩
    · rintro S1 b l ⟨h1, rfl, rfl⟩ rc
      have hn : S1 0 1 = J u.1 := (h1.rul cz.2.2.2.2.2.1).1
      unfold sM_first_L13
      simp (disch := omega) only [lit_0, lit_1, lit_2, lit_3, lit_4, lit_5, lit_6, lit_7, lit_8, lit_9, lit_10, lit_11, lit_12, lit_13, lit_14, lit_15, lit_20, lit_24, lit_25, lit_37, lit_40, lit_43, lit_48, lit_49, lit_50, lit_60, lit_96, lit_98, lit_99, lit_100, lit_999, lit_62, lit_74, lit_86, lit_92, lit_99999, lit_100000, lit_16, lit_32767, lit_2147483639, J_add, J_mul, J_sub, J_tn, J_le, J_lt, J_eq, Nat.not_lt_zero, false_or, or_false, le_t, le_f, lt_t, lt_f, eq_f, ↓reduceIte, callK_eq, letB_eq, joinB_eq, Nat.add_assoc, hn]
      exact mfr_ev h1 rfl
/-! toSend -/
def sendN (u : RU) (r : Nat → Nat) (w d s : Nat) : Option Nat := some (popN (openN (aftrN u (upN r (37 + w) s) d) u.1) 12)
theorem sendN_le {u : RU} {r : Nat → Nat} {w d s v : Nat} (h : sendN u r w d s = some v) : v ≤ 12 := by
  unfold sendN at h
  cases h
  exact popN_le _ _
theorem tM_openMany {S : US} {α : Type} {b n m : Nat} {r : Nat → Nat} {k : Int32 → Option α} (hn : S 0 1 = J n) (hn2 : n ≤ 12) (hb : b ≤ 49) (h : MRow S b r) (hR : ROk n m r) : callK (sM_openOnes S (J b)) (fun o => callK (sM_bits o) k) = k (J (popN (openN r n) 12)) := by
  have := openN_lt12 (r := r) hn2
  rw [tM_openOnes hn hn2 hb h hR]
  simp (disch := omega) only [lit_0, lit_1, lit_2, lit_3, lit_4, lit_5, lit_6, lit_7, lit_8, lit_9, lit_10, lit_11, lit_12, lit_13, lit_14, lit_15, lit_20, lit_24, lit_25, lit_37, lit_40, lit_43, lit_48, lit_49, lit_50, lit_60, lit_96, lit_98, lit_99, lit_100, lit_999, lit_62, lit_74, lit_86, lit_92, lit_99999, lit_100000, lit_16, lit_32767, lit_2147483639, J_add, J_mul, J_sub, J_tn, J_le, J_lt, J_eq, Nat.not_lt_zero, false_or, or_false, le_t, le_f, lt_t, lt_f, eq_f, ↓reduceIte, callK_eq, letB_eq, joinB_eq, Nat.add_assoc, tM_bits]
theorem L_toSend {ct : CT} {P : Nat → Nat → Option Nat} {h : AH} {S S2 : US} {u : RU} {r : Nat → Nat} (c : Core ct P h S S2 u r) (p1 p2 p3 : Int32) : AgW [(1, 1), (2, 2)] S S2 (t1_toSend S ct P h p1 p2 p3) (s1_toSend S ct P h p1 p2 p3) (sM_toSend S2 p1 p2 p3) := by
  have cz := c.z
  have ho := c.1
  have ho3 := c.1.1
  have ho12 := c.1.2.1
  have ho6 := c.1.2.2.1
  have hd9 := c.2.2.1
  unfold t1_toSend s1_toSend sM_toSend
  refine Ag_z (Ag_wom c (by decide) (fun w hw e => ?_))
  subst e
  refine Ag_what 1 (by decide) (by decide) (fun x hx e => ?_)
  subst e
  refine Ag_dayE 1 2 (by decide) (by decide) (Or.inr rfl) (fun d _ hd e => ?_)
  subst e
  have hle : ∀ i q, selN ltA (sendN u r w d) i = some q → q.2 ≤ 12 ∧ q.1 < i := fun i => selN_le (fun j v _ e => sendN_le e)
  have h0 : selN ltA (sendN u r w d) u.1 ≠ none := by
    have key : ∀ i, selN ltA (sendN u r w d) (i + 1) ≠ none := by
      intro i
      rw [selN_s (f := sendN u r w d) (i := i) rfl]
      cases e : selN ltA (sendN u r w d) i with
      | none => simp [ltA]
      | some q => split <;> simp
    obtain ⟨i, hi⟩ : ∃ i, u.1 = i + 1 := ⟨u.1 - 1, by omega⟩
    rw [hi]; exact key i
  obtain ⟨q, hq⟩ := Option.ne_none_iff_exists'.mp h0
  refine Ag_ok (if x = 0 then J q.1 else J q.2) ?_ ?_
  · refine Ev.loop4 (i0 := 0) (fun i x b l => HFr S 1 x ∧ b = bJ (selN ltA (sendN u r w d) i) ∧ l = lJ (J 100000) (selN ltA (sendN u r w d) i)) u.1 ⟨HFr.rf, rfl, rfl⟩ (by omega) ?_ ?_ (by unfold FUEL; omega)
    · rintro i - hi S1 b l ⟨h1, rfl, rfl⟩ rc hrc
      have hn : S1 1 2 = J u.1 := by rw [h1.one]; exact c.2.2.2.1.1
      have hR' := c.2.1.upW (s := w) (v := i) (by omega) hi ho12
      have hs1 := popN_le (openN (aftrN u (upN r (37 + w) i) d) u.1) 12
      unfold s1_toSend_L30
      simp (disch := omega) only [lit_0, lit_1, lit_2, lit_3, lit_4, lit_5, lit_6, lit_7, lit_8, lit_9, lit_10, lit_11, lit_12, lit_13, lit_14, lit_15, lit_20, lit_24, lit_25, lit_37, lit_40, lit_43, lit_48, lit_49, lit_50, lit_60, lit_96, lit_98, lit_99, lit_100, lit_999, lit_62, lit_74, lit_86, lit_92, lit_99999, lit_100000, lit_16, lit_32767, lit_2147483639, J_add, J_mul, J_sub, J_tn, J_le, J_lt, J_eq, Nat.not_lt_zero, false_or, or_false, le_t, le_f, lt_t, lt_f, eq_f, ↓reduceIte, callK_eq, letB_eq, joinB_eq, Nat.add_assoc, hn]
      refine Ev.call (tH_be (S0 := S) (L := 1) h1 ((KeepH.of (by omega) h1).row c.2.2.2.2.1) (by decide)) (fun S3 h3 => ?_)
      try simp (disch := omega) only [lit_0, lit_1, lit_2, lit_3, lit_4, lit_5, lit_6, lit_7, lit_8, lit_9, lit_10, lit_11, lit_12, lit_13, lit_14, lit_15, lit_20, lit_24, lit_25, lit_37, lit_40, lit_43, lit_48, lit_49, lit_50, lit_60, lit_96, lit_98, lit_99, lit_100, lit_999, lit_62, lit_74, lit_86, lit_92, lit_99999, lit_100000, lit_16, lit_32767, lit_2147483639, J_add, J_mul, J_sub, J_tn, J_le, J_lt, J_eq, Nat.not_lt_zero, false_or, or_false, le_t, le_f, lt_t, lt_f, eq_f, ↓reduceIte, callK_eq, letB_eq, joinB_eq, Nat.add_assoc]
      refine Ev.call (tH_aftr (S0 := S) c.2.2.2.1 ho (h3.1.up4 (s := w) (v := i) (by omega)) hR' (by rw [upN_off (by omega)]; omega) (by omega)) (fun S4 h4 => ?_)
      rw [tH_openMany (h4.rul c.2.2.2.1).1 ho12 h4.1 (hR'.aftr ho)]
      simp (disch := omega) only [lit_0, lit_1, lit_2, lit_3, lit_4, lit_5, lit_6, lit_7, lit_8, lit_9, lit_10, lit_11, lit_12, lit_13, lit_14, lit_15, lit_20, lit_24, lit_25, lit_37, lit_40, lit_43, lit_48, lit_49, lit_50, lit_60, lit_96, lit_98, lit_99, lit_100, lit_999, lit_62, lit_74, lit_86, lit_92, lit_99999, lit_100000, lit_16, lit_32767, lit_2147483639, J_add, J_mul, J_sub, J_tn, J_le, J_lt, J_eq, Nat.not_lt_zero, false_or, or_false, le_t, le_f, lt_t, lt_f, eq_f, ↓reduceIte, callK_eq, letB_eq, joinB_eq, Nat.add_assoc, ltA_J (v := popN (openN (aftrN u (upN r (37 + w) i) d) u.1) 12) (D := 100000) (B := 12) (by omega) (by omega) (by omega) (fun q hq => (hle i q hq).1)]
      cases hlt : ltA (popN (openN (aftrN u (upN r (37 + w) i) d) u.1) 12) (selN ltA (sendN u r w d) i) with
      | true =>
        simp (disch := omega) only [lit_0, lit_1, lit_2, lit_3, lit_4, lit_5, lit_6, lit_7, lit_8, lit_9, lit_10, lit_11, lit_12, lit_13, lit_14, lit_15, lit_20, lit_24, lit_25, lit_37, lit_40, lit_43, lit_48, lit_49, lit_50, lit_60, lit_96, lit_98, lit_99, lit_100, lit_999, lit_62, lit_74, lit_86, lit_92, lit_99999, lit_100000, lit_16, lit_32767, lit_2147483639, J_add, J_mul, J_sub, J_tn, J_le, J_lt, J_eq, Nat.not_lt_zero, false_or, or_false, le_t, le_f, lt_t, lt_f, eq_f, ↓reduceIte, callK_eq, letB_eq, joinB_eq, Nat.add_assoc]
        exact hrc _ _ _ ⟨h4.2, by rw [selN_s (f := sendN u r w d) (i := i) rfl, hlt]; rfl, by rw [selN_s (f := sendN u r w d) (i := i) rfl, hlt]; rfl⟩
      | false =>
        simp (disch := omega) only [lit_0, lit_1, lit_2, lit_3, lit_4, lit_5, lit_6, lit_7, lit_8, lit_9, lit_10, lit_11, lit_12, lit_13, lit_14, lit_15, lit_20, lit_24, lit_25, lit_37, lit_40, lit_43, lit_48, lit_49, lit_50, lit_60, lit_96, lit_98, lit_99, lit_100, lit_999, lit_62, lit_74, lit_86, lit_92, lit_99999, lit_100000, lit_16, lit_32767, lit_2147483639, J_add, J_mul, J_sub, J_tn, J_le, J_lt, J_eq, Nat.not_lt_zero, false_or, or_false, le_t, le_f, lt_t, lt_f, eq_f, ↓reduceIte, callK_eq, letB_eq, joinB_eq, Nat.add_assoc, Bool.false_eq_true]
        exact hrc _ _ _ ⟨h4.2, by rw [selN_s (f := sendN u r w d) (i := i) rfl, hlt]; rfl, by rw [selN_s (f := sendN u r w d) (i := i) rfl, hlt]; rfl⟩
    · rintro S1 b l ⟨h1, rfl, rfl⟩ rc
      have hn : S1 1 2 = J u.1 := by rw [h1.one]; exact c.2.2.2.1.1
      unfold s1_toSend_L30
      rw [hq]
      rcases (show x = 0 ∨ x = 1 by omega) with rfl | rfl
      · simp (disch := omega) only [lit_0, lit_1, lit_2, lit_3, lit_4, lit_5, lit_6, lit_7, lit_8, lit_9, lit_10, lit_11, lit_12, lit_13, lit_14, lit_15, lit_20, lit_24, lit_25, lit_37, lit_40, lit_43, lit_48, lit_49, lit_50, lit_60, lit_96, lit_98, lit_99, lit_100, lit_999, lit_62, lit_74, lit_86, lit_92, lit_99999, lit_100000, lit_16, lit_32767, lit_2147483639, J_add, J_mul, J_sub, J_tn, J_le, J_lt, J_eq, Nat.not_lt_zero, false_or, or_false, le_t, le_f, lt_t, lt_f, eq_f, ↓reduceIte, callK_eq, letB_eq, joinB_eq, Nat.add_assoc, hn]
        exact hfr_ev h1 rfl
      · simp (disch := omega) only [lit_0, lit_1, lit_2, lit_3, lit_4, lit_5, lit_6, lit_7, lit_8, lit_9, lit_10, lit_11, lit_12, lit_13, lit_14, lit_15, lit_20, lit_24, lit_25, lit_37, lit_40, lit_43, lit_48, lit_49, lit_50, lit_60, lit_96, lit_98, lit_99, lit_100, lit_999, lit_62, lit_74, lit_86, lit_92, lit_99999, lit_100000, lit_16, lit_32767, lit_2147483639, J_add, J_mul, J_sub, J_tn, J_le, J_lt, J_eq, Nat.not_lt_zero, false_or, or_false, le_t, le_f, lt_t, lt_f, eq_f, ↓reduceIte, callK_eq, letB_eq, joinB_eq, Nat.add_assoc, hn]
        exact hfr_ev h1 rfl
  · refine Ev.loop4 (i0 := 0) (fun i x b l => MFr (Z0 S2) 49 x ∧ b = bJ (selN ltA (sendN u r w d) i) ∧ l = lJ (J 99999) (selN ltA (sendN u r w d) i)) u.1 ⟨MFr.rf, rfl, rfl⟩ (by omega) ?_ ?_ (by unfold FUEL; omega)
    · rintro i - hi S1 b l ⟨h1, rfl, rfl⟩ rc hrc
      have hn : S1 0 1 = J u.1 := (h1.rul cz.2.2.2.2.2.1).1
      have hR' := c.2.1.upW (s := w) (v := i) (by omega) hi ho12
      have hs1 := popN_le (openN (aftrN u (upN r (37 + w) i) d) u.1) 12
      unfold sM_toSend_L45
      simp (disch := omega) only [lit_0, lit_1, lit_2, lit_3, lit_4, lit_5, lit_6, lit_7, lit_8, lit_9, lit_10, lit_11, lit_12, lit_13, lit_14, lit_15, lit_20, lit_24, lit_25, lit_37, lit_40, lit_43, lit_48, lit_49, lit_50, lit_60, lit_96, lit_98, lit_99, lit_100, lit_999, lit_62, lit_74, lit_86, lit_92, lit_99999, lit_100000, lit_16, lit_32767, lit_2147483639, J_add, J_mul, J_sub, J_tn, J_le, J_lt, J_eq, Nat.not_lt_zero, false_or, or_false, le_t, le_f, lt_t, lt_f, eq_f, ↓reduceIte, callK_eq, letB_eq, joinB_eq, Nat.add_assoc, hn]
      refine Ev.call (tM_tries (S0 := Z0 S2) h1 ((KeepM.of h1).row cz.2.2.2.2.2.2)) (fun S3 h3 => ?_)
      have h3' := h3.up (k := 37 + w) (v := i) (by omega)
      rw [show 49 + (37 + w) = 86 + w by omega] at h3'
      try simp (disch := omega) only [lit_0, lit_1, lit_2, lit_3, lit_4, lit_5, lit_6, lit_7, lit_8, lit_9, lit_10, lit_11, lit_12, lit_13, lit_14, lit_15, lit_20, lit_24, lit_25, lit_37, lit_40, lit_43, lit_48, lit_49, lit_50, lit_60, lit_96, lit_98, lit_99, lit_100, lit_999, lit_62, lit_74, lit_86, lit_92, lit_99999, lit_100000, lit_16, lit_32767, lit_2147483639, J_add, J_mul, J_sub, J_tn, J_le, J_lt, J_eq, Nat.not_lt_zero, false_or, or_false, le_t, le_f, lt_t, lt_f, eq_f, ↓reduceIte, callK_eq, letB_eq, joinB_eq, Nat.add_assoc]
      refine Ev.call (tM_daysGo (S0 := Z0 S2) cz.2.2.2.2.2.1 ho h3' hR' (by rw [upN_off (by omega)]; omega) (by omega)) (fun S4 h4 => ?_)
      rw [tM_openMany (b := 49) (h4.rul cz.2.2.2.2.2.1).1 ho12 (by decide) h4.1 (hR'.aftr ho)]
      simp (disch := omega) only [lit_0, lit_1, lit_2, lit_3, lit_4, lit_5, lit_6, lit_7, lit_8, lit_9, lit_10, lit_11, lit_12, lit_13, lit_14, lit_15, lit_20, lit_24, lit_25, lit_37, lit_40, lit_43, lit_48, lit_49, lit_50, lit_60, lit_96, lit_98, lit_99, lit_100, lit_999, lit_62, lit_74, lit_86, lit_92, lit_99999, lit_100000, lit_16, lit_32767, lit_2147483639, J_add, J_mul, J_sub, J_tn, J_le, J_lt, J_eq, Nat.not_lt_zero, false_or, or_false, le_t, le_f, lt_t, lt_f, eq_f, ↓reduceIte, callK_eq, letB_eq, joinB_eq, Nat.add_assoc, ltA_J (v := popN (openN (aftrN u (upN r (37 + w) i) d) u.1) 12) (D := 99999) (B := 12) (by omega) (by omega) (by omega) (fun q hq => (hle i q hq).1)]
      cases hlt : ltA (popN (openN (aftrN u (upN r (37 + w) i) d) u.1) 12) (selN ltA (sendN u r w d) i) with
      | true =>
        simp (disch := omega) only [lit_0, lit_1, lit_2, lit_3, lit_4, lit_5, lit_6, lit_7, lit_8, lit_9, lit_10, lit_11, lit_12, lit_13, lit_14, lit_15, lit_20, lit_24, lit_25, lit_37, lit_40, lit_43, lit_48, lit_49, lit_50, lit_60, lit_96, lit_98, lit_99, lit_100, lit_999, lit_62, lit_74, lit_86, lit_92, lit_99999, lit_100000, lit_16, lit_32767, lit_2147483639, J_add, J_mul, J_sub, J_tn, J_le, J_lt, J_eq, Nat.not_lt_zero, false_or, or_false, le_t, le_f, lt_t, lt_f, eq_f, ↓reduceIte, callK_eq, letB_eq, joinB_eq, Nat.add_assoc]
        exact hrc _ _ _ ⟨h4.2, by rw [selN_s (f := sendN u r w d) (i := i) rfl, hlt]; rfl, by rw [selN_s (f := sendN u r w d) (i := i) rfl, hlt]; rfl⟩
      | false =>
        simp (disch := omega) only [lit_0, lit_1, lit_2, lit_3, lit_4, lit_5, lit_6, lit_7, lit_8, lit_9, lit_10, lit_11, lit_12, lit_13, lit_14, lit_15, lit_20, lit_24, lit_25, lit_37, lit_40, lit_43, lit_48, lit_49, lit_50, lit_60, lit_96, lit_98, lit_99, lit_100, lit_999, lit_62, lit_74, lit_86, lit_92, lit_99999, lit_100000, lit_16, lit_32767, lit_2147483639, J_add, J_mul, J_sub, J_tn, J_le, J_lt, J_eq, Nat.not_lt_zero, false_or, or_false, le_t, le_f, lt_t, lt_f, eq_f, ↓reduceIte, callK_eq, letB_eq, joinB_eq, Nat.add_assoc, Bool.false_eq_true]
        exact hrc _ _ _ ⟨h4.2, by rw [selN_s (f := sendN u r w d) (i := i) rfl, hlt]; rfl, by rw [selN_s (f := sendN u r w d) (i := i) rfl, hlt]; rfl⟩
    · rintro S1 b l ⟨h1, rfl, rfl⟩ rc
      have hn : S1 0 1 = J u.1 := (h1.rul cz.2.2.2.2.2.1).1
      unfold sM_toSend_L45
      rw [hq]
      rcases (show x = 0 ∨ x = 1 by omega) with rfl | rfl
      · simp (disch := omega) only [lit_0, lit_1, lit_2, lit_3, lit_4, lit_5, lit_6, lit_7, lit_8, lit_9, lit_10, lit_11, lit_12, lit_13, lit_14, lit_15, lit_20, lit_24, lit_25, lit_37, lit_40, lit_43, lit_48, lit_49, lit_50, lit_60, lit_96, lit_98, lit_99, lit_100, lit_999, lit_62, lit_74, lit_86, lit_92, lit_99999, lit_100000, lit_16, lit_32767, lit_2147483639, J_add, J_mul, J_sub, J_tn, J_le, J_lt, J_eq, Nat.not_lt_zero, false_or, or_false, le_t, le_f, lt_t, lt_f, eq_f, ↓reduceIte, callK_eq, letB_eq, joinB_eq, Nat.add_assoc, hn]
        exact mfr_ev h1 rfl
      · simp (disch := omega) only [lit_0, lit_1, lit_2, lit_3, lit_4, lit_5, lit_6, lit_7, lit_8, lit_9, lit_10, lit_11, lit_12, lit_13, lit_14, lit_15, lit_20, lit_24, lit_25, lit_37, lit_40, lit_43, lit_48, lit_49, lit_50, lit_60, lit_96, lit_98, lit_99, lit_100, lit_999, lit_62, lit_74, lit_86, lit_92, lit_99999, lit_100000, lit_16, lit_32767, lit_2147483639, J_add, J_mul, J_sub, J_tn, J_le, J_lt, J_eq, Nat.not_lt_zero, false_or, or_false, le_t, le_f, lt_t, lt_f, eq_f, ↓reduceIte, callK_eq, letB_eq, joinB_eq, Nat.add_assoc, hn]
        exact mfr_ev h1 rfl
