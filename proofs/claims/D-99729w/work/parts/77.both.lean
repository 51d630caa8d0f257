set_option maxRecDepth 100000
/-! THE PLAIN LAW, 6: what both sides count by -/
/-- a loop that counts from a number on -/
theorem loop_from {σ ρ : Type} {body : (σ → Option ρ) → σ → Option ρ} (st : Nat → σ) (N : Nat) {i0 : Nat} {res : Option ρ} (hN : i0 ≤ N) (hstep : ∀ i, i0 ≤ i → i < N → ∀ rc, body rc (st i) = rc (st (i + 1))) (hend : ∀ rc, body rc (st N) = res) : ∀ fuel, N < fuel → loopK body fuel (st i0) = res := by
  intro fuel hf
  have h := loop_up (body := body) (fun k => st (i0 + k)) (N - i0) (res := res) (fun i hi rc => hstep (i0 + i) (by omega) (by omega) rc) (fun rc => by
    have e : i0 + (N - i0) = N := by omega
    simp only [e]
    exact hend rc) fuel (by omega)
  exact h
/-- the first of 0..N of which it holds -/
def fstN (c : Nat → Bool) : Nat → Option Nat
  | 0 => if c 0 = true then some 0 else none
  | N + 1 => match fstN c N with
    | some i => some i
    | none => if c (N + 1) = true then some (N + 1) else none
theorem fstN_none {c : Nat → Bool} {N : Nat} (h : ∀ j, j ≤ N → c j = false) : fstN c N = none := by
  induction N with
  | zero => unfold fstN; rw [h 0 (Nat.le_refl _)]; rfl
  | succ N ih =>
    unfold fstN
    rw [ih (fun j hj => h j (by omega)), h (N + 1) (Nat.le_refl _)]; rfl
theorem fstN_some {c : Nat → Bool} {N i : Nat} (hi : i ≤ N) (hc : c i = true) (h : ∀ j, j < i → c j = false) : fstN c N = some i := by
  induction N with
  | zero =>
    have : i = 0 := by omega
    subst this
    unfold fstN; rw [hc]; rfl
  | succ N ih =>
    unfold fstN
    by_cases e : i = N + 1
    · subst e
      rw [fstN_none (fun j hj => h j (by omega)), hc]; rfl
    · rw [ih (by omega)]
theorem fstN_le {c : Nat → Bool} {N i : Nat} (h : fstN c N = some i) : i ≤ N := by
  induction N with
  | zero =>
    unfold fstN at h
    split at h
    · cases h; exact Nat.le_refl _
    · cases h
  | succ N ih =>
    unfold fstN at h
    split at h
    · rename_i j e
      cases h
      have := ih e
      omega
    · split at h
      · cases h; exact Nat.le_refl _
      · cases h
/-- the open ones, as bits; sums; the first with most -/
def openN (r : Nat → Nat) : Nat → Nat
  | 0 => 0
  | k + 1 => openN r k ||| (if gapN r k = true then 1 <<< k else 0)
theorem openN_s {r : Nat → Nat} {k : Nat} : openN r (k + 1) = openN r k ||| (if gapN r k = true then 1 <<< k else 0) := rfl
theorem openN_lt (r : Nat → Nat) (k : Nat) : openN r k < 2 ^ k := by
  induction k with
  | zero => exact Nat.one_pos
  | succ m ih =>
    rw [openN_s]
    refine Nat.or_lt_two_pow (Nat.lt_trans ih (by rw [Nat.pow_succ]; omega)) ?_
    split
    · rw [Nat.one_shiftLeft, Nat.pow_succ]; have := Nat.two_pow_pos m; omega
    · exact Nat.two_pow_pos _
theorem openN_lt12 {r : Nat → Nat} {k : Nat} (h : k ≤ 12) : openN r k < 4096 := Nat.lt_of_lt_of_le (openN_lt r k) (Nat.pow_le_pow_right (by decide) h)
def sumN (r : Nat → Nat) (c : Nat) : Nat → Nat
  | 0 => 0
  | k + 1 => sumN r c k + r (c + k)
theorem sumN_s {r : Nat → Nat} {c k : Nat} : sumN r c (k + 1) = sumN r c k + r (c + k) := rfl
theorem sumN_le {r : Nat → Nat} {c n : Nat} (h : ∀ k, k < n → r (c + k) ≤ 99) : sumN r c n ≤ 99 * n := by
  induction n with
  | zero => exact Nat.le_refl _
  | succ n ih =>
    have := ih (fun k hk => h k (by omega))
    have := h n (by omega)
    rw [sumN_s]; omega
/-- the first with most strain (or least), of so many and one more -/
def extN (r : Nat → Nat) (most : Bool) : Nat → Nat
  | 0 => 0
  | k + 1 => if (if most = true then r (1 + (k + 1)) ≤ r (1 + extN r most k) else r (1 + extN r most k) ≤ r (1 + (k + 1))) then extN r most k else k + 1
theorem extN_le (r : Nat → Nat) (most : Bool) (k : Nat) : extN r most k ≤ k := by
  induction k with
  | zero => exact Nat.le_refl _
  | succ k ih =>
    have key : ∀ (c : Prop) (i : Decidable c), (@ite Nat c i (extN r most k) (k + 1)) ≤ k + 1 := fun c i => by
      by_cases h : c
      · rw [if_pos h]; omega
      · rw [if_neg h]; exact Nat.le_refl _
    exact key _ _
/-- days go by -/
def aftrN (u : RU) (r : Nat → Nat) : Nat → Nat → Nat
  | 0 => r
  | d + 1 => passN u (aftrN u r d)
theorem aftrN_s {u : RU} {r : Nat → Nat} {d : Nat} : aftrN u r (d + 1) = passN u (aftrN u r d) := rfl
theorem aftrN_0 {u : RU} {r : Nat → Nat} {d : Nat} : aftrN u r d 0 = r 0 + d := by
  induction d with
  | zero => rfl
  | succ d ih => rw [aftrN_s, pass_0, ih]; omega
theorem ROk.aftr {u : RU} {r : Nat → Nat} {d : Nat} (hu : RuOk u) (h : ROk u.1 u.2.1 r) : ROk u.1 u.2.1 (aftrN u r d) := by
  induction d with
  | zero => exact h
  | succ d ih => exact ih.pass hu
/-! what all methods that only look leave as it is -/
def KeepH (S S' : US) : Prop := (∀ a, (a = 1 ∨ (3 ≤ a ∧ a ≤ 10)) → S' a = S a) ∧ ∀ k, k ≠ 14 → S' 0 k = S 0 k
def KeepM (S S' : US) : Prop := (∀ a, ((1 ≤ a ∧ a ≤ 6) ∨ a = 15 ∨ a = 24 ∨ 28 ≤ a) → S' a = S a) ∧ (∀ k, k < 49 → S' 14 k = S 14 k) ∧ ∀ k, k ≠ 0 → k ≠ 55 → S' 0 k = S 0 k
theorem KeepH.rf {S : US} : KeepH S S := ⟨fun _ _ => rfl, fun _ _ => rfl⟩
theorem KeepM.rf {S : US} : KeepM S S := ⟨fun _ _ => rfl, fun _ _ => rfl, fun _ _ _ => rfl⟩
theorem KeepH.tr {S S1 S2 : US} (h : KeepH S S1) (h' : KeepH S1 S2) : KeepH S S2 := ⟨fun a ha => (h'.1 a ha).trans (h.1 a ha), fun k hk => (h'.2 k hk).trans (h.2 k hk)⟩
theorem KeepM.tr {S S1 S2 : US} (h : KeepM S S1) (h' : KeepM S1 S2) : KeepM S S2 := ⟨fun a ha => (h'.1 a ha).trans (h.1 a ha), fun k hk => (h'.2.1 k hk).trans (h.2.1 k hk), fun k hk hk2 => (h'.2.2 k hk hk2).trans (h.2.2 k hk hk2)⟩
theorem KeepH.of {S S' : US} {L : Nat} (hL : 1 ≤ L) (h : HFr S L S') : KeepH S S' := ⟨fun a ha => h a (by omega) (Or.inl (by unfold lc; omega)), fun k _ => by rw [h 0 (by decide) (Or.inl (by unfold lc; omega))]⟩
theorem KeepM.of {S S' : US} (h : MFr S 49 S') : KeepM S S' := ⟨fun a ha => h.1 a (by omega) (by omega) (by omega) (by omega), fun k hk => h.2 k (by omega), fun k _ _ => by rw [h.1 0 (by decide) (by decide) (by decide) (by decide)]⟩
theorem KeepM.u {S S' : US} {k : Nat} {v : Int32} (h : KeepM S S') (hk : k = 0 ∨ k = 55) : KeepM S (u2 S' 0 k v) :=
  ⟨fun a ha => by rw [u2_row' (by omega)]; exact h.1 a ha, fun j hj => by rw [u2_row' (by omega)]; exact h.2.1 j hj, fun j h1 h2 => by rw [u2_off (by omega)]; exact h.2.2 j h1 h2⟩
theorem KeepM.rul {S S' : US} {u : RU} (h : KeepM S S') (hu : RulM S u) : RulM S' u := by
  obtain ⟨h1, h2, h3, h4, h5, h6⟩ := hu
  refine ⟨(h.2.2 1 (by decide) (by decide)).trans h1, (h.2.2 2 (by decide) (by decide)).trans h2, (h.2.2 4 (by decide) (by decide)).trans h3, fun w hw => by rw [h.1 1 (by decide)]; exact h4 w hw, ?_, ?_⟩
  · unfold CForm at h5 ⊢
    split at h5
    · exact (h.2.2 5 (by decide) (by decide)).trans h5
    · rw [h.2.2 5 (by decide) (by decide), h.1 4 (by decide)]; exact h5
  · unfold CForm at h6 ⊢
    split at h6
    · exact (h.2.2 6 (by decide) (by decide)).trans h6
    · rw [h.2.2 6 (by decide) (by decide), h.1 4 (by decide)]; exact h6
theorem KeepM.row {S S' : US} {r : Nat → Nat} (h : KeepM S S') (hr : MRow S 0 r) : MRow S' 0 r := fun k hk => by rw [Nat.zero_add, h.2.1 k hk]; have := hr k hk; rw [Nat.zero_add] at this; exact this
theorem KeepH.row {S S' : US} {r : Nat → Nat} (h : KeepH S S') (hr : HRow S 0 r) : HRow S' 0 r := hr.of (fun i hi => h.1 _ (by unfold lc; omega))
/-- what both hold of the rules and of the row that is now -/
def Core (ct : CT) (P : Nat → Nat → Option Nat) (h : AH) (S S2 : US) (u : RU) (r : Nat → Nat) : Prop := RuOk u ∧ ROk u.1 u.2.1 r ∧ r 0 ≤ 999 ∧ RulH ct P h S u ∧ HRow S 0 r ∧ RulM S2 u ∧ MRow S2 0 r
theorem Core.keep {ct : CT} {P : Nat → Nat → Option Nat} {h : AH} {S S' S2 S2' : US} {u : RU} {r : Nat → Nat} (c : Core ct P h S S2 u r) (h1 : KeepH S S') (h2 : KeepM S2 S2') : Core ct P h S' S2' u r :=
  ⟨c.1, c.2.1, c.2.2.1, c.2.2.2.1.of (h1.1 1 (Or.inl rfl)), h1.row c.2.2.2.2.1, h2.rul c.2.2.2.2.2.1, h2.row c.2.2.2.2.2.2⟩
/-! tried -/
theorem tH_be {S0 S : US} {L M : Nat} {r : Nat → Nat} (hf : HFr S0 L S) (hM : HRow S M r) (hne : M ≠ L) : Ev (s3_be S L M) (fun S' => HR S0 L r S' ∧ ∀ i, S' (lc M i) = S (lc M i) ∨ 7 ≤ i) := by
  have hl : ∀ i j, i < 7 → j < 7 → lc M i < lc L j ∨ lc L j < lc M i := by intro i j hi hj; unfold lc; omega
  unfold s3_be
  refine Ev.loop2 (i0 := 0) (fun i x => HFr S0 L x ∧ (∀ j, j < 7 → x (lc M j) = S (lc M j)) ∧ ∀ k, k < i → x (lc L 1) k = J (r (1 + k)) ∧ x (lc L 2) k = J (r (13 + k)) ∧ x (lc L 3) k = J (r (25 + k))) 12 ⟨hf, fun _ _ => rfl, fun k hk => absurd hk (Nat.not_lt_zero k)⟩ (by omega) ?_ ?_ (by unfold FUEL; omega)
  · rintro i - hi S1 ⟨h1, h2, h3⟩ rc hrc
    have hm := hM.2.1 i hi
    unfold s3_be_L2
    simp (disch := omega) only [lit_0, lit_1, lit_2, lit_3, lit_4, lit_5, lit_6, lit_7, lit_8, lit_9, lit_10, lit_11, lit_12, lit_13, lit_14, lit_15, lit_20, lit_24, lit_25, lit_37, lit_40, lit_43, lit_48, lit_49, lit_50, lit_60, lit_96, lit_98, lit_99, lit_100, lit_999, lit_62, lit_74, lit_86, lit_92, lit_99999, lit_100000, lit_16, lit_32767, lit_2147483639, J_add, J_mul, J_sub, J_tn, J_le, J_lt, J_eq, Nat.not_lt_zero, false_or, or_false, le_t, le_f, lt_t, lt_f, eq_f, ↓reduceIte, callK_eq, letB_eq, joinB_eq, Nat.add_assoc]
    refine hrc _ ⟨((h1.u (by omega)).u (by omega)).u (by omega), fun j hj => ?_, fun k hk => ⟨?_, ?_, ?_⟩⟩
    · rw [u2_row' (hl _ _ hj (by omega)), u2_row' (hl _ _ hj (by omega)), u2_row' (hl _ _ hj (by omega))]; exact h2 j hj
    · rw [u2_row' (lc_ne (by omega)), u2_row' (lc_ne (by omega))]
      by_cases e : k = i
      · subst e; rw [u2_at, h2 1 (by omega)]; exact hm.1
      · rw [u2_off (by omega)]; exact (h3 k (by omega)).1
    · rw [u2_row' (lc_ne (by omega))]
      by_cases e : k = i
      · subst e; rw [u2_at, u2_row' (hl _ _ (by omega) (by omega)), h2 2 (by omega)]; exact hm.2.1
      · rw [u2_off (by omega), u2_row' (lc_ne (by omega))]; exact (h3 k (by omega)).2.1
    · by_cases e : k = i
      · subst e; rw [u2_at, u2_row' (hl _ _ (by omega) (by omega)), u2_row' (hl _ _ (by omega) (by omega)), h2 3 (by omega)]; exact hm.2.2
      · rw [u2_off (by omega), u2_row' (lc_ne (by omega)), u2_row' (lc_ne (by omega))]; exact (h3 k (by omega)).2.2
  · rintro S1 ⟨h1, h2, h3⟩ rc
    unfold s3_be_L2
    simp (disch := omega) only [lit_0, lit_1, lit_2, lit_3, lit_4, lit_5, lit_6, lit_7, lit_8, lit_9, lit_10, lit_11, lit_12, lit_13, lit_14, lit_15, lit_20, lit_24, lit_25, lit_37, lit_40, lit_43, lit_48, lit_49, lit_50, lit_60, lit_96, lit_98, lit_99, lit_100, lit_999, lit_62, lit_74, lit_86, lit_92, lit_99999, lit_100000, lit_16, lit_32767, lit_2147483639, J_add, J_mul, J_sub, J_tn, J_le, J_lt, J_eq, Nat.not_lt_zero, false_or, or_false, le_t, le_f, lt_t, lt_f, eq_f, ↓reduceIte, callK_eq, letB_eq, joinB_eq, Nat.add_assoc]
    refine Ev.loop2 (i0 := 0) (fun i x => HFr S0 L x ∧ (∀ j, j < 7 → x (lc M j) = S (lc M j)) ∧ (∀ k, k < 12 → x (lc L 1) k = J (r (1 + k)) ∧ x (lc L 2) k = J (r (13 + k)) ∧ x (lc L 3) k = J (r (25 + k))) ∧ ∀ w, w < i → x (lc L 4) w = J (r (37 + w)) ∧ x (lc L 5) w = J (r (43 + w))) 6 ⟨h1, h2, h3, fun k hk => absurd hk (Nat.not_lt_zero k)⟩ (by omega) ?_ ?_ (by unfold FUEL; omega)
    · rintro i - hi S2 ⟨g1, g2, g3, g4⟩ rc hrc
      have hm := hM.2.2 i hi
      unfold s3_be_L52
      simp (disch := omega) only [lit_0, lit_1, lit_2, lit_3, lit_4, lit_5, lit_6, lit_7, lit_8, lit_9, lit_10, lit_11, lit_12, lit_13, lit_14, lit_15, lit_20, lit_24, lit_25, lit_37, lit_40, lit_43, lit_48, lit_49, lit_50, lit_60, lit_96, lit_98, lit_99, lit_100, lit_999, lit_62, lit_74, lit_86, lit_92, lit_99999, lit_100000, lit_16, lit_32767, lit_2147483639, J_add, J_mul, J_sub, J_tn, J_le, J_lt, J_eq, Nat.not_lt_zero, false_or, or_false, le_t, le_f, lt_t, lt_f, eq_f, ↓reduceIte, callK_eq, letB_eq, joinB_eq, Nat.add_assoc]
      refine hrc _ ⟨(g1.u (by omega)).u (by omega), fun j hj => ?_, fun k hk => ?_, fun k hk => ⟨?_, ?_⟩⟩
      · rw [u2_row' (hl _ _ hj (by omega)), u2_row' (hl _ _ hj (by omega))]; exact g2 j hj
      · rw [u2_row' (lc_ne (by omega)), u2_row' (lc_ne (by omega)), u2_row' (lc_ne (by omega)), u2_row' (lc_ne (by omega)), u2_row' (lc_ne (by omega)), u2_row' (lc_ne (by omega))]; exact g3 k hk
      · rw [u2_row' (lc_ne (by omega))]
        by_cases e : k = i
        · subst e; rw [u2_at, g2 4 (by omega)]; exact hm.1
        · rw [u2_off (by omega)]; exact (g4 k (by omega)).1
      · by_cases e : k = i
        · subst e; rw [u2_at, u2_row' (hl _ _ (by omega) (by omega)), g2 5 (by omega)]; exact hm.2
        · rw [u2_off (by omega), u2_row' (lc_ne (by omega))]; exact (g4 k (by omega)).2
    · rintro S2 ⟨g1, g2, g3, g4⟩ rc
      unfold s3_be_L52
      simp (disch := omega) only [lit_0, lit_1, lit_2, lit_3, lit_4, lit_5, lit_6, lit_7, lit_8, lit_9, lit_10, lit_11, lit_12, lit_13, lit_14, lit_15, lit_20, lit_24, lit_25, lit_37, lit_40, lit_43, lit_48, lit_49, lit_50, lit_60, lit_96, lit_98, lit_99, lit_100, lit_999, lit_62, lit_74, lit_86, lit_92, lit_99999, lit_100000, lit_16, lit_32767, lit_2147483639, J_add, J_mul, J_sub, J_tn, J_le, J_lt, J_eq, Nat.not_lt_zero, false_or, or_false, le_t, le_f, lt_t, lt_f, eq_f, ↓reduceIte, callK_eq, letB_eq, joinB_eq, Nat.add_assoc]
      refine ⟨_, rfl, ⟨⟨?_, fun k hk => ?_, fun w hw => ?_⟩, g1.u (by omega)⟩, fun i => ?_⟩
      · rw [u2_at, g2 0 (by omega)]; exact hM.1
      · rw [u2_row' (lc_ne (by omega)), u2_row' (lc_ne (by omega)), u2_row' (lc_ne (by omega))]; exact g3 k hk
      · rw [u2_row' (lc_ne (by omega)), u2_row' (lc_ne (by omega))]; exact g4 w hw
      · by_cases hi : i < 7
        · refine Or.inl ?_
          rw [u2_row' (hl _ _ hi (by omega))]; exact g2 i hi
        · exact Or.inr (by omega)
theorem tM_tries {S0 S : US} {r : Nat → Nat} (hf : MFr S0 49 S) (hr : MRow S 0 r) : Ev (sM_tries S) (MR S0 49 r) := by
  unfold sM_tries
  refine Ev.loop2 (i0 := 0) (fun i x => MFr S0 49 x ∧ (∀ k, k < 49 → x 14 k = J (r k)) ∧ ∀ k, k < i → x 14 (49 + k) = J (r k)) 49 ⟨hf, fun k hk => by have := hr k hk; rw [Nat.zero_add] at this; exact this, fun k hk => absurd hk (Nat.not_lt_zero k)⟩ (by omega) ?_ ?_ (by unfold FUEL; omega)
  · rintro i - hi S1 ⟨h1, h2, h3⟩ rc hrc
    have e := h2 i hi
    unfold sM_tries_L2
    simp (disch := omega) only [lit_0, lit_1, lit_2, lit_3, lit_4, lit_5, lit_6, lit_7, lit_8, lit_9, lit_10, lit_11, lit_12, lit_13, lit_14, lit_15, lit_20, lit_24, lit_25, lit_37, lit_40, lit_43, lit_48, lit_49, lit_50, lit_60, lit_96, lit_98, lit_99, lit_100, lit_999, lit_62, lit_74, lit_86, lit_92, lit_99999, lit_100000, lit_16, lit_32767, lit_2147483639, J_add, J_mul, J_sub, J_tn, J_le, J_lt, J_eq, Nat.not_lt_zero, false_or, or_false, le_t, le_f, lt_t, lt_f, eq_f, ↓reduceIte, callK_eq, letB_eq, joinB_eq, Nat.add_assoc, e]
    refine hrc _ ⟨h1.up hi, fun k hk => ?_, fun k hk => ?_⟩
    · rw [u2_off (by omega)]; exact h2 k hk
    · by_cases e : k = i
      · subst e; rw [u2_at]
      · rw [u2_off (by omega)]; exact h3 k (by omega)
  · rintro S1 ⟨h1, h2, h3⟩ rc
    unfold sM_tries_L2
    simp (disch := omega) only [lit_0, lit_1, lit_2, lit_3, lit_4, lit_5, lit_6, lit_7, lit_8, lit_9, lit_10, lit_11, lit_12, lit_13, lit_14, lit_15, lit_20, lit_24, lit_25, lit_37, lit_40, lit_43, lit_48, lit_49, lit_50, lit_60, lit_96, lit_98, lit_99, lit_100, lit_999, lit_62, lit_74, lit_86, lit_92, lit_99999, lit_100000, lit_16, lit_32767, lit_2147483639, J_add, J_mul, J_sub, J_tn, J_le, J_lt, J_eq, Nat.not_lt_zero, false_or, or_false, le_t, le_f, lt_t, lt_f, eq_f, ↓reduceIte, callK_eq, letB_eq, joinB_eq, Nat.add_assoc]
    exact ⟨_, rfl, h3, h1⟩
theorem tH_aftr {ct : CT} {P : Nat → Nat → Option Nat} {h : AH} {S0 S : US} {u : RU} {L d : Nat} {r : Nat → Nat} (hu : RulH ct P h S0 u) (ho : RuOk u) (H : HR S0 L r S) (hR : ROk u.1 u.2.1 r) (hd : r 0 + d < 10000) (hd2 : d < 1000) : Ev (s3_after S ct P h L (J d)) (HR S0 L (aftrN u r d)) := by
  unfold s3_after
  refine Ev.loop2 (i0 := 0) (fun i x => HR S0 L (aftrN u r i) x) d H (by omega) ?_ ?_ (by unfold FUEL; omega)
  · rintro i - hi S1 h1 rc hrc
    unfold s3_after_L2
    simp (disch := omega) only [lit_0, lit_1, lit_2, lit_3, lit_4, lit_5, lit_6, lit_7, lit_8, lit_9, lit_10, lit_11, lit_12, lit_13, lit_14, lit_15, lit_20, lit_24, lit_25, lit_37, lit_40, lit_43, lit_48, lit_49, lit_50, lit_60, lit_96, lit_98, lit_99, lit_100, lit_999, lit_62, lit_74, lit_86, lit_92, lit_99999, lit_100000, lit_16, lit_32767, lit_2147483639, J_add, J_mul, J_sub, J_tn, J_le, J_lt, J_eq, Nat.not_lt_zero, false_or, or_false, le_t, le_f, lt_t, lt_f, eq_f, ↓reduceIte, callK_eq, letB_eq, joinB_eq, Nat.add_assoc]
    exact Ev.call (tH_pass hu ho h1 (hR.aftr ho) (by rw [aftrN_0]; omega)) (fun S2 h2 => hrc _ h2)
  · rintro S1 h1 rc
    unfold s3_after_L2
    simp (disch := omega) only [lit_0, lit_1, lit_2, lit_3, lit_4, lit_5, lit_6, lit_7, lit_8, lit_9, lit_10, lit_11, lit_12, lit_13, lit_14, lit_15, lit_20, lit_24, lit_25, lit_37, lit_40, lit_43, lit_48, lit_49, lit_50, lit_60, lit_96, lit_98, lit_99, lit_100, lit_999, lit_62, lit_74, lit_86, lit_92, lit_99999, lit_100000, lit_16, lit_32767, lit_2147483639, J_add, J_mul, J_sub, J_tn, J_le, J_lt, J_eq, Nat.not_lt_zero, false_or, or_false, le_t, le_f, lt_t, lt_f, eq_f, ↓reduceIte, callK_eq, letB_eq, joinB_eq, Nat.add_assoc]
    exact ⟨_, rfl, h1⟩
theorem tM_daysGo {S0 S : US} {u : RU} {d : Nat} {r : Nat → Nat} (hu : RulM S0 u) (ho : RuOk u) (H : MR S0 49 r S) (hR : ROk u.1 u.2.1 r) (hd : r 0 + d < 10000) (hd2 : d < 1000) : Ev (sM_daysGo S (J d)) (MR S0 49 (aftrN u r d)) := by
  unfold sM_daysGo
  refine Ev.loop2 (i0 := 0) (fun i x => MR S0 49 (aftrN u r i) x) d H (by omega) ?_ ?_ (by unfold FUEL; omega)
  · rintro i - hi S1 h1 rc hrc
    unfold sM_daysGo_L2
    simp (disch := omega) only [lit_0, lit_1, lit_2, lit_3, lit_4, lit_5, lit_6, lit_7, lit_8, lit_9, lit_10, lit_11, lit_12, lit_13, lit_14, lit_15, lit_20, lit_24, lit_25, lit_37, lit_40, lit_43, lit_48, lit_49, lit_50, lit_60, lit_96, lit_98, lit_99, lit_100, lit_999, lit_62, lit_74, lit_86, lit_92, lit_99999, lit_100000, lit_16, lit_32767, lit_2147483639, J_add, J_mul, J_sub, J_tn, J_le, J_lt, J_eq, Nat.not_lt_zero, false_or, or_false, le_t, le_f, lt_t, lt_f, eq_f, ↓reduceIte, callK_eq, letB_eq, joinB_eq, Nat.add_assoc]
    exact Ev.call (tM_dayGoes hu ho h1 (hR.aftr ho) (by omega) (by rw [aftrN_0]; omega)) (fun S2 h2 => hrc _ h2)
  · rintro S1 h1 rc
    unfold sM_daysGo_L2
    simp (disch := omega) only [lit_0, lit_1, lit_2, lit_3, lit_4, lit_5, lit_6, lit_7, lit_8, lit_9, lit_10, lit_11, lit_12, lit_13, lit_14, lit_15, lit_20, lit_24, lit_25, lit_37, lit_40, lit_43, lit_48, lit_49, lit_50, lit_60, lit_96, lit_98, lit_99, lit_100, lit_999, lit_62, lit_74, lit_86, lit_92, lit_99999, lit_100000, lit_16, lit_32767, lit_2147483639, J_add, J_mul, J_sub, J_tn, J_le, J_lt, J_eq, Nat.not_lt_zero, false_or, or_false, le_t, le_f, lt_t, lt_f, eq_f, ↓reduceIte, callK_eq, letB_eq, joinB_eq, Nat.add_assoc]
    exact ⟨_, rfl, h1⟩
