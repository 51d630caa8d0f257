set_option maxRecDepth 100000
/-! THE PLAIN LAW, 3: the Model's rows -/
theorem J_neg {a : Nat} (h : a < 2147483648) : (J a = -J 1) = False := by
  refine eq_false (fun e => ?_)
  have h1 := congrArg Int32.toInt e
  rw [J_ti h] at h1
  have h2 : (-J 1).toInt = -1 := by decide
  omega
theorem bI_t : bI true = J 1 := asEq rfl
theorem bI_f : bI false = J 0 := asEq rfl
theorem u2_at {S : US} {i k : Nat} {v : Int32} : u2 S i k v i k = v := u2_self S i k v
theorem u2_off {S : US} {i k b : Nat} {v : Int32} (h : b < k ∨ k < b) : u2 S i k v i b = S i b := u2_ne S i k v (by omega)
theorem u2_row' {S : US} {i k a : Nat} {v : Int32} (h : a < i ∨ i < a) : u2 S i k v a = S a := u2_row S i k v (by omega)
theorem sM_ahead1_u {S : US} {i k : Nat} {v p : Int32} (h : 0 < i) : sM_ahead1 (u2 S i k v) p = sM_ahead1 S p := by
  unfold sM_ahead1; simp (disch := omega) only [u2_row']
theorem sM_behind1_u {S : US} {i k : Nat} {v p : Int32} (h : 0 < i) : sM_behind1 (u2 S i k v) p = sM_behind1 S p := by
  unfold sM_behind1; simp (disch := omega) only [u2_row']
theorem sM_besideOf_u {S : US} {i k : Nat} {v p q : Int32} (h : 0 < i) (h' : i < 14 ∨ 14 < i) : sM_besideOf (u2 S i k v) p q = sM_besideOf S p q := by
  unfold sM_besideOf; simp (disch := omega) only [u2_row', sM_ahead1_u, sM_behind1_u]
theorem sM_womenAt_u {S : US} {i k : Nat} {v p q : Int32} (h : 0 < i) (h' : i < 14 ∨ 14 < i) : sM_womenAt (u2 S i k v) p q = sM_womenAt S p q := by
  unfold sM_womenAt sM_womenAt_L5; simp (disch := omega) only [u2_row']
theorem tM_bounded {v : Int32} {lo hi : Nat} (hl : lo ≤ hi) (hh : hi < 2147483648) : sM_bounded v (J lo) (J hi) = some (J (clN lo hi v)) := by
  unfold sM_bounded clN
  have h1 : (J lo ≤ v) = ¬ (v < J lo) := propext Int32.not_lt.symm
  have h2 : (v ≤ J hi) = ¬ (J hi < v) := propext Int32.not_lt.symm
  simp only [h1, h2]
  by_cases a : v < J lo
  · simp [a]
  · by_cases b : J hi < v
    · simp [a, b]
    · simp only [a, b, not_false_eq_true, ↓reduceIte]
      congr 1
      have h3 : 0 ≤ v := by
        rw [Int32.lt_iff_toInt_lt, J_ti (by omega)] at a
        rw [Int32.le_iff_toInt_le, show (0 : Int32).toInt = 0 from rfl]
        omega
      exact (Int32.ofNat_toNatClampNeg v h3).symm
theorem tM_boundI {v : Int32} : sM_bounded v (-J 9) (J 9) = some (clI v) := by
  show sM_bounded v (-9) 9 = some (clI v)
  unfold sM_bounded clI
  have h1 : ((-9 : Int32) ≤ v) = ¬ (v < -9) := propext Int32.not_lt.symm
  have h2 : (v ≤ 9) = ¬ ((9 : Int32) < v) := propext Int32.not_lt.symm
  simp only [h1, h2]
  by_cases a : v < -9
  · simp [a]
  · by_cases b : 9 < v
    · simp [a, b]
    · simp [a, b]
theorem tM_lesser {a b : Nat} (ha : a < 2147483648) (hb : b < 2147483648) : sM_lesser (J a) (J b) = some (J (min a b)) := by
  unfold sM_lesser
  by_cases h : b ≤ a
  · simp (disch := omega) only [lit_0, lit_1, lit_2, lit_3, lit_4, lit_5, lit_6, lit_7, lit_8, lit_9, lit_10, lit_11, lit_12, lit_13, lit_14, lit_15, lit_20, lit_24, lit_25, lit_37, lit_40, lit_43, lit_48, lit_49, lit_50, lit_60, lit_96, lit_98, lit_99, lit_100, lit_999, lit_62, lit_74, lit_86, lit_92, lit_99999, lit_100000, lit_16, lit_32767, lit_2147483639, J_add, J_mul, J_sub, J_tn, J_le, J_lt, J_eq, Nat.not_lt_zero, false_or, or_false, le_t, le_f, lt_t, lt_f, eq_f, ↓reduceIte, callK_eq, letB_eq, joinB_eq, Nat.add_assoc]
    rw [Nat.min_eq_right h]
  · simp (disch := omega) only [lit_0, lit_1, lit_2, lit_3, lit_4, lit_5, lit_6, lit_7, lit_8, lit_9, lit_10, lit_11, lit_12, lit_13, lit_14, lit_15, lit_20, lit_24, lit_25, lit_37, lit_40, lit_43, lit_48, lit_49, lit_50, lit_60, lit_96, lit_98, lit_99, lit_100, lit_999, lit_62, lit_74, lit_86, lit_92, lit_99999, lit_100000, lit_16, lit_32767, lit_2147483639, J_add, J_mul, J_sub, J_tn, J_le, J_lt, J_eq, Nat.not_lt_zero, false_or, or_false, le_t, le_f, lt_t, lt_f, eq_f, ↓reduceIte, callK_eq, letB_eq, joinB_eq, Nat.add_assoc]
    rw [Nat.min_eq_left (by omega)]
/-- what the Model's code at a place answers -/
def CDen (code : Nat → Int32) (a : Nat) (F : FV) : Prop := ∀ S' : US, S' 4 = code → Ev (sM_reckons S' (J a)) (fun o => o.1 = F (tv S' 16) ∧ ∀ c, c ≠ 17 → o.2 c = S' c)
def CForm (S : US) (k : Nat) (f : Option FV) : Prop := match f with
  | none => S 0 k = -J 1
  | some F => ∃ a : Nat, a < 1400 ∧ S 0 k = J a ∧ CDen (S 4) a F
/-- the rules, as the Model holds them -/
def RulM (S : US) (u : RU) : Prop := S 0 1 = J u.1 ∧ S 0 2 = J u.2.1 ∧ S 0 4 = J u.2.2.1 ∧ (∀ w, w < u.2.1 → S 1 w = J (u.2.2.2.1 w)) ∧ CForm S 5 u.2.2.2.2.1 ∧ CForm S 6 u.2.2.2.2.2
theorem RulM.of {S S' : US} {u : RU} (h : RulM S u) (h0 : ∀ k, k < 7 → S' 0 k = S 0 k) (h1 : S' 1 = S 1) (h4 : S' 4 = S 4) : RulM S' u := by
  refine ⟨(h0 1 (by omega)).trans h.1, (h0 2 (by omega)).trans h.2.1, (h0 4 (by omega)).trans h.2.2.1, fun w hw => by rw [h1]; exact h.2.2.2.1 w hw, ?_, ?_⟩
  · have h2 := h.2.2.2.2.1
    unfold CForm at h2 ⊢
    split at h2
    · exact (h0 5 (by omega)).trans h2
    · rw [h0 5 (by omega), h4]; exact h2
  · have h2 := h.2.2.2.2.2
    unfold CForm at h2 ⊢
    split at h2
    · exact (h0 6 (by omega)).trans h2
    · rw [h0 6 (by omega), h4]; exact h2
/-- what a day on row b may change -/
def MFr (S : US) (b : Nat) (S' : US) : Prop := (∀ a, a ≠ 14 → a ≠ 16 → a ≠ 17 → a ≠ 18 → S' a = S a) ∧ ∀ k, k < b ∨ b + 49 ≤ k → S' 14 k = S 14 k
theorem MFr.rf {S : US} {b : Nat} : MFr S b S := ⟨fun _ _ _ _ _ => rfl, fun _ _ => rfl⟩
theorem MFr.tr {S S1 S2 : US} {b : Nat} (h : MFr S b S1) (h' : MFr S1 b S2) : MFr S b S2 := ⟨fun a h1 h2 h3 h4 => (h'.1 a h1 h2 h3 h4).trans (h.1 a h1 h2 h3 h4), fun k hk => (h'.2 k hk).trans (h.2 k hk)⟩
theorem MFr.rul {S S' : US} {b : Nat} {u : RU} (h : MFr S b S') (hu : RulM S u) : RulM S' u := hu.of (fun k _ => by rw [h.1 0 (by decide) (by decide) (by decide) (by decide)]) (h.1 1 (by decide) (by decide) (by decide) (by decide)) (h.1 4 (by decide) (by decide) (by decide) (by decide))
theorem MFr.up {S S' : US} {b k : Nat} {v : Int32} (h : MFr S b S') (hk : k < 49) : MFr S b (u2 S' 14 (b + k) v) :=
  ⟨fun a h1 h2 h3 h4 => by rw [u2_row _ _ _ _ h1]; exact h.1 a h1 h2 h3 h4, fun j hj => by rw [u2_off (by omega)]; exact h.2 j hj⟩
theorem MFr.of {S S' S2 : US} {b : Nat} (h : MFr S b S') (h2 : ∀ a, a ≠ 16 → a ≠ 17 → a ≠ 18 → S2 a = S' a) : MFr S b S2 :=
  ⟨fun a g1 g2 g3 g4 => (h2 a g2 g3 g4).trans (h.1 a g1 g2 g3 g4), fun k hk => by rw [h2 14 (by decide) (by decide) (by decide)]; exact h.2 k hk⟩
theorem MRow.of {S S' : US} {b : Nat} {r : Nat → Nat} (h : MRow S b r) (h2 : S' 14 = S 14) : MRow S' b r := fun k hk => by rw [h2]; exact h k hk
theorem MRow.up {S : US} {b k v : Nat} {r : Nat → Nat} (h : MRow S b r) (hk : k < 49) : MRow (u2 S 14 (b + k) (J v)) b (upN r k v) := by
  intro j hj
  by_cases e : j = k
  · subst e; rw [u2_at, upN_at]
  · rw [u2_off (by omega), upN_off (by omega)]; exact h j hj
theorem told_0 {n m s : Nat} {r : Nat → Nat} : toldN n m r s 0 = J (r (1 + s)) := rfl
theorem told_1 {n m s : Nat} {r : Nat → Nat} : toldN n m r s 1 = J (r (13 + s)) := rfl
theorem told_2 {n m s : Nat} {r : Nat → Nat} : toldN n m r s 2 = J (r (25 + s)) := rfl
theorem told_3 {n m s : Nat} {r : Nat → Nat} : toldN n m r s 3 = J (besN n r s) := rfl
theorem told_4 {n m s : Nat} {r : Nat → Nat} : toldN n m r s 4 = J (popN (womN r s m) 12) := rfl
theorem told_5 {n m s : Nat} {r : Nat → Nat} : toldN n m r s 5 = J (r 0) := rfl
def askS (S : US) (c : Nat) (n m : Nat) (r : Nat → Nat) (s : Nat) : US := u2 (u2 (u2 (u2 (u2 (u2 S c 0 (J (r (1 + s)))) c 1 (J (r (13 + s)))) c 2 (J (r (25 + s)))) c 3 (J (besN n r s))) c 4 (J (popN (womN r s m) 12))) c 5 (J (r 0))
theorem askS_row {S : US} {c n m s a : Nat} {r : Nat → Nat} (h : a ≠ c) : askS S c n m r s a = S a := by
  unfold askS
  simp only [u2_row _ _ _ _ h]
theorem askS_told {S : US} {c n m s : Nat} {r : Nat → Nat} : tv (askS S c n m r s) c = toldN n m r s := by
  refine tv_told (fun k hk => ?_)
  unfold askS
  rcases (show k = 0 ∨ k = 1 ∨ k = 2 ∨ k = 3 ∨ k = 4 ∨ k = 5 by omega) with rfl | rfl | rfl | rfl | rfl | rfl <;> simp (disch := omega) only [u2_at, u2_off, told_0, told_1, told_2, told_3, told_4, told_5]
theorem tM_asks_eq {S : US} {b s at0 n m : Nat} {r : Nat → Nat} (hr0 : S 14 (b + 0) = J (r 0)) (hr1 : S 14 (b + (1 + s)) = J (r (1 + s))) (hr2 : S 14 (b + (13 + s)) = J (r (13 + s))) (hr3 : S 14 (b + (25 + s)) = J (r (25 + s))) (hb : b ≤ 49) (hs : s < 12)
    (e1 : sM_besideOf S (J b) (J s) = some (J (besN n r s))) (e2 : sM_womenAt S (J b) (J s) = some (J (womN r s m))) (e3 : sM_bits (J (womN r s m)) = some (J (popN (womN r s m) 12))) :
    sM_asks S (J at0) (J b) (J s) = callK (sM_reckons (askS S 16 n m r s) (J at0)) (fun o => some (o.1, o.2)) := by
  unfold sM_asks askS
  simp (disch := omega) only [lit_0, lit_1, lit_2, lit_3, lit_4, lit_5, lit_6, lit_7, lit_8, lit_9, lit_10, lit_11, lit_12, lit_13, lit_14, lit_15, lit_20, lit_24, lit_25, lit_37, lit_40, lit_43, lit_48, lit_49, lit_50, lit_60, lit_96, lit_98, lit_99, lit_100, lit_999, lit_62, lit_74, lit_86, lit_92, lit_99999, lit_100000, lit_16, lit_32767, lit_2147483639, J_add, J_mul, J_sub, J_tn, J_le, J_lt, J_eq, Nat.not_lt_zero, false_or, or_false, le_t, le_f, lt_t, lt_f, eq_f, ↓reduceIte, callK_eq, letB_eq, joinB_eq, Nat.add_assoc, u2_row', hr0, hr1, hr2, hr3, sM_besideOf_u, sM_womenAt_u, e1, e2, e3]
theorem tM_asks {S : US} {b s at0 : Nat} {r : Nat → Nat} {u : RU} {F : FV} (hu : RulM S u) (ho : RuOk u) (hr : MRow S b r) (hR : ROk u.1 u.2.1 r) (hb : b ≤ 49) (hs : s < u.1) (hd : r 0 < 10000) (hc : CDen (S 4) at0 F) :
    Ev (sM_asks S (J at0) (J b) (J s)) (fun o => o.1 = F (toldN u.1 u.2.1 r s) ∧ ∀ a, a ≠ 16 → a ≠ 17 → o.2 a = S a) := by
  have h12 := ho.2.1
  have hw := womN_lt r s u.2.1
  have hw2 : 2 ^ u.2.1 ≤ 2 ^ 6 := Nat.pow_le_pow_right (by decide) ho.2.2.1
  have e1 := tM_besideOf hr hb hu.1 (by have := ho.1; omega) hs h12
  have e2 := tM_womenAt (s := s) hr hb hu.2.1 ho.2.2.1 (by omega) (fun w hw => by have := (hR.2.1 w hw).2; omega)
  have e3 := tM_bits (v := womN r s u.2.1) (by omega)
  rw [tM_asks_eq (hr 0 (by omega)) (hr (1 + s) (by omega)) (hr (13 + s) (by omega)) (hr (25 + s) (by omega)) hb (by omega) e1 e2 e3]
  refine Ev.call (hc _ (askS_row (by decide))) (fun o ho => ⟨_, rfl, ?_, fun a h1 h2 => ?_⟩)
  · exact ho.1.trans (congrArg F askS_told)
  · exact (ho.2 a h2).trans (askS_row h1)
theorem tM_fraysOf {S : US} {b s : Nat} {r : Nat → Nat} {u : RU} (hu : RulM S u) (ho : RuOk u) (hr : MRow S b r) (hR : ROk u.1 u.2.1 r) (hb : b ≤ 49) (hs : s < u.1) (hd : r 0 < 10000) :
    Ev (sM_fraysOf S (J b) (J s)) (fun o => o.1 = J (freN u.1 u.2.1 u.2.2.2.2.1 r s) ∧ ∀ a, a ≠ 16 → a ≠ 17 → o.2 a = S a) := by
  have h12 := ho.2.1
  have hv := hR.1 s (by omega)
  have e1 := tM_isGap hr hb (show s < 12 by omega) (by omega)
  have hr1 := hr (1 + s) (by omega)
  have hr3 := hr (25 + s) (by omega)
  unfold sM_fraysOf freN
  rw [e1]
  cases hg : gapN r s with
  | true => simp (disch := omega) only [lit_0, lit_1, lit_2, lit_3, lit_4, lit_5, lit_6, lit_7, lit_8, lit_9, lit_10, lit_11, lit_12, lit_13, lit_14, lit_15, lit_20, lit_24, lit_25, lit_37, lit_40, lit_43, lit_48, lit_49, lit_50, lit_60, lit_96, lit_98, lit_99, lit_100, lit_999, lit_62, lit_74, lit_86, lit_92, lit_99999, lit_100000, lit_16, lit_32767, lit_2147483639, J_add, J_mul, J_sub, J_tn, J_le, J_lt, J_eq, Nat.not_lt_zero, false_or, or_false, le_t, le_f, lt_t, lt_f, eq_f, ↓reduceIte, callK_eq, letB_eq, joinB_eq, Nat.add_assoc, bI_t]; exact ⟨_, rfl, rfl, fun _ _ _ => rfl⟩
  | false =>
    have hf := hu.2.2.2.2.1
    unfold CForm at hf
    cases hF : u.2.2.2.2.1 with
    | none =>
      rw [hF] at hf
      simp (disch := omega) only [lit_0, lit_1, lit_2, lit_3, lit_4, lit_5, lit_6, lit_7, lit_8, lit_9, lit_10, lit_11, lit_12, lit_13, lit_14, lit_15, lit_20, lit_24, lit_25, lit_37, lit_40, lit_43, lit_48, lit_49, lit_50, lit_60, lit_96, lit_98, lit_99, lit_100, lit_999, lit_62, lit_74, lit_86, lit_92, lit_99999, lit_100000, lit_16, lit_32767, lit_2147483639, J_add, J_mul, J_sub, J_tn, J_le, J_lt, J_eq, Nat.not_lt_zero, false_or, or_false, le_t, le_f, lt_t, lt_f, eq_f, ↓reduceIte, callK_eq, letB_eq, joinB_eq, Nat.add_assoc, bI_f, hf, hr1, hr3, tM_bounded, eq_self]
      exact ⟨_, rfl, rfl, fun _ _ _ => rfl⟩
    | some F =>
      rw [hF] at hf
      obtain ⟨a, ha, hf, hc⟩ := hf
      simp (disch := omega) only [lit_0, lit_1, lit_2, lit_3, lit_4, lit_5, lit_6, lit_7, lit_8, lit_9, lit_10, lit_11, lit_12, lit_13, lit_14, lit_15, lit_20, lit_24, lit_25, lit_37, lit_40, lit_43, lit_48, lit_49, lit_50, lit_60, lit_96, lit_98, lit_99, lit_100, lit_999, lit_62, lit_74, lit_86, lit_92, lit_99999, lit_100000, lit_16, lit_32767, lit_2147483639, J_add, J_mul, J_sub, J_tn, J_le, J_lt, J_eq, Nat.not_lt_zero, false_or, or_false, le_t, le_f, lt_t, lt_f, eq_f, ↓reduceIte, callK_eq, letB_eq, joinB_eq, Nat.add_assoc, bI_f, hf, J_neg]
      refine Ev.call (tM_asks hu ho hr hR hb hs hd hc) (fun o ho => ?_)
      rw [ho.1]
      simp (disch := omega) only [lit_0, lit_1, lit_2, lit_3, lit_4, lit_5, lit_6, lit_7, lit_8, lit_9, lit_10, lit_11, lit_12, lit_13, lit_14, lit_15, lit_20, lit_24, lit_25, lit_37, lit_40, lit_43, lit_48, lit_49, lit_50, lit_60, lit_96, lit_98, lit_99, lit_100, lit_999, lit_62, lit_74, lit_86, lit_92, lit_99999, lit_100000, lit_16, lit_32767, lit_2147483639, J_add, J_mul, J_sub, J_tn, J_le, J_lt, J_eq, Nat.not_lt_zero, false_or, or_false, le_t, le_f, lt_t, lt_f, eq_f, ↓reduceIte, callK_eq, letB_eq, joinB_eq, Nat.add_assoc, tM_bounded]
      exact ⟨_, rfl, rfl, ho.2⟩
theorem tM_pullsOf {S : US} {b s : Nat} {r : Nat → Nat} {u : RU} (hu : RulM S u) (ho : RuOk u) (hr : MRow S b r) (hR : ROk u.1 u.2.1 r) (hb : b ≤ 49) (hs : s < u.1) (hd : r 0 < 10000) :
    Ev (sM_pullsOf S (J b) (J s)) (fun o => o.1 = pulN u.1 u.2.1 u.2.2.2.2.2 r s ∧ ∀ a, a ≠ 16 → a ≠ 17 → o.2 a = S a) := by
  have h12 := ho.2.1
  have hv := hR.1 s (by omega)
  have e1 := tM_isGap hr hb (show s < 12 by omega) (by omega)
  have e2 := tM_besideOf hr hb hu.1 (by have := ho.1; omega) hs h12
  have hr1 := hr (1 + s) (by omega)
  unfold sM_pullsOf pulN
  rw [e1]
  cases hg : gapN r s with
  | true => simp (disch := omega) only [lit_0, lit_1, lit_2, lit_3, lit_4, lit_5, lit_6, lit_7, lit_8, lit_9, lit_10, lit_11, lit_12, lit_13, lit_14, lit_15, lit_20, lit_24, lit_25, lit_37, lit_40, lit_43, lit_48, lit_49, lit_50, lit_60, lit_96, lit_98, lit_99, lit_100, lit_999, lit_62, lit_74, lit_86, lit_92, lit_99999, lit_100000, lit_16, lit_32767, lit_2147483639, J_add, J_mul, J_sub, J_tn, J_le, J_lt, J_eq, Nat.not_lt_zero, false_or, or_false, le_t, le_f, lt_t, lt_f, eq_f, ↓reduceIte, callK_eq, letB_eq, joinB_eq, Nat.add_assoc, bI_t]; exact ⟨_, rfl, rfl, fun _ _ _ => rfl⟩
  | false =>
    have hf := hu.2.2.2.2.2
    unfold CForm at hf
    cases hF : u.2.2.2.2.2 with
    | none =>
      rw [hF] at hf
      simp (disch := omega) only [lit_0, lit_1, lit_2, lit_3, lit_4, lit_5, lit_6, lit_7, lit_8, lit_9, lit_10, lit_11, lit_12, lit_13, lit_14, lit_15, lit_20, lit_24, lit_25, lit_37, lit_40, lit_43, lit_48, lit_49, lit_50, lit_60, lit_96, lit_98, lit_99, lit_100, lit_999, lit_62, lit_74, lit_86, lit_92, lit_99999, lit_100000, lit_16, lit_32767, lit_2147483639, J_add, J_mul, J_sub, J_tn, J_le, J_lt, J_eq, Nat.not_lt_zero, false_or, or_false, le_t, le_f, lt_t, lt_f, eq_f, ↓reduceIte, callK_eq, letB_eq, joinB_eq, Nat.add_assoc, bI_f, hf, e2, hr1, tM_boundI, eq_self]
      exact ⟨_, rfl, rfl, fun _ _ _ => rfl⟩
    | some F =>
      rw [hF] at hf
      obtain ⟨a, ha, hf, hc⟩ := hf
      simp (disch := omega) only [lit_0, lit_1, lit_2, lit_3, lit_4, lit_5, lit_6, lit_7, lit_8, lit_9, lit_10, lit_11, lit_12, lit_13, lit_14, lit_15, lit_20, lit_24, lit_25, lit_37, lit_40, lit_43, lit_48, lit_49, lit_50, lit_60, lit_96, lit_98, lit_99, lit_100, lit_999, lit_62, lit_74, lit_86, lit_92, lit_99999, lit_100000, lit_16, lit_32767, lit_2147483639, J_add, J_mul, J_sub, J_tn, J_le, J_lt, J_eq, Nat.not_lt_zero, false_or, or_false, le_t, le_f, lt_t, lt_f, eq_f, ↓reduceIte, callK_eq, letB_eq, joinB_eq, Nat.add_assoc, bI_f, hf, J_neg]
      refine Ev.call (tM_asks hu ho hr hR hb hs hd hc) (fun o ho => ?_)
      rw [ho.1]
      simp (disch := omega) only [lit_0, lit_1, lit_2, lit_3, lit_4, lit_5, lit_6, lit_7, lit_8, lit_9, lit_10, lit_11, lit_12, lit_13, lit_14, lit_15, lit_20, lit_24, lit_25, lit_37, lit_40, lit_43, lit_48, lit_49, lit_50, lit_60, lit_96, lit_98, lit_99, lit_100, lit_999, lit_62, lit_74, lit_86, lit_92, lit_99999, lit_100000, lit_16, lit_32767, lit_2147483639, J_add, J_mul, J_sub, J_tn, J_le, J_lt, J_eq, Nat.not_lt_zero, false_or, or_false, le_t, le_f, lt_t, lt_f, eq_f, ↓reduceIte, callK_eq, letB_eq, joinB_eq, Nat.add_assoc, tM_boundI]
      exact ⟨_, rfl, rfl, ho.2⟩
/-- row b now holds r; all but it is as in S0 -/
def MR (S0 : US) (b : Nat) (r : Nat → Nat) (S : US) : Prop := MRow S b r ∧ MFr S0 b S
theorem MR.up {S0 S : US} {b k v : Nat} {r : Nat → Nat} (h : MR S0 b r S) (hk : k < 49) : MR S0 b (upN r k v) (u2 S 14 (b + k) (J v)) := ⟨h.1.up hk, h.2.up hk⟩
theorem MR.of {S0 S S2 : US} {b : Nat} {r : Nat → Nat} (h : MR S0 b r S) (h2 : ∀ a, a ≠ 16 → a ≠ 17 → a ≠ 18 → S2 a = S a) : MR S0 b r S2 := ⟨h.1.of (h2 14 (by decide) (by decide) (by decide)), h.2.of h2⟩
theorem tM_strains {S0 S : US} {b s v : Nat} {r : Nat → Nat} (h : MR S0 b r S) (hb : b ≤ 49) (hs : s < 12) (h1 : r (1 + s) ≤ 99) (hv : v < 100000) : Ev (sM_strains S (J b) (J s) (J v)) (MR S0 b (straN r s v)) := by
  unfold sM_strains
  have hr1 := h.1 (1 + s) (by omega)
  simp (disch := omega) only [lit_0, lit_1, lit_2, lit_3, lit_4, lit_5, lit_6, lit_7, lit_8, lit_9, lit_10, lit_11, lit_12, lit_13, lit_14, lit_15, lit_20, lit_24, lit_25, lit_37, lit_40, lit_43, lit_48, lit_49, lit_50, lit_60, lit_96, lit_98, lit_99, lit_100, lit_999, lit_62, lit_74, lit_86, lit_92, lit_99999, lit_100000, lit_16, lit_32767, lit_2147483639, J_add, J_mul, J_sub, J_tn, J_le, J_lt, J_eq, Nat.not_lt_zero, false_or, or_false, le_t, le_f, lt_t, lt_f, eq_f, ↓reduceIte, callK_eq, letB_eq, joinB_eq, Nat.add_assoc, hr1, tM_lesser]
  exact ⟨_, rfl, h.up (by omega)⟩
theorem tM_over {β : Type} {S0 S : US} {b n s v : Nat} {r : Nat → Nat} {k : US → Option β} {Q : β → Prop} (h : MR S0 b r S) (hR : ROk n 0 r) (hb : b ≤ 49) (hs : s < 12) (hv : v < 100000) (hk : ∀ S', MR S0 b (overN r s v) S' → Ev (k S') Q) : Ev (callK (sM_isGap S (J b) (J s)) (fun o => if bI o = J 0 then callK (sM_strains S (J b) (J s) (J v)) k else k S)) Q := by
  have h1 := hR.1 s hs
  rw [tM_isGap h.1 hb hs (by omega)]
  unfold overN at hk
  cases hg : gapN r s with
  | true =>
    simp (disch := omega) only [lit_0, lit_1, lit_2, lit_3, lit_4, lit_5, lit_6, lit_7, lit_8, lit_9, lit_10, lit_11, lit_12, lit_13, lit_14, lit_15, lit_20, lit_24, lit_25, lit_37, lit_40, lit_43, lit_48, lit_49, lit_50, lit_60, lit_96, lit_98, lit_99, lit_100, lit_999, lit_62, lit_74, lit_86, lit_92, lit_99999, lit_100000, lit_16, lit_32767, lit_2147483639, J_add, J_mul, J_sub, J_tn, J_le, J_lt, J_eq, Nat.not_lt_zero, false_or, or_false, le_t, le_f, lt_t, lt_f, eq_f, ↓reduceIte, callK_eq, letB_eq, joinB_eq, Nat.add_assoc, bI_t]
    refine hk S ?_
    simp only [hg, ↓reduceIte]
    exact h
  | false =>
    simp (disch := omega) only [lit_0, lit_1, lit_2, lit_3, lit_4, lit_5, lit_6, lit_7, lit_8, lit_9, lit_10, lit_11, lit_12, lit_13, lit_14, lit_15, lit_20, lit_24, lit_25, lit_37, lit_40, lit_43, lit_48, lit_49, lit_50, lit_60, lit_96, lit_98, lit_99, lit_100, lit_999, lit_62, lit_74, lit_86, lit_92, lit_99999, lit_100000, lit_16, lit_32767, lit_2147483639, J_add, J_mul, J_sub, J_tn, J_le, J_lt, J_eq, Nat.not_lt_zero, false_or, or_false, le_t, le_f, lt_t, lt_f, eq_f, ↓reduceIte, callK_eq, letB_eq, joinB_eq, Nat.add_assoc, bI_f]
    refine Ev.call (tM_strains h hb hs (by omega) hv) (fun S' h' => hk S' ?_)
    simp only [hg, Bool.false_eq_true, ↓reduceIte]
    exact h'
theorem ROk.z {n m : Nat} {r : Nat → Nat} (h : ROk n m r) : ROk n 0 r := ⟨h.1, h.2.1, fun w hw => absurd hw (Nat.not_lt_zero w)⟩
theorem gap_up {r : Nat → Nat} {k v s : Nat} (h : k < 13) : gapN (upN r k v) s = gapN r s := by
  unfold gapN
  rw [upN_off (by omega)]
theorem over_comm {r : Nat → Nat} {s t x : Nat} (hs : s < 12) (ht : t < 12) (h : t ≠ s) : upN (overN r t x) (1 + s) 0 = overN (upN r (1 + s) 0) t x := by
  unfold overN straN
  rw [gap_up (by omega)]
  split
  · rfl
  · rw [upN_comm (by omega), upN_off (k := 1 + s) (j := 1 + t) (by omega)]
theorem befN_ne {n s : Nat} (h0 : 3 ≤ n) (h : s < n) : befN n s ≠ s := by unfold befN; split <;> omega
theorem aftN_ne {n s : Nat} (h0 : 3 ≤ n) (h : s < n) : aftN n s ≠ s := by unfold aftN; split <;> omega
theorem J_half {a : Nat} (h : a < 2147483648) : J a / J 2 = J (a / 2) := J_div h (by decide)
theorem tM_loosens {S0 S : US} {b s v m : Nat} {r : Nat → Nat} {n : Nat} (hn : S0 0 1 = J n) (h3 : 3 ≤ n) (h12 : n ≤ 12) (h : MR S0 b r S) (hR : ROk n m r) (hb : b ≤ 49) (hs : s < n) (hv : v < 100000) : Ev (sM_loosens S (J b) (J s) (J v)) (MR S0 b (loosN n r s v)) := by
  have h1 := hR.1 s (by omega)
  have hn0 : ∀ S' r', MR S0 b r' S' → S' 0 1 = J n := fun S' r' h' => by rw [h'.2.1 0 (by decide) (by decide) (by decide) (by decide)]; exact hn
  have hr1 := h.1 (13 + s) (by omega)
  have hcl : clN 0 99 (J (r (13 + s)) - J v) = r (13 + s) - v := by
    unfold clN
    by_cases hc : v ≤ r (13 + s)
    · simp (disch := omega) only [lit_0, lit_1, lit_2, lit_3, lit_4, lit_5, lit_6, lit_7, lit_8, lit_9, lit_10, lit_11, lit_12, lit_13, lit_14, lit_15, lit_20, lit_24, lit_25, lit_37, lit_40, lit_43, lit_48, lit_49, lit_50, lit_60, lit_96, lit_98, lit_99, lit_100, lit_999, lit_62, lit_74, lit_86, lit_92, lit_99999, lit_100000, lit_16, lit_32767, lit_2147483639, J_add, J_mul, J_sub, J_tn, J_le, J_lt, J_eq, Nat.not_lt_zero, false_or, or_false, le_t, le_f, lt_t, lt_f, eq_f, ↓reduceIte, callK_eq, letB_eq, joinB_eq, Nat.add_assoc]
    · have e : (J (r (13 + s)) - J v).toInt = (r (13 + s) : Int) - v := by
        rw [Int32.toInt_sub, J_ti (by omega), J_ti (by omega)]
        exact Int.bmod_eq_of_le (by omega) (by omega)
      rw [if_pos (by rw [Int32.lt_iff_toInt_lt, e, J_ti (by omega)]; omega)]
      omega
  unfold sM_loosens
  simp (disch := omega) only [lit_0, lit_1, lit_2, lit_3, lit_4, lit_5, lit_6, lit_7, lit_8, lit_9, lit_10, lit_11, lit_12, lit_13, lit_14, lit_15, lit_20, lit_24, lit_25, lit_37, lit_40, lit_43, lit_48, lit_49, lit_50, lit_60, lit_96, lit_98, lit_99, lit_100, lit_999, lit_62, lit_74, lit_86, lit_92, lit_99999, lit_100000, lit_16, lit_32767, lit_2147483639, J_add, J_mul, J_sub, J_tn, J_le, J_lt, J_eq, Nat.not_lt_zero, false_or, or_false, le_t, le_f, lt_t, lt_f, eq_f, ↓reduceIte, callK_eq, letB_eq, joinB_eq, Nat.add_assoc, hr1, tM_bounded, hcl]
  have h2 : MR S0 b (upN r (13 + s) (r (13 + s) - v)) (u2 S 14 (b + (13 + s)) (J (r (13 + s) - v))) := h.up (by omega)
  generalize u2 S 14 (b + (13 + s)) (J (r (13 + s) - v)) = S2 at h2 ⊢
  have hR2 : ROk n m (upN r (13 + s) (r (13 + s) - v)) := hR.upB (by omega) (by omega)
  rw [tM_isGap h2.1 hb (by omega) (by rw [upN_at]; omega)]
  by_cases hz : r (13 + s) - v = 0
  · have hg : gapN (upN r (13 + s) (r (13 + s) - v)) s = true := by unfold gapN; rw [upN_at]; exact decide_eq_true hz
    have hr2 : S2 14 (b + (1 + s)) = J (r (1 + s)) := by rw [h2.1 (1 + s) (by omega), upN_off (by omega)]
    have hb1 := befN_lt (show 0 < n by omega) hs
    have ha1 := aftN_lt (show 0 < n by omega) hs
    rw [hg]
    simp (disch := omega) only [lit_0, lit_1, lit_2, lit_3, lit_4, lit_5, lit_6, lit_7, lit_8, lit_9, lit_10, lit_11, lit_12, lit_13, lit_14, lit_15, lit_20, lit_24, lit_25, lit_37, lit_40, lit_43, lit_48, lit_49, lit_50, lit_60, lit_96, lit_98, lit_99, lit_100, lit_999, lit_62, lit_74, lit_86, lit_92, lit_99999, lit_100000, lit_16, lit_32767, lit_2147483639, J_add, J_mul, J_sub, J_tn, J_le, J_lt, J_eq, Nat.not_lt_zero, false_or, or_false, le_t, le_f, lt_t, lt_f, eq_f, ↓reduceIte, callK_eq, letB_eq, joinB_eq, Nat.add_assoc, bI_t, tM_ahead1 (hn0 _ _ h2) (show 0 < n by omega) hs h12, hr2, J_half]
    refine tM_over (k := fun x => sM_loosens_J79 (J b) (J s) S2 x) h2 hR2.z hb (by omega) (by omega) (fun S3 hS3 => ?_)
    unfold sM_loosens_J79
    simp (disch := omega) only [lit_0, lit_1, lit_2, lit_3, lit_4, lit_5, lit_6, lit_7, lit_8, lit_9, lit_10, lit_11, lit_12, lit_13, lit_14, lit_15, lit_20, lit_24, lit_25, lit_37, lit_40, lit_43, lit_48, lit_49, lit_50, lit_60, lit_96, lit_98, lit_99, lit_100, lit_999, lit_62, lit_74, lit_86, lit_92, lit_99999, lit_100000, lit_16, lit_32767, lit_2147483639, J_add, J_mul, J_sub, J_tn, J_le, J_lt, J_eq, Nat.not_lt_zero, false_or, or_false, le_t, le_f, lt_t, lt_f, eq_f, ↓reduceIte, callK_eq, letB_eq, joinB_eq, Nat.add_assoc, tM_behind1 (hn0 _ _ hS3) (show 0 < n by omega) hs h12, hr2, J_half]
    have hR3 := hR2.over (s := befN n s) (v := r (1 + s) / 2) (by omega)
    refine tM_over (k := fun x => some (u2 x 14 (b + (1 + s)) (J 0))) hS3 hR3.z hb (by omega) (by omega) (fun S4 hS4 => ⟨_, rfl, ?_⟩)
    have h5 := hS4.up (k := 1 + s) (v := 0) (by omega)
    unfold loosN
    rw [if_neg (by omega)]
    rw [over_comm (by omega) (by omega) (aftN_ne h3 hs), over_comm (by omega) (by omega) (befN_ne h3 hs), hz] at h5
    exact h5
  · have hg : gapN (upN r (13 + s) (r (13 + s) - v)) s = false := by unfold gapN; rw [upN_at]; exact decide_eq_false hz
    rw [hg]
    simp (disch := omega) only [lit_0, lit_1, lit_2, lit_3, lit_4, lit_5, lit_6, lit_7, lit_8, lit_9, lit_10, lit_11, lit_12, lit_13, lit_14, lit_15, lit_20, lit_24, lit_25, lit_37, lit_40, lit_43, lit_48, lit_49, lit_50, lit_60, lit_96, lit_98, lit_99, lit_100, lit_999, lit_62, lit_74, lit_86, lit_92, lit_99999, lit_100000, lit_16, lit_32767, lit_2147483639, J_add, J_mul, J_sub, J_tn, J_le, J_lt, J_eq, Nat.not_lt_zero, false_or, or_false, le_t, le_f, lt_t, lt_f, eq_f, ↓reduceIte, callK_eq, letB_eq, joinB_eq, Nat.add_assoc, bI_f]
    unfold loosN
    rw [if_pos hz]
    exact ⟨_, rfl, h2⟩
theorem tM_mends {S0 S : US} {b w n m : Nat} {r sk : Nat → Nat} (hsk : ∀ w, w < m → S0 1 w = J (sk w)) (hk9 : ∀ w, w < 6 → sk w ≤ 9) (h12 : n ≤ 12) (hm : m ≤ 6) (h : MR S0 b r S) (hR : ROk n m r) (hb : b ≤ 49) (hw : w < m) : Ev (sM_mends S (J b) (J w)) (MR S0 b (mendN sk r w)) := by
  have h1 := (hR.2.1 w (by omega)).1
  have h2 := hR.2.2 w hw
  have h3 := hR.1 (r (37 + w)) (by omega)
  have h9 := hk9 w (by omega)
  have hr1 := h.1 (43 + w) (by omega)
  have hr2 := h.1 (37 + w) (by omega)
  unfold sM_mends mendN
  by_cases hz : r (43 + w) = 0
  · rw [if_pos hz]
    simp (disch := omega) only [lit_0, lit_1, lit_2, lit_3, lit_4, lit_5, lit_6, lit_7, lit_8, lit_9, lit_10, lit_11, lit_12, lit_13, lit_14, lit_15, lit_20, lit_24, lit_25, lit_37, lit_40, lit_43, lit_48, lit_49, lit_50, lit_60, lit_96, lit_98, lit_99, lit_100, lit_999, lit_62, lit_74, lit_86, lit_92, lit_99999, lit_100000, lit_16, lit_32767, lit_2147483639, J_add, J_mul, J_sub, J_tn, J_le, J_lt, J_eq, Nat.not_lt_zero, false_or, or_false, le_t, le_f, lt_t, lt_f, eq_f, ↓reduceIte, callK_eq, letB_eq, joinB_eq, Nat.add_assoc, hr1, hz]
    exact ⟨_, rfl, h⟩
  · rw [if_neg hz]
    have h4 := h.up (k := 43 + w) (v := r (43 + w) - 1) (by omega)
    have e1 : (u2 S 14 (b + (43 + w)) (J (r (43 + w) - 1))) 14 (b + (13 + r (37 + w))) = J (r (13 + r (37 + w))) := by rw [h4.1 _ (by omega), upN_off (by omega)]
    have e2 : (u2 S 14 (b + (43 + w)) (J (r (43 + w) - 1))) 1 w = J (sk w) := by rw [u2_row' (by omega), h.2.1 1 (by decide) (by decide) (by decide) (by decide)]; exact hsk w hw
    simp (disch := omega) only [lit_0, lit_1, lit_2, lit_3, lit_4, lit_5, lit_6, lit_7, lit_8, lit_9, lit_10, lit_11, lit_12, lit_13, lit_14, lit_15, lit_20, lit_24, lit_25, lit_37, lit_40, lit_43, lit_48, lit_49, lit_50, lit_60, lit_96, lit_98, lit_99, lit_100, lit_999, lit_62, lit_74, lit_86, lit_92, lit_99999, lit_100000, lit_16, lit_32767, lit_2147483639, J_add, J_mul, J_sub, J_tn, J_le, J_lt, J_eq, Nat.not_lt_zero, false_or, or_false, le_t, le_f, lt_t, lt_f, eq_f, ↓reduceIte, callK_eq, letB_eq, joinB_eq, Nat.add_assoc, hr1, hr2, e1, e2, tM_lesser]
    refine ⟨_, rfl, ?_⟩
    have h5 := h4.up (k := 13 + r (37 + w)) (v := min 99 (r (13 + r (37 + w)) + (2 * sk w + 3))) (by omega)
    exact h5
theorem tM_goesOn {S0 S : US} {b w n m : Nat} {r : Nat → Nat} (hn : S0 0 1 = J n) (h3 : 3 ≤ n) (h12 : n ≤ 12) (hm : m ≤ 6) (h : MR S0 b r S) (hR : ROk n m r) (hb : b ≤ 49) (hw : w < m) : Ev (sM_goesOn S (J b) (J w)) (MR S0 b (goN n r w)) := by
  have h2 := hR.2.2 w hw
  have hr2 := h.1 (37 + w) (by omega)
  have hn1 : S 0 1 = J n := by rw [h.2.1 0 (by decide) (by decide) (by decide) (by decide)]; exact hn
  unfold sM_goesOn goN
  simp (disch := omega) only [lit_0, lit_1, lit_2, lit_3, lit_4, lit_5, lit_6, lit_7, lit_8, lit_9, lit_10, lit_11, lit_12, lit_13, lit_14, lit_15, lit_20, lit_24, lit_25, lit_37, lit_40, lit_43, lit_48, lit_49, lit_50, lit_60, lit_96, lit_98, lit_99, lit_100, lit_999, lit_62, lit_74, lit_86, lit_92, lit_99999, lit_100000, lit_16, lit_32767, lit_2147483639, J_add, J_mul, J_sub, J_tn, J_le, J_lt, J_eq, Nat.not_lt_zero, false_or, or_false, le_t, le_f, lt_t, lt_f, eq_f, ↓reduceIte, callK_eq, letB_eq, joinB_eq, Nat.add_assoc, hr2, tM_behind1 hn1 (show 0 < n by omega) h2 h12]
  exact ⟨_, rfl, h.up (by omega)⟩
theorem J_mod {a w : Nat} (ha : a < 2147483648) (hw : w < 2147483648) : J a - J a / J w * J w = J (a % w) := by
  rw [J_div ha hw, J_mul, J_sub (Nat.div_mul_le_self a w)]
  congr 1
  have := Nat.div_add_mod a w
  rw [Nat.mul_comm] at this
  omega
theorem gap_pullAll {p : Nat → Int32} {r : Nat → Nat} {i s : Nat} (hi : i ≤ 12) : gapN (pullAll p r i) s = gapN r s := by
  induction i with
  | zero => rfl
  | succ i ih =>
    show gapN (if gapN _ i = true then _ else _) s = _
    split
    · exact ih (by omega)
    · rw [gap_up (by omega)]; exact ih (by omega)
theorem freN_le {n m s : Nat} {f : Option FV} {r : Nat → Nat} : freN n m f r s ≤ 20 := by
  unfold freN
  split
  · omega
  · exact (clN_le (by omega) (by omega)).2
theorem tM_day4 {S0 S : US} {b : Nat} {r : Nat → Nat} {u : RU} (hu : RulM S0 u) (ho : RuOk u) (h : MR S0 b r S) (hR : ROk u.1 u.2.1 r) (hb : b ≤ 49) {j : US → Option US} {Q : US → Prop} (hj : ∀ S', MR S0 b (womAll u.1 u.2.2.2.1 r u.2.1) S' → Ev (j S') Q) :
    Ev (loopK (fun rc (x : (US × Int32)) => sM_dayGoes_L147 (J b) j rc x.1 x.2) FUEL (S, J 0)) Q := by
  have ho3 := ho.1
  have ho6 := ho.2.2.1
  refine Ev.loop2 (i0 := 0) (fun i x => MR S0 b (womAll u.1 u.2.2.2.1 r i) x) u.2.1 h (by omega) ?_ ?_ (by unfold FUEL; omega)
  · rintro i - hi S1 h1 rc hrc
    have hm1 : S1 0 2 = J u.2.1 := by rw [h1.2.1 0 (by decide) (by decide) (by decide) (by decide)]; exact hu.2.1
    have hR1 := hR.womAll (i := i) (sk := u.2.2.2.1) (by omega) ho.2.1 ho6 (by omega)
    unfold sM_dayGoes_L147
    simp (disch := omega) only [lit_0, lit_1, lit_2, lit_3, lit_4, lit_5, lit_6, lit_7, lit_8, lit_9, lit_10, lit_11, lit_12, lit_13, lit_14, lit_15, lit_20, lit_24, lit_25, lit_37, lit_40, lit_43, lit_48, lit_49, lit_50, lit_60, lit_96, lit_98, lit_99, lit_100, lit_999, lit_62, lit_74, lit_86, lit_92, lit_99999, lit_100000, lit_16, lit_32767, lit_2147483639, J_add, J_mul, J_sub, J_tn, J_le, J_lt, J_eq, Nat.not_lt_zero, false_or, or_false, le_t, le_f, lt_t, lt_f, eq_f, ↓reduceIte, callK_eq, letB_eq, joinB_eq, Nat.add_assoc, hm1]
    refine Ev.call (tM_mends hu.2.2.2.1 ho.2.2.2.2.2 ho.2.1 ho6 h1 hR1 hb hi) (fun S2 h2 => ?_)
    refine Ev.call (tM_goesOn hu.1 ho3 ho.2.1 ho6 h2 (hR1.mend ho.2.1 ho6 hi) hb hi) (fun S3 h3 => ?_)
    exact hrc _ h3
  · rintro S1 h1 rc
    have hm1 : S1 0 2 = J u.2.1 := by rw [h1.2.1 0 (by decide) (by decide) (by decide) (by decide)]; exact hu.2.1
    unfold sM_dayGoes_L147
    simp (disch := omega) only [lit_0, lit_1, lit_2, lit_3, lit_4, lit_5, lit_6, lit_7, lit_8, lit_9, lit_10, lit_11, lit_12, lit_13, lit_14, lit_15, lit_20, lit_24, lit_25, lit_37, lit_40, lit_43, lit_48, lit_49, lit_50, lit_60, lit_96, lit_98, lit_99, lit_100, lit_999, lit_62, lit_74, lit_86, lit_92, lit_99999, lit_100000, lit_16, lit_32767, lit_2147483639, J_add, J_mul, J_sub, J_tn, J_le, J_lt, J_eq, Nat.not_lt_zero, false_or, or_false, le_t, le_f, lt_t, lt_f, eq_f, ↓reduceIte, callK_eq, letB_eq, joinB_eq, Nat.add_assoc, hm1]
    exact hj _ h1
theorem tM_day3 {S0 S : US} {b : Nat} {r : Nat → Nat} {u : RU} (hu : RulM S0 u) (ho : RuOk u) (h : MR S0 b r S) (hR : ROk u.1 u.2.1 r) (hb : b ≤ 49) (hd : r 0 < 10000) :
    Ev (loopK (fun rc (x : (US × Int32)) => sM_dayGoes_L88 (J b) rc x.1 x.2) FUEL (S, J 0)) (MR S0 b (let r2 := loosAll u.1 u.2.1 u.2.2.2.2.1 r u.1
      let r3 := if r2 0 % u.2.2.1 = u.2.2.1 - 1 then womAll u.1 u.2.2.2.1 r2 u.2.1 else r2
      upN r3 0 (r3 0 + 1))) := by
  have ho3 := ho.1
  have ho12 := ho.2.1
  have ho7 := ho.2.2.2.1
  have ho8 := ho.2.2.2.2.1
  refine Ev.loop2 (i0 := 0) (fun i x => MR S0 b (loosAll u.1 u.2.1 u.2.2.2.2.1 r i) x) u.1 h (by omega) ?_ ?_ (by unfold FUEL; omega)
  · rintro i - hi S1 h1 rc hrc
    have hu1 := h1.2.rul hu
    have hR1 := hR.loosAll (i := i) (fF := u.2.2.2.2.1) (by omega) ho12 (by omega)
    have hg1 := hR1.1 i (by omega)
    have hd1 : loosAll u.1 u.2.1 u.2.2.2.2.1 r i 0 < 10000 := by rw [loosAll_0]; exact hd
    unfold sM_dayGoes_L88
    rw [tM_isGap h1.1 hb (show i < 12 by omega) (by omega)]
    cases hg : gapN (loosAll u.1 u.2.1 u.2.2.2.2.1 r i) i with
    | true =>
      simp (disch := omega) only [lit_0, lit_1, lit_2, lit_3, lit_4, lit_5, lit_6, lit_7, lit_8, lit_9, lit_10, lit_11, lit_12, lit_13, lit_14, lit_15, lit_20, lit_24, lit_25, lit_37, lit_40, lit_43, lit_48, lit_49, lit_50, lit_60, lit_96, lit_98, lit_99, lit_100, lit_999, lit_62, lit_74, lit_86, lit_92, lit_99999, lit_100000, lit_16, lit_32767, lit_2147483639, J_add, J_mul, J_sub, J_tn, J_le, J_lt, J_eq, Nat.not_lt_zero, false_or, or_false, le_t, le_f, lt_t, lt_f, eq_f, ↓reduceIte, callK_eq, letB_eq, joinB_eq, Nat.add_assoc, hu1.1, bI_t]
      refine hrc _ ?_
      rw [loosAll_s]
      simp only [hg, ↓reduceIte]
      exact h1
    | false =>
      simp (disch := omega) only [lit_0, lit_1, lit_2, lit_3, lit_4, lit_5, lit_6, lit_7, lit_8, lit_9, lit_10, lit_11, lit_12, lit_13, lit_14, lit_15, lit_20, lit_24, lit_25, lit_37, lit_40, lit_43, lit_48, lit_49, lit_50, lit_60, lit_96, lit_98, lit_99, lit_100, lit_999, lit_62, lit_74, lit_86, lit_92, lit_99999, lit_100000, lit_16, lit_32767, lit_2147483639, J_add, J_mul, J_sub, J_tn, J_le, J_lt, J_eq, Nat.not_lt_zero, false_or, or_false, le_t, le_f, lt_t, lt_f, eq_f, ↓reduceIte, callK_eq, letB_eq, joinB_eq, Nat.add_assoc, hu1.1, bI_f]
      refine Ev.call (tM_fraysOf hu1 ho h1.1 hR1 hb hi hd1) (fun o ho1 => ?_)
      rw [ho1.1]
      have h2 : MR S0 b (loosAll u.1 u.2.1 u.2.2.2.2.1 r i) o.2 := h1.of (fun a g1 g2 _ => ho1.2 a g1 g2)
      refine Ev.call (tM_loosens hu.1 ho3 ho12 h2 hR1 hb hi (v := freN u.1 u.2.1 u.2.2.2.2.1 (loosAll u.1 u.2.1 u.2.2.2.2.1 r i) i) (Nat.lt_of_le_of_lt freN_le (by decide))) (fun S3 h3 => ?_)
      refine hrc _ ?_
      rw [loosAll_s]
      simp only [hg, Bool.false_eq_true, ↓reduceIte]
      exact h3
  · rintro S1 h1 rc
    have hu1 := h1.2.rul hu
    have hR1 := hR.loosAll (i := u.1) (fF := u.2.2.2.2.1) (by omega) ho12 (by omega)
    have hr0 : S1 14 b = J (r 0) := by have := h1.1 0 (by omega); rw [loosAll_0] at this; exact this
    have hend : ∀ r3 S3, r3 0 = r 0 → MR S0 b r3 S3 → Ev (sM_dayGoes_J173 (J b) S3) (MR S0 b (upN r3 0 (r3 0 + 1))) := by
      intro r3 S3 e3 h3
      unfold sM_dayGoes_J173
      have hr3 : S3 14 b = J (r 0) := by have := h3.1 0 (by omega); rw [e3] at this; exact this
      simp (disch := omega) only [lit_0, lit_1, lit_2, lit_3, lit_4, lit_5, lit_6, lit_7, lit_8, lit_9, lit_10, lit_11, lit_12, lit_13, lit_14, lit_15, lit_20, lit_24, lit_25, lit_37, lit_40, lit_43, lit_48, lit_49, lit_50, lit_60, lit_96, lit_98, lit_99, lit_100, lit_999, lit_62, lit_74, lit_86, lit_92, lit_99999, lit_100000, lit_16, lit_32767, lit_2147483639, J_add, J_mul, J_sub, J_tn, J_le, J_lt, J_eq, Nat.not_lt_zero, false_or, or_false, le_t, le_f, lt_t, lt_f, eq_f, ↓reduceIte, callK_eq, letB_eq, joinB_eq, Nat.add_assoc, hr3, Nat.add_zero]
      refine ⟨_, rfl, ?_⟩
      rw [e3]
      exact h3.up (k := 0) (by omega)
    unfold sM_dayGoes_L88
    simp (disch := omega) only [lit_0, lit_1, lit_2, lit_3, lit_4, lit_5, lit_6, lit_7, lit_8, lit_9, lit_10, lit_11, lit_12, lit_13, lit_14, lit_15, lit_20, lit_24, lit_25, lit_37, lit_40, lit_43, lit_48, lit_49, lit_50, lit_60, lit_96, lit_98, lit_99, lit_100, lit_999, lit_62, lit_74, lit_86, lit_92, lit_99999, lit_100000, lit_16, lit_32767, lit_2147483639, J_add, J_mul, J_sub, J_tn, J_le, J_lt, J_eq, Nat.not_lt_zero, false_or, or_false, le_t, le_f, lt_t, lt_f, eq_f, ↓reduceIte, callK_eq, letB_eq, joinB_eq, Nat.add_assoc, hu1.1, hu1.2.2.1, hr0, Nat.add_zero, J_mod]
    rw [loosAll_0]
    by_cases hw : r 0 % u.2.2.1 = u.2.2.1 - 1
    · have hlt : r 0 % u.2.2.1 < u.2.2.1 := Nat.mod_lt _ (by omega)
      simp (disch := omega) only [lit_0, lit_1, lit_2, lit_3, lit_4, lit_5, lit_6, lit_7, lit_8, lit_9, lit_10, lit_11, lit_12, lit_13, lit_14, lit_15, lit_20, lit_24, lit_25, lit_37, lit_40, lit_43, lit_48, lit_49, lit_50, lit_60, lit_96, lit_98, lit_99, lit_100, lit_999, lit_62, lit_74, lit_86, lit_92, lit_99999, lit_100000, lit_16, lit_32767, lit_2147483639, J_add, J_mul, J_sub, J_tn, J_le, J_lt, J_eq, Nat.not_lt_zero, false_or, or_false, le_t, le_f, lt_t, lt_f, eq_f, ↓reduceIte, callK_eq, letB_eq, joinB_eq, Nat.add_assoc, hw]
      refine tM_day4 (j := fun x => sM_dayGoes_J173 (J b) x) hu ho h1 hR1 hb (fun S' h' => hend _ S' (by rw [womAll_0, loosAll_0]) h')
    · have hlt : r 0 % u.2.2.1 < u.2.2.1 := Nat.mod_lt _ (by omega)
      simp (disch := omega) only [lit_0, lit_1, lit_2, lit_3, lit_4, lit_5, lit_6, lit_7, lit_8, lit_9, lit_10, lit_11, lit_12, lit_13, lit_14, lit_15, lit_20, lit_24, lit_25, lit_37, lit_40, lit_43, lit_48, lit_49, lit_50, lit_60, lit_96, lit_98, lit_99, lit_100, lit_999, lit_62, lit_74, lit_86, lit_92, lit_99999, lit_100000, lit_16, lit_32767, lit_2147483639, J_add, J_mul, J_sub, J_tn, J_le, J_lt, J_eq, Nat.not_lt_zero, false_or, or_false, le_t, le_f, lt_t, lt_f, eq_f, ↓reduceIte, callK_eq, letB_eq, joinB_eq, Nat.add_assoc, hw]
      exact hend _ S1 loosAll_0 h1
theorem tM_day2 {S0 S : US} {b : Nat} {r : Nat → Nat} {p : Nat → Int32} {u : RU} (hu : RulM S0 u) (ho : RuOk u) (h : MR S0 b r S) (hR : ROk u.1 u.2.1 r) (hb : b ≤ 49) (hd : r 0 < 10000) (hp : ∀ k, k < u.1 → S 18 k = p k) :
    Ev (loopK (fun rc (x : (US × Int32)) => sM_dayGoes_L30 (J b) rc x.1 x.2) FUEL (S, J 0)) (MR S0 b (let r2 := loosAll u.1 u.2.1 u.2.2.2.2.1 (pullAll p r u.1) u.1
      let r3 := if r2 0 % u.2.2.1 = u.2.2.1 - 1 then womAll u.1 u.2.2.2.1 r2 u.2.1 else r2
      upN r3 0 (r3 0 + 1))) := by
  have ho3 := ho.1
  have ho12 := ho.2.1
  refine Ev.loop2 (i0 := 0) (fun i x => MR S0 b (pullAll p r i) x ∧ ∀ k, k < u.1 → x 18 k = p k) u.1 ⟨h, hp⟩ (by omega) ?_ ?_ (by unfold FUEL; omega)
  · rintro i - hi S1 ⟨h1, hp1⟩ rc hrc
    have hu1 := h1.2.rul hu
    have hR1 := hR.pullAll (i := i) (p := p) (by omega)
    have hg1 := hR1.1 i (by omega)
    have hr1 := h1.1 (1 + i) (by omega)
    have hp2 := hp1 i hi
    unfold sM_dayGoes_L30
    rw [tM_isGap h1.1 hb (show i < 12 by omega) (by omega)]
    cases hg : gapN (pullAll p r i) i with
    | true =>
      simp (disch := omega) only [lit_0, lit_1, lit_2, lit_3, lit_4, lit_5, lit_6, lit_7, lit_8, lit_9, lit_10, lit_11, lit_12, lit_13, lit_14, lit_15, lit_20, lit_24, lit_25, lit_37, lit_40, lit_43, lit_48, lit_49, lit_50, lit_60, lit_96, lit_98, lit_99, lit_100, lit_999, lit_62, lit_74, lit_86, lit_92, lit_99999, lit_100000, lit_16, lit_32767, lit_2147483639, J_add, J_mul, J_sub, J_tn, J_le, J_lt, J_eq, Nat.not_lt_zero, false_or, or_false, le_t, le_f, lt_t, lt_f, eq_f, ↓reduceIte, callK_eq, letB_eq, joinB_eq, Nat.add_assoc, hu1.1, bI_t]
      refine hrc _ ⟨?_, hp1⟩
      rw [pullAll_s]
      simp only [hg, ↓reduceIte]
      exact h1
    | false =>
      simp (disch := omega) only [lit_0, lit_1, lit_2, lit_3, lit_4, lit_5, lit_6, lit_7, lit_8, lit_9, lit_10, lit_11, lit_12, lit_13, lit_14, lit_15, lit_20, lit_24, lit_25, lit_37, lit_40, lit_43, lit_48, lit_49, lit_50, lit_60, lit_96, lit_98, lit_99, lit_100, lit_999, lit_62, lit_74, lit_86, lit_92, lit_99999, lit_100000, lit_16, lit_32767, lit_2147483639, J_add, J_mul, J_sub, J_tn, J_le, J_lt, J_eq, Nat.not_lt_zero, false_or, or_false, le_t, le_f, lt_t, lt_f, eq_f, ↓reduceIte, callK_eq, letB_eq, joinB_eq, Nat.add_assoc, hu1.1, bI_f, hr1, hp2, tM_bounded]
      refine hrc _ ⟨?_, fun k hk => ?_⟩
      · rw [pullAll_s]
        simp only [hg, Bool.false_eq_true, ↓reduceIte]
        exact h1.up (k := 1 + i) (by omega)
      · show u2 S1 14 _ _ 18 k = p k
        rw [u2_row' (by omega)]; exact hp1 k hk
  · rintro S1 ⟨h1, hp1⟩ rc
    have hu1 := h1.2.rul hu
    unfold sM_dayGoes_L30
    simp (disch := omega) only [lit_0, lit_1, lit_2, lit_3, lit_4, lit_5, lit_6, lit_7, lit_8, lit_9, lit_10, lit_11, lit_12, lit_13, lit_14, lit_15, lit_20, lit_24, lit_25, lit_37, lit_40, lit_43, lit_48, lit_49, lit_50, lit_60, lit_96, lit_98, lit_99, lit_100, lit_999, lit_62, lit_74, lit_86, lit_92, lit_99999, lit_100000, lit_16, lit_32767, lit_2147483639, J_add, J_mul, J_sub, J_tn, J_le, J_lt, J_eq, Nat.not_lt_zero, false_or, or_false, le_t, le_f, lt_t, lt_f, eq_f, ↓reduceIte, callK_eq, letB_eq, joinB_eq, Nat.add_assoc, hu1.1]
    exact tM_day3 hu ho h1 (hR.pullAll (by omega)) hb (by rw [pullAll_0]; exact hd)
theorem tM_dayGoes {S0 S : US} {b : Nat} {r : Nat → Nat} {u : RU} (hu : RulM S0 u) (ho : RuOk u) (h : MR S0 b r S) (hR : ROk u.1 u.2.1 r) (hb : b ≤ 49) (hd : r 0 < 10000) : Ev (sM_dayGoes S (J b)) (MR S0 b (passN u r)) := by
  have ho3 := ho.1
  have ho12 := ho.2.1
  unfold sM_dayGoes
  refine Ev.loop2 (i0 := 0) (fun i x => MR S0 b r x ∧ ∀ k, k < i → x 18 k = pulN u.1 u.2.1 u.2.2.2.2.2 r k) u.1 ⟨h, fun k hk => absurd hk (Nat.not_lt_zero k)⟩ (by omega) ?_ ?_ (by unfold FUEL; omega)
  · rintro i - hi S1 ⟨h1, hp1⟩ rc hrc
    have hu1 := h1.2.rul hu
    unfold sM_dayGoes_L2
    simp (disch := omega) only [lit_0, lit_1, lit_2, lit_3, lit_4, lit_5, lit_6, lit_7, lit_8, lit_9, lit_10, lit_11, lit_12, lit_13, lit_14, lit_15, lit_20, lit_24, lit_25, lit_37, lit_40, lit_43, lit_48, lit_49, lit_50, lit_60, lit_96, lit_98, lit_99, lit_100, lit_999, lit_62, lit_74, lit_86, lit_92, lit_99999, lit_100000, lit_16, lit_32767, lit_2147483639, J_add, J_mul, J_sub, J_tn, J_le, J_lt, J_eq, Nat.not_lt_zero, false_or, or_false, le_t, le_f, lt_t, lt_f, eq_f, ↓reduceIte, callK_eq, letB_eq, joinB_eq, Nat.add_assoc, hu1.1]
    refine Ev.call (tM_pullsOf hu1 ho h1.1 hR hb hi hd) (fun o ho1 => ?_)
    rw [ho1.1]
    refine hrc _ ⟨h1.of (fun a g1 g2 g3 => ?_), fun k hk => ?_⟩
    · show u2 o.2 18 i _ a = S1 a
      rw [u2_row _ _ _ _ g3]; exact ho1.2 a g1 g2
    · show u2 o.2 18 i _ 18 k = _
      by_cases e : k = i
      · subst e; rw [u2_at]
      · rw [u2_off (by omega), ho1.2 18 (by decide) (by decide)]; exact hp1 k (by omega)
  · rintro S1 ⟨h1, hp1⟩ rc
    have hu1 := h1.2.rul hu
    unfold sM_dayGoes_L2
    simp (disch := omega) only [lit_0, lit_1, lit_2, lit_3, lit_4, lit_5, lit_6, lit_7, lit_8, lit_9, lit_10, lit_11, lit_12, lit_13, lit_14, lit_15, lit_20, lit_24, lit_25, lit_37, lit_40, lit_43, lit_48, lit_49, lit_50, lit_60, lit_96, lit_98, lit_99, lit_100, lit_999, lit_62, lit_74, lit_86, lit_92, lit_99999, lit_100000, lit_16, lit_32767, lit_2147483639, J_add, J_mul, J_sub, J_tn, J_le, J_lt, J_eq, Nat.not_lt_zero, false_or, or_false, le_t, le_f, lt_t, lt_f, eq_f, ↓reduceIte, callK_eq, letB_eq, joinB_eq, Nat.add_assoc, hu1.1]
    exact tM_day2 hu ho h1 hR hb hd hp1
