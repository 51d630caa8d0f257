set_option maxRecDepth 100000
/-! THE PLAIN LAW, 29: where to look -/
/-- an array of arrays of ints -/
def TabH (h : AH) (z n k : Nat) (T : US) : Prop := h z = some (true, .inl (6, n, .inr (.inr (.inr (.inr (fun j => if j < n then some (z + 1 + j) else none)))))) ∧ ∀ i, i < n → h (z + 1 + i) = some (true, .inl (0, k, .inl (T i)))
theorem Ev.nm {ρ : Type} {ct : CT} {G : GS} {n k : Nat} {kp : Nat → GS → Option ρ} {Q : ρ → Prop} (hb : Bd G) (hn : n < 100000) (hk : k < 100000) (hr : Rm ct G (1 + n) (n + n * k)) (h : ∀ G', TabH G'.1 G.2.1 n k (fun _ _ => 0) → Gr (fun _ => False) G G' (1 + n) (n + n * k) → Ev (kp G.2.1 G') Q) : Ev (newM ct G (J n) (J k) kp) Q := by
  unfold newM
  have h0 : ∀ m, m < 100000 → ¬ J m < (0 : Int32) := fun m hm => by
    rw [lit_0, J_lt (by omega) (by omega)]; omega
  rw [J_tn (by omega), J_tn (by omega), if_neg]
  · have k0 : ∀ a e, G.1 a = some e → hM2 G.1 G.2.1 n k a = some e := fun a e ha => by
      have := hb a e ha
      unfold hM2
      rw [if_neg (by omega), if_neg (by omega)]
      exact ha
    refine h _ ⟨?_, fun i hi => ?_⟩ ⟨fun a e _ ha => k0 a e ha, ⟨Nat.le_add_right _ _, Nat.le_refl _⟩, ⟨Nat.le_add_right _ _, Nat.le_refl _⟩, fun _ a e ha => ?_, okR_of (fun y e h1 h2 => ⟨e, k0 y e h1, h2⟩)⟩
    · show hM2 G.1 G.2.1 n k G.2.1 = _
      unfold hM2
      rw [if_pos rfl]
    · show hM2 G.1 G.2.1 n k (G.2.1 + 1 + i) = _
      unfold hM2
      rw [if_neg (by omega), if_pos (by omega)]
    · have ha : hM2 G.1 G.2.1 n k a = some e := ha
      show a < G.2.1 + (1 + n)
      unfold hM2 at ha
      split at ha
      · omega
      · split at ha
        · omega
        · have := hb a e ha; omega
  · rintro (h1 | h1 | h1 | h1 | h1 | h1)
    · exact h0 n hn h1
    · exact h0 k hk h1
    · omega
    · omega
    · have := hr.1; omega
    · have := hr.2; omega
theorem TabH.get {ρ : Type} {h : AH} {z n k i jj : Nat} {T : US} {kp : Int32 → Option ρ} (H : TabH h z n k T) (hi : i < n) (hj : jj < k) (hn : n < 100000) (hk : k < 100000) : hQ h z 6 (J i) (fun r => onR r (fun b => hZ h b 0 (J jj) kp)) = kp (T i jj) := by
  rw [hQ_eq H.1 hi (by omega)]
  rw [if_pos hi, onR_eq, hZ_eq (H.2 i hi) hj (by omega)]
theorem TabH.put {ρ : Type} {G : GS} {z n k i jj : Nat} {T : US} {v : Int32} {kp : GS → Option ρ} {Q : ρ → Prop} (H : TabH G.1 z n k T) (hi : i < n) (hj : jj < k) (hk : k < 100000) (h : ∀ G', TabH G'.1 z n k (u2 T i jj v) → Gr (fun a => z ≤ a) G G' 0 0 → Ev (kp G') Q) : Ev (hPutZ G (z + 1 + i) 0 (J jj) v kp) Q := by
  refine Ev.pz (H.2 i hi) hj (by omega) (fun G' k1 k2 _ => h G' ⟨?_, fun i' hi' => ?_⟩ (k2.mono (fun a ha => by rw [ha]; omega)))
  · exact k2.1 _ _ (by omega) H.1
  · by_cases e : i' = i
    · subst e; rw [u2_upd]; exact k1
    · rw [u2_row _ _ _ _ e]; exact k2.1 _ _ (by omega) (H.2 i' hi')
/-- counting unlike ones -/
def nwN (T : US) (s a : Nat) : Nat → Bool
  | 0 => true
  | b + 1 => nwN T s a b && !decide (T b s = T a s)
theorem nwN_s {T : US} {s a b : Nat} : nwN T s a (b + 1) = (nwN T s a b && !decide (T b s = T a s)) := rfl
theorem nwN_f {T : US} {s a b m : Nat} (h : nwN T s a b = false) : nwN T s a (b + m) = false := by
  induction m with
  | zero => exact h
  | succ m ih => rw [← Nat.add_assoc, nwN_s, ih]; rfl
def unN (T : US) (s : Nat) : Nat → Nat
  | 0 => 0
  | a + 1 => unN T s a + (if nwN T s a a = true then 1 else 0)
theorem unN_s {T : US} {s a : Nat} : unN T s (a + 1) = unN T s a + (if nwN T s a a = true then 1 else 0) := rfl
theorem unN_le {T : US} {s a : Nat} : unN T s a ≤ a := by
  induction a with
  | zero => exact Nat.le_refl _
  | succ a ih => rw [unN_s]; split <;> omega
def bsN (T : US) (n : Nat) : Nat → Int32 × Nat
  | 0 => (-J 1, 0)
  | k + 1 => if (bsN T n k).2 < unN T k n then (J k, unN T k n) else bsN T n k
theorem bsN_s {T : US} {n k : Nat} : bsN T n (k + 1) = if (bsN T n k).2 < unN T k n then (J k, unN T k n) else bsN T n k := rfl
theorem bsN_le {T : US} {n k : Nat} : (bsN T n k).2 ≤ n := by
  induction k with
  | zero => exact Nat.zero_le _
  | succ k ih =>
    rw [bsN_s]
    split
    · exact unN_le
    · exact ih
theorem nwN_c {T T' : US} {s a b : Nat} (h : ∀ i, i ≤ a → T i s = T' i s) (hb : b ≤ a) : nwN T s a b = nwN T' s a b := by
  induction b with
  | zero => rfl
  | succ b ih => rw [nwN_s, nwN_s, ih (by omega), h b (by omega), h a (Nat.le_refl _)]
theorem unN_c {T T' : US} {s n : Nat} (h : ∀ i, i < n → T i s = T' i s) : unN T s n = unN T' s n := by
  induction n with
  | zero => rfl
  | succ n ih => rw [unN_s, unN_s, ih (fun i hi => h i (by omega)), nwN_c (fun i hi => h i (by omega)) (Nat.le_refl _)]
theorem bsN_c {T T' : US} {n k : Nat} (h : ∀ i s, i < n → s < k → T i s = T' i s) : bsN T n k = bsN T' n k := by
  induction k with
  | zero => rfl
  | succ k ih => rw [bsN_s, bsN_s, ih (fun i s hi hs => h i s hi (by omega)), unN_c (fun i hi => h i k hi (by omega))]
theorem tH_lookC {S7 : US} {G8 : GS} {z n m : Nat} {T : US} {p1 : Int32} (hn : S7 1 2 = J m) (hm : m ≤ 12) (h6 : n ≤ 600) (H : TabH G8.1 z n 12 T) : loopK (fun rc (x : (Int32 × Int32 × Int32)) => s1_look_L138 p1 z S7 G8 rc x.1 x.2.1 x.2.2) FUEL ((-1 : Int32), (0 : Int32), (0 : Int32)) = some ((if p1 = 0 then (bsN T n m).1 else J (bsN T n m).2), S7, G8) := by
  refine loop_from (i0 := 0) (fun k => ((bsN T n k).1, J (bsN T n k).2, J k)) m (by omega) (fun k _ hk rc => ?_) (fun rc => ?_) FUEL (by unfold FUEL; omega)
  · have hb := bsN_le (T := T) (n := n) (k := k)
    have hu := unN_le (T := T) (s := k) (a := n)
    show s1_look_L138 p1 z S7 G8 rc (bsN T n k).1 (J (bsN T n k).2) (J k) = _
    unfold s1_look_L138
    simp (disch := omega) only [lit_0, lit_1, lit_2, lit_3, lit_4, lit_5, lit_6, lit_7, lit_8, lit_9, lit_10, lit_11, lit_12, lit_13, lit_14, lit_15, lit_20, lit_24, lit_25, lit_37, lit_40, lit_43, lit_48, lit_49, lit_50, lit_60, lit_96, lit_98, lit_99, lit_100, lit_999, lit_62, lit_74, lit_86, lit_92, lit_99999, lit_100000, lit_16, lit_32767, lit_2147483639, J_add, J_mul, J_sub, J_tn, J_le, J_lt, J_eq, Nat.not_lt_zero, false_or, or_false, le_t, le_f, lt_t, lt_f, eq_f, ↓reduceIte, callK_eq, letB_eq, joinB_eq, Nat.add_assoc, hn]
    refine loop_from (i0 := 0) (fun a => (J (unN T k a), J a)) n (by omega) (fun a _ ha rc2 => ?_) (fun rc2 => ?_) FUEL (by unfold FUEL; omega)
    · have hu2 := unN_le (T := T) (s := k) (a := a)
      show s1_look_L156 z G8 (bsN T n k).1 (J (bsN T n k).2) (J k) rc rc2 (J (unN T k a)) (J a) = _
      unfold s1_look_L156
      rw [hL_eq H.1]
      simp (disch := omega) only [lit_0, lit_1, lit_2, lit_3, lit_4, lit_5, lit_6, lit_7, lit_8, lit_9, lit_10, lit_11, lit_12, lit_13, lit_14, lit_15, lit_20, lit_24, lit_25, lit_37, lit_40, lit_43, lit_48, lit_49, lit_50, lit_60, lit_96, lit_98, lit_99, lit_100, lit_999, lit_62, lit_74, lit_86, lit_92, lit_99999, lit_100000, lit_16, lit_32767, lit_2147483639, J_add, J_mul, J_sub, J_tn, J_le, J_lt, J_eq, Nat.not_lt_zero, false_or, or_false, le_t, le_f, lt_t, lt_f, eq_f, ↓reduceIte, callK_eq, letB_eq, joinB_eq, Nat.add_assoc]
      have hj : ∀ v, v = bI (nwN T k a a) → s1_look_J211 (J (unN T k a)) (J a) rc2 v = rc2 (J (unN T k (a + 1)), J (a + 1)) := by
        rintro v rfl
        unfold s1_look_J211
        rw [unN_s]
        cases nwN T k a a with
        | true => simp (disch := omega) only [lit_0, lit_1, lit_2, lit_3, lit_4, lit_5, lit_6, lit_7, lit_8, lit_9, lit_10, lit_11, lit_12, lit_13, lit_14, lit_15, lit_20, lit_24, lit_25, lit_37, lit_40, lit_43, lit_48, lit_49, lit_50, lit_60, lit_96, lit_98, lit_99, lit_100, lit_999, lit_62, lit_74, lit_86, lit_92, lit_99999, lit_100000, lit_16, lit_32767, lit_2147483639, J_add, J_mul, J_sub, J_tn, J_le, J_lt, J_eq, Nat.not_lt_zero, false_or, or_false, le_t, le_f, lt_t, lt_f, eq_f, ↓reduceIte, callK_eq, letB_eq, joinB_eq, Nat.add_assoc, bI_t]
        | false => simp (disch := omega) only [lit_0, lit_1, lit_2, lit_3, lit_4, lit_5, lit_6, lit_7, lit_8, lit_9, lit_10, lit_11, lit_12, lit_13, lit_14, lit_15, lit_20, lit_24, lit_25, lit_37, lit_40, lit_43, lit_48, lit_49, lit_50, lit_60, lit_96, lit_98, lit_99, lit_100, lit_999, lit_62, lit_74, lit_86, lit_92, lit_99999, lit_100000, lit_16, lit_32767, lit_2147483639, J_add, J_mul, J_sub, J_tn, J_le, J_lt, J_eq, Nat.not_lt_zero, false_or, or_false, le_t, le_f, lt_t, lt_f, eq_f, ↓reduceIte, callK_eq, letB_eq, joinB_eq, Nat.add_assoc, bI_f, Bool.false_eq_true, Nat.add_zero]
      have hx : ∀ fuel b, b ≤ a → a - b < fuel → loopK (fun rc (x : (Int32 × Int32)) => s1_look_L169 z G8 (J k) (J a) (fun x21 => s1_look_J211 (J (unN T k a)) (J a) rc2 x21) rc x.1 x.2) fuel (bI (nwN T k a b), J b) = rc2 (J (unN T k (a + 1)), J (a + 1)) := by
        intro fuel
        induction fuel with
        | zero => intro b _ h; omega
        | succ fuel ih =>
          intro b hb2 hf
          show s1_look_L169 z G8 (J k) (J a) _ _ (bI (nwN T k a b)) (J b) = _
          unfold s1_look_L169
          by_cases e : b = a
          · subst e
            simp (disch := omega) only [lit_0, lit_1, lit_2, lit_3, lit_4, lit_5, lit_6, lit_7, lit_8, lit_9, lit_10, lit_11, lit_12, lit_13, lit_14, lit_15, lit_20, lit_24, lit_25, lit_37, lit_40, lit_43, lit_48, lit_49, lit_50, lit_60, lit_96, lit_98, lit_99, lit_100, lit_999, lit_62, lit_74, lit_86, lit_92, lit_99999, lit_100000, lit_16, lit_32767, lit_2147483639, J_add, J_mul, J_sub, J_tn, J_le, J_lt, J_eq, Nat.not_lt_zero, false_or, or_false, le_t, le_f, lt_t, lt_f, eq_f, ↓reduceIte, callK_eq, letB_eq, joinB_eq, Nat.add_assoc]
            exact hj _ rfl
          · cases hw : nwN T k a b with
            | false =>
              have := nwN_f (m := a - b) hw
              rw [show b + (a - b) = a by omega] at this
              simp (disch := omega) only [lit_0, lit_1, lit_2, lit_3, lit_4, lit_5, lit_6, lit_7, lit_8, lit_9, lit_10, lit_11, lit_12, lit_13, lit_14, lit_15, lit_20, lit_24, lit_25, lit_37, lit_40, lit_43, lit_48, lit_49, lit_50, lit_60, lit_96, lit_98, lit_99, lit_100, lit_999, lit_62, lit_74, lit_86, lit_92, lit_99999, lit_100000, lit_16, lit_32767, lit_2147483639, J_add, J_mul, J_sub, J_tn, J_le, J_lt, J_eq, Nat.not_lt_zero, false_or, or_false, le_t, le_f, lt_t, lt_f, eq_f, ↓reduceIte, callK_eq, letB_eq, joinB_eq, Nat.add_assoc, bI_f]
              exact hj _ (by rw [this]; rfl)
            | true =>
              rw [if_neg (by rw [J_le (by omega) (by omega)]; omega), if_neg (show ¬ bI true = 0 by decide), H.get (by omega) (by omega) (by omega) (by omega), H.get (by omega) (by omega) (by omega) (by omega), show (1 : Int32) = J 1 from rfl, J_add]
              have h2 := ih (b + 1) (by omega) (by omega)
              rw [nwN_s, hw, Bool.true_and] at h2
              by_cases c : T b k = T a k
              · rw [if_pos c]
                rw [decide_eq_true c] at h2
                exact h2
              · rw [if_neg c]
                rw [decide_eq_false c] at h2
                exact h2
      have h0 := hx FUEL 0 (by omega) (by unfold FUEL; omega)
      exact h0
    · show s1_look_L156 z G8 (bsN T n k).1 (J (bsN T n k).2) (J k) rc rc2 (J (unN T k n)) (J n) = _
      unfold s1_look_L156
      rw [hL_eq H.1]
      simp (disch := omega) only [lit_0, lit_1, lit_2, lit_3, lit_4, lit_5, lit_6, lit_7, lit_8, lit_9, lit_10, lit_11, lit_12, lit_13, lit_14, lit_15, lit_20, lit_24, lit_25, lit_37, lit_40, lit_43, lit_48, lit_49, lit_50, lit_60, lit_96, lit_98, lit_99, lit_100, lit_999, lit_62, lit_74, lit_86, lit_92, lit_99999, lit_100000, lit_16, lit_32767, lit_2147483639, J_add, J_mul, J_sub, J_tn, J_le, J_lt, J_eq, Nat.not_lt_zero, false_or, or_false, le_t, le_f, lt_t, lt_f, eq_f, ↓reduceIte, callK_eq, letB_eq, joinB_eq, Nat.add_assoc]
      rw [bsN_s]
      by_cases c : (bsN T n k).2 < unN T k n
      · rw [if_pos c, if_pos c]
      · rw [if_neg c, if_neg c]
  · show s1_look_L138 p1 z S7 G8 rc (bsN T n m).1 (J (bsN T n m).2) (J m) = _
    unfold s1_look_L138
    simp (disch := omega) only [lit_0, lit_1, lit_2, lit_3, lit_4, lit_5, lit_6, lit_7, lit_8, lit_9, lit_10, lit_11, lit_12, lit_13, lit_14, lit_15, lit_20, lit_24, lit_25, lit_37, lit_40, lit_43, lit_48, lit_49, lit_50, lit_60, lit_96, lit_98, lit_99, lit_100, lit_999, lit_62, lit_74, lit_86, lit_92, lit_99999, lit_100000, lit_16, lit_32767, lit_2147483639, J_add, J_mul, J_sub, J_tn, J_le, J_lt, J_eq, Nat.not_lt_zero, false_or, or_false, le_t, le_f, lt_t, lt_f, eq_f, ↓reduceIte, callK_eq, letB_eq, joinB_eq, Nat.add_assoc, hn]
    split <;> rfl
theorem tM_lookC {S3 : US} {n m : Nat} {T : US} {p1 : Int32} (hn : S3 0 1 = J m) (hm : m ≤ 12) (h6 : n ≤ 600) (H : ∀ i s, i < n → s < m → S3 26 (12 * i + s) = T i s) : loopK (fun rc (x : (Int32 × Int32 × Int32)) => sM_look_L96 p1 S3 (J n) rc x.1 x.2.1 x.2.2) FUEL ((-1 : Int32), (0 : Int32), (0 : Int32)) = some ((if p1 = 0 then (bsN T n m).1 else J (bsN T n m).2), S3) := by
  refine loop_from (i0 := 0) (fun k => ((bsN T n k).1, J (bsN T n k).2, J k)) m (by omega) (fun k _ hk rc => ?_) (fun rc => ?_) FUEL (by unfold FUEL; omega)
  · have hb := bsN_le (T := T) (n := n) (k := k)
    have hu := unN_le (T := T) (s := k) (a := n)
    show sM_look_L96 p1 S3 (J n) rc (bsN T n k).1 (J (bsN T n k).2) (J k) = _
    unfold sM_look_L96
    simp (disch := omega) only [lit_0, lit_1, lit_2, lit_3, lit_4, lit_5, lit_6, lit_7, lit_8, lit_9, lit_10, lit_11, lit_12, lit_13, lit_14, lit_15, lit_20, lit_24, lit_25, lit_37, lit_40, lit_43, lit_48, lit_49, lit_50, lit_60, lit_96, lit_98, lit_99, lit_100, lit_999, lit_62, lit_74, lit_86, lit_92, lit_99999, lit_100000, lit_16, lit_32767, lit_2147483639, J_add, J_mul, J_sub, J_tn, J_le, J_lt, J_eq, Nat.not_lt_zero, false_or, or_false, le_t, le_f, lt_t, lt_f, eq_f, ↓reduceIte, callK_eq, letB_eq, joinB_eq, Nat.add_assoc, hn]
    refine loop_from (i0 := 0) (fun a => (J (unN T k a), J a)) n (by omega) (fun a _ ha rc2 => ?_) (fun rc2 => ?_) FUEL (by unfold FUEL; omega)
    · have hu2 := unN_le (T := T) (s := k) (a := a)
      show sM_look_L111 S3 (J n) (bsN T n k).1 (J (bsN T n k).2) (J k) rc rc2 (J (unN T k a)) (J a) = _
      unfold sM_look_L111
      simp (disch := omega) only [lit_0, lit_1, lit_2, lit_3, lit_4, lit_5, lit_6, lit_7, lit_8, lit_9, lit_10, lit_11, lit_12, lit_13, lit_14, lit_15, lit_20, lit_24, lit_25, lit_37, lit_40, lit_43, lit_48, lit_49, lit_50, lit_60, lit_96, lit_98, lit_99, lit_100, lit_999, lit_62, lit_74, lit_86, lit_92, lit_99999, lit_100000, lit_16, lit_32767, lit_2147483639, J_add, J_mul, J_sub, J_tn, J_le, J_lt, J_eq, Nat.not_lt_zero, false_or, or_false, le_t, le_f, lt_t, lt_f, eq_f, ↓reduceIte, callK_eq, letB_eq, joinB_eq, Nat.add_assoc]
      have hj : ∀ v, v = bI (nwN T k a a) → sM_look_J177 (J (unN T k a)) (J a) rc2 v = rc2 (J (unN T k (a + 1)), J (a + 1)) := by
        rintro v rfl
        unfold sM_look_J177
        rw [unN_s]
        cases nwN T k a a with
        | true => simp (disch := omega) only [lit_0, lit_1, lit_2, lit_3, lit_4, lit_5, lit_6, lit_7, lit_8, lit_9, lit_10, lit_11, lit_12, lit_13, lit_14, lit_15, lit_20, lit_24, lit_25, lit_37, lit_40, lit_43, lit_48, lit_49, lit_50, lit_60, lit_96, lit_98, lit_99, lit_100, lit_999, lit_62, lit_74, lit_86, lit_92, lit_99999, lit_100000, lit_16, lit_32767, lit_2147483639, J_add, J_mul, J_sub, J_tn, J_le, J_lt, J_eq, Nat.not_lt_zero, false_or, or_false, le_t, le_f, lt_t, lt_f, eq_f, ↓reduceIte, callK_eq, letB_eq, joinB_eq, Nat.add_assoc, bI_t]
        | false => simp (disch := omega) only [lit_0, lit_1, lit_2, lit_3, lit_4, lit_5, lit_6, lit_7, lit_8, lit_9, lit_10, lit_11, lit_12, lit_13, lit_14, lit_15, lit_20, lit_24, lit_25, lit_37, lit_40, lit_43, lit_48, lit_49, lit_50, lit_60, lit_96, lit_98, lit_99, lit_100, lit_999, lit_62, lit_74, lit_86, lit_92, lit_99999, lit_100000, lit_16, lit_32767, lit_2147483639, J_add, J_mul, J_sub, J_tn, J_le, J_lt, J_eq, Nat.not_lt_zero, false_or, or_false, le_t, le_f, lt_t, lt_f, eq_f, ↓reduceIte, callK_eq, letB_eq, joinB_eq, Nat.add_assoc, bI_f, Bool.false_eq_true, Nat.add_zero]
      have hx : ∀ fuel b, b ≤ a → a - b < fuel → loopK (fun rc (x : (Int32 × Int32)) => sM_look_L123 S3 (J k) (J a) (fun x21 => sM_look_J177 (J (unN T k a)) (J a) rc2 x21) rc x.1 x.2) fuel (bI (nwN T k a b), J b) = rc2 (J (unN T k (a + 1)), J (a + 1)) := by
        intro fuel
        induction fuel with
        | zero => intro b _ h; omega
        | succ fuel ih =>
          intro b hb2 hf
          show sM_look_L123 S3 (J k) (J a) (fun x21 => sM_look_J177 (J (unN T k a)) (J a) rc2 x21) (loopK (fun rc (x : (Int32 × Int32)) => sM_look_L123 S3 (J k) (J a) (fun x21 => sM_look_J177 (J (unN T k a)) (J a) rc2 x21) rc x.1 x.2) fuel) (bI (nwN T k a b)) (J b) = _
          generalize loopK (fun rc (x : (Int32 × Int32)) => sM_look_L123 S3 (J k) (J a) (fun x21 => sM_look_J177 (J (unN T k a)) (J a) rc2 x21) rc x.1 x.2) fuel = rcx at ih ⊢
          unfold sM_look_L123
          by_cases e : b = a
          · subst e
            simp (disch := omega) only [lit_0, lit_1, lit_2, lit_3, lit_4, lit_5, lit_6, lit_7, lit_8, lit_9, lit_10, lit_11, lit_12, lit_13, lit_14, lit_15, lit_20, lit_24, lit_25, lit_37, lit_40, lit_43, lit_48, lit_49, lit_50, lit_60, lit_96, lit_98, lit_99, lit_100, lit_999, lit_62, lit_74, lit_86, lit_92, lit_99999, lit_100000, lit_16, lit_32767, lit_2147483639, J_add, J_mul, J_sub, J_tn, J_le, J_lt, J_eq, Nat.not_lt_zero, false_or, or_false, le_t, le_f, lt_t, lt_f, eq_f, ↓reduceIte, callK_eq, letB_eq, joinB_eq, Nat.add_assoc]
            exact hj _ rfl
          · cases hw : nwN T k a b with
            | false =>
              have := nwN_f (m := a - b) hw
              rw [show b + (a - b) = a by omega] at this
              simp (disch := omega) only [lit_0, lit_1, lit_2, lit_3, lit_4, lit_5, lit_6, lit_7, lit_8, lit_9, lit_10, lit_11, lit_12, lit_13, lit_14, lit_15, lit_20, lit_24, lit_25, lit_37, lit_40, lit_43, lit_48, lit_49, lit_50, lit_60, lit_96, lit_98, lit_99, lit_100, lit_999, lit_62, lit_74, lit_86, lit_92, lit_99999, lit_100000, lit_16, lit_32767, lit_2147483639, J_add, J_mul, J_sub, J_tn, J_le, J_lt, J_eq, Nat.not_lt_zero, false_or, or_false, le_t, le_f, lt_t, lt_f, eq_f, ↓reduceIte, callK_eq, letB_eq, joinB_eq, Nat.add_assoc, bI_f]
              exact hj _ (by rw [this]; rfl)
            | true =>
              have e1 := H a k (by omega) hk
              have e2 := H b k (by omega) hk
              simp (disch := omega) only [lit_0, lit_1, lit_2, lit_3, lit_4, lit_5, lit_6, lit_7, lit_8, lit_9, lit_10, lit_11, lit_12, lit_13, lit_14, lit_15, lit_20, lit_24, lit_25, lit_37, lit_40, lit_43, lit_48, lit_49, lit_50, lit_60, lit_96, lit_98, lit_99, lit_100, lit_999, lit_62, lit_74, lit_86, lit_92, lit_99999, lit_100000, lit_16, lit_32767, lit_2147483639, J_add, J_mul, J_sub, J_tn, J_le, J_lt, J_eq, Nat.not_lt_zero, false_or, or_false, le_t, le_f, lt_t, lt_f, eq_f, ↓reduceIte, callK_eq, letB_eq, joinB_eq, Nat.add_assoc, bI_t, e1, e2]
              have h2 := ih (b + 1) (by omega) (by omega)
              rw [nwN_s, hw, Bool.true_and] at h2
              by_cases c : T a k = T b k
              · rw [if_pos c]
                rw [decide_eq_true c.symm] at h2
                exact h2
              · rw [if_neg c]
                rw [decide_eq_false (fun z => c z.symm)] at h2
                exact h2
      have h0 := hx FUEL 0 (by omega) (by unfold FUEL; omega)
      exact h0
    · show sM_look_L111 S3 (J n) (bsN T n k).1 (J (bsN T n k).2) (J k) rc rc2 (J (unN T k n)) (J n) = _
      unfold sM_look_L111
      simp (disch := omega) only [lit_0, lit_1, lit_2, lit_3, lit_4, lit_5, lit_6, lit_7, lit_8, lit_9, lit_10, lit_11, lit_12, lit_13, lit_14, lit_15, lit_20, lit_24, lit_25, lit_37, lit_40, lit_43, lit_48, lit_49, lit_50, lit_60, lit_96, lit_98, lit_99, lit_100, lit_999, lit_62, lit_74, lit_86, lit_92, lit_99999, lit_100000, lit_16, lit_32767, lit_2147483639, J_add, J_mul, J_sub, J_tn, J_le, J_lt, J_eq, Nat.not_lt_zero, false_or, or_false, le_t, le_f, lt_t, lt_f, eq_f, ↓reduceIte, callK_eq, letB_eq, joinB_eq, Nat.add_assoc]
      rw [bsN_s]
      by_cases c : (bsN T n k).2 < unN T k n
      · rw [if_pos c, if_pos c]
      · rw [if_neg c, if_neg c]
  · show sM_look_L96 p1 S3 (J n) rc (bsN T n m).1 (J (bsN T n m).2) (J m) = _
    unfold sM_look_L96
    simp (disch := omega) only [lit_0, lit_1, lit_2, lit_3, lit_4, lit_5, lit_6, lit_7, lit_8, lit_9, lit_10, lit_11, lit_12, lit_13, lit_14, lit_15, lit_20, lit_24, lit_25, lit_37, lit_40, lit_43, lit_48, lit_49, lit_50, lit_60, lit_96, lit_98, lit_99, lit_100, lit_999, lit_62, lit_74, lit_86, lit_92, lit_99999, lit_100000, lit_16, lit_32767, lit_2147483639, J_add, J_mul, J_sub, J_tn, J_le, J_lt, J_eq, Nat.not_lt_zero, false_or, or_false, le_t, le_f, lt_t, lt_f, eq_f, ↓reduceIte, callK_eq, letB_eq, joinB_eq, Nat.add_assoc, hn]
    split <;> rfl
/-- seams behind five days, for each that might have torn it -/
def tbN (u : RU) (r : Nat → Nat) (l : List Nat) : US := fun i s => J (aftrN u (loosN u.1 r (l.getD i 0 / 50) (l.getD i 0 % 50 + 1)) 5 (13 + s))
theorem A_look {ct : CT} {a0 q0 j : Nat} {S : US} {G : GS} {P : Nat → Nat → Option Nat} {ad : Nat → Nat} {S2 : US} {u : RU} {r : Nat → Nat} {q1 e1 c1 : Nat} {f1 : Nat → Option Nat} {R1 : Nat → Nat → Nat} {q2 e2 c2 : Nat} {f2 : Nat → Option Nat} {sn : Nat → Nat} {t : Nat} (hj : j < 24) (H : InvD ct a0 q0 j S G P ad S2 u r q1 e1 c1 f1 R1 q2 e2 c2 f2 sn t) (p1 : Int32) : AgR [(1, 1)] S2 (RG S S2 G 2000 15000) (t1_look S ct P G.1 p1) (s1_look ct ad P S G p1) (sM_look S2 p1) := by
  have Hz := H.z
  have hCo := H.core
  have hZ := Hz.core
  have ho12 := hCo.1.2.1
  have ho3 := hCo.1.1
  have ho := hCo.1
  have hR := hCo.2.1
  have hd := hCo.2.2.1
  obtain ⟨i1, i2, i3, i4, i5, i6⟩ := id Hz.2.2.2.1
  have hrm : Rm ct G 49000 228000 := H.1.2.2.1.rm H.1.2.1 hj (by omega) (by omega)
  have hs : ∀ i, i < c2 → sn (3 * i) < u.1 ∧ sn (3 * i + 1) ≤ 20 ∧ sn (3 * i + 2) ≤ 99 := fun i hi => (i3 i hi).2
  have hlen := glN_len (p := pG u r c2 sn) (g := 50 * u.1)
  unfold t1_look s1_look sM_look
  refine Ar_z (Ar_whatE 1 (by decide) (by decide) (fun w hw e => Ar_ok ?_))
  subst e
  have hJw : (J w = (0 : Int32)) = (w = 0) := J_eq (b := 0) (by omega) (by omega)
  refine RG.mk (if w = 0 then (bsN (tbN u r (glN (pG u r c2 sn) (50 * u.1))) (glN (pG u r c2 sn) (50 * u.1)).length u.1).1 else J (bsN (tbN u r (glN (pG u r c2 sn) (50 * u.1))) (glN (pG u r c2 sn) (50 * u.1)).length u.1).2) ?_ ?_
  · refine Ev.call (tH_others H.1.2.1 hCo i1 i2.1.lst (i3.sub cutM_sub) i4 (hrm.le (by omega) (by omega))) (fun o h1 => ?_)
    obtain ⟨h1, h2, e, cap, f, h3, h4, h5, h6, h7⟩ := h1
    have B2 := H.1.2.1.gr h7 (fun a h => h.elim)
    generalize hl : glN (pG u r c2 sn) (50 * u.1) = l at *
    have hl3 := h3.ol.1.lst
    rw [h1, onR_eq, tL_cls hl3, m_call (tL_size hl3), show (12 : Int32) = J 12 from rfl]
    refine Ev.nm B2.1 (by omega) (by omega) (Rm.gr (hrm.le (by omega) (by omega)) h7) (fun G6 k1 k2 => ?_)
    refine Ev.loop (I := fun i x => x.2.2 = J i ∧ HFr S 1 x.1 ∧ ∃ T, TabH x.2.1.1 o.2.2.2.1 l.length 12 T ∧ (∀ i' s, i' < i → s < 12 → T i' s = tbN u r l i' s) ∧ Gr (fun _ => False) o.2.2 x.2.1 (1 + l.length) (l.length + l.length * 12)) l.length ?_ ?_ ⟨rfl, h2, _, k1, fun i' s hi => absurd hi (Nat.not_lt_zero i'), k2⟩ (by unfold FUEL; omega)
    · rintro i hi ⟨S7, G8, v9⟩ ⟨h0, g1, T, g2, g3, g4⟩ rc hrc
      simp only at h0 g1 g2 g3 g4
      subst h0
      show Ev (s1_look_L26 (J w) P ct G.2.1 o.2.2.2.1 rc S7 G8 (J i)) _
      have hl8 := hl3.sub g4.sub
      obtain ⟨b, ob, z1, z2⟩ := h4 i hi
      have z3 := g4.sub _ _ z2
      have hgd := glN_gd (p := pG u r c2 sn) (g := 50 * u.1) (i := i) (by rw [hl]; exact hi)
      rw [hl] at hgd
      have hv1 : valN (l.getD i 0) / 100 = l.getD i 0 / 50 := by unfold valN; omega
      have hv2 : valN (l.getD i 0) - l.getD i 0 / 50 * 100 = l.getD i 0 % 50 + 1 := by unfold valN; omega
      have hv3 : valN (l.getD i 0) < 100000 := by unfold valN; omega
      unfold s1_look_L26
      rw [hL_eq g2.1, if_neg (by rw [J_le (by omega) (by omega)]; omega)]
      refine Ev.call (tH_be (S0 := S) (L := 1) g1 ((KeepH.of (by omega) g1).row hCo.2.2.2.2.1) (by decide)) (fun S9 h9 => ?_)
      rw [tL_cls hl8, m_call (tL_get hl8 hi), z1, onR_eq, hC_eq z3, hC_eq z3]
      unfold sN_intValue
      rw [hI_eq z3 rfl, callK_eq, tL_cls hl8, m_call (tL_get hl8 hi), z1, onR_eq, hC_eq z3, hC_eq z3, hI_eq z3 rfl, callK_eq]
      simp (disch := omega) only [lit_0, lit_1, lit_2, lit_3, lit_4, lit_5, lit_6, lit_7, lit_8, lit_9, lit_10, lit_11, lit_12, lit_13, lit_14, lit_15, lit_20, lit_24, lit_25, lit_37, lit_40, lit_43, lit_48, lit_49, lit_50, lit_60, lit_96, lit_98, lit_99, lit_100, lit_999, lit_62, lit_74, lit_86, lit_92, lit_99999, lit_100000, lit_16, lit_32767, lit_2147483639, J_add, J_mul, J_sub, J_tn, J_le, J_lt, J_eq, Nat.not_lt_zero, false_or, or_false, le_t, le_f, lt_t, lt_f, eq_f, ↓reduceIte, callK_eq, letB_eq, joinB_eq, Nat.add_assoc, J_div, hv1, hv2]
      refine Ev.call (tH_loosen (S0 := S) hCo.2.2.2.1.1 ho3 ho12 h9.1 hR (by omega) (v := l.getD i 0 % 50 + 1) (by omega)) (fun S10 h10 => ?_)
      refine Ev.call (tH_aftr (S0 := S) (d := 5) (hCo.2.2.2.1.sub (h7.sub.tr g4.sub)) ho h10 (hR.loos (by omega) ho12 (by omega)) (by rw [loos_0]; omega) (by omega)) (fun S11 h11 => ?_)
      refine Ev.loop2 (i0 := 0) (fun s x => ∃ T, TabH x.1 o.2.2.2.1 l.length 12 T ∧ (∀ i' s', i' < i → s' < 12 → T i' s' = tbN u r l i' s') ∧ (∀ s', s' < s → T i s' = tbN u r l i s') ∧ Gr (fun _ => False) o.2.2 x (1 + l.length) (l.length + l.length * 12)) 12 ⟨T, g2, g3, fun s' hs' => absurd hs' (Nat.not_lt_zero s'), g4⟩ (by omega) ?_ ?_ (by unfold FUEL; omega)
      · rintro s - hs12 G9 ⟨T', t1, t2, t3, t4⟩ rc2 hrc2
        have v1 := (h11.1.2.1 s (by omega)).2.1
        unfold s1_look_L93
        simp (disch := omega) only [lit_0, lit_1, lit_2, lit_3, lit_4, lit_5, lit_6, lit_7, lit_8, lit_9, lit_10, lit_11, lit_12, lit_13, lit_14, lit_15, lit_20, lit_24, lit_25, lit_37, lit_40, lit_43, lit_48, lit_49, lit_50, lit_60, lit_96, lit_98, lit_99, lit_100, lit_999, lit_62, lit_74, lit_86, lit_92, lit_99999, lit_100000, lit_16, lit_32767, lit_2147483639, J_add, J_mul, J_sub, J_tn, J_le, J_lt, J_eq, Nat.not_lt_zero, false_or, or_false, le_t, le_f, lt_t, lt_f, eq_f, ↓reduceIte, callK_eq, letB_eq, joinB_eq, Nat.add_assoc, v1]
        rw [hQ_eq t1.1 hi (by omega), if_pos hi, onR_eq]
        refine t1.put hi (by omega) (by omega) (fun G10 y1 y2 => ?_)
        refine hrc2 _ ⟨_, y1, fun i' s' hi' hs' => ?_, fun s' hs' => ?_, (t4.fresh y2 B2.1 (fun a h => h))⟩
        · rw [u2_row' (by omega)]; exact t2 i' s' hi' hs'
        · by_cases e : s' = s
          · rw [e, u2_at]; rfl
          · rw [u2_off (by omega)]; exact t3 s' (by omega)
      · rintro G9 ⟨T', t1, t2, t3, t4⟩ rc2
        unfold s1_look_L93
        simp (disch := omega) only [lit_0, lit_1, lit_2, lit_3, lit_4, lit_5, lit_6, lit_7, lit_8, lit_9, lit_10, lit_11, lit_12, lit_13, lit_14, lit_15, lit_20, lit_24, lit_25, lit_37, lit_40, lit_43, lit_48, lit_49, lit_50, lit_60, lit_96, lit_98, lit_99, lit_100, lit_999, lit_62, lit_74, lit_86, lit_92, lit_99999, lit_100000, lit_16, lit_32767, lit_2147483639, J_add, J_mul, J_sub, J_tn, J_le, J_lt, J_eq, Nat.not_lt_zero, false_or, or_false, le_t, le_f, lt_t, lt_f, eq_f, ↓reduceIte, callK_eq, letB_eq, joinB_eq, Nat.add_assoc]
        refine hrc (S11, G9, J (i + 1)) ⟨rfl, h11.2, T', t1, fun i' s' hi' hs' => ?_, t4⟩
        by_cases e : i' = i
        · rw [e]; exact t3 s' hs'
        · exact t2 i' s' (by omega) hs'
    · rintro ⟨S7, G8, v9⟩ ⟨h0, g1, T, g2, g3, g4⟩ rc
      simp only at h0 g1 g2 g3 g4
      subst h0
      show Ev (s1_look_L26 (J w) P ct G.2.1 o.2.2.2.1 rc S7 G8 (J l.length)) _
      unfold s1_look_L26
      rw [hL_eq g2.1, if_pos (Int32.le_refl _)]
      rw [tH_lookC (m := u.1) (T := T) (by rw [g1.one]; exact hCo.2.2.2.1.1) ho12 (by omega) g2]
      rw [bsN_c (T' := tbN u r l) (fun i s hi hs => g3 i s hi (by omega))]
      simp only [hJw]
      exact ⟨_, rfl, rfl, KeepH.of (by omega) g1, (h7.tr g4).le (by omega) (by omega)⟩
  · refine Ev.loop (I := fun g x => x.2.1 = J (glN (pG u r c2 sn) g).length ∧ x.2.2 = J g ∧ MFs (Z0 S2) x.1 ∧ ∀ i s, i < (glN (pG u r c2 sn) g).length → s < u.1 → x.1 26 (12 * i + s) = tbN u r (glN (pG u r c2 sn) g) i s) (50 * u.1) ?_ ?_ ⟨rfl, rfl, MFs.rf, fun i s hi => absurd hi (Nat.not_lt_zero i)⟩ (by unfold FUEL; omega)
    · rintro g hg ⟨S3, v4, v5⟩ ⟨h0, h0', h1, h2⟩ rc hrc
      simp only at h0 h0' h1 h2
      subst h0
      subst h0'
      show Ev (sM_look_L20 (J w) rc S3 (J (glN (pG u r c2 sn) g).length) (J g)) _
      have u1 := h1.k.rul hZ.2.2.2.2.2.1
      have hle := glN_len (p := pG u r c2 sn) (g := g)
      unfold sM_look_L20
      simp (disch := omega) only [lit_0, lit_1, lit_2, lit_3, lit_4, lit_5, lit_6, lit_7, lit_8, lit_9, lit_10, lit_11, lit_12, lit_13, lit_14, lit_15, lit_20, lit_24, lit_25, lit_37, lit_40, lit_43, lit_48, lit_49, lit_50, lit_60, lit_96, lit_98, lit_99, lit_100, lit_999, lit_62, lit_74, lit_86, lit_92, lit_99999, lit_100000, lit_16, lit_32767, lit_2147483639, J_add, J_mul, J_sub, J_tn, J_le, J_lt, J_eq, Nat.not_lt_zero, false_or, or_false, le_t, le_f, lt_t, lt_f, eq_f, ↓reduceIte, callK_eq, letB_eq, joinB_eq, Nat.add_assoc, u1.1]
      refine Ev.call (tM_isGuess hZ h1 i5 i4 hs i6 hg) (fun o h3 => ?_)
      have h26 : ∀ i s, i < (glN (pG u r c2 sn) g).length → s < u.1 → o.2 26 (12 * i + s) = tbN u r (glN (pG u r c2 sn) g) i s := fun i s hi hs' => by
        rw [h3.2.2.2]
        exact h2 i s hi hs'
      cases hp : pG u r c2 sn g with
      | false =>
        rw [h3.1, hp]
        simp (disch := omega) only [lit_0, lit_1, lit_2, lit_3, lit_4, lit_5, lit_6, lit_7, lit_8, lit_9, lit_10, lit_11, lit_12, lit_13, lit_14, lit_15, lit_20, lit_24, lit_25, lit_37, lit_40, lit_43, lit_48, lit_49, lit_50, lit_60, lit_96, lit_98, lit_99, lit_100, lit_999, lit_62, lit_74, lit_86, lit_92, lit_99999, lit_100000, lit_16, lit_32767, lit_2147483639, J_add, J_mul, J_sub, J_tn, J_le, J_lt, J_eq, Nat.not_lt_zero, false_or, or_false, le_t, le_f, lt_t, lt_f, eq_f, ↓reduceIte, callK_eq, letB_eq, joinB_eq, Nat.add_assoc, bI_f]
        refine hrc (o.2, J (glN (pG u r c2 sn) g).length, J (g + 1)) ⟨by rw [glN_f hp], rfl, h3.2.1, ?_⟩
        rw [glN_f hp]
        exact h26
      | true =>
        have h3s := h3.2.2.1 (h3.1.trans hp)
        rw [h3.1, hp]
        simp (disch := omega) only [lit_0, lit_1, lit_2, lit_3, lit_4, lit_5, lit_6, lit_7, lit_8, lit_9, lit_10, lit_11, lit_12, lit_13, lit_14, lit_15, lit_20, lit_24, lit_25, lit_37, lit_40, lit_43, lit_48, lit_49, lit_50, lit_60, lit_96, lit_98, lit_99, lit_100, lit_999, lit_62, lit_74, lit_86, lit_92, lit_99999, lit_100000, lit_16, lit_32767, lit_2147483639, J_add, J_mul, J_sub, J_tn, J_le, J_lt, J_eq, Nat.not_lt_zero, false_or, or_false, le_t, le_f, lt_t, lt_f, eq_f, ↓reduceIte, callK_eq, letB_eq, joinB_eq, Nat.add_assoc, bI_t]
        refine Ev.loop2 (i0 := 0) (fun s x => MFs (Z0 S2) x ∧ x 25 = o.2 25 ∧ (∀ i s', i < (glN (pG u r c2 sn) g).length → s' < u.1 → x 26 (12 * i + s') = tbN u r (glN (pG u r c2 sn) g) i s') ∧ ∀ s', s' < s → x 26 (12 * (glN (pG u r c2 sn) g).length + s') = J (aftrN u (loosN u.1 r (g / 50) (g % 50 + 1)) 5 (13 + s'))) u.1 ⟨h3.2.1, rfl, h26, fun s' hs' => absurd hs' (Nat.not_lt_zero s')⟩ (by omega) ?_ ?_ (by unfold FUEL; omega)
        · rintro s - hs12 S4 ⟨y1, y2, y3, y4⟩ rc2 hrc2
          have u4 := y1.k.rul hZ.2.2.2.2.2.1
          have v1 : S4 25 s = _ := (congrFun y2 s).trans (h3s s hs12)
          unfold sM_look_L45
          simp (disch := omega) only [lit_0, lit_1, lit_2, lit_3, lit_4, lit_5, lit_6, lit_7, lit_8, lit_9, lit_10, lit_11, lit_12, lit_13, lit_14, lit_15, lit_20, lit_24, lit_25, lit_37, lit_40, lit_43, lit_48, lit_49, lit_50, lit_60, lit_96, lit_98, lit_99, lit_100, lit_999, lit_62, lit_74, lit_86, lit_92, lit_99999, lit_100000, lit_16, lit_32767, lit_2147483639, J_add, J_mul, J_sub, J_tn, J_le, J_lt, J_eq, Nat.not_lt_zero, false_or, or_false, le_t, le_f, lt_t, lt_f, eq_f, ↓reduceIte, callK_eq, letB_eq, joinB_eq, Nat.add_assoc, u4.1, v1]
          refine hrc2 _ ⟨y1.u (Or.inr rfl), (u2_row' (by omega)).trans y2, fun i s' hi hs' => ?_, fun s' hs' => ?_⟩
          · rw [u2_off (by omega)]; exact y3 i s' hi hs'
          · by_cases e : s' = s
            · rw [e, u2_at]
            · rw [u2_off (by omega)]; exact y4 s' (by omega)
        · rintro S4 ⟨y1, y2, y3, y4⟩ rc2
          have u4 := y1.k.rul hZ.2.2.2.2.2.1
          unfold sM_look_L45
          simp (disch := omega) only [lit_0, lit_1, lit_2, lit_3, lit_4, lit_5, lit_6, lit_7, lit_8, lit_9, lit_10, lit_11, lit_12, lit_13, lit_14, lit_15, lit_20, lit_24, lit_25, lit_37, lit_40, lit_43, lit_48, lit_49, lit_50, lit_60, lit_96, lit_98, lit_99, lit_100, lit_999, lit_62, lit_74, lit_86, lit_92, lit_99999, lit_100000, lit_16, lit_32767, lit_2147483639, J_add, J_mul, J_sub, J_tn, J_le, J_lt, J_eq, Nat.not_lt_zero, false_or, or_false, le_t, le_f, lt_t, lt_f, eq_f, ↓reduceIte, callK_eq, letB_eq, joinB_eq, Nat.add_assoc, u4.1]
          refine hrc (S4, J ((glN (pG u r c2 sn) g).length + 1), J (g + 1)) ⟨by rw [glN_t hp, List.length_append]; rfl, rfl, y1, fun i s hi hs' => ?_⟩
          rw [glN_t hp, List.length_append] at hi
          have hi : i < (glN (pG u r c2 sn) g).length + 1 := hi
          show S4 26 (12 * i + s) = tbN u r (glN (pG u r c2 sn) (g + 1)) i s
          rw [glN_t hp]
          unfold tbN
          by_cases e : i = (glN (pG u r c2 sn) g).length
          · rw [e, gdA2]
            exact y4 s hs'
          · rw [gdA1 (by omega)]
            exact y3 i s (by omega) hs'
    · rintro ⟨S3, v4, v5⟩ ⟨h0, h0', h1, h2⟩ rc
      simp only at h0 h0' h1 h2
      subst h0
      subst h0'
      show Ev (sM_look_L20 (J w) rc S3 (J (glN (pG u r c2 sn) (50 * u.1)).length) (J (50 * u.1))) _
      have u1 := h1.k.rul hZ.2.2.2.2.2.1
      unfold sM_look_L20
      rw [u1.1, show (50 : Int32) = J 50 from rfl, J_mul, if_pos (Int32.le_refl _)]
      rw [tM_lookC (m := u.1) u1.1 ho12 (by omega) h2]
      simp only [hJw]
      exact ⟨_, rfl, rfl, h1⟩
