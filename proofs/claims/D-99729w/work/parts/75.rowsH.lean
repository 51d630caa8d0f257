set_option maxRecDepth 100000
/-! THE PLAIN LAW, 4: HorizonSeam's lines -/
def Sub (h h' : AH) : Prop := ∀ (a : Nat) (e : AE), h a = some e → h' a = some e
theorem Sub.rf {h : AH} : Sub h h := fun _ _ z => z
theorem Sub.tr {h h1 h2 : AH} (a : Sub h h1) (b : Sub h1 h2) : Sub h h2 := fun x e z => b x e (a x e z)
theorem hI_eq {ρ : Type} {h : AH} {a ci k : Nat} {o : Bool} {fs : List Value} {v : Int32} {kp : Int32 → Option ρ} (h1 : h a = some (o, .inr (ci, fs))) (h2 : fs[k]? = some (.int v)) : hI h a ci k kp = kp v := by
  unfold hI; rw [h1]; simp [h2]
theorem hR_eq {ρ : Type} {h : AH} {a ci k b : Nat} {o : Bool} {fs : List Value} {kp : Option Nat → Option ρ} (h1 : h a = some (o, .inr (ci, fs))) (h2 : fs[k]? = some (.ref b)) : hR h a ci k kp = kp (some b) := by
  unfold hR; rw [h1]; simp [h2]
theorem hR_null {ρ : Type} {h : AH} {a ci k : Nat} {o : Bool} {fs : List Value} {kp : Option Nat → Option ρ} (h1 : h a = some (o, .inr (ci, fs))) (h2 : fs[k]? = some .null) : hR h a ci k kp = kp none := by
  unfold hR; rw [h1]; simp [h2]
theorem hQ_eq {ρ : Type} {h : AH} {a t n i : Nat} {o : Bool} {f : Nat → Option Nat} {kp : Option Nat → Option ρ} (h1 : h a = some (o, .inl (t, n, .inr (.inr (.inr (.inr f)))))) (hi : i < n) (hn : n ≤ 2147483648) : hQ h a t (J i) kp = kp (f i) := by
  unfold hQ; rw [h1]
  show (if t = t then (if J i < 0 ∨ n ≤ (J i).toNatClampNeg then none else kp (f (J i).toNatClampNeg)) else none) = _
  rw [if_pos rfl, gd hi hn, J_tn (by omega)]
theorem hZ_eq {ρ : Type} {h : AH} {a t n i : Nat} {o : Bool} {f : Nat → Int32} {kp : Int32 → Option ρ} (h1 : h a = some (o, .inl (t, n, .inl f))) (hi : i < n) (hn : n ≤ 2147483648) : hZ h a t (J i) kp = kp (f i) := by
  unfold hZ; rw [h1]
  show (if t = t then (if J i < 0 ∨ n ≤ (J i).toNatClampNeg then none else kp (f (J i).toNatClampNeg)) else none) = _
  rw [if_pos rfl, gd hi hn, J_tn (by omega)]
theorem hL_eq {ρ : Type} {h : AH} {a t n : Nat} {o : Bool} {x : (Nat → Int32) ⊕ (Nat → Int64) ⊕ (Nat → UInt32) ⊕ (Nat → UInt64) ⊕ (Nat → Option Nat)} {kp : Int32 → Option ρ} (h1 : h a = some (o, .inl (t, n, x))) : hL h a t kp = kp (J n) := by
  unfold hL; rw [h1]; simp; rfl
theorem hC_eq {ρ : Type} {h : AH} {a ci : Nat} {o : Bool} {fs : List Value} {k : Option ρ} (h1 : h a = some (o, .inr (ci, fs))) : hC h a ci k = k := by
  unfold hC; rw [h1]; simp
theorem hT_eq {ρ : Type} {h : AH} {a t : Nat} {o : Bool} {x : vp_A} {k : Option ρ} (h1 : h a = some (o, .inl (t, x))) : hT h a t k = k := by
  unfold hT; rw [h1]; simp
theorem onR_eq {ρ : Type} {b : Nat} {k : Nat → Option ρ} : onR (some b) k = k b := asEq rfl
theorem caseR_n {ρ : Type} {k0 : Option ρ} {k : Nat → Option ρ} : caseR none k0 k = k0 := asEq rfl
theorem caseR_s {ρ : Type} {b : Nat} {k0 : Option ρ} {k : Nat → Option ρ} : caseR (some b) k0 k = k b := asEq rfl
/-- a list of references -/
def LstH (h : AH) (q n : Nat) (f : Nat → Option Nat) : Prop := ∃ (o : Bool) (md : Int32) (e : Nat) (o2 : Bool) (cap : Nat) (g : Nat → Option Nat), h q = some (o, .inr (10, [.int md, .ref e, .int (J n)])) ∧ h e = some (o2, .inl (4, cap, .inr (.inr (.inr (.inr g))))) ∧ n ≤ cap ∧ cap < 100000 ∧ ∀ i, i < n → g i = f i
theorem LstH.sub {h h' : AH} {q n : Nat} {f : Nat → Option Nat} (hs : Sub h h') (H : LstH h q n f) : LstH h' q n f := by
  obtain ⟨o, md, e, o2, cap, g, h1, h2, h3⟩ := H
  exact ⟨o, md, e, o2, cap, g, hs _ _ h1, hs _ _ h2, h3⟩
theorem tL_cls {α : Type} {h : AH} {q n : Nat} {f : Nat → Option Nat} {x : Option α} (H : LstH h q n f) : hC h q 10 x = x := by
  obtain ⟨o, md, e, o2, cap, g, h1, h2, h3⟩ := H
  unfold hC; rw [h1]; rfl
theorem tL_size {h : AH} {q n : Nat} {f : Nat → Option Nat} (H : LstH h q n f) : sL_size h q = some (J n) := by
  obtain ⟨o, md, e, o2, cap, g, h1, h2, h3⟩ := H
  unfold sL_size hI; rw [h1]; rfl
theorem tP_check {i n : Nat} {z : Option Nat} (hi : i < n) (hn : n < 2147483648) : sP_checkIndex (J i) (J n) z = some (J i) := by
  unfold sP_checkIndex
  simp (disch := omega) only [lit_0, lit_1, lit_2, lit_3, lit_4, lit_5, lit_6, lit_7, lit_8, lit_9, lit_10, lit_11, lit_12, lit_13, lit_14, lit_15, lit_20, lit_24, lit_25, lit_37, lit_40, lit_43, lit_48, lit_49, lit_50, lit_60, lit_96, lit_98, lit_99, lit_100, lit_999, lit_62, lit_74, lit_86, lit_92, lit_99999, lit_100000, lit_16, lit_32767, lit_2147483639, J_add, J_mul, J_sub, J_tn, J_le, J_lt, J_eq, Nat.not_lt_zero, false_or, or_false, le_t, le_f, lt_t, lt_f, eq_f, ↓reduceIte, callK_eq, letB_eq, joinB_eq, Nat.add_assoc]
theorem tL_get {h : AH} {q n i : Nat} {f : Nat → Option Nat} (H : LstH h q n f) (hi : i < n) : sL_get h q (J i) = some (f i) := by
  obtain ⟨o, md, e, o2, cap, g, h1, h2, h3, h4, h5⟩ := H
  unfold sL_get sO_checkIndex sL_elementData
  rw [hI_eq h1 rfl, tP_check hi (by omega), hC_eq h1, hR_eq h1 rfl]
  simp (disch := omega) only [lit_0, lit_1, lit_2, lit_3, lit_4, lit_5, lit_6, lit_7, lit_8, lit_9, lit_10, lit_11, lit_12, lit_13, lit_14, lit_15, lit_20, lit_24, lit_25, lit_37, lit_40, lit_43, lit_48, lit_49, lit_50, lit_60, lit_96, lit_98, lit_99, lit_100, lit_999, lit_62, lit_74, lit_86, lit_92, lit_99999, lit_100000, lit_16, lit_32767, lit_2147483639, J_add, J_mul, J_sub, J_tn, J_le, J_lt, J_eq, Nat.not_lt_zero, false_or, or_false, le_t, le_f, lt_t, lt_f, eq_f, ↓reduceIte, callK_eq, letB_eq, joinB_eq, Nat.add_assoc, onR_eq]
  rw [hQ_eq h2 (by omega) (by omega)]
  simp (disch := omega) only [lit_0, lit_1, lit_2, lit_3, lit_4, lit_5, lit_6, lit_7, lit_8, lit_9, lit_10, lit_11, lit_12, lit_13, lit_14, lit_15, lit_20, lit_24, lit_25, lit_37, lit_40, lit_43, lit_48, lit_49, lit_50, lit_60, lit_96, lit_98, lit_99, lit_100, lit_999, lit_62, lit_74, lit_86, lit_92, lit_99999, lit_100000, lit_16, lit_32767, lit_2147483639, J_add, J_mul, J_sub, J_tn, J_le, J_lt, J_eq, Nat.not_lt_zero, false_or, or_false, le_t, le_f, lt_t, lt_f, eq_f, ↓reduceIte, callK_eq, letB_eq, joinB_eq, Nat.add_assoc, h5 i hi]
/-! the rules, as HorizonSeam holds them -/
def FDen (ct : CT) (h : AH) (q : Nat) (F : FV) : Prop := ∀ h', Sub h h' → ∀ S : US, sF_of FDEEP S ct h' q = some (F (tv S 2))
def HForm (ct : CT) (P : Nat → Nat → Option Nat) (h : AH) (k : Nat) (f : Option FV) : Prop := match f with
  | none => P 1 k = none
  | some F => ∃ q, P 1 k = some q ∧ FDen ct h q F
/-- women's skills, in a list -/
def SkH (h : AH) (q m : Nat) (sk : Nat → Nat) : Prop := ∃ f, LstH h q m f ∧ ∀ w, w < m → ∃ (b : Nat) (o : Bool), f w = some b ∧ h b = some (o, .inr (12, [.int (J (sk w))]))
def RulH (ct : CT) (P : Nat → Nat → Option Nat) (h : AH) (S : US) (u : RU) : Prop := S 1 2 = J u.1 ∧ S 1 3 = J u.2.2.1 ∧ (∃ q, P 1 0 = some q ∧ SkH h q u.2.1 u.2.2.2.1) ∧ HForm ct P h 4 u.2.2.2.2.1 ∧ HForm ct P h 5 u.2.2.2.2.2
theorem FDen.sub {ct : CT} {h h' : AH} {q : Nat} {F : FV} (hs : Sub h h') (H : FDen ct h q F) : FDen ct h' q F := fun h2 h3 S => H h2 (hs.tr h3) S
theorem SkH.sub {h h' : AH} {q m : Nat} {sk : Nat → Nat} (hs : Sub h h') (H : SkH h q m sk) : SkH h' q m sk := by
  obtain ⟨f, h1, h2⟩ := H
  exact ⟨f, h1.sub hs, fun w hw => by obtain ⟨b, o, a1, a2⟩ := h2 w hw; exact ⟨b, o, a1, hs _ _ a2⟩⟩
theorem HForm.sub {ct : CT} {P : Nat → Nat → Option Nat} {h h' : AH} {k : Nat} {f : Option FV} (hs : Sub h h') (H : HForm ct P h k f) : HForm ct P h' k f := by
  unfold HForm at H ⊢
  split at H
  · exact H
  · obtain ⟨q, h1, h2⟩ := H
    exact ⟨q, h1, h2.sub hs⟩
theorem RulH.sub {ct : CT} {P : Nat → Nat → Option Nat} {h h' : AH} {S : US} {u : RU} (hs : Sub h h') (H : RulH ct P h S u) : RulH ct P h' S u := by
  obtain ⟨h1, h2, ⟨q, h3, h4⟩, h5, h6⟩ := H
  exact ⟨h1, h2, ⟨q, h3, h4.sub hs⟩, h5.sub hs, h6.sub hs⟩
theorem RulH.of {ct : CT} {P : Nat → Nat → Option Nat} {h : AH} {S S' : US} {u : RU} (H : RulH ct P h S u) (h1 : S' 1 = S 1) : RulH ct P h S' u := by
  unfold RulH; rw [h1]; exact H
theorem tH_women {ct : CT} {P : Nat → Nat → Option Nat} {h : AH} {S S' : US} {u : RU} (H : RulH ct P h S u) : s2_women S' P h = some (J u.2.1) := by
  obtain ⟨h1, h2, ⟨q, h3, f, h4, -⟩, h5, h6⟩ := H
  unfold s2_women
  rw [h3]
  simp (disch := omega) only [lit_0, lit_1, lit_2, lit_3, lit_4, lit_5, lit_6, lit_7, lit_8, lit_9, lit_10, lit_11, lit_12, lit_13, lit_14, lit_15, lit_20, lit_24, lit_25, lit_37, lit_40, lit_43, lit_48, lit_49, lit_50, lit_60, lit_96, lit_98, lit_99, lit_100, lit_999, lit_62, lit_74, lit_86, lit_92, lit_99999, lit_100000, lit_16, lit_32767, lit_2147483639, J_add, J_mul, J_sub, J_tn, J_le, J_lt, J_eq, Nat.not_lt_zero, false_or, or_false, le_t, le_f, lt_t, lt_f, eq_f, ↓reduceIte, callK_eq, letB_eq, joinB_eq, Nat.add_assoc, onR_eq, tL_cls h4, tL_size h4]
theorem tH_skill {ct : CT} {P : Nat → Nat → Option Nat} {h : AH} {S : US} {u : RU} {α : Type} {w : Nat} {k : Int32 → Option α} (H : RulH ct P h S u) (hw : w < u.2.1) : (letB (P 1 0) (fun r2 => onR r2 (fun b3 => hC h b3 10 (callK (sL_get h b3 (J w)) (fun o4 => onR o4 (fun b5 => hC h b5 12 (hC h b5 12 (callK (sN_intValue h b5) k)))))))) = k (J (u.2.2.2.1 w)) := by
  obtain ⟨h1, h2, ⟨q, h3, f, h4, h7⟩, h5, h6⟩ := H
  obtain ⟨b, o, h8, h9⟩ := h7 w hw
  rw [h3]
  simp (disch := omega) only [lit_0, lit_1, lit_2, lit_3, lit_4, lit_5, lit_6, lit_7, lit_8, lit_9, lit_10, lit_11, lit_12, lit_13, lit_14, lit_15, lit_20, lit_24, lit_25, lit_37, lit_40, lit_43, lit_48, lit_49, lit_50, lit_60, lit_96, lit_98, lit_99, lit_100, lit_999, lit_62, lit_74, lit_86, lit_92, lit_99999, lit_100000, lit_16, lit_32767, lit_2147483639, J_add, J_mul, J_sub, J_tn, J_le, J_lt, J_eq, Nat.not_lt_zero, false_or, or_false, le_t, le_f, lt_t, lt_f, eq_f, ↓reduceIte, callK_eq, letB_eq, joinB_eq, Nat.add_assoc, onR_eq, tL_cls h4, tL_get h4 hw, h8, hC_eq h9]
  unfold sN_intValue
  rw [hI_eq h9 rfl]
  rfl
/-! a line's row -/
def HRow (S : US) (L : Nat) (r : Nat → Nat) : Prop := S (lc L 0) 6 = J (r 0) ∧ (∀ k, k < 12 → S (lc L 1) k = J (r (1 + k)) ∧ S (lc L 2) k = J (r (13 + k)) ∧ S (lc L 3) k = J (r (25 + k))) ∧ ∀ w, w < 6 → S (lc L 4) w = J (r (37 + w)) ∧ S (lc L 5) w = J (r (43 + w))
/-- what a line's own methods may change -/
def HFr (S : US) (L : Nat) (S' : US) : Prop := ∀ a, a ≠ 2 → (a < lc L 0 ∨ lc L 6 < a) → S' a = S a
theorem HFr.rf {S : US} {L : Nat} : HFr S L S := fun _ _ _ => rfl
theorem HFr.tr {S S1 S2 : US} {L : Nat} (h : HFr S L S1) (h' : HFr S1 L S2) : HFr S L S2 := fun a h1 h2 => (h' a h1 h2).trans (h a h1 h2)
def HR (S0 : US) (L : Nat) (r : Nat → Nat) (S : US) : Prop := HRow S L r ∧ HFr S0 L S
theorem HFr.one {S S' : US} {L : Nat} (h : HFr S L S') : S' 1 = S 1 := h 1 (by decide) (Or.inl (by unfold lc; omega))
theorem lc_ne {L i j : Nat} (h : i < j ∨ j < i) : lc L i < lc L j ∨ lc L j < lc L i := by unfold lc; omega
theorem HRow.of {S S' : US} {L : Nat} {r : Nat → Nat} (h : HRow S L r) (h2 : ∀ i, i < 6 → S' (lc L i) = S (lc L i)) : HRow S' L r := by
  unfold HRow
  rw [h2 0 (by omega), h2 1 (by omega), h2 2 (by omega), h2 3 (by omega), h2 4 (by omega), h2 5 (by omega)]
  exact h
theorem HFr.u {S0 S : US} {L i k : Nat} {v : Int32} (h : HFr S0 L S) (hi : i < 7) : HFr S0 L (u2 S (lc L i) k v) := fun a h1 h2 => by
  rw [u2_row' (by unfold lc at *; omega)]; exact h a h1 h2
theorem HR.up1 {S0 S : US} {L s v : Nat} {r : Nat → Nat} (h : HR S0 L r S) (hs : s < 12) : HR S0 L (upN r (1 + s) v) (u2 S (lc L 1) s (J v)) := by
  refine ⟨⟨?_, fun k hk => ⟨?_, ?_, ?_⟩, fun w hw => ⟨?_, ?_⟩⟩, h.2.u (by omega)⟩
  · rw [u2_row' (lc_ne (by omega)), upN_off (by omega)]; exact h.1.1
  · by_cases e : k = s
    · subst e; rw [u2_at, upN_at]
    · rw [u2_off (by omega), upN_off (by omega)]; exact (h.1.2.1 k hk).1
  · rw [u2_row' (lc_ne (by omega)), upN_off (by omega)]; exact (h.1.2.1 k hk).2.1
  · rw [u2_row' (lc_ne (by omega)), upN_off (by omega)]; exact (h.1.2.1 k hk).2.2
  · rw [u2_row' (lc_ne (by omega)), upN_off (by omega)]; exact (h.1.2.2 w hw).1
  · rw [u2_row' (lc_ne (by omega)), upN_off (by omega)]; exact (h.1.2.2 w hw).2
theorem HR.up2 {S0 S : US} {L s v : Nat} {r : Nat → Nat} (h : HR S0 L r S) (hs : s < 12) : HR S0 L (upN r (13 + s) v) (u2 S (lc L 2) s (J v)) := by
  refine ⟨⟨?_, fun k hk => ⟨?_, ?_, ?_⟩, fun w hw => ⟨?_, ?_⟩⟩, h.2.u (by omega)⟩
  · rw [u2_row' (lc_ne (by omega)), upN_off (by omega)]; exact h.1.1
  · rw [u2_row' (lc_ne (by omega)), upN_off (by omega)]; exact (h.1.2.1 k hk).1
  · by_cases e : k = s
    · subst e; rw [u2_at, upN_at]
    · rw [u2_off (by omega), upN_off (by omega)]; exact (h.1.2.1 k hk).2.1
  · rw [u2_row' (lc_ne (by omega)), upN_off (by omega)]; exact (h.1.2.1 k hk).2.2
  · rw [u2_row' (lc_ne (by omega)), upN_off (by omega)]; exact (h.1.2.2 w hw).1
  · rw [u2_row' (lc_ne (by omega)), upN_off (by omega)]; exact (h.1.2.2 w hw).2
theorem HR.up3 {S0 S : US} {L s v : Nat} {r : Nat → Nat} (h : HR S0 L r S) (hs : s < 12) : HR S0 L (upN r (25 + s) v) (u2 S (lc L 3) s (J v)) := by
  refine ⟨⟨?_, fun k hk => ⟨?_, ?_, ?_⟩, fun w hw => ⟨?_, ?_⟩⟩, h.2.u (by omega)⟩
  · rw [u2_row' (lc_ne (by omega)), upN_off (by omega)]; exact h.1.1
  · rw [u2_row' (lc_ne (by omega)), upN_off (by omega)]; exact (h.1.2.1 k hk).1
  · rw [u2_row' (lc_ne (by omega)), upN_off (by omega)]; exact (h.1.2.1 k hk).2.1
  · by_cases e : k = s
    · subst e; rw [u2_at, upN_at]
    · rw [u2_off (by omega), upN_off (by omega)]; exact (h.1.2.1 k hk).2.2
  · rw [u2_row' (lc_ne (by omega)), upN_off (by omega)]; exact (h.1.2.2 w hw).1
  · rw [u2_row' (lc_ne (by omega)), upN_off (by omega)]; exact (h.1.2.2 w hw).2
theorem HR.up4 {S0 S : US} {L s v : Nat} {r : Nat → Nat} (h : HR S0 L r S) (hs : s < 6) : HR S0 L (upN r (37 + s) v) (u2 S (lc L 4) s (J v)) := by
  refine ⟨⟨?_, fun k hk => ⟨?_, ?_, ?_⟩, fun w hw => ⟨?_, ?_⟩⟩, h.2.u (by omega)⟩
  · rw [u2_row' (lc_ne (by omega)), upN_off (by omega)]; exact h.1.1
  · rw [u2_row' (lc_ne (by omega)), upN_off (by omega)]; exact (h.1.2.1 k hk).1
  · rw [u2_row' (lc_ne (by omega)), upN_off (by omega)]; exact (h.1.2.1 k hk).2.1
  · rw [u2_row' (lc_ne (by omega)), upN_off (by omega)]; exact (h.1.2.1 k hk).2.2
  · by_cases e : w = s
    · subst e; rw [u2_at, upN_at]
    · rw [u2_off (by omega), upN_off (by omega)]; exact (h.1.2.2 w hw).1
  · rw [u2_row' (lc_ne (by omega)), upN_off (by omega)]; exact (h.1.2.2 w hw).2
theorem HR.up5 {S0 S : US} {L s v : Nat} {r : Nat → Nat} (h : HR S0 L r S) (hs : s < 6) : HR S0 L (upN r (43 + s) v) (u2 S (lc L 5) s (J v)) := by
  refine ⟨⟨?_, fun k hk => ⟨?_, ?_, ?_⟩, fun w hw => ⟨?_, ?_⟩⟩, h.2.u (by omega)⟩
  · rw [u2_row' (lc_ne (by omega)), upN_off (by omega)]; exact h.1.1
  · rw [u2_row' (lc_ne (by omega)), upN_off (by omega)]; exact (h.1.2.1 k hk).1
  · rw [u2_row' (lc_ne (by omega)), upN_off (by omega)]; exact (h.1.2.1 k hk).2.1
  · rw [u2_row' (lc_ne (by omega)), upN_off (by omega)]; exact (h.1.2.1 k hk).2.2
  · rw [u2_row' (lc_ne (by omega)), upN_off (by omega)]; exact (h.1.2.2 w hw).1
  · by_cases e : w = s
    · subst e; rw [u2_at, upN_at]
    · rw [u2_off (by omega), upN_off (by omega)]; exact (h.1.2.2 w hw).2
theorem HR.up0 {S0 S : US} {L v : Nat} {r : Nat → Nat} (h : HR S0 L r S) : HR S0 L (upN r 0 v) (u2 S (lc L 0) 6 (J v)) := by
  refine ⟨⟨?_, fun k hk => ⟨?_, ?_, ?_⟩, fun w hw => ⟨?_, ?_⟩⟩, h.2.u (by omega)⟩
  · rw [u2_at, upN_at]
  · rw [u2_row' (lc_ne (by omega)), upN_off (by omega)]; exact (h.1.2.1 k hk).1
  · rw [u2_row' (lc_ne (by omega)), upN_off (by omega)]; exact (h.1.2.1 k hk).2.1
  · rw [u2_row' (lc_ne (by omega)), upN_off (by omega)]; exact (h.1.2.1 k hk).2.2
  · rw [u2_row' (lc_ne (by omega)), upN_off (by omega)]; exact (h.1.2.2 w hw).1
  · rw [u2_row' (lc_ne (by omega)), upN_off (by omega)]; exact (h.1.2.2 w hw).2
theorem HR.of {S0 S S2 : US} {L : Nat} {r : Nat → Nat} (h : HR S0 L r S) (h2 : ∀ a, a ≠ 2 → a ≠ lc L 6 → S2 a = S a) : HR S0 L r S2 :=
  ⟨h.1.of (fun i hi => h2 _ (by unfold lc; omega) (by unfold lc; omega)), fun a g1 g2 => (h2 a g1 (by unfold lc at *; omega)).trans (h.2 a g1 g2)⟩
theorem tH_within {v : Int32} {lo hi : Nat} (hl : lo ≤ hi) (hh : hi < 2147483648) : s1_within v (J lo) (J hi) = some (J (clN lo hi v)) := by
  unfold s1_within clN
  have key : ∀ x : Int32, J lo ≤ x → x.toNatClampNeg < 2147483648 → J x.toNatClampNeg = x := fun x h1 h2 => by
    refine Int32.ofNat_toNatClampNeg x ?_
    rw [Int32.le_iff_toInt_le, J_ti (by omega)] at h1
    rw [Int32.le_iff_toInt_le, show (0 : Int32).toInt = 0 from rfl]
    omega
  have hlo : (J lo).toInt = lo := J_ti (by omega)
  have hhi : (J hi).toInt = hi := J_ti hh
  congr 1
  have lt : ∀ x y : Int32, (x < y) = (x.toInt < y.toInt) := fun x y => propext Int32.lt_iff_toInt_lt
  by_cases d : v < J hi
  · rw [if_pos d]
    rw [lt] at d
    by_cases c : J lo < v
    · rw [if_pos c]
      rw [lt] at c
      rw [if_neg (by rw [lt]; omega), if_neg (by rw [lt]; omega)]
      exact (key v (Int32.le_iff_toInt_le.mpr (by omega)) (Int32.toNatClampNeg_lt v)).symm
    · rw [if_neg c]
      rw [lt] at c
      by_cases e : v < J lo
      · rw [if_pos e]
      · rw [if_neg e, if_neg (by rw [lt]; omega)]
        rw [lt] at e
        rw [key v (Int32.le_iff_toInt_le.mpr (by omega)) (Int32.toNatClampNeg_lt v)]
        exact Int32.toInt_inj.mp (by omega)
  · rw [if_neg d]
    rw [lt] at d
    rw [if_neg (show ¬ v < J lo by rw [lt]; omega)]
    by_cases e : J hi < v
    · rw [if_pos e]
      by_cases c : J lo < J hi
      · rw [if_pos c]
      · rw [if_neg c]
        rw [lt] at c
        congr 1
        omega
    · rw [if_neg e]
      rw [lt] at e
      rw [key v (Int32.le_iff_toInt_le.mpr (by omega)) (Int32.toNatClampNeg_lt v)]
      by_cases c : J lo < J hi
      · rw [if_pos c]
        exact Int32.toInt_inj.mp (by omega)
      · rw [if_neg c]
        rw [lt] at c
        exact Int32.toInt_inj.mp (by omega)
theorem tH_withI {v : Int32} : s1_within v (-J 9) (J 9) = some (clI v) := by
  have e1 : (-J 9 : Int32) = -9 := rfl
  have e2 : (J 9 : Int32) = 9 := rfl
  rw [e1, e2]
  unfold s1_within clI
  have e3 : ((-9 : Int32) < 9) = True := by decide
  have hlo : (-9 : Int32).toInt = -9 := by decide
  have hhi : (9 : Int32).toInt = 9 := by decide
  congr 1
  simp only [Int32.lt_iff_toInt_lt, hlo, hhi]
  by_cases a : v.toInt < -9
  · rw [if_pos a, if_pos (show v.toInt < 9 by omega), if_neg (by omega)]
  · rw [if_neg a]
    by_cases b : 9 < v.toInt
    · rw [if_pos b, if_neg (show ¬ v.toInt < 9 by omega), hhi, if_pos (by omega)]
    · rw [if_neg b]
      by_cases d : v.toInt < 9
      · rw [if_pos d]
        by_cases c : -9 < v.toInt
        · rw [if_pos c]
        · rw [if_neg c]
          exact Int32.toInt_inj.mp (by rw [hlo]; omega)
      · rw [if_neg d, hhi, if_pos (by omega)]
        exact Int32.toInt_inj.mp (by rw [hhi]; omega)
theorem tH_isOpen {S : US} {L s : Nat} {r : Nat → Nat} (h : HRow S L r) (hs : s < 12) (hv : r (13 + s) < 2147483648) : s3_isOpen S L (J s) = some (gapN r s) := by
  unfold s3_isOpen gapN
  have hr := (h.2.1 s hs).2.1
  simp (disch := omega) only [lit_0, lit_1, lit_2, lit_3, lit_4, lit_5, lit_6, lit_7, lit_8, lit_9, lit_10, lit_11, lit_12, lit_13, lit_14, lit_15, lit_20, lit_24, lit_25, lit_37, lit_40, lit_43, lit_48, lit_49, lit_50, lit_60, lit_96, lit_98, lit_99, lit_100, lit_999, lit_62, lit_74, lit_86, lit_92, lit_99999, lit_100000, lit_16, lit_32767, lit_2147483639, J_add, J_mul, J_sub, J_tn, J_le, J_lt, J_eq, Nat.not_lt_zero, false_or, or_false, le_t, le_f, lt_t, lt_f, eq_f, ↓reduceIte, callK_eq, letB_eq, joinB_eq, Nat.add_assoc, hr]
  by_cases h : r (13 + s) = 0 <;> simp [h]
theorem tH_after {S : US} {n s : Nat} (hn : S 1 2 = J n) (h0 : 0 < n) (hs : s < n) (hn2 : n ≤ 12) : s2_after S (J s) = some (J (aftN n s)) := by
  have e : (s + 1) % n = aftN n s := by
    unfold aftN
    split
    · rename_i h; rw [h]; exact Nat.mod_self n
    · exact Nat.mod_eq_of_lt (by omega)
  unfold s2_after
  simp (disch := omega) only [lit_0, lit_1, lit_2, lit_3, lit_4, lit_5, lit_6, lit_7, lit_8, lit_9, lit_10, lit_11, lit_12, lit_13, lit_14, lit_15, lit_20, lit_24, lit_25, lit_37, lit_40, lit_43, lit_48, lit_49, lit_50, lit_60, lit_96, lit_98, lit_99, lit_100, lit_999, lit_62, lit_74, lit_86, lit_92, lit_99999, lit_100000, lit_16, lit_32767, lit_2147483639, J_add, J_mul, J_sub, J_tn, J_le, J_lt, J_eq, Nat.not_lt_zero, false_or, or_false, le_t, le_f, lt_t, lt_f, eq_f, ↓reduceIte, callK_eq, letB_eq, joinB_eq, Nat.add_assoc, hn, J_mod, e]
theorem tH_before {S : US} {n s : Nat} (hn : S 1 2 = J n) (h0 : 0 < n) (hs : s < n) (hn2 : n ≤ 12) : s2_before S (J s) = some (J (befN n s)) := by
  have e : (s + n - 1) % n = befN n s := by
    unfold befN
    split
    · rename_i h; rw [h, Nat.zero_add]; exact Nat.mod_eq_of_lt (by omega)
    · rw [show s + n - 1 = (s - 1) + n by omega, Nat.add_mod_right]; exact Nat.mod_eq_of_lt (by omega)
  unfold s2_before
  simp (disch := omega) only [lit_0, lit_1, lit_2, lit_3, lit_4, lit_5, lit_6, lit_7, lit_8, lit_9, lit_10, lit_11, lit_12, lit_13, lit_14, lit_15, lit_20, lit_24, lit_25, lit_37, lit_40, lit_43, lit_48, lit_49, lit_50, lit_60, lit_96, lit_98, lit_99, lit_100, lit_999, lit_62, lit_74, lit_86, lit_92, lit_99999, lit_100000, lit_16, lit_32767, lit_2147483639, J_add, J_mul, J_sub, J_tn, J_le, J_lt, J_eq, Nat.not_lt_zero, false_or, or_false, le_t, le_f, lt_t, lt_f, eq_f, ↓reduceIte, callK_eq, letB_eq, joinB_eq, Nat.add_assoc, hn, J_mod, e]
theorem tH_beside {S : US} {L n s : Nat} {r : Nat → Nat} (h : HRow S L r) (hn : S 1 2 = J n) (h0 : 0 < n) (hs : s < n) (hn2 : n ≤ 12) : s3_beside S L (J s) = some (J (besN n r s)) := by
  unfold s3_beside besN
  have h1 := befN_lt h0 hs
  have h2 := aftN_lt h0 hs
  have hr1 := (h.2.1 (befN n s) (by omega)).1
  have hr2 := (h.2.1 (aftN n s) (by omega)).1
  rw [tH_before hn h0 hs hn2, tH_after hn h0 hs hn2]
  simp (disch := omega) only [lit_0, lit_1, lit_2, lit_3, lit_4, lit_5, lit_6, lit_7, lit_8, lit_9, lit_10, lit_11, lit_12, lit_13, lit_14, lit_15, lit_20, lit_24, lit_25, lit_37, lit_40, lit_43, lit_48, lit_49, lit_50, lit_60, lit_96, lit_98, lit_99, lit_100, lit_999, lit_62, lit_74, lit_86, lit_92, lit_99999, lit_100000, lit_16, lit_32767, lit_2147483639, J_add, J_mul, J_sub, J_tn, J_le, J_lt, J_eq, Nat.not_lt_zero, false_or, or_false, le_t, le_f, lt_t, lt_f, eq_f, ↓reduceIte, callK_eq, letB_eq, joinB_eq, Nat.add_assoc, hr1, hr2]
theorem tH_womenAt {ct : CT} {P : Nat → Nat → Option Nat} {h : AH} {S S' : US} {u : RU} {L s : Nat} {r : Nat → Nat} (H : RulH ct P h S' u) (hr : HRow S L r) (hm6 : u.2.1 ≤ 6) (hs : s < 2147483648) (hv : ∀ w, w < 6 → r (37 + w) < 2147483648) : s3_womenAt S P h L (J s) = some (J (womN r s u.2.1)) := by
  unfold s3_womenAt
  refine loop_up (fun i => (J (womN r s i), J i)) u.2.1 (fun i hi rc => ?_) (fun rc => ?_) FUEL (by unfold FUEL; omega)
  · unfold s3_womenAt_L4
    have hr1 := (hr.2.2 i (by omega)).1
    have hv1 := hv i (by omega)
    rw [tH_women H]
    simp (disch := omega) only [lit_0, lit_1, lit_2, lit_3, lit_4, lit_5, lit_6, lit_7, lit_8, lit_9, lit_10, lit_11, lit_12, lit_13, lit_14, lit_15, lit_20, lit_24, lit_25, lit_37, lit_40, lit_43, lit_48, lit_49, lit_50, lit_60, lit_96, lit_98, lit_99, lit_100, lit_999, lit_62, lit_74, lit_86, lit_92, lit_99999, lit_100000, lit_16, lit_32767, lit_2147483639, J_add, J_mul, J_sub, J_tn, J_le, J_lt, J_eq, Nat.not_lt_zero, false_or, or_false, le_t, le_f, lt_t, lt_f, eq_f, ↓reduceIte, callK_eq, letB_eq, joinB_eq, Nat.add_assoc, hr1, J_shl, J_or, Nat.or_zero, womN_s]
    by_cases h : r (37 + i) = s <;> simp [h]
  · unfold s3_womenAt_L4
    rw [tH_women H]
    simp (disch := omega) only [lit_0, lit_1, lit_2, lit_3, lit_4, lit_5, lit_6, lit_7, lit_8, lit_9, lit_10, lit_11, lit_12, lit_13, lit_14, lit_15, lit_20, lit_24, lit_25, lit_37, lit_40, lit_43, lit_48, lit_49, lit_50, lit_60, lit_96, lit_98, lit_99, lit_100, lit_999, lit_62, lit_74, lit_86, lit_92, lit_99999, lit_100000, lit_16, lit_32767, lit_2147483639, J_add, J_mul, J_sub, J_tn, J_le, J_lt, J_eq, Nat.not_lt_zero, false_or, or_false, le_t, le_f, lt_t, lt_f, eq_f, ↓reduceIte, callK_eq, letB_eq, joinB_eq, Nat.add_assoc]
theorem s2_before_u {S : US} {i k : Nat} {v p : Int32} (h : i ≠ 1) : s2_before (u2 S i k v) p = s2_before S p := by
  unfold s2_before; simp (disch := omega) only [u2_row']
theorem s2_after_u {S : US} {i k : Nat} {v p : Int32} (h : i ≠ 1) : s2_after (u2 S i k v) p = s2_after S p := by
  unfold s2_after; simp (disch := omega) only [u2_row']
theorem lc_ge {L i : Nat} : 2 < lc L i := by unfold lc; omega
theorem u2_lc {S : US} {k L i : Nat} {v : Int32} : u2 S 2 k v (lc L i) = S (lc L i) := u2_row' (Or.inr lc_ge)
theorem s3_beside_u {S : US} {L k : Nat} {v p : Int32} : s3_beside (u2 S 2 k v) L p = s3_beside S L p := by
  unfold s3_beside; simp (disch := omega) only [u2_row', s2_before_u, s2_after_u, u2_lc]
theorem s3_womenAt_u {S : US} {P : Nat → Nat → Option Nat} {h : AH} {L k : Nat} {v p : Int32} : s3_womenAt (u2 S 2 k v) P h L p = s3_womenAt S P h L p := by
  unfold s3_womenAt s3_womenAt_L4 s2_women; simp (disch := omega) only [u2_row', u2_lc]
theorem tH_asked_eq {ct : CT} {P : Nat → Nat → Option Nat} {h : AH} {S : US} {L s n m q : Nat} {r : Nat → Nat} (hr0 : S (lc L 0) 6 = J (r 0)) (hr1 : S (lc L 1) s = J (r (1 + s))) (hr2 : S (lc L 2) s = J (r (13 + s))) (hr3 : S (lc L 3) s = J (r (25 + s))) (hs : s < 12)
    (e1 : s3_beside S L (J s) = some (J (besN n r s))) (e2 : s3_womenAt S P h L (J s) = some (J (womN r s m))) (e3 : sN_bitCount (J (womN r s m)) = some (J (popN (womN r s m) 12))) :
    s3_asked S ct P h L (some q) (J s) = callK (sF_of FDEEP (askS S 2 n m r s) ct h q) (fun o => some (o, askS S 2 n m r s)) := by
  unfold s3_asked askS
  simp (disch := omega) only [lit_0, lit_1, lit_2, lit_3, lit_4, lit_5, lit_6, lit_7, lit_8, lit_9, lit_10, lit_11, lit_12, lit_13, lit_14, lit_15, lit_20, lit_24, lit_25, lit_37, lit_40, lit_43, lit_48, lit_49, lit_50, lit_60, lit_96, lit_98, lit_99, lit_100, lit_999, lit_62, lit_74, lit_86, lit_92, lit_99999, lit_100000, lit_16, lit_32767, lit_2147483639, J_add, J_mul, J_sub, J_tn, J_le, J_lt, J_eq, Nat.not_lt_zero, false_or, or_false, le_t, le_f, lt_t, lt_f, eq_f, ↓reduceIte, callK_eq, letB_eq, joinB_eq, Nat.add_assoc, u2_lc, hr0, hr1, hr2, hr3, s3_beside_u, s3_womenAt_u, e1, e2, e3, onR_eq]
theorem tH_asked {ct : CT} {P : Nat → Nat → Option Nat} {h : AH} {S : US} {u : RU} {F : FV} {L s q : Nat} {r : Nat → Nat} (hu : RulH ct P h S u) (ho : RuOk u) (hr : HRow S L r) (hR : ROk u.1 u.2.1 r) (hs : s < u.1) (hc : FDen ct h q F) :
    Ev (s3_asked S ct P h L (some q) (J s)) (fun o => o.1 = F (toldN u.1 u.2.1 r s) ∧ ∀ a, a ≠ 2 → o.2 a = S a) := by
  have h12 := ho.2.1
  have hw := womN_lt r s u.2.1
  have hw2 : 2 ^ u.2.1 ≤ 2 ^ 6 := Nat.pow_le_pow_right (by decide) ho.2.2.1
  have hr4 := hr.2.1 s (by omega)
  have e1 := tH_beside hr hu.1 (by have := ho.1; omega) hs h12
  have e2 := tH_womenAt (s := s) hu hr ho.2.2.1 (by omega) (fun w hw => by have := (hR.2.1 w hw).2; omega)
  have e3 := tN_bitCount (v := womN r s u.2.1) (by omega)
  rw [tH_asked_eq hr.1 hr4.1 hr4.2.1 hr4.2.2 (by omega) e1 e2 e3, hc h Sub.rf]
  exact ⟨_, rfl, congrArg F askS_told, fun a h1 => askS_row h1⟩
theorem tH_frays {ct : CT} {P : Nat → Nat → Option Nat} {h : AH} {S : US} {u : RU} {L s : Nat} {r : Nat → Nat} (hu : RulH ct P h S u) (ho : RuOk u) (hr : HRow S L r) (hR : ROk u.1 u.2.1 r) (hs : s < u.1) :
    Ev (s3_frays S ct P h L (J s)) (fun o => o.1 = J (freN u.1 u.2.1 u.2.2.2.2.1 r s) ∧ ∀ a, a ≠ 2 → o.2 a = S a) := by
  have h12 := ho.2.1
  have hv := hR.1 s (by omega)
  have e1 := tH_isOpen hr (show s < 12 by omega) (by omega)
  have hr4 := hr.2.1 s (by omega)
  have hr1 := hr4.1
  have hr3 := hr4.2.2
  unfold s3_frays freN
  rw [e1]
  cases hg : gapN r s with
  | true => simp (disch := omega) only [lit_0, lit_1, lit_2, lit_3, lit_4, lit_5, lit_6, lit_7, lit_8, lit_9, lit_10, lit_11, lit_12, lit_13, lit_14, lit_15, lit_20, lit_24, lit_25, lit_37, lit_40, lit_43, lit_48, lit_49, lit_50, lit_60, lit_96, lit_98, lit_99, lit_100, lit_999, lit_62, lit_74, lit_86, lit_92, lit_99999, lit_100000, lit_16, lit_32767, lit_2147483639, J_add, J_mul, J_sub, J_tn, J_le, J_lt, J_eq, Nat.not_lt_zero, false_or, or_false, le_t, le_f, lt_t, lt_f, eq_f, ↓reduceIte, callK_eq, letB_eq, joinB_eq, Nat.add_assoc, bI_t]; exact ⟨_, rfl, rfl, fun _ _ => rfl⟩
  | false =>
    have hf := hu.2.2.2.1
    unfold HForm at hf
    cases hF : u.2.2.2.2.1 with
    | none =>
      rw [hF] at hf
      simp (disch := omega) only [lit_0, lit_1, lit_2, lit_3, lit_4, lit_5, lit_6, lit_7, lit_8, lit_9, lit_10, lit_11, lit_12, lit_13, lit_14, lit_15, lit_20, lit_24, lit_25, lit_37, lit_40, lit_43, lit_48, lit_49, lit_50, lit_60, lit_96, lit_98, lit_99, lit_100, lit_999, lit_62, lit_74, lit_86, lit_92, lit_99999, lit_100000, lit_16, lit_32767, lit_2147483639, J_add, J_mul, J_sub, J_tn, J_le, J_lt, J_eq, Nat.not_lt_zero, false_or, or_false, le_t, le_f, lt_t, lt_f, eq_f, ↓reduceIte, callK_eq, letB_eq, joinB_eq, Nat.add_assoc, bI_f, hf, hr1, hr3, tH_within, caseR_n]
      exact ⟨_, rfl, rfl, fun _ _ => rfl⟩
    | some F =>
      rw [hF] at hf
      obtain ⟨q, hf, hc⟩ := hf
      simp (disch := omega) only [lit_0, lit_1, lit_2, lit_3, lit_4, lit_5, lit_6, lit_7, lit_8, lit_9, lit_10, lit_11, lit_12, lit_13, lit_14, lit_15, lit_20, lit_24, lit_25, lit_37, lit_40, lit_43, lit_48, lit_49, lit_50, lit_60, lit_96, lit_98, lit_99, lit_100, lit_999, lit_62, lit_74, lit_86, lit_92, lit_99999, lit_100000, lit_16, lit_32767, lit_2147483639, J_add, J_mul, J_sub, J_tn, J_le, J_lt, J_eq, Nat.not_lt_zero, false_or, or_false, le_t, le_f, lt_t, lt_f, eq_f, ↓reduceIte, callK_eq, letB_eq, joinB_eq, Nat.add_assoc, bI_f, hf, caseR_s]
      refine Ev.call (tH_asked hu ho hr hR hs hc) (fun o ho => ?_)
      rw [ho.1]
      simp (disch := omega) only [lit_0, lit_1, lit_2, lit_3, lit_4, lit_5, lit_6, lit_7, lit_8, lit_9, lit_10, lit_11, lit_12, lit_13, lit_14, lit_15, lit_20, lit_24, lit_25, lit_37, lit_40, lit_43, lit_48, lit_49, lit_50, lit_60, lit_96, lit_98, lit_99, lit_100, lit_999, lit_62, lit_74, lit_86, lit_92, lit_99999, lit_100000, lit_16, lit_32767, lit_2147483639, J_add, J_mul, J_sub, J_tn, J_le, J_lt, J_eq, Nat.not_lt_zero, false_or, or_false, le_t, le_f, lt_t, lt_f, eq_f, ↓reduceIte, callK_eq, letB_eq, joinB_eq, Nat.add_assoc, tH_within]
      exact ⟨_, rfl, rfl, ho.2⟩
theorem tH_pulls {ct : CT} {P : Nat → Nat → Option Nat} {h : AH} {S : US} {u : RU} {L s : Nat} {r : Nat → Nat} (hu : RulH ct P h S u) (ho : RuOk u) (hr : HRow S L r) (hR : ROk u.1 u.2.1 r) (hs : s < u.1) :
    Ev (s3_pulls S ct P h L (J s)) (fun o => o.1 = pulN u.1 u.2.1 u.2.2.2.2.2 r s ∧ ∀ a, a ≠ 2 → o.2 a = S a) := by
  have h12 := ho.2.1
  have hv := hR.1 s (by omega)
  have e1 := tH_isOpen hr (show s < 12 by omega) (by omega)
  have e2 := tH_beside hr hu.1 (by have := ho.1; omega) hs h12
  have hr1 := (hr.2.1 s (by omega)).1
  unfold s3_pulls pulN
  rw [e1]
  cases hg : gapN r s with
  | true => simp (disch := omega) only [lit_0, lit_1, lit_2, lit_3, lit_4, lit_5, lit_6, lit_7, lit_8, lit_9, lit_10, lit_11, lit_12, lit_13, lit_14, lit_15, lit_20, lit_24, lit_25, lit_37, lit_40, lit_43, lit_48, lit_49, lit_50, lit_60, lit_96, lit_98, lit_99, lit_100, lit_999, lit_62, lit_74, lit_86, lit_92, lit_99999, lit_100000, lit_16, lit_32767, lit_2147483639, J_add, J_mul, J_sub, J_tn, J_le, J_lt, J_eq, Nat.not_lt_zero, false_or, or_false, le_t, le_f, lt_t, lt_f, eq_f, ↓reduceIte, callK_eq, letB_eq, joinB_eq, Nat.add_assoc, bI_t]; exact ⟨_, rfl, rfl, fun _ _ => rfl⟩
  | false =>
    have hf := hu.2.2.2.2
    unfold HForm at hf
    cases hF : u.2.2.2.2.2 with
    | none =>
      rw [hF] at hf
      simp (disch := omega) only [lit_0, lit_1, lit_2, lit_3, lit_4, lit_5, lit_6, lit_7, lit_8, lit_9, lit_10, lit_11, lit_12, lit_13, lit_14, lit_15, lit_20, lit_24, lit_25, lit_37, lit_40, lit_43, lit_48, lit_49, lit_50, lit_60, lit_96, lit_98, lit_99, lit_100, lit_999, lit_62, lit_74, lit_86, lit_92, lit_99999, lit_100000, lit_16, lit_32767, lit_2147483639, J_add, J_mul, J_sub, J_tn, J_le, J_lt, J_eq, Nat.not_lt_zero, false_or, or_false, le_t, le_f, lt_t, lt_f, eq_f, ↓reduceIte, callK_eq, letB_eq, joinB_eq, Nat.add_assoc, bI_f, hf, e2, hr1, tH_withI, caseR_n]
      exact ⟨_, rfl, rfl, fun _ _ => rfl⟩
    | some F =>
      rw [hF] at hf
      obtain ⟨q, hf, hc⟩ := hf
      simp (disch := omega) only [lit_0, lit_1, lit_2, lit_3, lit_4, lit_5, lit_6, lit_7, lit_8, lit_9, lit_10, lit_11, lit_12, lit_13, lit_14, lit_15, lit_20, lit_24, lit_25, lit_37, lit_40, lit_43, lit_48, lit_49, lit_50, lit_60, lit_96, lit_98, lit_99, lit_100, lit_999, lit_62, lit_74, lit_86, lit_92, lit_99999, lit_100000, lit_16, lit_32767, lit_2147483639, J_add, J_mul, J_sub, J_tn, J_le, J_lt, J_eq, Nat.not_lt_zero, false_or, or_false, le_t, le_f, lt_t, lt_f, eq_f, ↓reduceIte, callK_eq, letB_eq, joinB_eq, Nat.add_assoc, bI_f, hf, caseR_s]
      refine Ev.call (tH_asked hu ho hr hR hs hc) (fun o ho => ?_)
      rw [ho.1]
      simp (disch := omega) only [lit_0, lit_1, lit_2, lit_3, lit_4, lit_5, lit_6, lit_7, lit_8, lit_9, lit_10, lit_11, lit_12, lit_13, lit_14, lit_15, lit_20, lit_24, lit_25, lit_37, lit_40, lit_43, lit_48, lit_49, lit_50, lit_60, lit_96, lit_98, lit_99, lit_100, lit_999, lit_62, lit_74, lit_86, lit_92, lit_99999, lit_100000, lit_16, lit_32767, lit_2147483639, J_add, J_mul, J_sub, J_tn, J_le, J_lt, J_eq, Nat.not_lt_zero, false_or, or_false, le_t, le_f, lt_t, lt_f, eq_f, ↓reduceIte, callK_eq, letB_eq, joinB_eq, Nat.add_assoc, tH_withI]
      exact ⟨_, rfl, rfl, ho.2⟩
