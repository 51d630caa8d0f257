set_option maxRecDepth 100000
/-! THE PLAIN LAW, 16: methods that only look, 9 -/
def mskN (z : Int32) : Nat := z.toBitVec.toNat &&& 32767
theorem msk_lt (z : Int32) : mskN z < 32768 := by
  have : mskN z ≤ 32767 := Nat.and_le_right
  omega
theorem msk_J (z : Int32) : z &&& J 32767 = J (mskN z) := by
  apply Int32.toBitVec_inj.mp
  rw [Int32.toBitVec_and, J_bv, J_bv]
  apply BitVec.eq_of_toNat_eq
  rw [BitVec.toNat_and, BitVec.toNat_ofNat, BitVec.toNat_ofNat]
  have h1 := msk_lt z
  rw [Nat.mod_eq_of_lt (show 32767 < 2 ^ 32 by decide), Nat.mod_eq_of_lt (show mskN z < 2 ^ 32 by omega)]
  rfl
def nxN (z : Int32) : Int32 := z * 1103515245 + 12345
def dvN (z : Int32) (n : Nat) : Nat := mskN (nxN z >>> (J 16 &&& 31)) % n
theorem tH_draw {S : US} {n : Nat} (h0 : 0 < n) (hn : n < 2147483648) : s1_draw S (J n) = some (J (dvN (S 0 14) n), u2 S 0 14 (nxN (S 0 14))) := by
  have h1 := msk_lt (nxN (S 0 14) >>> (J 16 &&& 31))
  unfold s1_draw dvN
  rw [show S 0 14 * (1103515245 : Int32) + (12345 : Int32) = nxN (S 0 14) from rfl]
  simp (disch := omega) only [letB_eq, u2_at, lit_0, J_eq, eq_f, ↓reduceIte, lit_16, lit_32767, msk_J, J_mod]
theorem tM_draw {S : US} {n : Nat} (h0 : 0 < n) (hn : n < 2147483648) : sM_draw S (J n) = some (J (dvN (S 0 55) n), u2 S 0 55 (nxN (S 0 55))) := by
  have h1 := msk_lt (nxN (S 0 55) >>> (J 16 &&& 31))
  unfold sM_draw dvN
  rw [show S 0 55 * (1103515245 : Int32) + (12345 : Int32) = nxN (S 0 55) from rfl]
  simp (disch := omega) only [letB_eq, u2_at, lit_0, J_eq, eq_f, ↓reduceIte, lit_16, lit_32767, msk_J, J_mod]
/-- what befalls: the seed and the row -/
def fallG (nx : Int32 → Int32) (dv : Int32 → Nat → Nat) (u : RU) (z : Int32) (r : Nat → Nat) : Int32 × (Nat → Nat) :=
  if dv z 6 = 0 then (nx (nx (nx z)), if gapN r (dv (nx z) u.1) = true then r else loosN u.1 r (dv (nx z) u.1) (dv (nx (nx z)) 20 + 1))
  else if dv z 6 = 1 then (nx (nx z), straN r (dv (nx z) u.1) 9)
  else if dv z 6 = 2 ∧ 0 < u.2.1 then (nx (nx z), upN r (43 + dv (nx z) u.2.1) (min 99 (r (43 + dv (nx z) u.2.1) + 5)))
  else (nx z, r)
theorem ROk.fallG {nx : Int32 → Int32} {dv : Int32 → Nat → Nat} {u : RU} {z : Int32} {r : Nat → Nat} (hdv : ∀ z n, 0 < n → dv z n < n) (hu : RuOk u) (h : ROk u.1 u.2.1 r) : ROk u.1 u.2.1 (fallG nx dv u z r).2 := by
  have h3 := hu.1
  have h12 := hu.2.1
  have h6 := hu.2.2.1
  have hk := hdv (nx z) u.1 (by omega)
  unfold CHorizonSeamLaw_law_r2476_66148a.fallG
  split
  · show ROk u.1 u.2.1 (if _ then _ else _)
    split
    · exact h
    · exact h.loos (by omega) h12 hk
  · split
    · exact h.stra (by omega)
    · split
      · rename_i c
        have hw := hdv (nx z) u.2.1 c.2
        exact h.upT h6 (by omega) (by omega)
      · exact h
def dayOf (r : Nat → Nat) : Nat := r 0
theorem fallG_0 {nx : Int32 → Int32} {dv : Int32 → Nat → Nat} {u : RU} {z : Int32} {r : Nat → Nat} : dayOf (fallG nx dv u z r).2 = r 0 := by
  unfold dayOf fallG
  split
  · show (if _ then _ else _ : Nat → Nat) 0 = _
    split
    · rfl
    · exact loos_0
  · split
    · exact upN_off (by omega)
    · split
      · exact upN_off (by omega)
      · rfl
abbrev fallN (u : RU) (x : Int32 × (Nat → Nat)) : Int32 × (Nat → Nat) := fallG nxN dvN u x.1 x.2
def yearG (fall : Int32 × (Nat → Nat) → Int32 × (Nat → Nat)) (u : RU) (z : Int32) (r : Nat → Nat) : Nat → Int32 × (Nat → Nat)
  | 0 => (z, r)
  | k + 1 => ((fall (yearG fall u z r k)).1, passN u (fall (yearG fall u z r k)).2)
theorem yearG_s {fall : Int32 × (Nat → Nat) → Int32 × (Nat → Nat)} {u : RU} {z : Int32} {r : Nat → Nat} {k : Nat} : yearG fall u z r (k + 1) = ((fall (yearG fall u z r k)).1, passN u (fall (yearG fall u z r k)).2) := rfl
theorem yearG_0 {fall : Int32 × (Nat → Nat) → Int32 × (Nat → Nat)} {u : RU} {z : Int32} {r : Nat → Nat} {k : Nat} (hf : ∀ x, dayOf (fall x).2 = x.2 0) : (yearG fall u z r k).2 0 = r 0 + k := by
  induction k with
  | zero => rfl
  | succ k ih => rw [yearG_s]; show passN u _ 0 = _; rw [pass_0, show (fall (yearG fall u z r k)).2 0 = (yearG fall u z r k).2 0 from hf _, ih]; omega
theorem ROk.yearG {fall : Int32 × (Nat → Nat) → Int32 × (Nat → Nat)} {u : RU} {z : Int32} {r : Nat → Nat} {k : Nat} (hf : ∀ x, ROk u.1 u.2.1 x.2 → ROk u.1 u.2.1 (fall x).2) (hu : RuOk u) (h : ROk u.1 u.2.1 r) : ROk u.1 u.2.1 (yearG fall u z r k).2 := by
  induction k with
  | zero => exact h
  | succ k ih => exact (hf _ ih).pass hu
/-- HorizonSeam's world while years go by -/
def YrH (S : US) (z : Int32) (r : Nat → Nat) (x : US) : Prop := HRow x 1 r ∧ KeepH S x ∧ x 0 14 = z
def YrM (S : US) (z : Int32) (r : Nat → Nat) (x : US) : Prop := MRow x 49 r ∧ KeepM S x ∧ x 0 0 = J 0 ∧ x 0 55 = z
theorem YrH.up {S x : US} {z z' : Int32} {r : Nat → Nat} (h : YrH S z r x) : YrH S z' r (u2 x 0 14 z') :=
  ⟨h.1.of (fun i hi => u2_row' (by unfold lc; omega)), ⟨fun a ha => by rw [u2_row' (by omega)]; exact h.2.1.1 a ha, fun k hk => by rw [u2_off (by omega)]; exact h.2.1.2 k hk⟩, u2_at⟩
theorem YrM.up {S x : US} {z z' : Int32} {r : Nat → Nat} (h : YrM S z r x) : YrM S z' r (u2 x 0 55 z') :=
  ⟨h.1.of (u2_row' (by omega)), h.2.1.u (Or.inr rfl), by rw [u2_off (by omega)]; exact h.2.2.1, u2_at⟩
theorem YrH.to {S x y : US} {z : Int32} {r r' : Nat → Nat} (h : YrH S z r x) (h' : HR x 1 r' y) : YrH S z r' y :=
  ⟨h'.1, h.2.1.tr (KeepH.of (by omega) h'.2), by rw [h'.2 0 (by decide) (Or.inl (by unfold lc; omega))]; exact h.2.2⟩
theorem YrM.to {S x y : US} {z : Int32} {r r' : Nat → Nat} (h : YrM S z r x) (h' : MR x 49 r' y) : YrM S z r' y :=
  ⟨h'.1, h.2.1.tr (KeepM.of h'.2), by rw [h'.2.1 0 (by decide) (by decide) (by decide) (by decide)]; exact h.2.2.1, by rw [h'.2.1 0 (by decide) (by decide) (by decide) (by decide)]; exact h.2.2.2⟩
theorem dv_lt (z : Int32) {n : Nat} (h : 0 < n) : dvN z n < n := Nat.mod_lt _ h
theorem tH_befalls {ct : CT} {P : Nat → Nat → Option Nat} {h : AH} {S x : US} {u : RU} {z : Int32} {r : Nat → Nat} (hu : RulH ct P h S u) (ho : RuOk u) (H : YrH S z r x) (hR : ROk u.1 u.2.1 r) : Ev (s1_befalls x P h) (YrH S (fallN u (z, r)).1 (fallN u (z, r)).2) := by
  have h3 := ho.1
  have h12 := ho.2.1
  have h6 := ho.2.2.1
  have hn : ∀ y, YrH S (nxN z) r y → y 1 2 = J u.1 := fun y hy => by rw [hy.2.1.1 1 (Or.inl rfl)]; exact hu.1
  have hwm : ∀ S', s2_women S' P h = some (J u.2.1) := fun S' => tH_women hu
  have d0 := dv_lt z (show 0 < 6 by decide)
  have e0 := tH_draw (S := x) (n := 6) (by decide) (by decide)
  rw [H.2.2] at e0
  have H1 : YrH S (nxN z) r (u2 x 0 14 (nxN z)) := H.up
  unfold s1_befalls
  simp (disch := omega) only [lit_6, e0, callK_eq, joinB_eq, lit_0]
  generalize u2 x 0 14 (nxN z) = y at H1 ⊢
  have hy := hn y H1
  have dk := dv_lt (nxN z) (show 0 < u.1 by omega)
  show Ev _ (YrH S (fallG nxN dvN u z r).1 (fallG nxN dvN u z r).2)
  unfold fallG s1_befalls_J52 s1_befalls_J77
  rcases (show dvN z 6 = 0 ∨ dvN z 6 = 1 ∨ dvN z 6 = 2 ∨ (3 ≤ dvN z 6 ∧ dvN z 6 < 6) by omega) with c | c | c | c
  · have e1 := tH_draw (S := y) (n := u.1) (by omega) (by omega)
    rw [H1.2.2] at e1
    have H2 : YrH S (nxN (nxN z)) r (u2 y 0 14 (nxN (nxN z))) := H1.up
    have e2 := tH_draw (S := u2 y 0 14 (nxN (nxN z))) (n := 20) (by decide) (by decide)
    rw [u2_at] at e2
    have H3 : YrH S (nxN (nxN (nxN z))) r (u2 (u2 y 0 14 (nxN (nxN z))) 0 14 (nxN (nxN (nxN z)))) := H2.up
    have dm := dv_lt (nxN (nxN z)) (show 0 < 20 by decide)
    have hv := hR.1 (dvN (nxN z) u.1) (by omega)
    simp (disch := omega) only [lit_0, lit_1, lit_2, lit_3, lit_4, lit_5, lit_6, lit_7, lit_8, lit_9, lit_10, lit_11, lit_12, lit_13, lit_14, lit_15, lit_20, lit_24, lit_25, lit_37, lit_40, lit_43, lit_48, lit_49, lit_50, lit_60, lit_96, lit_98, lit_99, lit_100, lit_999, lit_62, lit_74, lit_86, lit_92, lit_99999, lit_100000, lit_16, lit_32767, lit_2147483639, J_add, J_mul, J_sub, J_tn, J_le, J_lt, J_eq, Nat.not_lt_zero, false_or, or_false, le_t, le_f, lt_t, lt_f, eq_f, ↓reduceIte, callK_eq, letB_eq, joinB_eq, Nat.add_assoc, c, hy, e1, e2, joinB_eq]
    generalize u2 (u2 y 0 14 (nxN (nxN z))) 0 14 (nxN (nxN (nxN z))) = y3 at H3 ⊢
    have ho3 := tH_isOpen H3.1 (show dvN (nxN z) u.1 < 12 by omega) (by omega)
    rw [ho3]
    cases hg : gapN r (dvN (nxN z) u.1) with
    | true =>
      simp (disch := omega) only [lit_0, lit_1, lit_2, lit_3, lit_4, lit_5, lit_6, lit_7, lit_8, lit_9, lit_10, lit_11, lit_12, lit_13, lit_14, lit_15, lit_20, lit_24, lit_25, lit_37, lit_40, lit_43, lit_48, lit_49, lit_50, lit_60, lit_96, lit_98, lit_99, lit_100, lit_999, lit_62, lit_74, lit_86, lit_92, lit_99999, lit_100000, lit_16, lit_32767, lit_2147483639, J_add, J_mul, J_sub, J_tn, J_le, J_lt, J_eq, Nat.not_lt_zero, false_or, or_false, le_t, le_f, lt_t, lt_f, eq_f, ↓reduceIte, callK_eq, letB_eq, joinB_eq, Nat.add_assoc, bI_t]
      exact ⟨_, rfl, H3⟩
    | false =>
      simp (disch := omega) only [lit_0, lit_1, lit_2, lit_3, lit_4, lit_5, lit_6, lit_7, lit_8, lit_9, lit_10, lit_11, lit_12, lit_13, lit_14, lit_15, lit_20, lit_24, lit_25, lit_37, lit_40, lit_43, lit_48, lit_49, lit_50, lit_60, lit_96, lit_98, lit_99, lit_100, lit_999, lit_62, lit_74, lit_86, lit_92, lit_99999, lit_100000, lit_16, lit_32767, lit_2147483639, J_add, J_mul, J_sub, J_tn, J_le, J_lt, J_eq, Nat.not_lt_zero, false_or, or_false, le_t, le_f, lt_t, lt_f, eq_f, ↓reduceIte, callK_eq, letB_eq, joinB_eq, Nat.add_assoc, bI_f, Bool.false_eq_true]
      refine Ev.call (tH_loosen (S0 := y3) (by rw [H3.2.1.1 1 (Or.inl rfl)]; exact hu.1) h3 h12 ⟨H3.1, HFr.rf⟩ hR dk (by omega)) (fun y4 h4 => ⟨_, rfl, H3.to h4⟩)
  · have e1 := tH_draw (S := y) (n := u.1) (by omega) (by omega)
    rw [H1.2.2] at e1
    have H2 : YrH S (nxN (nxN z)) r (u2 y 0 14 (nxN (nxN z))) := H1.up
    have hv := hR.1 (dvN (nxN z) u.1) (by omega)
    simp (disch := omega) only [lit_0, lit_1, lit_2, lit_3, lit_4, lit_5, lit_6, lit_7, lit_8, lit_9, lit_10, lit_11, lit_12, lit_13, lit_14, lit_15, lit_20, lit_24, lit_25, lit_37, lit_40, lit_43, lit_48, lit_49, lit_50, lit_60, lit_96, lit_98, lit_99, lit_100, lit_999, lit_62, lit_74, lit_86, lit_92, lit_99999, lit_100000, lit_16, lit_32767, lit_2147483639, J_add, J_mul, J_sub, J_tn, J_le, J_lt, J_eq, Nat.not_lt_zero, false_or, or_false, le_t, le_f, lt_t, lt_f, eq_f, ↓reduceIte, callK_eq, letB_eq, joinB_eq, Nat.add_assoc, c, hy, e1, joinB_eq]
    refine Ev.call (tH_pull (S0 := u2 y 0 14 (nxN (nxN z))) ⟨H2.1, HFr.rf⟩ (by omega)) (fun y4 h4 => ⟨_, rfl, ?_⟩)
    rw [J_add, clN_J (by omega) (by omega)] at h4
    exact H2.to h4
  · by_cases hm : 0 < u.2.1
    · have e1 := tH_draw (S := y) (n := u.2.1) hm (by omega)
      rw [H1.2.2] at e1
      have H2 : YrH S (nxN (nxN z)) r (u2 y 0 14 (nxN (nxN z))) := H1.up
      have dw := dv_lt (nxN z) hm
      have hv := (hR.2.1 (dvN (nxN z) u.2.1) (by omega)).1
      have e3 := (H2.1.2.2 (dvN (nxN z) u.2.1) (by omega)).2
      have e4 : (if r (43 + dvN (nxN z) u.2.1) + 5 < 99 then J (r (43 + dvN (nxN z) u.2.1) + 5) else J 99) = J (min 99 (r (43 + dvN (nxN z) u.2.1) + 5)) := by
        split
        · rw [Nat.min_eq_right (by omega)]
        · rw [Nat.min_eq_left (by omega)]
      have h5 := H2.to (HR.up5 (S0 := u2 y 0 14 (nxN (nxN z))) (S := u2 y 0 14 (nxN (nxN z))) (L := 1) ⟨H2.1, HFr.rf⟩ (s := dvN (nxN z) u.2.1) (v := min 99 (r (43 + dvN (nxN z) u.2.1) + 5)) (by omega))
      simp (disch := omega) only [lit_0, lit_1, lit_2, lit_3, lit_4, lit_5, lit_6, lit_7, lit_8, lit_9, lit_10, lit_11, lit_12, lit_13, lit_14, lit_15, lit_20, lit_24, lit_25, lit_37, lit_40, lit_43, lit_48, lit_49, lit_50, lit_60, lit_96, lit_98, lit_99, lit_100, lit_999, lit_62, lit_74, lit_86, lit_92, lit_99999, lit_100000, lit_16, lit_32767, lit_2147483639, J_add, J_mul, J_sub, J_tn, J_le, J_lt, J_eq, Nat.not_lt_zero, false_or, or_false, le_t, le_f, lt_t, lt_f, eq_f, ↓reduceIte, callK_eq, letB_eq, joinB_eq, Nat.add_assoc, c, hwm, e1, e3, e4, hm, and_self]
      exact ⟨_, rfl, h5⟩
    · have hm0 : u.2.1 = 0 := by omega
      simp (disch := omega) only [lit_0, lit_1, lit_2, lit_3, lit_4, lit_5, lit_6, lit_7, lit_8, lit_9, lit_10, lit_11, lit_12, lit_13, lit_14, lit_15, lit_20, lit_24, lit_25, lit_37, lit_40, lit_43, lit_48, lit_49, lit_50, lit_60, lit_96, lit_98, lit_99, lit_100, lit_999, lit_62, lit_74, lit_86, lit_92, lit_99999, lit_100000, lit_16, lit_32767, lit_2147483639, J_add, J_mul, J_sub, J_tn, J_le, J_lt, J_eq, Nat.not_lt_zero, false_or, or_false, le_t, le_f, lt_t, lt_f, eq_f, ↓reduceIte, callK_eq, letB_eq, joinB_eq, Nat.add_assoc, c, hwm, hm0, and_false]
      exact ⟨_, rfl, H1⟩
  · simp (disch := omega) only [lit_0, lit_1, lit_2, lit_3, lit_4, lit_5, lit_6, lit_7, lit_8, lit_9, lit_10, lit_11, lit_12, lit_13, lit_14, lit_15, lit_20, lit_24, lit_25, lit_37, lit_40, lit_43, lit_48, lit_49, lit_50, lit_60, lit_96, lit_98, lit_99, lit_100, lit_999, lit_62, lit_74, lit_86, lit_92, lit_99999, lit_100000, lit_16, lit_32767, lit_2147483639, J_add, J_mul, J_sub, J_tn, J_le, J_lt, J_eq, Nat.not_lt_zero, false_or, or_false, le_t, le_f, lt_t, lt_f, eq_f, ↓reduceIte, callK_eq, letB_eq, joinB_eq, Nat.add_assoc, and_false, false_and]
    exact ⟨_, rfl, H1⟩
theorem tM_happens {S x : US} {u : RU} {z : Int32} {r : Nat → Nat} (hu : RulM S u) (ho : RuOk u) (H : YrM S z r x) (hR : ROk u.1 u.2.1 r) : Ev (sM_happens x) (YrM S (fallN u (z, r)).1 (fallN u (z, r)).2) := by
  have h3 := ho.1
  have h12 := ho.2.1
  have h6 := ho.2.2.1
  have d0 := dv_lt z (show 0 < 6 by decide)
  have e0 := tM_draw (S := x) (n := 6) (by decide) (by decide)
  rw [H.2.2.2] at e0
  have H1 : YrM S (nxN z) r (u2 x 0 55 (nxN z)) := H.up
  unfold sM_happens
  simp (disch := omega) only [lit_6, e0, callK_eq, joinB_eq, lit_0]
  generalize u2 x 0 55 (nxN z) = y at H1 ⊢
  have hu1 := H1.2.1.rul hu
  have hy := hu1.1
  have hw := hu1.2.1
  have dk := dv_lt (nxN z) (show 0 < u.1 by omega)
  show Ev _ (YrM S (fallG nxN dvN u z r).1 (fallG nxN dvN u z r).2)
  unfold fallG sM_happens_J47 sM_happens_J68
  rcases (show dvN z 6 = 0 ∨ dvN z 6 = 1 ∨ dvN z 6 = 2 ∨ (3 ≤ dvN z 6 ∧ dvN z 6 < 6) by omega) with c | c | c | c
  · have e1 := tM_draw (S := y) (n := u.1) (by omega) (by omega)
    rw [H1.2.2.2] at e1
    have H2 : YrM S (nxN (nxN z)) r (u2 y 0 55 (nxN (nxN z))) := H1.up
    have e2 := tM_draw (S := u2 y 0 55 (nxN (nxN z))) (n := 20) (by decide) (by decide)
    rw [u2_at] at e2
    have H3 : YrM S (nxN (nxN (nxN z))) r (u2 (u2 y 0 55 (nxN (nxN z))) 0 55 (nxN (nxN (nxN z)))) := H2.up
    have dm := dv_lt (nxN (nxN z)) (show 0 < 20 by decide)
    have hv := hR.1 (dvN (nxN z) u.1) (by omega)
    simp (disch := omega) only [lit_0, lit_1, lit_2, lit_3, lit_4, lit_5, lit_6, lit_7, lit_8, lit_9, lit_10, lit_11, lit_12, lit_13, lit_14, lit_15, lit_20, lit_24, lit_25, lit_37, lit_40, lit_43, lit_48, lit_49, lit_50, lit_60, lit_96, lit_98, lit_99, lit_100, lit_999, lit_62, lit_74, lit_86, lit_92, lit_99999, lit_100000, lit_16, lit_32767, lit_2147483639, J_add, J_mul, J_sub, J_tn, J_le, J_lt, J_eq, Nat.not_lt_zero, false_or, or_false, le_t, le_f, lt_t, lt_f, eq_f, ↓reduceIte, callK_eq, letB_eq, joinB_eq, Nat.add_assoc, c, hy, e1, e2, joinB_eq]
    generalize u2 (u2 y 0 55 (nxN (nxN z))) 0 55 (nxN (nxN (nxN z))) = y3 at H3 ⊢
    have ho3 := tM_isGap (b := 49) H3.1 (by decide) (show dvN (nxN z) u.1 < 12 by omega) (by omega)
    rw [ho3]
    cases hg : gapN r (dvN (nxN z) u.1) with
    | true =>
      simp (disch := omega) only [lit_0, lit_1, lit_2, lit_3, lit_4, lit_5, lit_6, lit_7, lit_8, lit_9, lit_10, lit_11, lit_12, lit_13, lit_14, lit_15, lit_20, lit_24, lit_25, lit_37, lit_40, lit_43, lit_48, lit_49, lit_50, lit_60, lit_96, lit_98, lit_99, lit_100, lit_999, lit_62, lit_74, lit_86, lit_92, lit_99999, lit_100000, lit_16, lit_32767, lit_2147483639, J_add, J_mul, J_sub, J_tn, J_le, J_lt, J_eq, Nat.not_lt_zero, false_or, or_false, le_t, le_f, lt_t, lt_f, eq_f, ↓reduceIte, callK_eq, letB_eq, joinB_eq, Nat.add_assoc, bI_t]
      exact ⟨_, rfl, H3⟩
    | false =>
      simp (disch := omega) only [lit_0, lit_1, lit_2, lit_3, lit_4, lit_5, lit_6, lit_7, lit_8, lit_9, lit_10, lit_11, lit_12, lit_13, lit_14, lit_15, lit_20, lit_24, lit_25, lit_37, lit_40, lit_43, lit_48, lit_49, lit_50, lit_60, lit_96, lit_98, lit_99, lit_100, lit_999, lit_62, lit_74, lit_86, lit_92, lit_99999, lit_100000, lit_16, lit_32767, lit_2147483639, J_add, J_mul, J_sub, J_tn, J_le, J_lt, J_eq, Nat.not_lt_zero, false_or, or_false, le_t, le_f, lt_t, lt_f, eq_f, ↓reduceIte, callK_eq, letB_eq, joinB_eq, Nat.add_assoc, bI_f, Bool.false_eq_true]
      refine Ev.call (tM_loosens (S0 := y3) (b := 49) (H3.2.1.rul hu).1 h3 h12 ⟨H3.1, MFr.rf⟩ hR (by decide) dk (by omega)) (fun y4 h4 => ⟨_, rfl, H3.to h4⟩)
  · have e1 := tM_draw (S := y) (n := u.1) (by omega) (by omega)
    rw [H1.2.2.2] at e1
    have H2 : YrM S (nxN (nxN z)) r (u2 y 0 55 (nxN (nxN z))) := H1.up
    have hv := hR.1 (dvN (nxN z) u.1) (by omega)
    simp (disch := omega) only [lit_0, lit_1, lit_2, lit_3, lit_4, lit_5, lit_6, lit_7, lit_8, lit_9, lit_10, lit_11, lit_12, lit_13, lit_14, lit_15, lit_20, lit_24, lit_25, lit_37, lit_40, lit_43, lit_48, lit_49, lit_50, lit_60, lit_96, lit_98, lit_99, lit_100, lit_999, lit_62, lit_74, lit_86, lit_92, lit_99999, lit_100000, lit_16, lit_32767, lit_2147483639, J_add, J_mul, J_sub, J_tn, J_le, J_lt, J_eq, Nat.not_lt_zero, false_or, or_false, le_t, le_f, lt_t, lt_f, eq_f, ↓reduceIte, callK_eq, letB_eq, joinB_eq, Nat.add_assoc, c, hy, e1, joinB_eq]
    refine Ev.call (tM_strains (S0 := u2 y 0 55 (nxN (nxN z))) (b := 49) ⟨H2.1, MFr.rf⟩ (by decide) (by omega) (by omega) (by omega)) (fun y4 h4 => ⟨_, rfl, H2.to h4⟩)
  · by_cases hm : 0 < u.2.1
    · have e1 := tM_draw (S := y) (n := u.2.1) hm (by omega)
      rw [H1.2.2.2] at e1
      have H2 : YrM S (nxN (nxN z)) r (u2 y 0 55 (nxN (nxN z))) := H1.up
      have dw := dv_lt (nxN z) hm
      have hv := (hR.2.1 (dvN (nxN z) u.2.1) (by omega)).1
      have e3 : (u2 y 0 55 (nxN (nxN z))) 14 (92 + dvN (nxN z) u.2.1) = _ := mrow_at H2.1 (k := 43 + dvN (nxN z) u.2.1) (by omega) (by omega)
      have h5 := H2.to (MR.up (S0 := u2 y 0 55 (nxN (nxN z))) (S := u2 y 0 55 (nxN (nxN z))) (b := 49) ⟨H2.1, MFr.rf⟩ (k := 43 + dvN (nxN z) u.2.1) (v := min 99 (r (43 + dvN (nxN z) u.2.1) + 5)) (by omega))
      rw [show 49 + (43 + dvN (nxN z) u.2.1) = 92 + dvN (nxN z) u.2.1 by omega] at h5
      simp (disch := omega) only [lit_0, lit_1, lit_2, lit_3, lit_4, lit_5, lit_6, lit_7, lit_8, lit_9, lit_10, lit_11, lit_12, lit_13, lit_14, lit_15, lit_20, lit_24, lit_25, lit_37, lit_40, lit_43, lit_48, lit_49, lit_50, lit_60, lit_96, lit_98, lit_99, lit_100, lit_999, lit_62, lit_74, lit_86, lit_92, lit_99999, lit_100000, lit_16, lit_32767, lit_2147483639, J_add, J_mul, J_sub, J_tn, J_le, J_lt, J_eq, Nat.not_lt_zero, false_or, or_false, le_t, le_f, lt_t, lt_f, eq_f, ↓reduceIte, callK_eq, letB_eq, joinB_eq, Nat.add_assoc, c, hw, e1, e3, tM_lesser, hm, and_self]
      exact ⟨_, rfl, h5⟩
    · have hm0 : u.2.1 = 0 := by omega
      simp (disch := omega) only [lit_0, lit_1, lit_2, lit_3, lit_4, lit_5, lit_6, lit_7, lit_8, lit_9, lit_10, lit_11, lit_12, lit_13, lit_14, lit_15, lit_20, lit_24, lit_25, lit_37, lit_40, lit_43, lit_48, lit_49, lit_50, lit_60, lit_96, lit_98, lit_99, lit_100, lit_999, lit_62, lit_74, lit_86, lit_92, lit_99999, lit_100000, lit_16, lit_32767, lit_2147483639, J_add, J_mul, J_sub, J_tn, J_le, J_lt, J_eq, Nat.not_lt_zero, false_or, or_false, le_t, le_f, lt_t, lt_f, eq_f, ↓reduceIte, callK_eq, letB_eq, joinB_eq, Nat.add_assoc, c, hw, hm0, and_false]
      exact ⟨_, rfl, H1⟩
  · simp (disch := omega) only [lit_0, lit_1, lit_2, lit_3, lit_4, lit_5, lit_6, lit_7, lit_8, lit_9, lit_10, lit_11, lit_12, lit_13, lit_14, lit_15, lit_20, lit_24, lit_25, lit_37, lit_40, lit_43, lit_48, lit_49, lit_50, lit_60, lit_96, lit_98, lit_99, lit_100, lit_999, lit_62, lit_74, lit_86, lit_92, lit_99999, lit_100000, lit_16, lit_32767, lit_2147483639, J_add, J_mul, J_sub, J_tn, J_le, J_lt, J_eq, Nat.not_lt_zero, false_or, or_false, le_t, le_f, lt_t, lt_f, eq_f, ↓reduceIte, callK_eq, letB_eq, joinB_eq, Nat.add_assoc, and_false, false_and]
    exact ⟨_, rfl, H1⟩
theorem years_core {fall : Int32 × (Nat → Nat) → Int32 × (Nat → Nat)} {ct : CT} {P : Nat → Nat → Option Nat} {h : AH} {S S2 : US} {u : RU} {r : Nat → Nat} (c : Core ct P h S S2 u r) (hf0 : ∀ x, dayOf (fall x).2 = x.2 0) (hfR : ∀ x, ROk u.1 u.2.1 x.2 → ROk u.1 u.2.1 (fall x).2) (hfH : ∀ z r x, YrH S z r x → ROk u.1 u.2.1 r → Ev (s1_befalls x P h) (YrH S (fall (z, r)).1 (fall (z, r)).2)) (hfM : ∀ z r x, YrM S2 z r x → ROk u.1 u.2.1 r → Ev (sM_happens x) (YrM S2 (fall (z, r)).1 (fall (z, r)).2)) (p1 p2 p3 : Int32) : AgW [(1, 1), (2, 2)] S S2 (t1_years S ct P h p1 p2 p3) (s1_years S ct P h p1 p2 p3) (sM_years S2 p1 p2 p3) := by
  have cz := c.z
  have ho := c.1
  have ho12 := c.1.2.1
  have ho6 := c.1.2.2.1
  have hd9 := c.2.2.1
  have hR := c.2.1
  have hM := cz.2.2.2.2.2.1
  unfold t1_years s1_years sM_years
  refine Ag_z (Ag_what 2 (by decide) (by decide) (fun x hx e => ?_))
  subst e
  refine Ag_dayE 0 2 (by decide) (by decide) (Or.inr rfl) (fun d _ hd e => ?_)
  subst e
  have hRy : ∀ k, ROk u.1 u.2.1 (yearG fall u p1 r k).2 := fun k => hR.yearG hfR ho
  refine Ag_ok (if x = 0 then J (popN (openN (yearG fall u p1 r d).2 u.1) 12) else if x = 1 then J (sumN (yearG fall u p1 r d).2 13 u.1) else J (sumN (yearG fall u p1 r d).2 43 u.2.1)) ?_ ?_
  · have k0 : KeepH S (u2 S 0 14 p1) := ⟨fun a ha => u2_row' (by omega), fun k hk => u2_off (by omega)⟩
    rw [letB_eq]
    refine Ev.call (tH_be (S0 := u2 S 0 14 p1) (S := u2 S 0 14 p1) (L := 1) HFr.rf (k0.row c.2.2.2.2.1) (by decide)) (fun S1 h1 => ?_)
    have hI : YrH S p1 r S1 := ⟨h1.1.1, k0.tr (KeepH.of (by omega) h1.1.2), by rw [h1.1.2 0 (by decide) (Or.inl (by unfold lc; omega))]; exact u2_at⟩
    refine Ev.loop2 (i0 := 0) (fun k x => YrH S (yearG fall u p1 r k).1 (yearG fall u p1 r k).2 x) d hI (by omega) ?_ ?_ (by unfold FUEL; omega)
    · rintro k - hk S3 h3 rc hrc
      unfold s1_years_L35
      simp (disch := omega) only [lit_0, lit_1, lit_2, lit_3, lit_4, lit_5, lit_6, lit_7, lit_8, lit_9, lit_10, lit_11, lit_12, lit_13, lit_14, lit_15, lit_20, lit_24, lit_25, lit_37, lit_40, lit_43, lit_48, lit_49, lit_50, lit_60, lit_96, lit_98, lit_99, lit_100, lit_999, lit_62, lit_74, lit_86, lit_92, lit_99999, lit_100000, lit_16, lit_32767, lit_2147483639, J_add, J_mul, J_sub, J_tn, J_le, J_lt, J_eq, Nat.not_lt_zero, false_or, or_false, le_t, le_f, lt_t, lt_f, eq_f, ↓reduceIte, callK_eq, letB_eq, joinB_eq, Nat.add_assoc]
      refine Ev.call (hfH _ _ _ h3 (hRy k)) (fun S4 h4 => ?_)
      have hR4 : ROk u.1 u.2.1 (fall (yearG fall u p1 r k)).2 := hfR _ (hRy k)
      refine Ev.call (tH_pass (S0 := S4) (c.2.2.2.1.of (h4.2.1.1 1 (Or.inl rfl))) ho ⟨h4.1, HFr.rf⟩ hR4 (by
        have e : (fall (yearG fall u p1 r k)).2 0 = r 0 + k := by rw [show (fall (yearG fall u p1 r k)).2 0 = (yearG fall u p1 r k).2 0 from hf0 _, yearG_0 hf0]
        show (fall (yearG fall u p1 r k)).2 0 < 10000
        omega)) (fun S5 h5 => hrc _ ?_)
      rw [yearG_s]
      exact h4.to h5
    · rintro S3 h3 rc
      have hu3 : RulH ct P h S3 u := c.2.2.2.1.of (h3.2.1.1 1 (Or.inl rfl))
      have e1 := tH_openMany (L := 1) hu3.1 ho12 h3.1 (hRy d)
      have e2 := tH_allSeam (L := 1) hu3.1 ho12 h3.1 (hRy d)
      have e3 := tH_allThread (L := 1) hu3 ho h3.1 (hRy d)
      unfold s1_years_L35
      rcases (show x = 0 ∨ x = 1 ∨ x = 2 by omega) with rfl | rfl | rfl
      · simp (disch := omega) only [lit_0, lit_1, lit_2, lit_3, lit_4, lit_5, lit_6, lit_7, lit_8, lit_9, lit_10, lit_11, lit_12, lit_13, lit_14, lit_15, lit_20, lit_24, lit_25, lit_37, lit_40, lit_43, lit_48, lit_49, lit_50, lit_60, lit_96, lit_98, lit_99, lit_100, lit_999, lit_62, lit_74, lit_86, lit_92, lit_99999, lit_100000, lit_16, lit_32767, lit_2147483639, J_add, J_mul, J_sub, J_tn, J_le, J_lt, J_eq, Nat.not_lt_zero, false_or, or_false, le_t, le_f, lt_t, lt_f, eq_f, ↓reduceIte, callK_eq, letB_eq, joinB_eq, Nat.add_assoc, e1]
        exact ⟨_, rfl, rfl, h3.2.1⟩
      · simp (disch := omega) only [lit_0, lit_1, lit_2, lit_3, lit_4, lit_5, lit_6, lit_7, lit_8, lit_9, lit_10, lit_11, lit_12, lit_13, lit_14, lit_15, lit_20, lit_24, lit_25, lit_37, lit_40, lit_43, lit_48, lit_49, lit_50, lit_60, lit_96, lit_98, lit_99, lit_100, lit_999, lit_62, lit_74, lit_86, lit_92, lit_99999, lit_100000, lit_16, lit_32767, lit_2147483639, J_add, J_mul, J_sub, J_tn, J_le, J_lt, J_eq, Nat.not_lt_zero, false_or, or_false, le_t, le_f, lt_t, lt_f, eq_f, ↓reduceIte, callK_eq, letB_eq, joinB_eq, Nat.add_assoc, e2]
        exact ⟨_, rfl, rfl, h3.2.1⟩
      · simp (disch := omega) only [lit_0, lit_1, lit_2, lit_3, lit_4, lit_5, lit_6, lit_7, lit_8, lit_9, lit_10, lit_11, lit_12, lit_13, lit_14, lit_15, lit_20, lit_24, lit_25, lit_37, lit_40, lit_43, lit_48, lit_49, lit_50, lit_60, lit_96, lit_98, lit_99, lit_100, lit_999, lit_62, lit_74, lit_86, lit_92, lit_99999, lit_100000, lit_16, lit_32767, lit_2147483639, J_add, J_mul, J_sub, J_tn, J_le, J_lt, J_eq, Nat.not_lt_zero, false_or, or_false, le_t, le_f, lt_t, lt_f, eq_f, ↓reduceIte, callK_eq, letB_eq, joinB_eq, Nat.add_assoc, e3]
        exact ⟨_, rfl, rfl, h3.2.1⟩
  · refine Ev.call (tM_tries (S0 := Z0 S2) (S := Z0 S2) MFr.rf cz.2.2.2.2.2.2) (fun S1 h1 => ?_)
    have hI : YrM S2 p1 r (u2 S1 0 55 p1) := ⟨h1.1.of (u2_row' (by omega)), (Z0_k.tr (KeepM.of h1.2)).u (Or.inr rfl), by rw [u2_off (by omega)]; exact mr_0 h1 Z0_0, u2_at⟩
    refine Ev.loop2 (i0 := 0) (fun k x => YrM S2 (yearG fall u p1 r k).1 (yearG fall u p1 r k).2 x) d hI (by omega) ?_ ?_ (by unfold FUEL; omega)
    · rintro k - hk S3 h3 rc hrc
      unfold sM_years_L38
      simp (disch := omega) only [lit_0, lit_1, lit_2, lit_3, lit_4, lit_5, lit_6, lit_7, lit_8, lit_9, lit_10, lit_11, lit_12, lit_13, lit_14, lit_15, lit_20, lit_24, lit_25, lit_37, lit_40, lit_43, lit_48, lit_49, lit_50, lit_60, lit_96, lit_98, lit_99, lit_100, lit_999, lit_62, lit_74, lit_86, lit_92, lit_99999, lit_100000, lit_16, lit_32767, lit_2147483639, J_add, J_mul, J_sub, J_tn, J_le, J_lt, J_eq, Nat.not_lt_zero, false_or, or_false, le_t, le_f, lt_t, lt_f, eq_f, ↓reduceIte, callK_eq, letB_eq, joinB_eq, Nat.add_assoc]
      refine Ev.call (hfM _ _ _ h3 (hRy k)) (fun S4 h4 => ?_)
      have hR4 : ROk u.1 u.2.1 (fall (yearG fall u p1 r k)).2 := hfR _ (hRy k)
      refine Ev.call (tM_dayGoes (S0 := S4) (b := 49) (h4.2.1.rul c.2.2.2.2.2.1) ho ⟨h4.1, MFr.rf⟩ hR4 (by decide) (by
        have e : (fall (yearG fall u p1 r k)).2 0 = r 0 + k := by rw [show (fall (yearG fall u p1 r k)).2 0 = (yearG fall u p1 r k).2 0 from hf0 _, yearG_0 hf0]
        show (fall (yearG fall u p1 r k)).2 0 < 10000
        omega)) (fun S5 h5 => hrc _ ?_)
      rw [yearG_s]
      exact h4.to h5
    · rintro S3 h3 rc
      have hu3 := h3.2.1.rul c.2.2.2.2.2.1
      have e2 := tM_sumOf (b := 49) (c := 13) (n := u.1) (by decide) h3.1 (by omega)
      have e3 := tM_sumOf (b := 49) (c := 43) (n := u.2.1) (by decide) h3.1 (by omega)
      unfold sM_years_L38
      rcases (show x = 0 ∨ x = 1 ∨ x = 2 by omega) with rfl | rfl | rfl
      · simp (disch := omega) only [lit_0, lit_1, lit_2, lit_3, lit_4, lit_5, lit_6, lit_7, lit_8, lit_9, lit_10, lit_11, lit_12, lit_13, lit_14, lit_15, lit_20, lit_24, lit_25, lit_37, lit_40, lit_43, lit_48, lit_49, lit_50, lit_60, lit_96, lit_98, lit_99, lit_100, lit_999, lit_62, lit_74, lit_86, lit_92, lit_99999, lit_100000, lit_16, lit_32767, lit_2147483639, J_add, J_mul, J_sub, J_tn, J_le, J_lt, J_eq, Nat.not_lt_zero, false_or, or_false, le_t, le_f, lt_t, lt_f, eq_f, ↓reduceIte, callK_eq, letB_eq, joinB_eq, Nat.add_assoc, tM_openMany (b := 49) hu3.1 ho12 (by decide) h3.1 (hRy d)]
        exact ⟨_, rfl, rfl, h3.2.2.1, h3.2.1⟩
      · simp (disch := omega) only [lit_0, lit_1, lit_2, lit_3, lit_4, lit_5, lit_6, lit_7, lit_8, lit_9, lit_10, lit_11, lit_12, lit_13, lit_14, lit_15, lit_20, lit_24, lit_25, lit_37, lit_40, lit_43, lit_48, lit_49, lit_50, lit_60, lit_96, lit_98, lit_99, lit_100, lit_999, lit_62, lit_74, lit_86, lit_92, lit_99999, lit_100000, lit_16, lit_32767, lit_2147483639, J_add, J_mul, J_sub, J_tn, J_le, J_lt, J_eq, Nat.not_lt_zero, false_or, or_false, le_t, le_f, lt_t, lt_f, eq_f, ↓reduceIte, callK_eq, letB_eq, joinB_eq, Nat.add_assoc, hu3.1, e2]
        exact ⟨_, rfl, rfl, h3.2.2.1, h3.2.1⟩
      · simp (disch := omega) only [lit_0, lit_1, lit_2, lit_3, lit_4, lit_5, lit_6, lit_7, lit_8, lit_9, lit_10, lit_11, lit_12, lit_13, lit_14, lit_15, lit_20, lit_24, lit_25, lit_37, lit_40, lit_43, lit_48, lit_49, lit_50, lit_60, lit_96, lit_98, lit_99, lit_100, lit_999, lit_62, lit_74, lit_86, lit_92, lit_99999, lit_100000, lit_16, lit_32767, lit_2147483639, J_add, J_mul, J_sub, J_tn, J_le, J_lt, J_eq, Nat.not_lt_zero, false_or, or_false, le_t, le_f, lt_t, lt_f, eq_f, ↓reduceIte, callK_eq, letB_eq, joinB_eq, Nat.add_assoc, hu3.2.1, e3]
        exact ⟨_, rfl, rfl, h3.2.2.1, h3.2.1⟩
theorem fallN_0 {u : RU} (x : Int32 × (Nat → Nat)) : dayOf (fallN u x).2 = x.2 0 := fallG_0
theorem fallN_R {u : RU} (hu : RuOk u) (x : Int32 × (Nat → Nat)) (hx : ROk u.1 u.2.1 x.2) : ROk u.1 u.2.1 (fallN u x).2 := ROk.fallG (fun z n => dv_lt z) hu hx
theorem fallN_H {ct : CT} {P : Nat → Nat → Option Nat} {h : AH} {S : US} {u : RU} (hu : RulH ct P h S u) (ho : RuOk u) : ∀ z r x, YrH S z r x → ROk u.1 u.2.1 r → Ev (s1_befalls x P h) (YrH S (fallN u (z, r)).1 (fallN u (z, r)).2) := fun z r x hx hR => tH_befalls hu ho hx hR
theorem fallN_M {S : US} {u : RU} (hu : RulM S u) (ho : RuOk u) : ∀ z r x, YrM S z r x → ROk u.1 u.2.1 r → Ev (sM_happens x) (YrM S (fallN u (z, r)).1 (fallN u (z, r)).2) := fun z r x hx hR => tM_happens hu ho hx hR
theorem L_years {ct : CT} {P : Nat → Nat → Option Nat} {h : AH} {S S2 : US} {u : RU} {r : Nat → Nat} (c : Core ct P h S S2 u r) (p1 p2 p3 : Int32) : AgW [(1, 1), (2, 2)] S S2 (t1_years S ct P h p1 p2 p3) (s1_years S ct P h p1 p2 p3) (sM_years S2 p1 p2 p3) :=
  years_core (fall := fallN u) c fallN_0 (fallN_R c.1) (fallN_H c.2.2.2.1 c.1) (fallN_M c.2.2.2.2.2.1 c.1) p1 p2 p3
