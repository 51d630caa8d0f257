set_option maxRecDepth 100000
/-! THE PLAIN LAW, 50: the Model's tokens, 2 -/
theorem tM_word {tp : Nat → Nat} {n b : Nat} {S0 S : US} {Q : US × Int64 → Prop} (hT : TpM tp n S0) (h0 : MFg S0 S) (h1 : S 0 17 = J b) (h2 : S 0 19 = J b) (hb : b ≤ n) (hk : ∀ S' w', MFg S0 S' → S' 0 17 = J (spN (ltB tp n) n b) → S' 0 18 = J 1 → S' 0 19 = J b → S' 0 20 = J (spN (ltB tp n) n b - b) → S' 0 22 = S 0 22 → w' = K64 (wvN tp b (min 7 (spN (ltB tp n) n b - b))) → Q (S', w')) : Ev (loopK (fun rc (x : (US × Int64)) => sM_goes_L108 rc x.1 x.2) FUEL (S, (0 : Int64))) Q := by
  obtain ⟨s1, s2, s3, s4⟩ := sp_ok (p := ltB tp n) (n := n) (x := b) lt_out
  have s2 := s2 hb
  have hn := hT.2.1
  obtain ⟨e, he⟩ : ∃ e, e = spN (ltB tp n) n b := ⟨_, rfl⟩
  rw [← he] at s1 s2 s3 s4 hk
  have hlet : ∀ j, j < e - b → 97 ≤ tp (b + j) ∧ tp (b + j) ≤ 122 := fun j hj => by
    have := s3 (b + j) (by omega) (by omega)
    unfold ltB at this
    exact (of_decide_eq_true this).2
  refine Ev.loop (fun i s => MFg S0 s.1 ∧ s.1 0 17 = J (b + i) ∧ s.1 0 19 = J b ∧ s.1 0 22 = S 0 22 ∧ s.2 = K64 (wvN tp b (min 7 i))) (e - b) ?_ ?_ ⟨h0, h1, h2, rfl, rfl⟩ (by unfold FUEL; omega)
  · rintro i hi ⟨S1, w1⟩ ⟨k0, k1, k2, k3, k4⟩ rc hrc
    simp only at k0 k1 k2 k3 k4
    subst k4
    have hT1 := hT.g k0
    have hl := s3 (b + i) (by omega) (by omega)
    have hrc' : ∀ S' w', MFg S0 S' → S' 0 17 = J (b + (i + 1)) → S' 0 19 = J b → S' 0 22 = S 0 22 → w' = K64 (wvN tp b (min 7 (i + 1))) → Ev (rc (S', w')) Q := fun S' w' a1 a2 a3 a4 a5 => hrc (S', w') ⟨a1, a2, a3, a4, a5⟩
    show Ev (sM_goes_L108 rc S1 (K64 (wvN tp b (min 7 i)))) Q
    unfold sM_goes_L108
    rw [k1, k2, tM_byteAt hT1 (by omega), callK_eq, tM_isLetter hT1, callK_eq, hl, bI_t, if_neg (by decide), J_sub (by omega), show b + i - b = i by omega]
    by_cases c : 7 ≤ i
    · rw [if_pos (by rw [lit_7, J_le (by omega) (by omega)]; exact c), letB_eq, lit_1, J_add]
      refine hrc' _ _ (k0.u (by omega)) (by rw [u2_at]; rfl) (by rw [u2_off (by omega)]; exact k2) (by rw [u2_off (by omega)]; exact k3) ?_
      rw [Nat.min_eq_left c, Nat.min_eq_left (show 7 ≤ i + 1 by omega)]
    · have hb1 := hlet i hi
      have e1 : btN tp n (b + i) = tp (b + i) := if_pos (by omega)
      have e2 := wv_lt (tp := tp) (b := b) i (fun j hj => hlet j (by omega))
      have e3 : 32 ^ i ≤ 32 ^ 6 := Nat.pow_le_pow_right (by decide) (by omega)
      have e4 := K_step (v := wvN tp b i) (c := tp (b + i)) (by omega) (by omega) hb1.2
      rw [if_neg (by rw [lit_7, J_le (by omega) (by omega)]; exact c), callK_eq, e1, Nat.min_eq_right (show i ≤ 7 by omega), e4, letB_eq, letB_eq, lit_1, J_add]
      refine hrc' _ _ (k0.u (by omega)) (by rw [u2_at]; rfl) (by rw [u2_off (by omega)]; exact k2) (by rw [u2_off (by omega)]; exact k3) ?_
      rw [Nat.min_eq_right (show i + 1 ≤ 7 by omega)]
      rfl
  · rintro ⟨S1, w1⟩ ⟨k0, k1, k2, k3, k4⟩ rc
    simp only at k0 k1 k2 k3 k4
    rw [show b + (e - b) = e by omega] at k1
    subst k4
    have hT1 := hT.g k0
    show Ev (sM_goes_L108 rc S1 (K64 (wvN tp b (min 7 (e - b))))) Q
    unfold sM_goes_L108
    rw [show sM_byteAt S1 (S1 0 17) = some (J (btN tp n e)) from (by rw [k1]; exact tM_byteAt hT1 s2), callK_eq, tM_isLetter hT1, callK_eq, s4, bI_f, if_pos j00]
    exact tM_fin (k := 1) k0 k1 k2 s1 (fun S' y0 y1 y2 y3 y4 y5 y6 => hk S' _ y0 y1 y2 y3 y4 (y6.trans k3) rfl)
theorem tM_num {tp : Nat → Nat} {n b : Nat} {S0 S : US} {w : Int64} {Q : US × Int64 → Prop} (hT : TpM tp n S0) (h0 : MFg S0 S) (h1 : S 0 17 = J b) (h2 : S 0 19 = J b) (h21 : S 0 21 = J 0) (hb : b ≤ n) (hk : ∀ S', MFg S0 S' → S' 0 17 = J (spN (dgB tp n) n b) → S' 0 18 = J 2 → S' 0 19 = J b → S' 0 20 = J (spN (dgB tp n) n b - b) → S' 0 21 = J (nmN tp b (min 4 (spN (dgB tp n) n b - b))) → Q (S', w)) : Ev (loopK (fun rc (x : US) => sM_goes_L187 w rc x) FUEL S) Q := by
  obtain ⟨s1, s2, s3, s4⟩ := sp_ok (p := dgB tp n) (n := n) (x := b) dg_out
  have s2 := s2 hb
  have hn := hT.2.1
  obtain ⟨e, he⟩ : ∃ e, e = spN (dgB tp n) n b := ⟨_, rfl⟩
  rw [← he] at s1 s2 s3 s4 hk
  have hlet : ∀ j, j < e - b → 48 ≤ tp (b + j) ∧ tp (b + j) ≤ 57 := fun j hj => by
    have := s3 (b + j) (by omega) (by omega)
    unfold dgB at this
    exact (of_decide_eq_true this).2
  refine Ev.loop (fun i s => MFg S0 s ∧ s 0 17 = J (b + i) ∧ s 0 19 = J b ∧ s 0 21 = J (nmN tp b (min 4 i))) (e - b) ?_ ?_ ⟨h0, h1, h2, h21⟩ (by unfold FUEL; omega)
  · rintro i hi S1 ⟨k0, k1, k2, k3⟩ rc hrc
    have hT1 := hT.g k0
    have hl := s3 (b + i) (by omega) (by omega)
    unfold sM_goes_L187
    rw [k1, k2, tM_byteAt hT1 (by omega), callK_eq, tM_isDigit hT1, callK_eq, hl, bI_t, if_neg (by decide), J_sub (by omega), show b + i - b = i by omega]
    by_cases c : 4 ≤ i
    · rw [if_pos (by rw [lit_4, J_le (by omega) (by omega)]; exact c), letB_eq, lit_1, J_add]
      refine hrc _ ⟨k0.u (by omega), by rw [u2_at]; rfl, by rw [u2_off (by omega)]; exact k2, ?_⟩
      rw [u2_off (by omega), k3, Nat.min_eq_left c, Nat.min_eq_left (show 4 ≤ i + 1 by omega)]
    · have hb1 := hlet i hi
      have e1 : btN tp n (b + i) = tp (b + i) := if_pos (by omega)
      have e2 := dg_lt (d := fun j => tp (b + j) - 48) i (fun j hj => by have := hlet j (by omega); omega)
      have e3 : 10 ^ i ≤ 10 ^ 3 := Nat.pow_le_pow_right (by decide) (by omega)
      have e4 : nmN tp b i = dgN (fun j => tp (b + j) - 48) i := rfl
      rw [if_neg (by rw [lit_4, J_le (by omega) (by omega)]; exact c), callK_eq, k3, e1, Nat.min_eq_right (show i ≤ 4 by omega), lit_10, J_mul, J_add, show (48 : Int32) = J 48 from rfl, J_sub (by omega), letB_eq, letB_eq, u2_off (by omega), k1, lit_1, J_add]
      refine hrc _ ⟨(k0.u (by omega)).u (by omega), by rw [u2_at]; rfl, by rw [u2_off (by omega), u2_off (by omega)]; exact k2, ?_⟩
      rw [u2_off (by omega), u2_at, Nat.min_eq_right (show i + 1 ≤ 4 by omega)]
      show _ = J (10 * nmN tp b i + (tp (b + i) - 48))
      congr 1
      omega
  · rintro S1 ⟨k0, k1, k2, k3⟩ rc
    rw [show b + (e - b) = e by omega] at k1
    have hT1 := hT.g k0
    unfold sM_goes_L187
    rw [show sM_byteAt S1 (S1 0 17) = some (J (btN tp n e)) from (by rw [k1]; exact tM_byteAt hT1 s2), callK_eq, tM_isDigit hT1, callK_eq, s4, bI_f, if_pos j00]
    exact tM_fin (k := 2) k0 k1 k2 s1 (fun S' y0 y1 y2 y3 y4 y5 y6 => hk S' y0 y1 y2 y3 y4 (y5.trans k3))
