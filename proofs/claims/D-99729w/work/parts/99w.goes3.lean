set_option maxRecDepth 100000
/-! THE PLAIN LAW, 51: the Model's tokens, 3 -/
theorem lit_32 : (32 : Int32) = J 32 := asEq rfl
theorem tM_goes50 {tp : Nat → Nat} {n x : Nat} {S0 S : US} {Q : US × Int64 → Prop} (hT : TpM tp n S0) (hx : x ≤ n) (h0 : MFg S0 S) (h1 : S 0 17 = J (bgN tp n x)) (hk : ∀ S' w', MFg S0 S' → TkM tp n x S' w' → Q (S', w')) : Ev (sM_goes_J50 S) Q := by
  obtain ⟨b1, b2, b3, b4⟩ := bg_ok (tp := tp) hx
  have hn := hT.2.1
  obtain ⟨b, hb⟩ : ∃ b, b = bgN tp n x := ⟨_, rfl⟩
  have hkd : kdN tp n x = (if n ≤ b then 0 else if ltB tp n b = true then 1 else if dgB tp n b = true then 2 else if sgB (tp b) = true then 3 else 4) := by rw [hb]; rfl
  have hen : enN tp n x = (if n ≤ b then b else if ltB tp n b = true then spN (ltB tp n) n b else if dgB tp n b = true then spN (dgB tp n) n b else b + 1) := by rw [hb]; rfl
  unfold TkM at hk
  rw [← hb] at b1 b2 b3 b4 h1 hk
  rw [hkd, hen] at hk
  unfold sM_goes_J50
  rw [letB_eq, letB_eq, letB_eq, u2_off (by omega), u2_off (by omega), h1]
  have k1 : MFg S0 (u2 (u2 S 0 19 (J b)) 0 21 (J 0)) := (h0.u (by omega)).u (by omega)
  rw [show sM_byteAt (u2 (u2 S 0 19 (J b)) 0 21 (0 : Int32)) (J b) = some (J (btN tp n b)) from tM_byteAt (hT.g k1) b2, callK_eq, letB_eq]
  obtain ⟨S7, hS7⟩ : ∃ S7, S7 = u2 (u2 (u2 S 0 19 (J b)) 0 21 (0 : Int32)) 0 22 (J (btN tp n b)) := ⟨_, rfl⟩
  rw [← hS7]
  have k7 : MFg S0 S7 := by rw [hS7]; exact k1.u (by omega)
  have e17 : S7 0 17 = J b := by rw [hS7, u2_off (by omega), u2_off (by omega), u2_off (by omega)]; exact h1
  have e19 : S7 0 19 = J b := by rw [hS7, u2_off (by omega), u2_off (by omega)]; exact u2_at
  have e21 : S7 0 21 = J 0 := by rw [hS7, u2_off (by omega)]; exact u2_at
  have e22 : S7 0 22 = J (btN tp n b) := by rw [hS7]; exact u2_at
  have hT7 := hT.g k7
  rw [show S7 0 16 = J n from hT7.1, e17]
  by_cases c : n ≤ b
  · rw [if_pos c, if_pos c] at hk
    rw [if_neg (by rw [J_lt (by omega) (by omega)]; omega)]
    refine tM_fin (k := 0) k7 e17 e19 (Nat.le_refl _) (fun S' y0 y1 y2 y3 y4 y5 y6 => hk S' _ y0 ⟨y1, y2, y3, y4, fun z => absurd z (by decide), fun z => absurd z (by decide), fun z => absurd z (by decide)⟩)
  · rw [if_neg c, if_neg c] at hk
    have hbt : btN tp n b = tp b := if_pos (by omega)
    have hbt2 := bt_lt (x := b) hT7
    rw [if_pos (by rw [J_lt (by omega) (by omega)]; omega), tM_isLetter hT7, callK_eq]
    cases h1 : ltB tp n b with
    | true =>
      rw [h1, if_pos rfl, if_pos rfl] at hk
      rw [bI_t, if_neg (by decide)]
      exact tM_word hT k7 e17 e19 b2 (fun S' w' y0 y1 y2 y3 y4 y5 y6 => hk S' w' y0 ⟨y1, y2, y3, y4, fun z => absurd z (by decide), fun z => absurd z (by decide), fun _ => y6⟩)
    | false =>
      rw [h1, if_neg Bool.false_ne_true, if_neg Bool.false_ne_true] at hk
      rw [bI_f, if_pos j00, tM_isDigit hT7, callK_eq]
      cases h2 : dgB tp n b with
      | true =>
        rw [h2, if_pos rfl, if_pos rfl] at hk
        rw [bI_t, if_neg (by decide)]
        exact tM_num hT k7 e17 e19 e21 b2 (fun S' y0 y1 y2 y3 y4 y5 => hk S' _ y0 ⟨y1, y2, y3, y4, fun _ => y5, fun z => absurd z (by decide), fun z => absurd z (by decide)⟩)
      | false =>
        rw [h2, if_neg Bool.false_ne_true, if_neg Bool.false_ne_true] at hk
        rw [bI_f, if_pos j00, letB_eq, lit_1, J_add, sg_if hbt2, hbt]
        have k8 := k7.u (k := 17) (v := J (b + 1)) (by omega)
        cases h3 : sgB (tp b) with
        | true =>
          rw [h3, if_pos rfl] at hk
          rw [if_pos rfl]
          refine tM_fin (k := 3) k8 u2_at (by rw [u2_off (by omega)]; exact e19) (by omega) (fun S' y0 y1 y2 y3 y4 y5 y6 => hk S' _ y0 ⟨y1, y2, y3, y4, fun z => absurd z (by decide), fun _ => ?_, fun z => absurd z (by decide)⟩)
          rw [y6, u2_off (by omega), e22, hbt]
        | false =>
          rw [h3, if_neg Bool.false_ne_true] at hk
          rw [if_neg Bool.false_ne_true]
          exact tM_fin (k := 4) k8 u2_at (by rw [u2_off (by omega)]; exact e19) (by omega) (fun S' y0 y1 y2 y3 y4 y5 y6 => hk S' _ y0 ⟨y1, y2, y3, y4, fun z => absurd z (by decide), fun z => absurd z (by decide), fun z => absurd z (by decide)⟩)
/-- the next token -/
theorem tM_goes {tp : Nat → Nat} {n x : Nat} {S : US} {w : Int64} (hT : TpM tp n S) (hx : x ≤ n) (h1 : S 0 17 = J x) : Ev (sM_goes S w) (fun o => MFg S o.1 ∧ TkM tp n x o.1 o.2) := by
  obtain ⟨b1, b2, b3, b4⟩ := bg_ok (tp := tp) hx
  have hn := hT.2.1
  unfold sM_goes
  rw [joinB_eq]
  refine Ev.loop (fun i s => MFg S s ∧ s 0 17 = J (x + i)) (bgN tp n x - x) ?_ ?_ ⟨MFg.rf, h1⟩ (by unfold FUEL; omega)
  · rintro i hi S1 ⟨k0, k1⟩ rc hrc
    have hT1 := hT.g k0
    have hw := b3 (x + i) (by omega) (by omega)
    unfold wsB at hw
    have hw := of_decide_eq_true hw
    have e1 : btN tp n (x + i) = tp (x + i) := if_pos hw.1
    have hnx : Ev (rc (u2 S1 0 17 (J (x + i + 1)))) (fun o => MFg S o.1 ∧ TkM tp n x o.1 o.2) := hrc _ ⟨k0.u (by omega), u2_at⟩
    unfold sM_goes_L0
    rw [show S1 0 16 = J n from hT1.1, k1, if_neg (by rw [J_le (by omega) (by omega)]; omega), tM_byteAt hT1 (by omega), callK_eq, e1, letB_eq, lit_1, J_add]
    rcases hw.2 with h | h
    · rw [h, if_pos (by rw [lit_32])]
      exact hnx
    · rw [h, if_neg (by decide), callK_eq, if_pos (by rw [lit_10])]
      exact hnx
  · rintro S1 ⟨k0, k1⟩ rc
    rw [show x + (bgN tp n x - x) = bgN tp n x by omega] at k1
    have hT1 := hT.g k0
    have hend : Ev (sM_goes_J50 S1) (fun o => MFg S o.1 ∧ TkM tp n x o.1 o.2) := tM_goes50 hT hx k0 k1 (fun S' w' a1 a2 => ⟨a1, a2⟩)
    unfold sM_goes_L0
    rw [show S1 0 16 = J n from hT1.1, k1]
    by_cases c : n ≤ bgN tp n x
    · rw [if_pos (by rw [J_le (by omega) (by omega)]; exact c)]
      exact hend
    · have hbt := bt_lt (x := bgN tp n x) hT1
      have e1 : btN tp n (bgN tp n x) = tp (bgN tp n x) := if_pos (by omega)
      unfold wsB at b4
      have b4 := of_decide_eq_false b4
      rw [e1] at hbt
      rw [if_neg (by rw [J_le (by omega) (by omega)]; exact c), tM_byteAt hT1 b2, callK_eq, e1, if_neg (by rw [lit_32, J_eq (by omega) (by omega)]; omega), callK_eq, if_neg (by rw [lit_10, J_eq (by omega) (by omega)]; omega)]
      exact hend
/-- which known word it is -/
theorem tM_known {tp : Nat → Nat} {n x : Nat} {S : US} {w : Int64} (hT : TpM tp n S) (hx : x ≤ n) (h : TkM tp n x S w) : sM_knownWord S w = some (if kwN tp n x < 15 then J (kwN tp n x) else -1) := by
  obtain ⟨h17, h18, h19, h20, -, -, hw⟩ := h
  have hn := hT.2.1
  obtain ⟨e1, e2, e3, e4⟩ := en_ok (tp := tp) hx
  obtain ⟨n1, n2⟩ := kw_none (tp := tp) (n := n) (x := x)
  have hkl := kd_lt (tp := tp) (n := n) (x := x)
  have none_of : (∀ k, k < 15 → isK tp n x k = false) → kwN tp n x = 15 := fun z => by
    by_cases c : kwN tp n x < 15
    · have := (kw_iff c).mp rfl
      rw [z _ c] at this
      cases this
    · omega
  unfold sM_knownWord
  rw [h18, h20]
  by_cases c1 : kdN tp n x = 1
  · rw [if_pos (by rw [c1]; rfl)]
    by_cases c7 : enN tp n x - bgN tp n x ≤ 7
    · rw [if_pos (by rw [lit_7, J_le (by omega) (by omega)]; exact c7), hw c1, Nat.min_eq_right c7]
      obtain ⟨b, hb⟩ : ∃ b, b = bgN tp n x := ⟨_, rfl⟩
      have hlet : ∀ j, j < enN tp n x - b → 97 ≤ tp (b + j) ∧ tp (b + j) ≤ 122 := fun j hj => by
        have hk1 := c1
        unfold kdN at hk1
        rw [← hb] at hk1
        split at hk1
        · cases hk1
        · rename_i q1
          split at hk1
          · rename_i q2
            have he : enN tp n x = spN (ltB tp n) n b := by
              unfold enN
              rw [← hb, if_neg q1, if_pos q2]
            obtain ⟨s1, s2, s3, s4⟩ := sp_ok (p := ltB tp n) (n := n) (x := b) lt_out
            have := s3 (b + j) (by omega) (by omega)
            unfold ltB at this
            exact (of_decide_eq_true this).2
          · split at hk1
            · cases hk1
            · split at hk1 <;> cases hk1
      have hiff : ∀ k, k < 15 → (wvN tp b (enN tp n x - b) = wvN (kwB k) 0 (kwn k) ↔ isK tp n x k = true) := fun k hk => by
        obtain ⟨-, -, w3, -⟩ := kw_ok hk
        unfold isK
        constructor
        · intro z
          obtain ⟨z1, z2⟩ := wv_inj _ _ hlet w3 z
          exact decide_eq_true ⟨c1, by rw [← hb]; exact z1, fun j hj => by rw [← hb, z2 j (by omega), Nat.zero_add]⟩
        · intro z
          obtain ⟨-, z1, z2⟩ := of_decide_eq_true z
          rw [← hb] at z1 z2
          rw [z1]
          exact wv_eq _ (fun j hj => by rw [z2 j hj, Nat.zero_add])
      rw [← hb]
      have hlt : wvN tp b (enN tp n x - b) < 34359738368 := by
        have q1 := wv_lt (tp := tp) (b := b) _ hlet
        have q2 : 32 ^ (enN tp n x - b) ≤ 32 ^ 7 := Nat.pow_le_pow_right (by decide) (by omega)
        omega
      have hlt2 : ∀ k, k < 15 → wvN (kwB k) 0 (kwn k) < 34359738368 := fun k hk => by
        obtain ⟨w1, -, w3, -⟩ := kw_ok hk
        have q1 := wv_lt (tp := kwB k) (b := 0) _ w3
        have q2 : 32 ^ kwn k ≤ 32 ^ 7 := Nat.pow_le_pow_right (by decide) (by omega)
        omega
      have hcmp : ∀ u v : Nat, u < 34359738368 → v < 34359738368 → (lg_cmp (K64 u) (K64 v) = 0 ↔ u = v) := fun u v hu hv => by
        unfold lg_cmp
        constructor
        · intro z
          split at z
          · exact absurd z (by decide)
          · split at z
            · rename_i q
              have q2 := congrArg Int64.toInt q
              rw [Int64.toInt_ofNat_of_lt (by omega), Int64.toInt_ofNat_of_lt (by omega)] at q2
              omega
            · exact absurd z (by decide)
        · intro z
          rw [z, if_neg (Int64.lt_irrefl), if_pos rfl]
      have fin : Ev (loopK (fun rc (y : Int32) => sM_knownWord_L21 (K64 (wvN tp b (enN tp n x - b))) rc y) FUEL (0 : Int32)) (fun o => o = if kwN tp n x < 15 then J (kwN tp n x) else -1) := by
        refine Ev.loop (fun i s => s = J i ∧ ∀ k, k < i → isK tp n x k = false) 15 ?_ ?_ ⟨rfl, fun k hk => absurd hk (Nat.not_lt_zero k)⟩ (by unfold FUEL; omega)
        · rintro i hi _ ⟨rfl, k1⟩ rc hrc
          obtain ⟨-, -, -, w4⟩ := kw_ok hi
          unfold sM_knownWord_L21
          rw [if_neg (by rw [show (15 : Int32) = J 15 from rfl, J_le (by omega) (by omega)]; omega), w4, callK_eq]
          by_cases q : isK tp n x i = true
          · rw [if_pos ((hcmp _ _ (hlt2 i hi) hlt).mpr ((hiff i hi).mpr q).symm), (kw_iff hi).mpr q, if_pos hi]
            exact ⟨_, rfl, rfl⟩
          · rw [if_neg (fun z => q ((hiff i hi).mp ((hcmp _ _ (hlt2 i hi) hlt).mp z).symm)), lit_1, J_add]
            refine hrc _ ⟨rfl, fun k hk => ?_⟩
            by_cases e : k = i
            · rw [e]
              cases h : isK tp n x i with
              | false => rfl
              | true => exact absurd h q
            · exact k1 k (by omega)
        · rintro _ ⟨rfl, k1⟩ rc
          unfold sM_knownWord_L21
          rw [if_pos (by rw [show (15 : Int32) = J 15 from rfl]; exact Int32.le_refl _), if_neg (by rw [none_of k1]; omega)]
          exact ⟨_, rfl, rfl⟩
      obtain ⟨v, e, rfl⟩ := fin
      exact e
    · rw [if_neg (by rw [lit_7, J_le (by omega) (by omega)]; exact c7), if_neg (by
        rw [none_of (fun k hk => by
          unfold isK
          exact decide_eq_false (fun z => by
            obtain ⟨w1, -⟩ := kw_ok hk
            omega))]
        omega)]
  · rw [if_neg (by rw [lit_1, J_eq (by omega) (by omega)]; exact c1), if_neg (by
      rw [none_of (fun k hk => by
        unfold isK
        exact decide_eq_false (fun z => c1 z.1))]
      omega)]
