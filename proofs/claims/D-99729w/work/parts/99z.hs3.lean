set_option maxRecDepth 100000
/-! THE PLAIN LAW, 54: HorizonSeam's reader, 3: the next token -/
section RDN
variable {ct : CT} {ad : Nat → Nat} {P : Nat → Nat → Option Nat} {S : US} {tp : Nat → Nat} {n : Nat} {c : RC} {q : Nat} {d s : Int32}
theorem tH_next {x : Nat} {G : GS} {k b e : Int32} {u : Nat} (B : GB ct G) (hq : ct.2.2.1 ≤ q) (hT : TpH tp n S) (hc : c.1 = n) (ha : c.2.2.2.2.2 = ad 0) (hx : x ≤ n) (H : RD c q G (J x) k b e (J u) d s) (hu : u ≤ 100000) : Ev (s5_next ct ad P S G q) (fun G' => TkH tp n x c q G' d s ∧ Gq q G G') := by
  obtain ⟨b1, b2, b3, b4⟩ := bg_ok (tp := tp) hx
  have hn := hT.1
  unfold s5_next
  refine Ev.loop (fun i g => Gq q G g ∧ RD c q g (J (x + i)) k b e (J u) d s) (bgN tp n x - x) ?_ ?_ ⟨Gr.rf, H⟩ (by unfold FUEL; omega)
  · rintro i hi g ⟨k0, k1⟩ rc hrc
    have hw := b3 (x + i) (by omega) (by omega)
    unfold wsB at hw
    have hw := of_decide_eq_true hw
    unfold s5_next_L0
    rw [k1.hC, tH_here hT hc ha (by omega) k1, callK_eq]
    rcases hw.2 with h | h
    · rw [if_pos (show heN tp n (x + i) = (32 : Int32) by rw [lit_32, he_c hT (by omega)]; exact ⟨hw.1, h⟩), k1.i5, lit_1, J_add]
      exact k1.p5 (fun G' a1 a2 => hrc _ ⟨k0.tr a2, a1⟩)
    · rw [if_neg (show ¬ heN tp n (x + i) = (32 : Int32) by rw [lit_32, he_c hT (by omega)]; omega), k1.hC, tH_here hT hc ha (by omega) k1, callK_eq, if_pos (show heN tp n (x + i) = (10 : Int32) by rw [lit_10, he_c hT (by omega)]; exact ⟨hw.1, h⟩), k1.i5, lit_1, J_add]
      exact k1.p5 (fun G' a1 a2 => hrc _ ⟨k0.tr a2, a1⟩)
  · rintro g ⟨k0, k1⟩ rc
    rw [show x + (bgN tp n x - x) = bgN tp n x by omega] at k1
    obtain ⟨bb, hb⟩ : ∃ bb, bb = bgN tp n x := ⟨_, rfl⟩
    have hkd : kdN tp n x = (if n ≤ bb then 0 else if ltB tp n bb = true then 1 else if dgB tp n bb = true then 2 else if sgB (tp bb) = true then 3 else 4) := by rw [hb]; rfl
    have hen : enN tp n x = (if n ≤ bb then bb else if ltB tp n bb = true then spN (ltB tp n) n bb else if dgB tp n bb = true then spN (dgB tp n) n bb else bb + 1) := by rw [hb]; rfl
    have fin : ∀ (E K : Nat) (u' : Nat) (G' : GS), enN tp n x = E → kdN tp n x = K → RD c q G' (J E) (J K) (J bb) (J E) (J u') d s → u' ≤ 100000 → (K = 2 → u' = hnN tp bb (E - bb)) → Gq q G G' → TkH tp n x c q G' d s ∧ Gq q G G' := fun E K u' G' h1 h2 h3 h4 h5 h6 => by
      refine ⟨⟨u', ?_, h4, ?_⟩, h6⟩
      · rw [h1, h2, ← hb]; exact h3
      · rw [h1, h2, ← hb]; exact h5
    rw [← hb] at b1 b2 b3 b4 k1
    unfold wsB at b4
    have b4 := of_decide_eq_false b4
    unfold s5_next_L0
    rw [k1.hC, tH_here hT hc ha b2 k1, callK_eq, if_neg (show ¬ heN tp n bb = (32 : Int32) by rw [lit_32, he_c hT (by omega)]; omega), k1.hC, tH_here hT hc ha b2 k1, callK_eq, if_neg (show ¬ heN tp n bb = (10 : Int32) by rw [lit_10, he_c hT (by omega)]; omega), k1.i5]
    refine k1.p7 (fun G8 a1 a2 => ?_)
    have k8 := k0.tr a2
    rw [a1.hC, tH_here hT hc ha b2 a1, callK_eq]
    by_cases c0 : n ≤ bb
    · rw [if_pos c0] at hkd hen
      rw [if_pos (show heN tp n bb = (-1 : Int32) by rw [he_m1 hT]; exact c0)]
      refine a1.p6 (fun G44 a3 a4 => ?_)
      rw [a3.i5]
      exact a3.p8 (fun G46 a5 a6 => ⟨_, rfl, fin _ _ _ _ hen hkd a5 hu (fun z => absurd z (by decide)) ((k8.tr a4).tr a6)⟩)
    · rw [if_neg c0] at hkd hen
      rw [if_neg (show ¬ heN tp n bb = (-1 : Int32) by rw [he_m1 hT]; exact c0), a1.hC, tH_isLetter hT hc ha b2 a1, callK_eq]
      cases h1 : ltB tp n bb with
      | true =>
        rw [h1, if_pos rfl] at hkd hen
        rw [bI_t, if_neg (by decide)]
        exact tH_word hT hc ha b2 k8 a1 (fun G' y1 y2 => fin _ _ _ _ hen hkd y2 hu (fun z => absurd z (by decide)) y1)
      | false =>
        rw [h1, if_neg Bool.false_ne_true] at hkd hen
        rw [bI_f, if_pos j00, a1.hC, tH_isDigit hT hc ha b2 a1, callK_eq]
        cases h2 : dgB tp n bb with
        | true =>
          rw [h2, if_pos rfl] at hkd hen
          rw [bI_t, if_neg (by decide)]
          refine a1.p9 (fun G24 a3 a4 => ?_)
          exact tH_num hT hc ha b2 (k8.tr a4) a3 (fun G' y1 y2 => fin _ _ _ _ hen hkd y2 hn_le (fun _ => rfl) y1)
        | false =>
          rw [h2, if_neg Bool.false_ne_true] at hkd hen
          rw [bI_f, if_pos j00, a1.hC, tH_here hT hc ha b2 a1, callK_eq]
          obtain ⟨g1, -⟩ := hT.2 bb (by omega)
          have B8 := B.gr k8 (fun a ha => by rw [ha]; exact hq)
          obtain ⟨o13, e13, h13⟩ := tS_index (c := tp bb) B8 g1
          obtain ⟨ob, v, x1, y1, ob2, fb, t1, -, -⟩ := B8.str (show 10 < 16 by decide)
          have heb : heN tp n bb = J (tp bb) := if_pos (by omega)
          rw [show ct.2.1 50 = ct.2.1 (40 + 10) from rfl, hC_eq t1, heb, show sS_indexOf G8.1 (ct.2.1 (40 + 10)) (J (tp bb)) = some o13 from e13, callK_eq]
          cases h3 : sgB (tp bb) with
          | false =>
            rw [h3, if_neg Bool.false_ne_true] at hkd
            rw [h3] at h13
            rw [if_pos (by rw [h13])]
            refine a1.p6 (fun G14 a3 a4 => ?_)
            rw [a3.i5, lit_1, J_add]
            refine a3.p5 (fun G16 a5 a6 => ?_)
            rw [a5.i5]
            exact a5.p8 (fun G18 a7 a8 => ⟨_, rfl, fin _ _ _ _ hen hkd a7 hu (fun z => absurd z (by decide)) (((k8.tr a4).tr a6).tr a8)⟩)
          | true =>
            rw [h3, if_pos rfl] at hkd
            rw [h3] at h13
            rw [if_neg (by rw [h13]; decide)]
            refine a1.p6 (fun G14 a3 a4 => ?_)
            rw [a3.i5, lit_1, J_add]
            refine a3.p5 (fun G16 a5 a6 => ?_)
            rw [a5.i5]
            exact a5.p8 (fun G18 a7 a8 => ⟨_, rfl, fin _ _ _ _ hen hkd a7 hu (fun z => absurd z (by decide)) (((k8.tr a4).tr a6).tr a8)⟩)
end RDN
