set_option maxRecDepth 100000
/-! THE PLAIN LAW, 71: the Model's rules, 4: deeper -/
section MQ
variable {tp : Nat → Nat} {n : Nat} {p0 x D : Nat} {cs ws : List Nat} {tst : Nat → Nat} {S : US} {w : Int64}
theorem MG.deep (H : MG tp n p0 x cs ws D tst S w) (hD : D < 6) : ∃ S', sM_deeper S = some S' ∧ MG tp n p0 x cs ws (D + 1) (fun i => if i = D + 1 then 0 else tst i) S' w ∧ MFe p0 S S' := by
  obtain ⟨hT, hK, h13, ⟨m1, m2, m3, m4⟩, h32, h13', hx, hD6, hb, hw, hal⟩ := H
  have hn := hT.2.1
  unfold sM_deeper
  rw [h32, if_neg (by rw [lit_6, J_le (by omega) (by omega)]; omega), letB_eq, u2_at, lit_1, J_add, gd (by omega) (by omega), J_tn (by omega), letB_eq, show vp_nar .boolean (0 : Int32) = J 0 from by decide]
  have hF : MFe p0 S (u2 (u2 S 0 32 (J (D + 1))) 13 (D + 1) (J 0)) := (MFe.rf.f (by omega)).r (by omega)
  have f0 : ∀ k, k ≠ 32 → u2 (u2 S 0 32 (J (D + 1))) 13 (D + 1) (J 0) 0 k = S 0 k := fun k z => by rw [u2_row' (by omega), u2_off (by omega)]
  refine ⟨_, rfl, ⟨hT.of (f0 16 (by decide)) (hF.1 5 (by decide) (by decide) (by decide) (by decide)), hK.of (fun k z1 z2 => f0 k (by omega)), (f0 13 (by decide)).trans h13, ⟨(f0 30 (by decide)).trans m1, ?_, (f0 31 (by decide)).trans m3, ?_⟩, ?_, fun i hi => ?_, hx, by omega, hb, hw, hal⟩, hF⟩
  · rw [u2_row' (show 11 < 13 ∨ 13 < 11 by omega), u2_row' (show 11 < 0 ∨ 0 < 11 by omega)]; exact m2
  · rw [u2_row' (show 12 < 13 ∨ 13 < 12 by omega), u2_row' (show 12 < 0 ∨ 0 < 12 by omega)]; exact m4
  · rw [u2_row' (by omega), u2_at]
  · dsimp only
    by_cases e : i = D + 1
    · rw [if_pos e, e, u2_at]
      exact ⟨rfl, by omega⟩
    · rw [if_neg e, u2_off (by omega), u2_row' (show 13 < 0 ∨ 0 < 13 by omega)]
      exact h13' i (by omega)
theorem MG.deepE (H : MG tp n p0 x cs ws 6 tst S w) : ∃ S', sM_deeper S = some S' ∧ MEr p0 1000 (if begB tp n x = true then 2 else 1) (bgN tp n x) S' ∧ MFe p0 S S' := by
  have hkl := kd_lt (tp := tp) (n := n) (x := x)
  have h32 := H.2.2.2.2.1
  have t2 := H.2.1.2.1
  have hs := H.sign (k := 40) (by omega)
  obtain ⟨S2, a1, a2, a3⟩ := H.wrong (k := 2) (by omega)
  obtain ⟨S1, b1, b2, b3⟩ := H.wrong (k := 1) (by omega)
  have a1 : sM_wrong S (2 : Int32) = some S2 := a1
  have b1 : sM_wrong S (1 : Int32) = some S1 := b1
  unfold sM_deeper begB
  rw [h32, if_pos (by decide), t2]
  by_cases c2 : kdN tp n x = 2
  · rw [if_pos (show J (kdN tp n x) = (2 : Int32) by rw [c2]; rfl), a1, callK_eq, decide_eq_true (Or.inl c2), if_pos rfl]
    exact ⟨S2, rfl, a2, a3⟩
  · rw [if_neg (show ¬ J (kdN tp n x) = (2 : Int32) by rw [show (2 : Int32) = J 2 from rfl, J_eq (by omega) (by omega)]; exact c2)]
    by_cases c1 : kdN tp n x = 1
    · rw [if_pos (show J (kdN tp n x) = (1 : Int32) by rw [c1]; rfl), a1, callK_eq, decide_eq_true (Or.inr (Or.inl c1)), if_pos rfl]
      exact ⟨S2, rfl, a2, a3⟩
    · rw [if_neg (show ¬ J (kdN tp n x) = (1 : Int32) by rw [lit_1, J_eq (by omega) (by omega)]; exact c1), show sM_isSign S (40 : Int32) = some (isG tp n x 40) from hs, callK_eq]
      cases cs : isG tp n x 40 with
      | true =>
        rw [bI_t, if_neg j10, a1, callK_eq, decide_eq_true (Or.inr (Or.inr rfl)), if_pos rfl]
        exact ⟨S2, rfl, a2, a3⟩
      | false =>
        rw [bI_f, if_pos j00, b1, callK_eq, decide_eq_false (fun z => by
          rcases z with z | z | z
          · exact c2 z
          · exact c1 z
          · cases z), if_neg Bool.false_ne_true]
        exact ⟨S1, rfl, b2, b3⟩
end MQ
