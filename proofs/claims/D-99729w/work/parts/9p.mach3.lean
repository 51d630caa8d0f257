set_option maxRecDepth 100000
/-! THE PLAIN LAW, 70: the Model's rules, 3: a part -/
section MP
variable {tp : Nat → Nat} {n : Nat} {p0 x D : Nat} {cs ws : List Nat} {tst : Nat → Nat} {S : US} {w : Int64}
theorem er_90 {B k pl : Nat} (H : MEr p0 B k pl S) : sM_part_J90 w S = some (S, w) := by
  unfold sM_part_J90
  rw [H.bad, callK_eq, bI_f, if_pos j00]
theorem MG.part {E : Nat → PR} (H : MG tp n p0 x cs ws D tst S w) (hno : isG tp n x 40 = false) : match pPart tp n E x with
    | .inl e => Ev (sM_part S w) (fun o => MEr p0 1002 e.1 e.2 o.1 ∧ MFe p0 S o.1)
    | .inr r => Ev (sM_part S w) (fun o => MG tp n p0 r.2 (cs ++ r.1.1) ws D tst o.1 o.2 ∧ MFe p0 S o.1) := by
  obtain ⟨hT, ⟨t1, t2, t3, t4, t5, t6, t7⟩, -⟩ := id H
  have hkl := kd_lt (tp := tp) (n := n) (x := x)
  have hx : x ≤ n := H.2.2.2.2.2.2.1
  have hn := hT.2.1
  obtain ⟨e1, e2, e3, e4⟩ := en_ok (tp := tp) hx
  obtain ⟨nn1, nn2⟩ := kw_none (tp := tp) (n := n) (x := x)
  have err : ∀ (k : Nat) (a b : Int32), 1 ≤ k ∧ k ≤ 5 → Ev (callK (sM_wrong S (J k)) (fun o => callK (sM_puts o a) (fun o1 => callK (sM_puts o1 b) (fun o2 => sM_part_J90 w o2)))) (fun o => MEr p0 1002 k (bgN tp n x) o.1 ∧ MFe p0 S o.1) := fun k a b hk => by
    obtain ⟨S1, w1, w2, w3⟩ := H.wrong hk
    obtain ⟨S2, v1, v2, v3⟩ := w2.puts (v := a) (by omega)
    obtain ⟨S3, u1, u2', u3⟩ := v2.puts (v := b) (by omega)
    rw [w1, callK_eq, v1, callK_eq, u1, callK_eq, er_90 u2']
    exact ⟨_, rfl, u2', (w3.tr v3).tr u3⟩
  unfold pPart sM_part
  rw [H.good, callK_eq, bI_t, if_neg j10, joinB_eq, t2]
  by_cases c2 : kdN tp n x = 2
  · rw [if_pos c2, if_pos (show J (kdN tp n x) = (2 : Int32) by rw [c2]; rfl), t4]
    by_cases c4 : 4 < enN tp n x - bgN tp n x
    · rw [if_pos c4, if_neg (by rw [lit_4, J_le (by omega) (by omega)]; omega)]
      obtain ⟨S1, w1, w2, w3⟩ := H.wrong (k := 2) (by omega)
      obtain ⟨S2, v1, v2, v3⟩ := w2.puts (v := (1 : Int32)) (by omega)
      obtain ⟨S3, u1, u2', u3⟩ := v2.puts (v := S2 0 21) (by omega)
      rw [show sM_wrong S (2 : Int32) = some S1 from w1, callK_eq, v1, callK_eq, u1, callK_eq]
      show Ev (sM_part_J90 w S3) _
      rw [er_90 u2']
      exact ⟨_, rfl, u2', (w3.tr v3).tr u3⟩
    · rw [if_neg c4, if_pos (by rw [lit_4, J_le (by omega) (by omega)]; omega)]
      have hv := t5 c2
      rw [Nat.min_eq_right (by omega)] at hv
      obtain ⟨S1, S2, q1, q2, q3, q4⟩ := H.put2 (a := 1) (b := nmN tp (bgN tp n x) (enN tp n x - bgN tp n x)) (Q := fun o => MG tp n p0 (enN tp n x) (cs ++ (numF (nmN tp (bgN tp n x) (enN tp n x - bgN tp n x))).1) ws D tst o.1 o.2 ∧ MFe p0 S o.1) (by omega) (fun S' w' y1 y2 => ⟨y1, y2⟩)
      rw [show sM_puts S (1 : Int32) = some S1 from q1, callK_eq, q2, hv, q3, callK_eq]
      exact q4
  · rw [if_neg c2, if_neg (show ¬ J (kdN tp n x) = (2 : Int32) by rw [show (2 : Int32) = J 2 from rfl, J_eq (by omega) (by omega)]; exact c2), hno, if_neg Bool.false_ne_true]
    by_cases c1 : kdN tp n x = 1
    · rw [if_pos c1, if_pos (show J (kdN tp n x) = (1 : Int32) by rw [c1]; rfl), H.known, callK_eq]
      by_cases c6 : kwN tp n x < 6
      · have e15 : (if kwN tp n x < 15 then J (kwN tp n x) else (-1 : Int32)) = J (kwN tp n x) := if_pos (by omega)
        rw [if_pos c6, e15, if_neg (by rw [lit_0, J_lt (by omega) (by omega)]; omega), if_pos (by rw [lit_5, J_le (by omega) (by omega)]; omega)]
        obtain ⟨S1, S2, q1, q2, q3, q4⟩ := H.put2 (a := 2) (b := kwN tp n x) (Q := fun o => MG tp n p0 (enN tp n x) (cs ++ (valF (kwN tp n x)).1) ws D tst o.1 o.2 ∧ MFe p0 S o.1) (by omega) (fun S' w' y1 y2 => ⟨y1, y2⟩)
        rw [show sM_puts S (2 : Int32) = some S1 from q1, callK_eq, q3, callK_eq]
        exact q4
      · rw [if_neg c6]
        by_cases c15 : kwN tp n x < 15
        · have e15 : (if kwN tp n x < 15 then J (kwN tp n x) else (-1 : Int32)) = J (kwN tp n x) := if_pos c15
          rw [e15, if_neg (by rw [lit_0, J_lt (by omega) (by omega)]; omega), if_neg (by rw [lit_5, J_le (by omega) (by omega)]; omega)]
          exact err 3 _ _ (by omega)
        · have e15 : (if kwN tp n x < 15 then J (kwN tp n x) else (-1 : Int32)) = -1 := if_neg c15
          rw [e15, if_pos (by decide)]
          exact err 3 _ _ (by omega)
    · rw [if_neg c1, if_neg (show ¬ J (kdN tp n x) = (1 : Int32) by rw [lit_1, J_eq (by omega) (by omega)]; exact c1)]
      obtain ⟨S1, w1, w2, w3⟩ := H.wrong (k := 1) (by omega)
      rw [show sM_wrong S (1 : Int32) = some S1 from w1, callK_eq]
      show Ev (sM_part_J90 w S1) _
      rw [er_90 w2]
      exact ⟨_, rfl, w2.le (by omega), w3⟩
end MP
