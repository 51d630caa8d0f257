set_option maxRecDepth 100000
/-! THE PLAIN LAW, 72: the Model's rules, 5: an operand -/
abbrev opX : ((US × Int64 × Int32 × Int32) → Option (US × Int64)) → (US × Int64 × Int32 × Int32) → Option (US × Int64) := fun rc x => sM_operand_L4 rc x.1 x.2.1 x.2.2.1 x.2.2.2
section MO
variable {tp : Nat → Nat} {n : Nat} {p0 x D : Nat} {cs ws : List Nat} {tst : Nat → Nat} {S : US} {w : Int64}
/-- behind a fault an operand ends at once -/
theorem op_bad {B k pl fo : Nat} {v3 v4 : Int32} (H : MEr p0 B k pl S) : loopK opX (fo + 1) (S, w, v3, v4) = some (S, w) := by
  have hb := H.bad
  have hp : sM_part S w = some (S, w) := by
    unfold sM_part
    rw [hb, callK_eq, bI_f, if_pos j00]
  show sM_operand_L4 (loopK opX fo) S w v3 v4 = _
  unfold sM_operand_L4
  by_cases c : v4 = 0
  · rw [if_pos c, hp, callK_eq]
  · rw [if_neg c, hb, callK_eq, bI_f, if_pos j00, hp, callK_eq]
/-- .. at its end -/
theorem op_end {fo : Nat} {v3 : Int32} : loopK opX (fo + 1) (S, w, v3, 0) = callK (sM_part S w) (fun o6 => some (o6.1, o6.2)) := by
  show sM_operand_L4 (loopK opX fo) S w v3 0 = _
  unfold sM_operand_L4
  rw [if_pos rfl]
/-- no more nots: is there a parenthesis? -/
theorem op_75 {fo : Nat} {v3 : Int32} (H : MG tp n p0 x cs ws D tst S w) : sM_operand_J75 v3 (loopK opX fo) S w = (if isG tp n x 40 = true then callK (sM_waitsFor S (J 14)) (fun o15 => callK (sM_goes o15 w) (fun o16 => callK (sM_deeper o16.1) (fun o17 => loopK opX fo (o17, o16.2, J 1, J 1)))) else loopK opX fo (S, w, v3, J 0)) := by
  unfold sM_operand_J75
  rw [H.good, callK_eq, joinB_eq, bI_t, if_neg j10, show sM_isSign S (40 : Int32) = some (isG tp n x 40) from H.sign (k := 40) (by omega), callK_eq]
  cases isG tp n x 40 with
  | true =>
    rw [bI_t, if_neg j10, if_pos rfl]
    rfl
  | false =>
    rw [bI_f, if_pos j00, if_neg Bool.false_ne_true]
    rfl
end MO
