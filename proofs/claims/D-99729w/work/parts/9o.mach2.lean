set_option maxRecDepth 100000
/-! THE PLAIN LAW, 69: the Model's rules, 2: a state within a rule -/
section MM
variable {tp : Nat → Nat} {n : Nat}
/-- all is well so far: at token x, this code, these waiting, so deep -/
def MG (tp : Nat → Nat) (n p0 x : Nat) (cs ws : List Nat) (D : Nat) (tst : Nat → Nat) (S : US) (w : Int64) : Prop := TpM tp n S ∧ TkM tp n x S w ∧ S 0 13 = J 0 ∧ MSt p0 cs ws S ∧ S 0 32 = J D ∧ (∀ i, i ≤ D → S 13 i = J (tst i) ∧ tst i ≤ 1) ∧ x ≤ n ∧ D ≤ 6 ∧ p0 + cs.length + ws.length ≤ 2 * x ∧ ws.length ≤ x ∧ ∀ a ∈ ws, a < 15
/-- a fault of that kind, at that place -/
def MEr (p0 B k pl : Nat) (S : US) : Prop := S 0 13 = J k ∧ S 0 14 = J pl ∧ 1 ≤ k ∧ k ≤ 5 ∧ ∃ t v, S 0 30 = J t ∧ S 0 31 = J v ∧ p0 ≤ t ∧ t + v ≤ B ∧ v ≤ 900
variable {p0 x D : Nat} {cs ws : List Nat} {tst : Nat → Nat} {S : US} {w : Int64}
theorem MG.good (H : MG tp n p0 x cs ws D tst S w) : sM_isGood S = some true := by
  unfold sM_isGood
  rw [H.2.2.1, if_pos j00]
theorem MEr.bad {k pl : Nat} {B : Nat} (H : MEr p0 B k pl S) : sM_isGood S = some false := by
  obtain ⟨h1, h2, h3, h4, -⟩ := H
  unfold sM_isGood
  rw [h1, if_neg (by rw [lit_0, J_eq (by omega) (by omega)]; omega)]
theorem MG.sign {k : Nat} (H : MG tp n p0 x cs ws D tst S w) (hk : k < 256) : sM_isSign S (J k) = some (isG tp n x k) := by
  obtain ⟨hT, ⟨t1, t2, t3, t4, t5, t6, t7⟩, -, -, -, -, hx, -⟩ := H
  have hkl := kd_lt (tp := tp) (n := n) (x := x)
  obtain ⟨e1, e2, e3, e4⟩ := en_ok (tp := tp) hx
  unfold sM_isSign isG
  rw [t2]
  by_cases c : kdN tp n x = 3
  · have e4 := e4 (by omega)
    have := (hT.2.2 (bgN tp n x) e4.2).2
    rw [if_pos (by rw [c]; rfl), t6 c]
    by_cases z : tp (bgN tp n x) = k
    · rw [if_pos (by rw [z]), decide_eq_true ⟨c, z⟩]
    · rw [if_neg (by rw [J_eq (by omega) (by omega)]; exact z), decide_eq_false (fun q => z q.2)]
  · rw [if_neg (by rw [show (3 : Int32) = J 3 from rfl, J_eq (by omega) (by omega)]; exact c), decide_eq_false (fun q => c q.1)]
theorem MG.known (H : MG tp n p0 x cs ws D tst S w) : sM_knownWord S w = some (if kwN tp n x < 15 then J (kwN tp n x) else -1) := tM_known H.1 H.2.2.2.2.2.2.1 H.2.1
theorem MG.wrong {k : Nat} (H : MG tp n p0 x cs ws D tst S w) (hk : 1 ≤ k ∧ k ≤ 5) : ∃ S', sM_wrong S (J k) = some S' ∧ MEr p0 1000 k (bgN tp n x) S' ∧ MFe p0 S S' := by
  obtain ⟨hT, ⟨t1, t2, t3, t4⟩, h13, ⟨m1, m2, m3, m4⟩, h32, h13', hx, hD, hb, hw, ha⟩ := H
  have hn := hT.2.1
  unfold sM_wrong
  rw [h13, if_pos j00, letB_eq, letB_eq, u2_off (show 19 < 13 ∨ 13 < 19 by omega), t3]
  refine ⟨_, rfl, ⟨?_, u2_at, hk.1, hk.2, p0 + cs.length, ws.length, ?_, ?_, by omega, by omega, by omega⟩, (MFe.rf.f (by omega)).f (by omega)⟩
  · rw [u2_off (by omega)]; exact u2_at
  · rw [u2_off (by omega), u2_off (by omega)]; exact m1
  · rw [u2_off (by omega), u2_off (by omega)]; exact m3
theorem MG.drops {l : Nat} (H : MG tp n p0 x cs ws D tst S w) (hl : l ≤ 6) : Ev (sM_drops S (J l)) (fun S' => MG tp n p0 x (drpN l cs ws).1 (drpN l cs ws).2 D tst S' w ∧ MFe p0 S S') := by
  obtain ⟨hT, hK, h13, hm, h32, h13', hx, hD, hb, hw, ha⟩ := H
  have hn := hT.2.1
  obtain ⟨d1, d2⟩ := drp_len (l := l) ws cs
  have hmem : ∀ (ws cs : List Nat), (∀ a ∈ ws, a < 15) → ∀ a ∈ (drpN l cs ws).2, a < 15 := fun ws => by
    induction ws with
    | nil => intro cs _ a h; cases h
    | cons b ws ih =>
      intro cs hb a h
      rw [drp_cons] at h
      by_cases c : 14 ≤ b
      · rw [if_pos c] at h; exact hb a h
      · rw [if_neg c] at h
        by_cases e : wgtN b < l
        · rw [if_pos e] at h; exact hb a h
        · rw [if_neg e] at h
          exact ih (cs ++ [b]) (fun z hz => hb z (List.mem_cons_of_mem _ hz)) a h
  obtain ⟨S', e, g1, g2, g3, g4⟩ := tM_drops hm (by omega) (by omega) hl ha
  exact ⟨S', e, ⟨hT.of (g2.2.2 16 (by omega)) (g2.1 5 (by decide) (by decide) (by decide) (by decide)), hK.of (fun k z1 z2 => g3 k (by omega) (by omega)), (g3 13 (by decide) (by decide)).trans h13, g1, (g3 32 (by decide) (by decide)).trans h32, by rw [g4]; exact h13', hx, hD, by omega, by omega, hmem ws cs ha⟩, g2⟩
/-- something waits, and the next token -/
theorem MG.wait {a : Nat} {kp : US × Int64 → Option (US × Int64)} {Q : US × Int64 → Prop} (H : MG tp n p0 x cs ws D tst S w) (ha : a < 15) (hk0 : kdN tp n x ≠ 0) (hk : ∀ S' w', MG tp n p0 (enN tp n x) cs (a :: ws) D tst S' w' → MFe p0 S S' → Ev (kp (S', w')) Q) : Ev (callK (sM_waitsFor S (J a)) (fun o => callK (sM_goes o w) kp)) Q := by
  obtain ⟨hT, hK, h13, hm, h32, h13', hx, hD, hb, hw, hal⟩ := H
  have hn := hT.2.1
  obtain ⟨g1, g2⟩ := en_gt (tp := tp) hx hk0
  obtain ⟨S1, e1, m1, m2, m3⟩ := tM_waits (v := a) hm (by omega)
  rw [e1, callK_eq]
  have hT1 := hT.of (m2.2.2 16 (by omega)) (m2.1 5 (by decide) (by decide) (by decide) (by decide))
  refine (tM_goes hT1 g2 ((m3 0 (by decide) 17 (fun _ => by decide)).trans hK.1)).call (fun o k => ?_)
  obtain ⟨k1, k2⟩ := k
  obtain ⟨q1, q2, q3, q4⟩ := m1
  refine hk o.1 o.2 ⟨hT1.g k1, k2, (k1.2 13 (by omega)).trans ((m3 0 (by decide) 13 (fun _ => by decide)).trans h13), ⟨(k1.2 30 (by omega)).trans q1, by rw [k1.1 11 (by decide)]; exact q2, (k1.2 31 (by omega)).trans q3, by rw [k1.1 12 (by decide)]; exact q4⟩, (k1.2 32 (by omega)).trans ((m3 0 (by decide) 32 (fun _ => by decide)).trans h32), fun i hi => ?_, g2, hD, by show p0 + cs.length + (ws.length + 1) ≤ _; omega, by show ws.length + 1 ≤ _; omega, fun b hb => ?_⟩ (m2.g k1)
  · rw [k1.1 13 (by decide), m3 13 (by decide) i (fun z => by cases z)]
    exact h13' i hi
  · rcases List.mem_cons.mp hb with z | z
    · rw [z]; exact ha
    · exact hal b z
theorem MEr.puts {B k pl : Nat} {v : Int32} (H : MEr p0 B k pl S) (hB : B < 1400) : ∃ S', sM_puts S v = some S' ∧ MEr p0 (B + 1) k pl S' ∧ MFe p0 S S' := by
  obtain ⟨h1, h2, h3, h4, t, u, h5, h6, h7, h8, h9⟩ := H
  unfold sM_puts
  rw [h5, gd (by omega) (by omega), J_tn (by omega), letB_eq, letB_eq, u2_row' (show 0 < 11 ∨ 11 < 0 by omega), h5, lit_1, J_add]
  refine ⟨_, rfl, ⟨?_, ?_, h3, h4, t + 1, u, u2_at, ?_, by omega, by omega, h9⟩, (MFe.rf.r (by omega)).f (by omega)⟩
  · rw [u2_off (by omega), u2_row' (by omega)]; exact h1
  · rw [u2_off (by omega), u2_row' (by omega)]; exact h2
  · rw [u2_off (by omega), u2_row' (by omega)]; exact h6
theorem MEr.le {B B' k pl : Nat} (H : MEr p0 B k pl S) (h : B ≤ B') : MEr p0 B' k pl S := by
  obtain ⟨h1, h2, h3, h4, t, u, h5, h6, h7, h8, h9⟩ := H
  exact ⟨h1, h2, h3, h4, t, u, h5, h6, h7, by omega, h9⟩
/-- two codes, and the next token -/
theorem MG.put2 {a b : Nat} {Q : US × Int64 → Prop} (H : MG tp n p0 x cs ws D tst S w) (hk0 : kdN tp n x ≠ 0) (hk : ∀ S' w', MG tp n p0 (enN tp n x) (cs ++ [a, b]) ws D tst S' w' → MFe p0 S S' → Q (S', w')) : ∃ S1 S2, sM_puts S (J a) = some S1 ∧ S1 0 21 = S 0 21 ∧ sM_puts S1 (J b) = some S2 ∧ Ev (sM_part_J90 w S2) Q := by
  obtain ⟨hT, hK, h13, hm, h32, h13', hx, hD, hb, hw, hal⟩ := H
  have hn := hT.2.1
  obtain ⟨g1, g2⟩ := en_gt (tp := tp) hx hk0
  obtain ⟨S1, e1, m1, m2, m3⟩ := tM_puts (v := a) hm (by omega)
  obtain ⟨S2, e2, r1, r2, r3⟩ := tM_puts (v := b) m1 (by rw [List.length_append]; show p0 + (cs.length + 1) < 1400; omega)
  refine ⟨S1, S2, e1, m3 0 (by decide) 21 (fun _ => by decide), e2, ?_⟩
  have hF := m2.tr r2
  have hT2 := hT.of (hF.2.2 16 (by omega)) (hF.1 5 (by decide) (by decide) (by decide) (by decide))
  have f0 : ∀ k, k ≠ 30 → S2 0 k = S 0 k := fun k z => (r3 0 (by decide) k (fun _ => z)).trans (m3 0 (by decide) k (fun _ => z))
  have hgd : sM_isGood S2 = some true := by
    unfold sM_isGood
    rw [f0 13 (by decide), h13, if_pos j00]
  unfold sM_part_J90
  rw [hgd, callK_eq, bI_t, if_neg j10]
  refine (tM_goes hT2 g2 ((f0 17 (by decide)).trans hK.1)).call (fun o k => ?_)
  obtain ⟨k1, k2⟩ := k
  obtain ⟨q1, q2, q3, q4⟩ := r1
  have ecs : cs ++ [a] ++ [b] = cs ++ [a, b] := by rw [List.append_assoc]; rfl
  rw [ecs] at q1 q2
  refine ⟨_, rfl, hk o.1 o.2 ⟨hT2.g k1, k2, (k1.2 13 (by omega)).trans ((f0 13 (by decide)).trans h13), ⟨(k1.2 30 (by omega)).trans q1, by rw [k1.1 11 (by decide)]; exact q2, (k1.2 31 (by omega)).trans q3, by rw [k1.1 12 (by decide)]; exact q4⟩, (k1.2 32 (by omega)).trans ((f0 32 (by decide)).trans h32), fun i hi => ?_, g2, hD, by rw [List.length_append]; show p0 + (cs.length + 2) + ws.length ≤ _; omega, by omega, hal⟩ (hF.g k1)⟩
  rw [k1.1 13 (by decide), r3 13 (by decide) i (fun z => by cases z), m3 13 (by decide) i (fun z => by cases z)]
  exact h13' i hi
end MM
