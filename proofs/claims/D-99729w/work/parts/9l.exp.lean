set_option maxRecDepth 100000
/-! THE PLAIN LAW, 66: HorizonSeam's reader, 11: expressions -/
section L7
variable {ct : CT} {ad : Nat → Nat} {P : Nat → Nat → Option Nat} {S : US} {tp : Nat → Nat} {n : Nat} {c : RC} {q : Nat} {d s : Int32}
/-- before an expression -/
theorem tP_beg {rcE : GS → Nat → Int32 → Option (Option Nat × GS)} {rcU : GS → Nat → Int32 → Option (Nat × GS)} {G : GS} {x : Nat} {ar : Int32} (hF : RF ct ad S tp n c q) (hRs : RS ct tp n c q d s G x) : u5_expressionB ct ad P S rcE rcU G q ar = u5_expression_J31 q ar S P ad ct rcE rcU G (bI (begB tp n x)) ∧ s5_expressionB ct ad P S rcE G q ar = s5_expression_J31 q ar S P ad ct rcE G (bI (begB tp n x)) := by
  obtain ⟨f1, f2, f3, f4⟩ := id hF
  have hK := hRs.2.2.1
  have hkl := kd_lt (tp := tp) (n := n) (x := x)
  have e1 := tH_isSign (ct := ct) (ad := ad) (P := P) (k := 40) f1 f3 hRs.2.1 hK (by omega)
  unfold u5_expressionB s5_expressionB begB
  rw [hRs.kd, hRs.kd, joinB_eq, joinB_eq]
  by_cases c2 : kdN tp n x = 2
  · have cz : J (kdN tp n x) = (2 : Int32) := by rw [c2]; rfl
    rw [if_pos cz, if_pos cz, decide_eq_true (Or.inl c2)]
    exact ⟨rfl, rfl⟩
  · have cz : ¬ J (kdN tp n x) = (2 : Int32) := by rw [show (2 : Int32) = J 2 from rfl, J_eq (by omega) (by omega)]; exact c2
    rw [if_neg cz, if_neg cz, hRs.kd, hRs.kd]
    by_cases c1 : kdN tp n x = 1
    · have cz1 : J (kdN tp n x) = (1 : Int32) := by rw [c1]; rfl
      rw [if_pos cz1, if_pos cz1, decide_eq_true (Or.inr (Or.inl c1))]
      exact ⟨rfl, rfl⟩
    · have cz1 : ¬ J (kdN tp n x) = (1 : Int32) := by rw [lit_1, J_eq (by omega) (by omega)]; exact c1
      rw [if_neg cz1, if_neg cz1, hK.hC, hK.hC, show s5_isSign ct ad P S G q (40 : Int32) = some (isG tp n x 40, G) from e1, callK_eq, callK_eq]
      cases cs : isG tp n x 40 with
      | true =>
        rw [decide_eq_true (Or.inr (Or.inr rfl))]
        exact ⟨rfl, rfl⟩
      | false =>
        rw [decide_eq_false (fun z => by
          rcases z with z | z | z
          · exact c2 z
          · exact c1 z
          · cases z)]
        exact ⟨rfl, rfl⟩
theorem tP_exp (hF : RF ct ad S tp n c q) : ∀ e nn, e < nn → e ≤ 6 → HOk ct tp n c q d s (pExp tp n e) 1 (11 * e + 1) (fun G => uExp nn ct ad P S G q (J (6 - e))) (fun G => sExp nn ct ad P S G q (J (6 - e))) := fun e => by
  obtain ⟨f1, f2, f3, f4⟩ := id hF
  have hn := f1.1
  have bad1 : ∀ (rcE : GS → Nat → Int32 → Option (Option Nat × GS)) (rcU : GS → Nat → Int32 → Option (Nat × GS)) (ar : Int32) (G : GS) (x dd : Nat) (v : Option (Option Nat × GS)), RS ct tp n c q d s G x → Rm ct G (200 * (n + 1 - x) - 10 * 1) (9000 * (n + 1 - x) - 500 * 1) → begB tp n x = false → HRs ct tp n c q d s (.inl (1, bgN tp n x)) x 1 dd G (u5_expressionB ct ad P S rcE rcU G q ar) v := fun rcE rcU ar G x dd v hRs hr hb => by
    obtain ⟨b1, -⟩ := tP_beg (P := P) (rcE := rcE) (rcU := rcU) (ar := ar) hF hRs
    have hx := hRs.2.1
    rw [b1, hb]
    unfold u5_expression_J31
    rw [hRs.2.2.1.hC]
    obtain ⟨w, e, hw⟩ := hs_thr (P := P) (ad := ad) (S := S) (ct := ct) (A := 1) (x0 := x) (k := 1) (C := 0) (Z := 0) hRs.1 hRs.2.2.1 Gr.rf (hr.le (by omega) (by omega)) (by omega) (by omega)
    rw [show u5_want ct ad P S G q (bI false) (1 : Int32) = some w from e, tB_s]
    exact ⟨w, rfl, hw⟩
  induction e with
  | zero =>
    intro nn h1 h2 G x hRs hr
    obtain ⟨nn, rfl⟩ : ∃ m, nn = m + 1 := ⟨nn - 1, by omega⟩
    have hx := hRs.2.1
    show HRs ct tp n c q d s (pExp tp n 0 x) x 1 (11 * 0 + 1) G (u5_expressionB ct ad P S (sExp nn ct ad P S) (uExp nn ct ad P S) G q (J (6 - 0))) (s5_expressionB ct ad P S (sExp nn ct ad P S) G q (J (6 - 0)))
    unfold pExp
    cases hb : begB tp n x with
    | false =>
      rw [if_neg Bool.false_ne_true]
      exact bad1 _ _ _ _ _ _ _ hRs hr hb
    | true =>
      rw [if_pos rfl]
      obtain ⟨b1, -⟩ := tP_beg (P := P) (rcE := sExp nn ct ad P S) (rcU := uExp nn ct ad P S) (ar := J (6 - 0)) hF hRs
      rw [b1, hb]
      unfold u5_expression_J31
      rw [hRs.2.2.1.hC, show u5_want ct ad P S G q (bI true) (1 : Int32) = none from tW_uo, tB_n, hRs.2.2.1.hC, show s5_want ct ad P S G q (bI true) (1 : Int32) = some G from tW_so, callK_eq, joinB_eq, if_pos (show (6 : Int32) ≤ J (6 - 0) by decide)]
      show HRs ct tp n c q d s (.inl (2, bgN tp n x)) x 1 (11 * 0 + 1) G (u5_expression_J47 q (J (6 - 0)) S P ad ct (sExp nn ct ad P S) (uExp nn ct ad P S) G (J 0)) _
      unfold u5_expression_J47
      rw [hRs.2.2.1.hC]
      obtain ⟨w, e, hw⟩ := hs_thr (P := P) (ad := ad) (S := S) (ct := ct) (A := 1) (x0 := x) (k := 2) (C := 0) (Z := 0) hRs.1 hRs.2.2.1 Gr.rf (hr.le (by omega) (by omega)) (by omega) (by omega)
      rw [show u5_want ct ad P S G q (J 0) (2 : Int32) = some w from e, tB_s]
      exact ⟨w, rfl, hw⟩
  | succ e ih =>
    intro nn h1 h2 G x hRs hr
    obtain ⟨nn, rfl⟩ : ∃ m, nn = m + 1 := ⟨nn - 1, by omega⟩
    have hx := hRs.2.1
    show HRs ct tp n c q d s (pExp tp n (e + 1) x) x 1 (11 * (e + 1) + 1) G (u5_expressionB ct ad P S (sExp nn ct ad P S) (uExp nn ct ad P S) G q (J (6 - (e + 1)))) (s5_expressionB ct ad P S (sExp nn ct ad P S) G q (J (6 - (e + 1))))
    unfold pExp
    cases hb : begB tp n x with
    | false =>
      rw [if_neg Bool.false_ne_true]
      exact bad1 _ _ _ _ _ _ _ hRs hr hb
    | true =>
      rw [if_pos rfl]
      obtain ⟨b1, b2⟩ := tP_beg (P := P) (rcE := sExp nn ct ad P S) (rcU := uExp nn ct ad P S) (ar := J (6 - (e + 1))) hF hRs
      have h6 : ¬ (6 : Int32) ≤ J (6 - (e + 1)) := by rw [lit_6, J_le (by omega) (by omega)]; omega
      rw [b1, b2, hb]
      unfold u5_expression_J31 s5_expression_J31
      rw [hRs.2.2.1.hC, show u5_want ct ad P S G q (bI true) (1 : Int32) = none from tW_uo, tB_n, hRs.2.2.1.hC, hRs.2.2.1.hC, show s5_want ct ad P S G q (bI true) (1 : Int32) = some G from tW_so, callK_eq, callK_eq, joinB_eq, joinB_eq, if_neg h6, if_neg h6]
      show HRs ct tp n c q d s (pOr tp n (pExp tp n e) x) x 1 (11 * (e + 1) + 1) G (u5_expression_J47 q (J (6 - (e + 1))) S P ad ct (sExp nn ct ad P S) (uExp nn ct ad P S) G (J 1)) (s5_expression_J47 q (J (6 - (e + 1))) S P ad ct (sExp nn ct ad P S) G (J 1))
      unfold u5_expression_J47 s5_expression_J47
      rw [hRs.2.2.1.hC, show u5_want ct ad P S G q (J 1) (2 : Int32) = none from tW_uo, tB_n, hRs.2.2.1.hC, hRs.2.2.1.hC, show s5_want ct ad P S G q (J 1) (2 : Int32) = some G from tW_so, callK_eq, callK_eq]
      have hAe : Adv n (pExp tp n e) := pExp_adv e
      have hE : HOk ct tp n c q d s (pExp tp n e) 1 (11 * e + 1) (fun G => uExp nn ct ad P S G q (J (6 - (e + 1)) + 1)) (fun G => sExp nn ct ad P S G q (J (6 - (e + 1)) + 1)) := by
        have := ih nn (by omega) (by omega)
        rw [show 6 - e = 6 - (e + 1) + 1 by omega, ← J_add] at this
        exact this
      have t1 := tP_part (P := P) hF hAe (by omega) hE
      have a1 : Adv n (pPart tp n (pExp tp n e)) := pPart_adv hAe
      have t2 := tP_product hF a1 t1
      have a2 : Adv n (pProd tp n (pExp tp n e)) := pCh_adv (fun _ => mul_nz) a1
      have t3 := tP_sum hF a2 t2
      have a3 : Adv n (pSum tp n (pExp tp n e)) := pSum_adv hAe
      have t4 := tP_not hF a3 t3
      have t5 := tP_and hF (pNt_adv hAe 6) t4
      have a5 : Adv n (pAnd tp n (pExp tp n e)) := pCh_adv (fun _ => and_nz) (pNt_adv hAe 6)
      have t6 := tP_or hF a5 t5
      exact t6 G x hRs hr
end L7
