set_option maxRecDepth 100000
/-! THE PLAIN LAW, 37: whom to which, 7 -/
theorem A_sent {ct : CT} {a0 q0 j : Nat} {S : US} {G : GS} {P : Nat → Nat → Option Nat} {ad : Nat → Nat} {S2 : US} {u : RU} {r : Nat → Nat} {q1 e1 c1 : Nat} {f1 : Nat → Option Nat} {R1 : Nat → Nat → Nat} {q2 e2 c2 : Nat} {f2 : Nat → Option Nat} {sn : Nat → Nat} {t : Nat} (hj : j < 24) (H : InvD ct a0 q0 j S G P ad S2 u r q1 e1 c1 f1 R1 q2 e2 c2 f2 sn t) (p1 p2 : Int32) : AgR [(1, 1), (2, 2)] S2 (RG2 S2 G 20 2000) (t1_sent S ct P G.1 p1 p2) (s1_sent ct ad P S G p1 p2) (sM_sent S2 p1 p2) := by
  have Hz := H.z
  have hCo := H.core
  have hZ := Hz.core
  have ho12 := hCo.1.2.1
  have ho3 := hCo.1.1
  have hm6 := hCo.1.2.2.1
  have ho := hCo.1
  have hR := hCo.2.1
  have hM := hZ.2.2.2.2.2.1
  have hMr := hZ.2.2.2.2.2.2
  have h64 := shl6' (show u.2.1 < 7 by omega)
  have h12 := shl12 ho12
  have hrm : Rm ct G 49000 228000 := H.1.2.2.1.rm H.1.2.1 hj (by omega) (by omega)
  have hn := hCo.2.2.2.1.1
  have hn2 := hM.1
  have e1 := tH_in (p := p1) (a := 0) (b := 1 <<< u.1 - 1)
  have hT2 := tM_right (S := Z0 S2) (c := true) (k := 2) Z0_0 (Or.inr rfl)
  have hF2 := tM_right (S := Z0 S2) (c := false) (k := 2) Z0_0 (Or.inr rfl)
  have hT1 := tM_right (S := Z0 S2) (c := true) (k := 1) Z0_0 (Or.inl rfl)
  have hF1 := tM_right (S := Z0 S2) (c := false) (k := 1) Z0_0 (Or.inl rfl)
  rw [bI_t, if_pos rfl] at hT2 hT1
  rw [bI_f, if_neg (by decide)] at hF2 hF1
  have bad2 : t1_sent S ct P G.1 p1 p2 = some (J 2) → sM_sent S2 p1 p2 = some (0, u2 (Z0 S2) 0 0 (J 2)) → AgR [(1, 1), (2, 2)] S2 (RG2 S2 G 20 2000) (t1_sent S ct P G.1 p1 p2) (s1_sent ct ad P S G p1 p2) (sM_sent S2 p1 p2) := fun h1 h2 => by
    rw [h1, h2]
    exact Or.inl ⟨2, 2, by decide, rfl, ev_thr⟩
  have bad1 : t1_sent S ct P G.1 p1 p2 = some (J 1) → sM_sent S2 p1 p2 = some (0, u2 (Z0 S2) 0 0 (J 1)) → AgR [(1, 1), (2, 2)] S2 (RG2 S2 G 20 2000) (t1_sent S ct P G.1 p1 p2) (s1_sent ct ad P S G p1 p2) (sM_sent S2 p1 p2) := fun h1 h2 => by
    rw [h1, h2]
    exact Or.inl ⟨1, 1, by decide, rfl, ev_thr⟩
  have eT := st_eT (ct := ct) (P := P) (h := G.1) (p2 := p2) hn ho12 e1 h12.1 h12.2
  have eS := st_eS (ct := ct) (ad := ad) (P := P) (G0 := G) (p2 := p2) hn ho12 e1 h12.1 h12.2
  have eM := st_eM (p1 := p1) (p2 := p2) hn2 ho12
  have eM0 : sM_sent_J34 p1 p2 (Z0 S2) (J 0) = some (0, u2 (Z0 S2) 0 0 (J 2)) := by
    unfold sM_sent_J34
    rw [show sM_right (Z0 S2) (J 0) (2 : Int32) = _ from hF2, callK_eq]
    dsimp only
    rw [bI_f, if_pos j00]
  cases hin : inN p1 0 (1 <<< u.1 - 1) with
  | false =>
    refine bad2 ?_ ?_
    · rw [eT, hin, callK_eq, bI_f, if_pos j00]
      unfold t1_sent_J33
      rw [ri_0, tB_s]
    · rw [eM]
      by_cases c : p1 < J 0
      · rw [if_pos c]; exact eM0
      · rw [if_neg c, if_pos]
        · exact eM0
        · unfold inN at hin
          have h2 : J 0 ≤ p1 := Int32.not_lt.mp c
          rw [decide_eq_true h2, Bool.true_and, decide_eq_false_iff_not] at hin
          rw [Int32.le_iff_toInt_le, J_ti (by omega)] at hin ⊢
          omega
  | true =>
    obtain ⟨v, -, hv, hp1⟩ := J_of (by omega) (by omega) hin
    have hv : v < 1 <<< u.1 := by omega
    have hbc := tN_bitCount (v := v) (by omega)
    have hbm := tM_bits (v := v) (by omega)
    have hpl := popN_le v 12
    have m1 : ¬ p1 < J 0 := by rw [hp1, J_lt (by omega) (by omega)]; omega
    have m2 : ¬ J (1 <<< u.1) ≤ p1 := by rw [hp1, J_le (by omega) (by omega)]; omega
    by_cases c6 : 6 < popN v 12
    · refine bad2 ?_ ?_
      · rw [eT, hin, callK_eq, bI_t, if_neg (by decide), hp1, hbc, callK_eq, if_pos (by rw [lit_6, J_lt (by omega) (by omega)]; exact c6)]
        unfold t1_sent_J33
        rw [ri_0, tB_s]
      · rw [eM, if_neg m1, if_neg m2]
        rw [show sM_bits p1 = some (J (popN v 12)) by rw [hp1]; exact hbm, callK_eq, if_pos (by rw [lit_6, J_lt (by omega) (by omega)]; exact c6)]
        exact eM0
    · have eT2 : t1_sent S ct P G.1 p1 p2 = t1_sent_J33 p1 p2 S (J 1) := by
        rw [eT, hin, callK_eq, bI_t, if_neg (by decide), show sN_bitCount p1 = some (J (popN v 12)) by rw [hp1]; exact hbc, callK_eq, if_neg (by rw [lit_6, J_lt (by omega) (by omega)]; exact c6)]
      have eS2 : s1_sent ct ad P S G p1 p2 = s1_sent_J33 p1 p2 S P ad G ct (J 1) := by
        rw [eS, hin, callK_eq, bI_t, if_neg (by decide), show sN_bitCount p1 = some (J (popN v 12)) by rw [hp1]; exact hbc, callK_eq, if_neg (by rw [lit_6, J_lt (by omega) (by omega)]; exact c6)]
      have eM2 : sM_sent S2 p1 p2 = sM_sent_J34 p1 p2 (Z0 S2) (J 1) := by
        rw [eM, if_neg m1, if_neg m2, show sM_bits p1 = some (J (popN v 12)) by rw [hp1]; exact hbm, callK_eq, if_neg (by rw [lit_6, J_lt (by omega) (by omega)]; exact c6)]
      -- the stretch that is asked for
      have e2 := tH_in (p := p2) (a := 0) (b := u.1 - 1)
      have stretchOk : (∃ w : Bool, (w = true → p2 = -J 1 ∨ ∃ s, s < u.1 ∧ p2 = J s ∧ bitB v s = true) ∧ t1_sent_J33 p1 p2 S (J 1) = t1_found (bI w) ∧ (w = true → s1_sent_J33 p1 p2 S P ad G ct (J 1) = s1_sent_J71 p1 p2 S P ad G ct (J 1)) ∧ sM_sent_J34 p1 p2 (Z0 S2) (J 1) = sM_sent_J75 p1 p2 (true, Z0 S2) (bI w)) := by
        have u1 := st_u1 (p1 := p1) hn (by omega) e2
        have u2' := st_u2 (ct := ct) (ad := ad) (P := P) (G0 := G) (p1 := p1) hn (by omega) e2
        have u3 := st_u3 (p1 := p1) (p2 := p2) hn2 hT2
        by_cases c1 : p2 = (-1 : Int32)
        · refine ⟨true, fun _ => Or.inl c1, ?_, fun _ => ?_, ?_⟩
          · rw [u1, if_pos c1]; rfl
          · rw [u2', if_pos c1]
          · rw [u3, if_pos c1]; rfl
        · cases hq : inN p2 0 (u.1 - 1) with
          | false =>
            refine ⟨false, (fun z => by cases z), ?_, (fun z => by cases z), ?_⟩
            · rw [u1, if_neg c1, hq]; rfl
            · rw [u3, if_neg c1]
              by_cases c : p2 < J 0
              · rw [if_pos c]; rfl
              · rw [if_neg c, if_pos]
                · rfl
                · unfold inN at hq
                  have h2 : J 0 ≤ p2 := Int32.not_lt.mp c
                  rw [decide_eq_true h2, Bool.true_and, decide_eq_false_iff_not] at hq
                  rw [Int32.le_iff_toInt_le, J_ti (by omega)] at hq ⊢
                  omega
          | true =>
            obtain ⟨s, -, hs, hp2⟩ := J_of (by omega) (by omega) hq
            have n1 : ¬ p2 < J 0 := by rw [hp2, J_lt (by omega) (by omega)]; omega
            have n2 : ¬ J u.1 ≤ p2 := by rw [hp2, J_le (by omega) (by omega)]; omega
            have n3 : s1_isOf p1 p2 = some (bitB v s) := by rw [hp1, hp2]; exact tN_isOf (by omega) (by omega)
            have n4 : ((p1 >>> (p2 &&& 31)) &&& (1 : Int32)) = J ((v >>> s) % 2) := by rw [hp1, hp2]; exact bit_J (by omega) (by omega)
            refine ⟨bitB v s, fun z => Or.inr ⟨s, by omega, hp2, z⟩, ?_, fun z => ?_, ?_⟩
            · rw [u1, if_neg c1, hq, callK_eq, bI_t, if_neg (by decide), n3, callK_eq]
              cases bitB v s <;> rfl
            · rw [u2', if_neg c1, hq, callK_eq, bI_t, if_neg (by decide), n3, callK_eq, z]
              rfl
            · rw [u3, if_neg c1, if_neg n1, if_neg n2, n4]
              cases hb : bitB v s with
              | true => rw [bit_t hb, if_pos (show J 1 = (1 : Int32) from rfl)]; rfl
              | false => rw [bit_f hb, if_neg (by decide)]; rfl
      obtain ⟨w, w1, w2, w3, w4⟩ := stretchOk
      cases w with
      | false =>
        refine bad1 ?_ ?_
        · rw [eT2, w2]; rfl
        · rw [eM2, w4]
          rw [bI_f]
          exact st_m75 hF1
      | true =>
        have w1 := w1 rfl
        rw [eT2, w2, eS2, w3 rfl, eM2, w4, bI_t, fd_1]
        have hvb : v < 4096 := by omega
        have hpn : popN v u.1 = popN v 12 := by
          have := pop_n (d := 12 - u.1) hv
          rw [show u.1 + (12 - u.1) = 12 by omega] at this
          exact this.symm
        have hans := tH_answer (ad := ad) H.1.2.1.1 hCo.2.2.2.1 ho hCo.2.2.2.2.1 hR hv (by omega) w1 (hrm.le (by omega) (by omega))
        refine Ar_ok (RG2.mk (if (glN (bitB v) u.1).length ≤ u.2.1 then (if p2 = -J 1 then J ((dpN u.2.1 (glN (bitB v) u.1).length (stS u.1 r (glN (bitB v) u.1)) (glN (bitB v) u.1).length 0).getD 0) else ansN u.2.1 (glN (bitB v) u.1).length (stS u.1 r (glN (bitB v) u.1)) (glN (bitB v) u.1) p2.toNatClampNeg (glN (bitB v) u.1).length 0) else -2) ?_ ?_)
        · unfold s1_sent_J71
          rw [fe_1, callK_eq, hp1]
          exact hans
        · have hlen : (glN (bitB v) u.1).length ≤ 6 := by rw [gl_pop, hpn]; omega
          exact st_m75' hT1 (tM_answer hM ho hMr hR hv hp1 hlen w1)
