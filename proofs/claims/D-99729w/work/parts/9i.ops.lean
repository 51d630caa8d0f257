set_option maxRecDepth 100000
/-! THE PLAIN LAW, 63: HorizonSeam's reader, 8: products, sums, and, or -/
section L4
variable {ct : CT} {ad : Nat → Nat} {P : Nat → Nat → Option Nat} {S : US} {tp : Nat → Nat} {n : Nat} {c : RC} {q : Nat} {d s : Int32}

theorem tP_product {E : Nat → PR} {dd : Nat} {ar : Int32} {rcE : GS → Nat → Int32 → Option (Option Nat × GS)} {rcU : GS → Nat → Int32 → Option (Nat × GS)} (hF : RF ct ad S tp n c q) (hA : Adv n (pPart tp n E)) (hpt : HOk ct tp n c q d s (pPart tp n E) 6 dd (fun G => u5_part ct ad P S rcE rcU G q ar) (fun G => s5_part ct ad P S rcE G q ar)) : HOk ct tp n c q d s (pProd tp n E) 5 (dd + 1) (fun G => u5_product ct ad P S rcE rcU G q ar) (fun G => s5_product ct ad P S rcE G q ar) := by
  obtain ⟨f1, f2, f3, f4⟩ := id hF
  refine tP_chain (uB := fun q1 rc G => u5_product_L13 q ar S P ad ct rcE rcU q1 rc G) (sB := fun q1 rc G => s5_product_L13 q ar S P ad ct rcE q1 rc G) (by omega) hF hpt hA (fun _ => mul_nz) (fun q1 lo G x m acc hRs hCh => ?_)
  have hK := hRs.2.2.1
  have e1 := tH_isSign (ct := ct) (ad := ad) (P := P) (k := 42) f1 f3 hRs.2.1 hK (by omega)
  have e2 := tH_isSign (ct := ct) (ad := ad) (P := P) (k := 47) f1 f3 hRs.2.1 hK (by omega)
  have hcls : ∀ (ρ : Type) (k : Option ρ), hC G.1 q1 6 k = k := fun ρ k => by
    obtain ⟨ql, el, qs, bs, cap, fl, sg, l, u, Fs, op, t1, -⟩ := hCh
    exact hC_eq t1
  try dsimp only
  unfold u5_product_L13 s5_product_L13 mulo
  cases z1 : isG tp n x 42 with
  | true =>
    obtain ⟨o, eo, w1, w2, w3⟩ := tH_sign (P := P) hF hRs (show 42 < 128 by omega) z1
    have hK1 := w2.2.2.1
    rw [z1] at e1
    refine ⟨fun h => ?_, fun _ => ⟨42, by rw [if_pos rfl]; unfold bopR; omega, o.2, w2, w3, fun rcu rcs => ?_⟩⟩
    · rw [if_pos rfl] at h; exact absurd h (by decide)
    · refine ⟨?_, ?_⟩
      · rw [hK.hC, show s5_isSign ct ad P S G q (42 : Int32) = some (true, G) from e1, callK_eq]
        dsimp only
        rw [bI_t, if_neg (by decide), hK.hC, eo, callK_eq, hK1.hC, hK1.hC, w1]
      · rw [hK.hC, show s5_isSign ct ad P S G q (42 : Int32) = some (true, G) from e1, callK_eq]
        dsimp only
        rw [bI_t, if_neg (by decide), hK.hC, eo, callK_eq, hK1.hC, w1]
  | false =>
    rw [z1] at e1
    rw [if_neg Bool.false_ne_true]
    cases z2 : isG tp n x 47 with
    | true =>
      obtain ⟨o, eo, w1, w2, w3⟩ := tH_sign (P := P) hF hRs (show 47 < 128 by omega) z2
      have hK1 := w2.2.2.1
      rw [z2] at e2
      refine ⟨fun h => ?_, fun _ => ⟨47, by rw [if_pos rfl]; unfold bopR; omega, o.2, w2, w3, fun rcu rcs => ?_⟩⟩
      · rw [if_pos rfl] at h; exact absurd h (by decide)
      · refine ⟨?_, ?_⟩
        · rw [hK.hC, show s5_isSign ct ad P S G q (42 : Int32) = some (false, G) from e1, callK_eq]
          dsimp only
          rw [bI_f, if_pos j00, hK.hC, show s5_isSign ct ad P S G q (47 : Int32) = some (true, G) from e2, callK_eq]
          dsimp only
          rw [bI_t, if_neg (by decide), hK.hC, eo, callK_eq, hK1.hC, hK1.hC, w1]
        · rw [hK.hC, show s5_isSign ct ad P S G q (42 : Int32) = some (false, G) from e1, callK_eq]
          dsimp only
          rw [bI_f, if_pos j00, hK.hC, show s5_isSign ct ad P S G q (47 : Int32) = some (true, G) from e2, callK_eq]
          dsimp only
          rw [bI_t, if_neg (by decide), hK.hC, eo, callK_eq, hK1.hC, w1]
    | false =>
      rw [z2] at e2
      refine ⟨fun _ rcu rcs => ?_, fun h => absurd (if_neg Bool.false_ne_true) h⟩
      refine ⟨?_, ?_⟩
      · rw [hK.hC, show s5_isSign ct ad P S G q (42 : Int32) = some (false, G) from e1, callK_eq]
        dsimp only
        rw [bI_f, if_pos j00, hK.hC, show s5_isSign ct ad P S G q (47 : Int32) = some (false, G) from e2, callK_eq]
        dsimp only
        rw [bI_f, if_pos j00]
      · rw [hK.hC, show s5_isSign ct ad P S G q (42 : Int32) = some (false, G) from e1, callK_eq]
        dsimp only
        rw [bI_f, if_pos j00, hK.hC, show s5_isSign ct ad P S G q (47 : Int32) = some (false, G) from e2, callK_eq]
        dsimp only
        rw [bI_f, if_pos j00, hcls]

theorem tP_sum {E : Nat → PR} {dd : Nat} {ar : Int32} {rcE : GS → Nat → Int32 → Option (Option Nat × GS)} {rcU : GS → Nat → Int32 → Option (Nat × GS)} (hF : RF ct ad S tp n c q) (hA : Adv n (pProd tp n E)) (hpt : HOk ct tp n c q d s (pProd tp n E) 5 dd (fun G => u5_product ct ad P S rcE rcU G q ar) (fun G => s5_product ct ad P S rcE G q ar)) : HOk ct tp n c q d s (pSum tp n E) 4 (dd + 1) (fun G => u5_sum ct ad P S rcE rcU G q ar) (fun G => s5_sum ct ad P S rcE G q ar) := by
  obtain ⟨f1, f2, f3, f4⟩ := id hF
  refine tP_chain (uB := fun q1 rc G => u5_sum_L13 q ar S P ad ct rcE rcU q1 rc G) (sB := fun q1 rc G => s5_sum_L13 q ar S P ad ct rcE q1 rc G) (by omega) hF hpt hA (fun _ => add_nz) (fun q1 lo G x m acc hRs hCh => ?_)
  have hK := hRs.2.2.1
  have e1 := tH_isSign (ct := ct) (ad := ad) (P := P) (k := 43) f1 f3 hRs.2.1 hK (by omega)
  have e2 := tH_isSign (ct := ct) (ad := ad) (P := P) (k := 45) f1 f3 hRs.2.1 hK (by omega)
  have hcls : ∀ (ρ : Type) (k : Option ρ), hC G.1 q1 6 k = k := fun ρ k => by
    obtain ⟨ql, el, qs, bs, cap, fl, sg, l, u, Fs, op, t1, -⟩ := hCh
    exact hC_eq t1
  try dsimp only
  unfold u5_sum_L13 s5_sum_L13 addo
  cases z1 : isG tp n x 43 with
  | true =>
    obtain ⟨o, eo, w1, w2, w3⟩ := tH_sign (P := P) hF hRs (show 43 < 128 by omega) z1
    have hK1 := w2.2.2.1
    rw [z1] at e1
    refine ⟨fun h => ?_, fun _ => ⟨43, by rw [if_pos rfl]; unfold bopR; omega, o.2, w2, w3, fun rcu rcs => ?_⟩⟩
    · rw [if_pos rfl] at h; exact absurd h (by decide)
    · refine ⟨?_, ?_⟩
      · rw [hK.hC, show s5_isSign ct ad P S G q (43 : Int32) = some (true, G) from e1, callK_eq]
        dsimp only
        rw [bI_t, if_neg (by decide), hK.hC, eo, callK_eq, hK1.hC, hK1.hC, w1]
      · rw [hK.hC, show s5_isSign ct ad P S G q (43 : Int32) = some (true, G) from e1, callK_eq]
        dsimp only
        rw [bI_t, if_neg (by decide), hK.hC, eo, callK_eq, hK1.hC, w1]
  | false =>
    rw [z1] at e1
    rw [if_neg Bool.false_ne_true]
    cases z2 : isG tp n x 45 with
    | true =>
      obtain ⟨o, eo, w1, w2, w3⟩ := tH_sign (P := P) hF hRs (show 45 < 128 by omega) z2
      have hK1 := w2.2.2.1
      rw [z2] at e2
      refine ⟨fun h => ?_, fun _ => ⟨45, by rw [if_pos rfl]; unfold bopR; omega, o.2, w2, w3, fun rcu rcs => ?_⟩⟩
      · rw [if_pos rfl] at h; exact absurd h (by decide)
      · refine ⟨?_, ?_⟩
        · rw [hK.hC, show s5_isSign ct ad P S G q (43 : Int32) = some (false, G) from e1, callK_eq]
          dsimp only
          rw [bI_f, if_pos j00, hK.hC, show s5_isSign ct ad P S G q (45 : Int32) = some (true, G) from e2, callK_eq]
          dsimp only
          rw [bI_t, if_neg (by decide), hK.hC, eo, callK_eq, hK1.hC, hK1.hC, w1]
        · rw [hK.hC, show s5_isSign ct ad P S G q (43 : Int32) = some (false, G) from e1, callK_eq]
          dsimp only
          rw [bI_f, if_pos j00, hK.hC, show s5_isSign ct ad P S G q (45 : Int32) = some (true, G) from e2, callK_eq]
          dsimp only
          rw [bI_t, if_neg (by decide), hK.hC, eo, callK_eq, hK1.hC, w1]
    | false =>
      rw [z2] at e2
      refine ⟨fun _ rcu rcs => ?_, fun h => absurd (if_neg Bool.false_ne_true) h⟩
      refine ⟨?_, ?_⟩
      · rw [hK.hC, show s5_isSign ct ad P S G q (43 : Int32) = some (false, G) from e1, callK_eq]
        dsimp only
        rw [bI_f, if_pos j00, hK.hC, show s5_isSign ct ad P S G q (45 : Int32) = some (false, G) from e2, callK_eq]
        dsimp only
        rw [bI_f, if_pos j00]
      · rw [hK.hC, show s5_isSign ct ad P S G q (43 : Int32) = some (false, G) from e1, callK_eq]
        dsimp only
        rw [bI_f, if_pos j00, hK.hC, show s5_isSign ct ad P S G q (45 : Int32) = some (false, G) from e2, callK_eq]
        dsimp only
        rw [bI_f, if_pos j00, hcls]

theorem tP_and {E : Nat → PR} {dd : Nat} {ar : Int32} {rcE : GS → Nat → Int32 → Option (Option Nat × GS)} {rcU : GS → Nat → Int32 → Option (Nat × GS)} (hF : RF ct ad S tp n c q) (hA : Adv n (pNt tp n E 6)) (hpt : HOk ct tp n c q d s (pNt tp n E 6) 3 dd (fun G => u5_not ct ad P S rcE rcU G q ar) (fun G => s5_not ct ad P S rcE G q ar)) : HOk ct tp n c q d s (pAnd tp n E) 2 (dd + 1) (fun G => u5_and ct ad P S rcE rcU G q ar) (fun G => s5_and ct ad P S rcE G q ar) := by
  obtain ⟨f1, f2, f3, f4⟩ := id hF
  refine tP_chain (uB := fun q1 rc G => u5_and_L13 q ar S P ad ct rcE rcU q1 rc G) (sB := fun q1 rc G => s5_and_L13 q ar S P ad ct rcE q1 rc G) (by omega) hF hpt hA (fun _ => and_nz) (fun q1 lo G x m acc hRs hCh => ?_)
  have hK := hRs.2.2.1
  obtain ⟨o, eo, w1, w2, w3⟩ := tH_passes (P := P) (i := 12) hRs.1 f4 f1 f2 f3 hRs.2.1 hK (by omega) (by omega)
  have emp : mpK 12 = 12 := rfl
  rw [emp] at w1 w2
  have hcls : ∀ (ρ : Type) (k : Option ρ), hC G.1 q1 6 k = k := fun ρ k => by
    obtain ⟨ql, el, qs, bs, cap, fl, sg, l, u, Fs, op, t1, -⟩ := hCh
    exact hC_eq t1
  have eo' : s5_passes ct ad P S G q (some (ct.2.1 52)) = some o := eo
  try dsimp only
  unfold u5_and_L13 s5_and_L13 ando
  cases z1 : isK tp n x 12 with
  | true =>
    rw [z1] at w1 w2
    rw [if_pos rfl] at w2
    have hR1 : RS ct tp n c q d s o.2 (enN tp n x) := hRs.gr f4 w3 (en_ok hRs.2.1).2.1 w2
    rw [(kw_iff (show 12 < 15 by omega)).mpr z1]
    refine ⟨fun h => ?_, fun _ => ⟨38, by rw [if_pos rfl]; unfold bopR; omega, o.2, hR1, w3, fun rcu rcs => ?_⟩⟩
    · rw [if_pos rfl] at h; exact absurd h (by decide)
    · refine ⟨?_, ?_⟩
      · rw [hK.hC, eo', callK_eq, w1, bI_t, if_neg (by decide), w2.hC, w2.hC]
        rfl
      · rw [hK.hC, eo', callK_eq, w1, bI_t, if_neg (by decide), w2.hC]
        rfl
  | false =>
    rw [z1] at w1 w2
    rw [if_neg Bool.false_ne_true] at w2
    have hk : ¬ kwN tp n x = 12 := fun h => by
      rw [(kw_iff (show 12 < 15 by omega)).mp h] at z1
      cases z1
    rw [if_neg hk]
    refine ⟨fun _ rcu rcs => ?_, fun h => absurd rfl h⟩
    refine ⟨?_, ?_⟩
    · rw [hK.hC, eo', callK_eq, w1, bI_f, if_pos j00]
    · rw [hK.hC, eo', callK_eq, w1, bI_f, if_pos j00, w2, hcls]

theorem tP_or {E : Nat → PR} {dd : Nat} {ar : Int32} {rcE : GS → Nat → Int32 → Option (Option Nat × GS)} {rcU : GS → Nat → Int32 → Option (Nat × GS)} (hF : RF ct ad S tp n c q) (hA : Adv n (pAnd tp n E)) (hpt : HOk ct tp n c q d s (pAnd tp n E) 2 dd (fun G => u5_and ct ad P S rcE rcU G q ar) (fun G => s5_and ct ad P S rcE G q ar)) : HOk ct tp n c q d s (pOr tp n E) 1 (dd + 1) (fun G => newB ct G 2 (.inr (6, [.null, .null])) (fun q1 G2 => tB (hC G2.1 q 4 (u5_and ct ad P S rcE rcU G2 q ar)) (hC G2.1 q 4 (callK (s5_and ct ad P S rcE G2 q ar) (fun o3 => callK (s7_init ct o3.2 q1 o3.1) (fun o4 => loopK (fun rc (x : GS) => u5_expression_L64 q ar S P ad ct rcE rcU q1 rc x) FUEL o4)))))) (fun G => newB ct G 2 (.inr (6, [.null, .null])) (fun q1 G2 => hC G2.1 q 4 (callK (s5_and ct ad P S rcE G2 q ar) (fun o3 => callK (s7_init ct o3.2 q1 o3.1) (fun o4 => loopK (fun rc (x : GS) => s5_expression_L64 q ar S P ad ct rcE q1 rc x) FUEL o4))))) := by
  obtain ⟨f1, f2, f3, f4⟩ := id hF
  refine tP_chain (uB := fun q1 rc G => u5_expression_L64 q ar S P ad ct rcE rcU q1 rc G) (sB := fun q1 rc G => s5_expression_L64 q ar S P ad ct rcE q1 rc G) (by omega) hF hpt hA (fun _ => or_nz) (fun q1 lo G x m acc hRs hCh => ?_)
  have hK := hRs.2.2.1
  obtain ⟨o, eo, w1, w2, w3⟩ := tH_passes (P := P) (i := 13) hRs.1 f4 f1 f2 f3 hRs.2.1 hK (by omega) (by omega)
  have emp : mpK 13 = 13 := rfl
  rw [emp] at w1 w2
  have hcls : ∀ (ρ : Type) (k : Option ρ), hC G.1 q1 6 k = k := fun ρ k => by
    obtain ⟨ql, el, qs, bs, cap, fl, sg, l, u, Fs, op, t1, -⟩ := hCh
    exact hC_eq t1
  have eo' : s5_passes ct ad P S G q (some (ct.2.1 53)) = some o := eo
  try dsimp only
  unfold u5_expression_L64 s5_expression_L64 oro
  cases z1 : isK tp n x 13 with
  | true =>
    rw [z1] at w1 w2
    rw [if_pos rfl] at w2
    have hR1 : RS ct tp n c q d s o.2 (enN tp n x) := hRs.gr f4 w3 (en_ok hRs.2.1).2.1 w2
    rw [(kw_iff (show 13 < 15 by omega)).mpr z1]
    refine ⟨fun h => ?_, fun _ => ⟨124, by rw [if_pos rfl]; unfold bopR; omega, o.2, hR1, w3, fun rcu rcs => ?_⟩⟩
    · rw [if_pos rfl] at h; exact absurd h (by decide)
    · refine ⟨?_, ?_⟩
      · rw [hK.hC, eo', callK_eq, w1, bI_t, if_neg (by decide), w2.hC, w2.hC]
        rfl
      · rw [hK.hC, eo', callK_eq, w1, bI_t, if_neg (by decide), w2.hC]
        rfl
  | false =>
    rw [z1] at w1 w2
    rw [if_neg Bool.false_ne_true] at w2
    have hk : ¬ kwN tp n x = 13 := fun h => by
      rw [(kw_iff (show 13 < 15 by omega)).mp h] at z1
      cases z1
    rw [if_neg hk]
    refine ⟨fun _ rcu rcs => ?_, fun h => absurd rfl h⟩
    refine ⟨?_, ?_⟩
    · rw [hK.hC, eo', callK_eq, w1, bI_f, if_pos j00]
    · rw [hK.hC, eo', callK_eq, w1, bI_f, if_pos j00, w2, hcls]
end L4
