set_option maxRecDepth 100000
/-! THE PLAIN LAW, 65: HorizonSeam's reader, 10: not, 2 -/
theorem j10 : ¬ (J 1 = (0 : Int32)) := by decide
section L6
variable {ct : CT} {ad : Nat → Nat} {P : Nat → Nat → Option Nat} {S : US} {tp : Nat → Nat} {n : Nat} {c : RC} {q : Nat} {d s : Int32}
theorem tP_cmp {E : Nat → PR} {dd k : Nat} {ar : Int32} {rcE : GS → Nat → Int32 → Option (Option Nat × GS)} {rcU : GS → Nat → Int32 → Option (Nat × GS)} (hF : RF ct ad S tp n c q) (hA : Adv n (pSum tp n E)) (hpt : HOk ct tp n c q d s (pSum tp n E) 4 dd (fun G => u5_sum ct ad P S rcE rcU G q ar) (fun G => s5_sum ct ad P S rcE G q ar)) {G0 G : GS} {x0 x : Nat} (h0 : RS ct tp n c q d s G0 x0) (hr0 : Rm ct G0 (200 * (n + 1 - x0) - 10 * 3) (9000 * (n + 1 - x0) - 500 * 3)) (hRs : RS ct tp n c q d s G x) (hg : Gr (fun a => a = q) G0 G 0 0) (hk : k ≤ 6) (hx0 : x0 + k ≤ x) (hnot : isK tp n x 14 = false) (rcu : GS × Int32 → Option (Nat × GS)) (rcs : GS × Int32 → Option (Option Nat × GS)) :
    HRs ct tp n c q d s (mapR (ngK k) (pCmp tp n E x)) x0 3 (dd + 7) G0 (u5_not_L2 q ar S P ad ct rcE rcU rcu G (J k)) (s5_not_L2 q ar S P ad ct rcE rcs G (J k)) := by
  obtain ⟨f1, f2, f3, f4⟩ := id hF
  have hx := hRs.2.1
  have hn := f1.1
  have hK := hRs.2.2.1
  have hlo := hRs.low
  have hlo0 := h0.low
  have hbase := hRs.1.2.2
  have hle0 := hg.2.1.1
  have e1 : s5_is ct ad P S G q (some (ct.2.1 51)) = some (false, G) := by
    have := tH_is (P := P) (i := 11) hRs.1 f1 f3 hx hK (by omega) (by omega)
    rw [show mpK 11 = 14 from rfl, hnot] at this
    exact this
  unfold u5_not_L2 s5_not_L2
  have hrG : Rm ct G (200 * (n + 1 - x0) - 10 * 3) (9000 * (n + 1 - x0) - 500 * 3) := Rm.gr (hr0.le (by omega) (by omega)) hg
  rw [hK.hC, hK.hC, e1, callK_eq, callK_eq]
  dsimp only
  rw [bI_f, if_pos j00, if_pos j00, newB_eq (hrG.le (by omega) (by omega)), newB_eq (hrG.le (by omega) (by omega))]
  have ga : Gr (fun _ => False) G (addG G 2 (.inr (6, [.null, .null]))) 1 2 := grw_add hRs.1.1
  obtain ⟨G2, hG2⟩ : ∃ G2, G2 = addG G 2 (.inr (6, [.null, .null])) := ⟨_, rfl⟩
  have hc2 : G2.1 G.2.1 = some (true, .inr (6, [.null, .null])) := by rw [hG2]; exact addG_at
  have hn2 : G2.2.1 = G.2.1 + 1 := by rw [hG2]; rfl
  rw [← hG2] at ga ⊢
  have h2 := hRs.fr ga
  have ga' : Gr (fun a => a = q) G0 G2 (0 + 1) (0 + 2) := hg.tr (ga.mono (fun _ z => z.elim))
  have hp := hpt G2 x h2 (Rm.gr (hr0.le (by omega) (by omega)) ga')
  have hA1 := hA _ hx
  rw [h2.2.2.1.hC, h2.2.2.1.hC, h2.2.2.1.hC]
  unfold pCmp
  cases hr : pSum tp n E x with
  | inl e =>
    rw [hr] at hp
    obtain ⟨w, ew, w1, w2, C2, Z2, w3, w4, w5⟩ := hp
    have ew : u5_sum ct ad P S rcE rcU G2 q ar = some w := ew
    rw [ew, tB_s]
    exact ⟨w, rfl, w1, w2, _, _, ga'.tr w3, by omega, by omega⟩
  | inr r =>
    rw [hr] at hp hA1
    obtain ⟨hu, o, eo, b, o1, o2, o3, C2, Z2, o4, o5, o6⟩ := hp
    obtain ⟨a1, a2, a3⟩ := hA1
    have hu : u5_sum ct ad P S rcE rcU G2 q ar = none := hu
    have eo : s5_sum ct ad P S rcE G2 q ar = some o := eo
    have hR2 := h2.gr f4 o4 a2 o3
    have hr3 : Rm ct o.2 4 40 := Rm.gr (hr0.le (c' := 0 + 1 + C2 + 4) (z' := 0 + 2 + Z2 + 40) (by omega) (by omega)) (ga'.tr o4)
    obtain ⟨G4, e4, hCh, hg4⟩ := tC_init h2.1 hR2.1 ⟨hbase, Nat.le_refl _⟩ hc2 o4 ⟨f4, hlo.1⟩ o2 hr3
    have hR4 := hR2.up hg4 hbase hlo
    have hK4 := hR4.2.2.1
    have s1 := tH_isSign (ct := ct) (ad := ad) (P := P) (k := 60) f1 f3 a2 hK4 (by omega)
    have s2 := tH_isSign (ct := ct) (ad := ad) (P := P) (k := 61) f1 f3 a2 hK4 (by omega)
    have hgf : Gr (fun a => a = q) G0 G4 (0 + 1 + C2 + 4) (0 + 2 + Z2 + 40) := (((ga'.tr o4).mono (fun a ha => Or.inl ha)).tr (hg4.mono (fun a ha => Or.inr ha))).drop2 h0.1.1 (fun a ha => by
      rcases ha with ha | ha
      · exact Or.inl ha
      · exact Or.inr (by omega))
    rw [hu, tB_n, eo, callK_eq, callK_eq, o1, e4, callK_eq, callK_eq, hK4.hC, hK4.hC, show s5_isSign ct ad P S G4 q (60 : Int32) = some (isG tp n r.2 60, G4) from s1, callK_eq, callK_eq, joinB_eq, joinB_eq]
    dsimp only
    -- the end
    have fin : ∀ (G5 : GS) (m y : Nat) (a : Fm) (C Z : Nat), RS ct tp n c q d s G5 y → ChO ct G.2.1 G5 G.2.1 dd m a.2 → 1 ≤ m → m < 1000 → Gr (fun a => a = q) G0 G5 C Z → x0 < y → C + k + 10 * 3 ≤ 200 * (y - x0) → Z + k + 500 * 3 ≤ 9000 * (y - x0) → HRs ct tp n c q d s (.inr (ngK k a, y)) x0 3 (dd + 7) G0 (u5_not_J85 ct G.2.1 G5) (s5_not_J85 ct (J k) G.2.1 G5) := fun G5 m y a C Z q1 q2 q3 q4 q5 q6 q7 q8 => by
      have hy := q1.2.1
      have hr5 : Rm ct G5 6 6 := Rm.gr (hr0.le (c' := C + 6) (z' := Z + 6) (by omega) (by omega)) q5
      have hlt : G.2.1 ≤ G5.2.1 := by
        obtain ⟨ql, el, qs, bs, cap, fl, sg, l, u, Fs, op, t1, -⟩ := q2
        have := q1.1.1 _ _ t1
        omega
      obtain ⟨ob, eob, b', p1, p2, p3⟩ := tN_85 (a := a) q1.1 q3 q4 q2 hlt hk hr5
      refine ⟨?_, ob, eob, b', p1, ?_, q1.2.2.1.gr p3 (fun z => z), _, _, q5.tr (p3.mono (fun _ z => z.elim)), q7, q8⟩
      · obtain ⟨op, eop, b2, v1, v2, v3⟩ := tC_plain q1.1.1 q3 q4 q2
        have hcls : ∀ (ρ : Type) (x : Option ρ), hC G5.1 G.2.1 6 x = x := fun ρ x => by
          obtain ⟨ql, el, qs, bs, cap, fl, sg, l, u, Fs, op, t1, -⟩ := q2
          exact hC_eq t1
        unfold u5_not_J85
        rw [hcls, eop, callK_eq, v1, onR_eq]
      · exact p2.mono (Nat.le_refl _) hle0 (Nat.le_refl _)
    -- one more sum
    have more : ∀ (ch oo : Nat), bopR oo ch → isG tp n r.2 ch = true → cmpo tp n r.2 = oo → oo ≠ 0 → HRs ct tp n c q d s (mapR (ngK k) (match pSum tp n E (enN tp n r.2) with
        | .inl e => .inl e
        | .inr r2 => .inr (binF oo r.1 r2.1, r2.2))) x0 3 (dd + 7) G0 (callK (s5_sign ct ad P S G4 q) (fun o12 => hC o12.2.1 q 4 (u5_sum ct ad P S rcE rcU o12.2 q ar))) (callK (s5_sign ct ad P S G4 q) (fun o12 => hC o12.2.1 q 4 (callK (s5_sum ct ad P S rcE o12.2 q ar) (fun o13 => hC o13.2.1 G.2.1 6 (callK (s7_add ct o13.2 G.2.1 o12.1 o13.1) (fun o14 => s5_not_J85 ct (J k) G.2.1 o14)))))) := fun ch oo hb hsg hcm hoo => by
      have hch : ch < 128 := by unfold bopR at hb; omega
      obtain ⟨o5, eo5, v1, v2, v3⟩ := tH_sign (P := P) hF hR4 hch hsg
      obtain ⟨l1, l2⟩ := en_gt (tp := tp) a2 (by rw [isG_nz hsg]; decide)
      have gg := hgf.tr v3
      have hp2 := hpt o5.2 _ v2 (Rm.gr (hr0.le (by omega) (by omega)) gg)
      have hA2 := hA _ l2
      have hK5 := v2.2.2.1
      rw [eo5, callK_eq, callK_eq, hK5.hC, hK5.hC]
      cases hr2 : pSum tp n E (enN tp n r.2) with
      | inl e =>
        rw [hr2] at hp2
        obtain ⟨w, ew, w1, w2, C3, Z3, w3, w4, w5⟩ := hp2
        exact ⟨w, ew, w1, w2, _, _, gg.tr w3, by omega, by omega⟩
      | inr r2 =>
        rw [hr2] at hp2 hA2
        obtain ⟨hu2, o7, eo7, b7, k1, k2, k3, C3, Z3, k4, k5, k6⟩ := hp2
        obtain ⟨m1, m2, m3⟩ := hA2
        have eo7 : s5_sum ct ad P S rcE o5.2 q ar = some o7 := eo7
        have hR6 := v2.gr f4 k4 m2 k3
        have hCh5 := hCh.gr v3 (fun a ha => ⟨by omega, by omega⟩)
        have hr6 : Rm ct o7.2 2 4000 := Rm.gr (hr0.le (c' := 0 + 1 + C2 + 4 + 0 + C3 + 2) (z' := 0 + 2 + Z2 + 40 + 0 + Z3 + 4000) (by omega) (by omega)) (gg.tr k4)
        obtain ⟨G7, e7, hCh7, hg7⟩ := tC_add v2.1 hR6.1 hCh5 k4 ⟨f4, hlo.1⟩ k2 (Nat.le_refl _) (by omega) hb hr6
        have hR7 := hR6.up hg7 hbase hlo
        have hcls : ∀ (ρ : Type) (z : Option ρ), hC o7.2.1 G.2.1 6 z = z := fun ρ z => by
          obtain ⟨ql, el, qs, bs, cap, fl, sg, l, u, Fs, op, t1, -⟩ := hCh5.gr k4 (fun a ha => ⟨by omega, by omega⟩)
          exact hC_eq t1
        have hgf7 : Gr (fun a => a = q) G0 G7 (0 + 1 + C2 + 4 + 0 + C3 + 2) (0 + 2 + Z2 + 40 + 0 + Z3 + 4000) := (((gg.tr k4).mono (fun a ha => Or.inl ha)).tr (hg7.mono (fun a ha => Or.inr ha))).drop2 h0.1.1 (fun a ha => by
          rcases ha with ha | ha
          · exact Or.inl ha
          · exact Or.inr (by omega))
        have hfin := fin G7 2 r2.2 (binF oo r.1 r2.1) _ _ hR7 hCh7 (by omega) (by omega) hgf7 (by omega) (by omega) (by omega)
        rw [eo7, callK_eq, hcls, k1, v1, e7, callK_eq]
        exact ⟨hu2, hfin.2⟩
    have hcm0 : cmpo tp n r.2 = (if isG tp n r.2 60 = true then 6 else if isG tp n r.2 61 = true then 7 else 0) := rfl
    cases z1 : isG tp n r.2 60 with
    | true =>
      rw [z1, if_pos rfl] at hcm0
      rw [bI_t, if_neg j10, if_neg j10, hK4.hC, hK4.hC, hcm0, if_neg (show ¬ (6 = 0) by decide)]
      exact more 60 6 (by unfold bopR; omega) z1 hcm0 (by decide)
    | false =>
      rw [z1, if_neg Bool.false_ne_true] at hcm0
      rw [bI_f, if_pos j00, if_pos j00, hK4.hC, hK4.hC, show s5_isSign ct ad P S G4 q (61 : Int32) = some (isG tp n r.2 61, G4) from s2, callK_eq, callK_eq]
      dsimp only
      cases z2 : isG tp n r.2 61 with
      | true =>
        rw [z2, if_pos rfl] at hcm0
        rw [bI_t, if_neg j10, if_neg j10, hK4.hC, hK4.hC, hcm0, if_neg (show ¬ (7 = 0) by decide)]
        exact more 61 7 (by unfold bopR; omega) z2 hcm0 (by decide)
      | false =>
        rw [z2, if_neg Bool.false_ne_true] at hcm0
        rw [bI_f, if_pos j00, if_pos j00, hcm0, if_pos rfl]
        exact fin G4 1 r.2 r.1 _ _ hR4 hCh (Nat.le_refl _) (by omega) hgf (by omega) (by omega) (by omega)
theorem tP_not {E : Nat → PR} {dd : Nat} {ar : Int32} {rcE : GS → Nat → Int32 → Option (Option Nat × GS)} {rcU : GS → Nat → Int32 → Option (Nat × GS)} (hF : RF ct ad S tp n c q) (hA : Adv n (pSum tp n E)) (hpt : HOk ct tp n c q d s (pSum tp n E) 4 dd (fun G => u5_sum ct ad P S rcE rcU G q ar) (fun G => s5_sum ct ad P S rcE G q ar)) : HOk ct tp n c q d s (pNt tp n E 6) 3 (dd + 7) (fun G => u5_not ct ad P S rcE rcU G q ar) (fun G => s5_not ct ad P S rcE G q ar) := by
  intro G0 x0 h0 hr0
  obtain ⟨f1, f2, f3, f4⟩ := id hF
  have hn := f1.1
  have key : ∀ r k fu G x, k + r = 6 → r < fu → RS ct tp n c q d s G x → x0 + k ≤ x → Gr (fun a => a = q) G0 G 0 0 → HRs ct tp n c q d s (mapR (ngK k) (pNt tp n E r x)) x0 3 (dd + 7) G0 (loopK (fun rc (x : (GS × Int32)) => u5_not_L2 q ar S P ad ct rcE rcU rc x.1 x.2) fu (G, J k)) (loopK (fun rc (x : (GS × Int32)) => s5_not_L2 q ar S P ad ct rcE rc x.1 x.2) fu (G, J k)) := fun r => by
    induction r with
    | zero =>
      intro k fu G x hk hfu hRs hx0 hg
      obtain ⟨fu, rfl⟩ : ∃ fu', fu = fu' + 1 := ⟨fu - 1, by omega⟩
      show HRs ct tp n c q d s (mapR (ngK k) (pNt tp n E 0 x)) x0 3 (dd + 7) G0 (u5_not_L2 q ar S P ad ct rcE rcU (loopK (fun rc (x : (GS × Int32)) => u5_not_L2 q ar S P ad ct rcE rcU rc x.1 x.2) fu) G (J k)) (s5_not_L2 q ar S P ad ct rcE (loopK (fun rc (x : (GS × Int32)) => s5_not_L2 q ar S P ad ct rcE rc x.1 x.2) fu) G (J k))
      unfold pNt
      cases z : isK tp n x 14 with
      | false =>
        rw [if_neg (fun h => by rw [(kw_iff (by omega)).mp h] at z; cases z)]
        exact tP_cmp hF hA hpt h0 hr0 hRs hg (by omega) hx0 z _ _
      | true =>
        have hK := hRs.2.2.1
        have hx := hRs.2.1
        have e1 : s5_is ct ad P S G q (some (ct.2.1 51)) = some (true, G) := by
          have := tH_is (P := P) (i := 11) hRs.1 f1 f3 hx hK (by omega) (by omega)
          rw [show mpK 11 = 14 from rfl, z] at this
          exact this
        rw [if_pos ((kw_iff (by omega)).mpr z)]
        unfold u5_not_L2
        rw [hK.hC, e1, callK_eq]
        dsimp only
        rw [bI_t, if_neg (by decide), if_pos (show (6 : Int32) ≤ J k by rw [lit_6, J_le (by omega) (by omega)]; omega), hK.hC]
        obtain ⟨w, e, hw⟩ := hs_thr (P := P) (ad := ad) (S := S) (ct := ct) (A := 3) (x0 := x0) (k := 2) (C := 0) (Z := 0) hRs.1 hK hg (Rm.gr (hr0.le (c' := 0 + 1) (z' := 0 + 7) (by omega) (by omega)) hg) (by omega) (by omega)
        rw [show u5_want ct ad P S G q (0 : Int32) (2 : Int32) = some w from e, tB_s]
        exact ⟨w, rfl, hw⟩
    | succ r ih =>
      intro k fu G x hk hfu hRs hx0 hg
      obtain ⟨fu, rfl⟩ : ∃ fu', fu = fu' + 1 := ⟨fu - 1, by omega⟩
      show HRs ct tp n c q d s (mapR (ngK k) (pNt tp n E (r + 1) x)) x0 3 (dd + 7) G0 (u5_not_L2 q ar S P ad ct rcE rcU (loopK (fun rc (x : (GS × Int32)) => u5_not_L2 q ar S P ad ct rcE rcU rc x.1 x.2) fu) G (J k)) (s5_not_L2 q ar S P ad ct rcE (loopK (fun rc (x : (GS × Int32)) => s5_not_L2 q ar S P ad ct rcE rc x.1 x.2) fu) G (J k))
      unfold pNt
      cases z : isK tp n x 14 with
      | false =>
        rw [if_neg (fun h => by rw [(kw_iff (by omega)).mp h] at z; cases z)]
        exact tP_cmp hF hA hpt h0 hr0 hRs hg (by omega) hx0 z _ _
      | true =>
        have hK := hRs.2.2.1
        have hx := hRs.2.1
        have e1 : s5_is ct ad P S G q (some (ct.2.1 51)) = some (true, G) := by
          have := tH_is (P := P) (i := 11) hRs.1 f1 f3 hx hK (by omega) (by omega)
          rw [show mpK 11 = 14 from rfl, z] at this
          exact this
        have hkw := (kw_iff (show 14 < 15 by omega)).mpr z
        obtain ⟨g1, g2⟩ := en_gt (tp := tp) hx (by rw [kw_nz (show kwN tp n x < 15 by omega)]; decide)
        obtain ⟨G1, eG, hR1, hg1⟩ := hRs.nx (P := P) hF
        have h6 : ¬ (6 : Int32) ≤ J k := by rw [lit_6, J_le (by omega) (by omega)]; omega
        have hi := ih (k + 1) fu G1 (enN tp n x) (by omega) (by omega) hR1 (by omega) (hg.tr hg1)
        rw [if_pos hkw]
        obtain ⟨rcu, hcu⟩ : ∃ rcu, rcu = loopK (fun rc (x : (GS × Int32)) => u5_not_L2 q ar S P ad ct rcE rcU rc x.1 x.2) fu := ⟨_, rfl⟩
        obtain ⟨rcs, hcs⟩ : ∃ rcs, rcs = loopK (fun rc (x : (GS × Int32)) => s5_not_L2 q ar S P ad ct rcE rc x.1 x.2) fu := ⟨_, rfl⟩
        rw [← hcu, ← hcs] at hi ⊢
        unfold u5_not_L2 s5_not_L2
        rw [hK.hC, hK.hC, e1, callK_eq, callK_eq]
        dsimp only
        rw [bI_t, if_neg j10, if_neg j10, if_neg h6, if_neg h6, hK.hC, hK.hC, hK.hC, show u5_want ct ad P S G q (1 : Int32) (2 : Int32) = none from tW_uo, tB_n, show s5_want ct ad P S G q (1 : Int32) (2 : Int32) = some G from tW_so, callK_eq, callK_eq, hK.hC, hK.hC, eG, callK_eq, callK_eq, lit_1, J_add]
        cases hz : pNt tp n E r (enN tp n x) with
        | inl e =>
          rw [hz] at hi
          exact hi
        | inr z =>
          rw [hz] at hi
          show HRs ct tp n c q d s (.inr (ngK k (negF z.1), z.2)) x0 3 (dd + 7) G0 (rcu (G1, J (k + 1))) (rcs (G1, J (k + 1)))
          rw [ng_s]
          exact hi
  have := key 6 0 FUEL G0 x0 rfl (by unfold FUEL; omega) h0 (by omega) Gr.rf
  have em : mapR (ngK 0) (pNt tp n E 6 x0) = pNt tp n E 6 x0 := by
    cases pNt tp n E 6 x0 with
    | inl e => rfl
    | inr z => rfl
  rw [em] at this
  exact this
end L6
