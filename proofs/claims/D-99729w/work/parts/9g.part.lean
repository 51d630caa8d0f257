set_option maxRecDepth 100000
/-! THE PLAIN LAW, 61: HorizonSeam's reader, 6: a part of a rule -/
/-- the arrays of words -/
def NmO (ct : CT) (c : RC) (G : GS) : Prop := (∃ o f, G.1 c.2.2.2.1 = some (o, .inl (5, 4, .inr (.inr (.inr (.inr f))))) ∧ ∀ i, i < 4 → f i = some (ct.2.1 (40 + (0 + i)))) ∧ ∃ o f, G.1 c.2.2.2.2.1 = some (o, .inl (5, 6, .inr (.inr (.inr (.inr f))))) ∧ ∀ i, i < 6 → f i = some (ct.2.1 (40 + (4 + i)))
theorem NmO.gr {ct : CT} {c : RC} {G G' : GS} {N : Nat → Prop} {cc z : Nat} (H : NmO ct c G) (hg : Gr N G G' cc z) (h1 : ¬ N c.2.2.2.1) (h2 : ¬ N c.2.2.2.2.1) : NmO ct c G' := by
  obtain ⟨⟨o, f, a1, a2⟩, o', f', b1, b2⟩ := H
  exact ⟨⟨o, f, hg.1 _ _ h1 a1, a2⟩, o', f', hg.1 _ _ h2 b1, b2⟩
def BgO (c : RC) (q : Nat) (G : GS) (pl : Nat) : Prop := ∃ a k e u d s, RD c q G a k (J pl) e u d s
def HRs (ct : CT) (tp : Nat → Nat) (n : Nat) (c : RC) (q : Nat) (d s : Int32) (r : PR) (x A dd : Nat) (G : GS) (u : Option (Nat × GS)) (v : Option (Option Nat × GS)) : Prop := match r with
  | .inl e => Ev u (fun o => WrO o.2 o.1 e.1 ∧ BgO c q o.2 e.2 ∧ ∃ C Z, Gr (fun a => a = q) G o.2 C Z ∧ C + 10 * A ≤ 200 * (n + 1 - x) ∧ Z + 500 * A ≤ 9000 * (n + 1 - x))
  | .inr r => u = none ∧ Ev v (fun o => ∃ b, o.1 = some b ∧ Fw ct dd G.2.1 o.2.2.1 o.2.1 b r.1.2 ∧ TkH tp n r.2 c q o.2 d s ∧ ∃ C Z, Gr (fun a => a = q) G o.2 C Z ∧ C + 10 * A ≤ 200 * (r.2 - x) ∧ Z + 500 * A ≤ 9000 * (r.2 - x))
/-- a reader at x, its words beside it -/
def RS (ct : CT) (tp : Nat → Nat) (n : Nat) (c : RC) (q : Nat) (d s : Int32) (G : GS) (x : Nat) : Prop := GB ct G ∧ x ≤ n ∧ TkH tp n x c q G d s ∧ NmO ct c G
/-- what a reader of a part owes -/
def HOk (ct : CT) (tp : Nat → Nat) (n : Nat) (c : RC) (q : Nat) (d s : Int32) (E : Nat → PR) (A dd : Nat) (uF : GS → Option (Nat × GS)) (sF : GS → Option (Option Nat × GS)) : Prop := ∀ G x, RS ct tp n c q d s G x → Rm ct G (200 * (n + 1 - x) - 10 * A) (9000 * (n + 1 - x) - 500 * A) → HRs ct tp n c q d s (E x) x A dd G (uF G) (sF G)
theorem TkH.bg {tp : Nat → Nat} {n x : Nat} {c : RC} {q : Nat} {G : GS} {d s : Int32} (H : TkH tp n x c q G d s) : BgO c q G (bgN tp n x) := by
  obtain ⟨u, hR, -, -⟩ := H
  exact ⟨_, _, _, _, _, _, hR⟩
theorem BgO.gr {c : RC} {q pl cc z : Nat} {N : Nat → Prop} {G G' : GS} (H : BgO c q G pl) (hg : Gr N G G' cc z) (hN : ¬ N q) : BgO c q G' pl := by
  obtain ⟨a, k, e, u, d, s, h⟩ := H
  exact ⟨a, k, e, u, d, s, hg.1 _ _ hN h⟩
section PT
variable {ct : CT} {ad : Nat → Nat} {P : Nat → Nat → Option Nat} {S : US} {tp : Nat → Nat} {n : Nat} {c : RC} {q : Nat} {d s : Int32}
/-- a throw here -/
theorem hs_thr {x A k : Nat} {G0 G : GS} {C Z : Nat} (B : GB ct G) (H : TkH tp n x c q G d s) (hg : Gr (fun a => a = q) G0 G C Z) (hr : Rm ct G 1 7) {x0 : Nat} (h1 : C + 1 + 10 * A ≤ 200 * (n + 1 - x0)) (h2 : Z + 7 + 500 * A ≤ 9000 * (n + 1 - x0)) : Ev (u5_want ct ad P S G q (J 0) (J k)) (fun o => WrO o.2 o.1 k ∧ BgO c q o.2 (bgN tp n x) ∧ ∃ C Z, Gr (fun a => a = q) G0 o.2 C Z ∧ C + 10 * A ≤ 200 * (n + 1 - x0) ∧ Z + 500 * A ≤ 9000 * (n + 1 - x0)) := by
  obtain ⟨r, e, h3, h4⟩ := tW_no (ct := ct) (ad := ad) (P := P) (S := S) (q := q) (k := k) B hr
  exact ⟨r, e, h3, H.bg.gr h4 (fun z => z), _, _, hg.tr (h4.mono (fun _ z => z.elim)), h1, h2⟩
/-- which of some words in a row -/
theorem tH_which {G : GS} {x : Nat} (B : GB ct G) (hT : TpH tp n S) (ha : c.2.2.2.2.2 = ad 0) (hx : x ≤ n) (H : TkH tp n x c q G d s) {b m i0 b0 : Nat} (hm : m ≤ 6) (hi0 : i0 + m ≤ 10) (hmp : ∀ i, i < m → mpK (i0 + i) = b0 + i) (hb0 : b0 + m ≤ 15) (hb : ∃ o f, G.1 b = some (o, .inl (5, m, .inr (.inr (.inr (.inr f))))) ∧ ∀ i, i < m → f i = some (ct.2.1 (40 + (i0 + i)))) : s5_which ct ad P S G q (some b) = some (if b0 ≤ kwN tp n x ∧ kwN tp n x < b0 + m then J (kwN tp n x - b0) else -1, G) := by
  obtain ⟨o, f, h1, h2⟩ := hb
  have key : Ev (s5_which ct ad P S G q (some b)) (fun r => r = (if b0 ≤ kwN tp n x ∧ kwN tp n x < b0 + m then J (kwN tp n x - b0) else -1, G)) := by
    unfold s5_which
    refine Ev.loop (fun i w => w = (G, J i) ∧ ∀ j, j < i → kwN tp n x ≠ b0 + j) m ?_ ?_ ⟨rfl, fun j hj => absurd hj (Nat.not_lt_zero j)⟩ (by unfold FUEL; omega)
    · rintro i hi _ ⟨rfl, k1⟩ rc hrc
      have e1 := tH_is (P := P) (i := i0 + i) B hT ha hx H (by omega) (by omega)
      rw [hmp i hi] at e1
      show Ev (s5_which_L2 q (some b) S P ad ct rc G (J i)) _
      unfold s5_which_L2
      rw [onR_eq, hL_eq h1, if_neg (by rw [J_le (by omega) (by omega)]; omega), hQ_eq h1 hi (by omega), h2 i hi, H.hC, e1, callK_eq]
      cases z : isK tp n x (b0 + i) with
      | false =>
        rw [bI_f, if_pos j00, lit_1, J_add]
        refine hrc _ ⟨rfl, fun j hj => ?_⟩
        by_cases w : j = i
        · intro hz
          rw [w] at hz
          rw [(kw_iff (by omega)).mp hz] at z
          cases z
        · exact k1 j (by omega)
      | true =>
        have hz := (kw_iff (show b0 + i < 15 by omega)).mpr z
        rw [bI_t, if_neg (by decide), if_pos (by omega)]
        refine ⟨_, rfl, ?_⟩
        rw [hz, Nat.add_sub_cancel_left]
    · rintro _ ⟨rfl, k1⟩ rc
      show Ev (s5_which_L2 q (some b) S P ad ct rc G (J m)) _
      unfold s5_which_L2
      rw [onR_eq, hL_eq h1, if_pos (Int32.le_refl _), if_neg (fun z => k1 (kwN tp n x - b0) (by omega) (by omega))]
      exact ⟨_, rfl, rfl⟩
  obtain ⟨r, e, rfl⟩ := key
  exact e
/-- the reader's situation, for good -/
def RF (ct : CT) (ad : Nat → Nat) (S : US) (tp : Nat → Nat) (n : Nat) (c : RC) (q : Nat) : Prop := TpH tp n S ∧ c.1 = n ∧ c.2.2.2.2.2 = ad 0 ∧ ct.2.2.1 ≤ q
theorem RS.gr {G G' : GS} {x y C Z : Nat} (H : RS ct tp n c q d s G x) (hq : ct.2.2.1 ≤ q) (hg : Gr (fun a => a = q) G G' C Z) (hy : y ≤ n) (H' : TkH tp n y c q G' d s) : RS ct tp n c q d s G' y := by
  obtain ⟨h1, h2, h3, h4⟩ := H
  obtain ⟨u, hR, -⟩ := h3
  have hR : G.1 q = some (true, .inr (4, _)) := hR
  refine ⟨h1.gr hg (fun a ha => by rw [ha]; exact hq), hy, H', h4.gr hg ?_ ?_⟩
  · intro z
    obtain ⟨⟨o, f, a1, a2⟩, -⟩ := h4
    rw [z, hR] at a1
    cases a1
  · intro z
    obtain ⟨-, o, f, a1, a2⟩ := h4
    rw [z, hR] at a1
    cases a1
theorem RS.fr {G G' : GS} {x C Z : Nat} (H : RS ct tp n c q d s G x) (hg : Gr (fun _ => False) G G' C Z) : RS ct tp n c q d s G' x := ⟨H.1.gr hg (fun a ha => ha.elim), H.2.1, H.2.2.1.gr hg (fun z => z), H.2.2.2.gr hg (fun z => z) (fun z => z)⟩
theorem RS.nx {G : GS} {x : Nat} (hF : RF ct ad S tp n c q) (H : RS ct tp n c q d s G x) : Ev (s5_next ct ad P S G q) (fun G' => RS ct tp n c q d s G' (enN tp n x) ∧ Gq q G G') := by
  obtain ⟨f1, f2, f3, f4⟩ := hF
  obtain ⟨r, e, h1, h2⟩ := H.2.2.1.nx (P := P) H.1 f4 f1 f2 f3 H.2.1
  exact ⟨r, e, H.gr f4 h2 (en_ok H.2.1).2.1 h1, h2⟩
theorem RS.lt {G : GS} {x : Nat} (H : RS ct tp n c q d s G x) : q < G.2.1 := by
  obtain ⟨u, hR, -⟩ := H.2.2.1
  exact H.1.1 _ _ hR
theorem RS.kd {ρ : Type} {G : GS} {x : Nat} {kp : Int32 → Option ρ} (H : RS ct tp n c q d s G x) : hI G.1 q 4 6 kp = kp (J (kdN tp n x)) := by
  obtain ⟨u, hR, -⟩ := H.2.2.1
  exact hR.i6
theorem tP_part {E : Nat → PR} {ddE : Nat} {ar : Int32} {rcE : GS → Nat → Int32 → Option (Option Nat × GS)} {rcU : GS → Nat → Int32 → Option (Nat × GS)} (hF : RF ct ad S tp n c q) (hA : Adv n E) (h1 : 1 ≤ ddE) (hE : HOk ct tp n c q d s E 1 ddE (fun G => rcU G q (ar + 1)) (fun G => rcE G q (ar + 1))) : HOk ct tp n c q d s (pPart tp n E) 6 ddE (fun G => u5_part ct ad P S rcE rcU G q ar) (fun G => s5_part ct ad P S rcE G q ar) := by
  intro G x hRs hr
  obtain ⟨f1, f2, f3, f4⟩ := id hF
  have hx := hRs.2.1
  have hkl := kd_lt (tp := tp) (n := n) (x := x)
  have hql := hRs.lt
  have hK := hRs.2.2.1
  show HRs ct tp n c q d s (pPart tp n E x) x 6 ddE G (u5_part ct ad P S rcE rcU G q ar) (s5_part ct ad P S rcE G q ar)
  unfold pPart u5_part s5_part
  rw [hRs.kd, hRs.kd]
  by_cases c2 : kdN tp n x = 2
  · have cz : J (kdN tp n x) = (2 : Int32) := by rw [c2]; rfl
    obtain ⟨g1, g2⟩ := en_gt (tp := tp) hx (by omega)
    have hr1 : Rm ct G 1 1 := hr.le (by omega) (by omega)
    rw [if_pos c2, if_pos cz, if_pos cz, newB_eq hr1, newB_eq hr1]
    have ga : Gr (fun _ => False) G (addG G 1 (.inr (7, [.int 0]))) 1 1 := grw_add hRs.1.1
    obtain ⟨G1, hG1⟩ : ∃ G1, G1 = addG G 1 (.inr (7, [.int 0])) := ⟨_, rfl⟩
    have hc1 : G1.1 G.2.1 = some (true, .inr (7, [.int 0])) := by rw [hG1]; exact addG_at
    rw [← hG1] at ga ⊢
    have hR1 := hRs.fr ga
    have hr2 : Rm ct G1 1 7 := Rm.gr (hr.le (c' := 1 + 1) (z' := 1 + 7) (by omega) (by omega)) ga
    have hnum := tH_number (ad := ad) (P := P) (S := S) (lo := 0) (hi := 9999) hR1.1 f4 f1 f2 f3 hx hR1.2.2.1 (by omega) (by omega) hr2
    rw [hR1.2.2.1.hC, hR1.2.2.1.hC]
    unfold pNum at hnum
    rw [if_pos c2] at hnum
    by_cases c4 : 4 < enN tp n x - bgN tp n x
    · rw [if_pos c4] at hnum ⊢
      obtain ⟨⟨w, e, w1, w2⟩, -⟩ := hnum
      refine ⟨w, e, w1, (hR1.2.2.1.bg).gr w2 (fun z => z), 1 + 1, 1 + 7, (ga.tr w2).mono (fun _ z => z.elim), by omega, by omega⟩
    · obtain ⟨-, k2⟩ := kd_nm c2 c4
      rw [if_neg c4, if_neg (by omega)] at hnum
      rw [if_neg c4]
      obtain ⟨hu, o, e, o1, o2, o3⟩ := hnum
      refine ⟨hu, ?_⟩
      rw [show s5_number ct ad P S G1 q (0 : Int32) (9999 : Int32) = some o from e, callK_eq, o1]
      unfold s8_init
      have hc2 := o3.1 _ _ (show ¬ G.2.1 = q by omega) hc1
      have hlt := (hR1.1.gr o3 (fun a ha => by rw [ha]; exact f4)).1 _ _ hc2
      refine Ev.call (P := fun G' => G'.1 G.2.1 = some (true, .inr (7, [.int (J (nmN tp (bgN tp n x) (enN tp n x - bgN tp n x)))])) ∧ Gq G.2.1 o.2 G') (Ev.hp hc2 (by simp) (fun G' y1 y2 => ⟨_, rfl, y1, y2⟩)) (fun G' y => ?_)
      obtain ⟨y1, y2⟩ := y
      have gq : Gr (fun a => a = q) G o.2 (1 + 0) (1 + 0) := (ga.mono (fun _ z => z.elim)).tr o3
      have gq2 : Gr (fun a => a = q) G G' (1 + 0 + 0) (1 + 0 + 0) := ((gq.mono (fun a ha => Or.inl ha)).tr (y2.mono (fun a ha => Or.inr ha))).drop2 hRs.1.1 (fun a ha => by
        rcases ha with ha | ha
        · exact Or.inl ha
        · exact Or.inr (by omega))
      have hle := y2.2.1.1
      exact ⟨_, rfl, G.2.1, rfl, (Fw.num y1 (Nat.le_refl _) (show G.2.1 < G'.2.1 by omega)).mono h1 (Nat.le_refl _) (Nat.le_refl _), o2.gr y2 (by omega), _, _, gq2, by show 1 + 0 + 0 + 10 * 6 ≤ 200 * (enN tp n x - x); omega, by show 1 + 0 + 0 + 500 * 6 ≤ 9000 * (enN tp n x - x); omega⟩
  · have cz : ¬ J (kdN tp n x) = (2 : Int32) := by rw [show (2 : Int32) = J 2 from rfl, J_eq (by omega) (by omega)]; exact c2
    have hsg := tH_isSign (ct := ct) (ad := ad) (P := P) (k := 40) f1 f3 hx hK (by omega)
    rw [if_neg c2, if_neg cz, if_neg cz, hK.hC, hK.hC, show s5_isSign ct ad P S G q (40 : Int32) = some (isG tp n x 40, G) from hsg, callK_eq, callK_eq]
    cases cs : isG tp n x 40 with
    | true =>
      rw [if_pos rfl, bI_t, if_neg (by decide), if_neg (by decide), hK.hC, hK.hC]
      obtain ⟨g1, g2⟩ := en_gt (tp := tp) hx (by rw [isG_nz cs]; decide)
      obtain ⟨G1, e1, hR1, hg1⟩ := hRs.nx (P := P) hF
      have hr1 : Rm ct G1 (200 * (n + 1 - enN tp n x) - 10 * 1) (9000 * (n + 1 - enN tp n x) - 500 * 1) := Rm.gr (hr.le (by omega) (by omega)) hg1
      have hE1 := hE G1 _ hR1 hr1
      have hA1 := hA _ g2
      rw [e1, callK_eq, callK_eq, hR1.2.2.1.hC, hR1.2.2.1.hC, hR1.2.2.1.hC]
      cases hr2 : E (enN tp n x) with
      | inl e =>
        rw [hr2] at hE1
        obtain ⟨w, ew, w1, w2, C, Z, w3, w4, w5⟩ := hE1
        dsimp only
        rw [show rcU G1 q (ar + 1) = some w from ew, tB_s]
        exact ⟨w, rfl, w1, w2, _, _, hg1.tr w3, by omega, by omega⟩
      | inr r =>
        rw [hr2] at hE1 hA1
        obtain ⟨hu, o, eo, b, o1, o2, o3, C, Z, o4, o5, o6⟩ := hE1
        obtain ⟨a1, a2, a3⟩ := hA1
        have hR2 := hR1.gr f4 o4 a2 o3
        have hK2 := hR2.2.2.1
        have hsg2 := tH_isSign (ct := ct) (ad := ad) (P := P) (k := 41) f1 f3 a2 hK2 (by omega)
        dsimp only
        rw [show rcU G1 q (ar + 1) = none from hu, tB_n, show rcE G1 q (ar + 1) = some o from eo, callK_eq, callK_eq, o1, onR_eq, onR_eq, hK2.hC, hK2.hC, show s5_isSign ct ad P S o.2 q (41 : Int32) = some (isG tp n r.2 41, o.2) from hsg2, callK_eq, callK_eq, hK2.hC, hK2.hC]
        have gq := hg1.tr o4
        cases cs2 : isG tp n r.2 41 with
        | false =>
          rw [if_neg Bool.false_ne_true]
          refine hs_thr (k := 1) (C := 0 + C) (Z := 0 + Z) hR2.1 hK2 gq (Rm.gr (hr.le (c' := 0 + C + 1) (z' := 0 + Z + 7) (by omega) (by omega)) gq) (by omega) (by omega)
        | true =>
          rw [if_pos rfl]
          obtain ⟨l1, l2⟩ := en_gt (tp := tp) a2 (by rw [isG_nz cs2]; decide)
          obtain ⟨G3, e3, hR3, hg3⟩ := hR2.nx (P := P) hF
          refine ⟨tW_uo, ?_⟩
          rw [show s5_want ct ad P S o.2 q (bI true) (1 : Int32) = some o.2 from tW_so, callK_eq, hK2.hC, e3, callK_eq]
          have hle := hg3.2.1.1
          have hle1 := hg1.2.1.1
          refine ⟨_, rfl, b, rfl, (o2.gr hg3 (fun a ha => ⟨by omega, by have := hR1.lt; omega⟩)).mono (Nat.le_refl _) (by omega) hle, hR3.2.2.1, _, _, gq.tr hg3, ?_, ?_⟩
          · show 0 + C + 0 + 10 * 6 ≤ 200 * (enN tp n r.2 - x)
            omega
          · show 0 + Z + 0 + 500 * 6 ≤ 9000 * (enN tp n r.2 - x)
            omega
    | false =>
      rw [if_neg Bool.false_ne_true, bI_f, if_pos j00, if_pos j00, hRs.kd, hRs.kd, joinB_eq, joinB_eq]
      by_cases c1 : kdN tp n x = 1
      · have cz1 : J (kdN tp n x) = (1 : Int32) := by rw [c1]; rfl
        obtain ⟨g1, g2⟩ := en_gt (tp := tp) hx (by omega)
        rw [if_pos c1, if_pos cz1, if_pos cz1]
        show HRs ct tp n c q d s _ x 6 ddE G (u5_part_J76 q S P ad ct (false, G) (J 1)) (s5_part_J76 q S P ad ct (false, G) (J 1))
        unfold u5_part_J76 s5_part_J76
        have hr4 : ∀ (ρ : Type) (kp : Option Nat → Option ρ), hR G.1 q 4 4 kp = kp (some c.2.2.2.2.1) := fun ρ kp => by
          obtain ⟨u, hRR, -⟩ := hK
          exact hRR.r4
        have hwh := tH_which (P := P) (b := c.2.2.2.2.1) (m := 6) (i0 := 4) (b0 := 0) hRs.1 f1 f3 hx hK (by omega) (by omega) (fun i hi => co_dec (P := fun i => mpK (4 + i) = 0 + i) (N := 6) (by decide +kernel) hi) (by omega) hRs.2.2.2.2
        dsimp only
        rw [hK.hC, show u5_want ct ad P S G q (J 1) (1 : Int32) = none from tW_uo, tB_n, hK.hC, hK.hC, show s5_want ct ad P S G q (J 1) (1 : Int32) = some G from tW_so, callK_eq, callK_eq, hr4, hr4, hK.hC, hK.hC, hwh, callK_eq, callK_eq]
        dsimp only
        by_cases c6 : kwN tp n x < 6
        · have cw : (0 ≤ kwN tp n x ∧ kwN tp n x < 0 + 6) := by omega
          have cj : ¬ J (kwN tp n x - 0) = (-1 : Int32) := by
            intro z
            have h2 := congrArg Int32.toInt z
            rw [J_ti (by omega), show (-1 : Int32).toInt = -1 from by decide] at h2
            omega
          rw [if_pos c6, if_pos cw, if_neg cj, if_neg cj, hK.hC, hK.hC, show s5_want ct ad P S G q (1 : Int32) (3 : Int32) = some G from tW_so, callK_eq, hK.hC]
          refine ⟨tW_uo, ?_⟩
          refine (hRs.nx (P := P) hF).call (fun G1 k => ?_)
          obtain ⟨hR1, hg1⟩ := k
          have hr1 : Rm ct G1 1 1 := Rm.gr (hr.le (c' := 0 + 1) (z' := 0 + 1) (by omega) (by omega)) hg1
          rw [newB_eq hr1]
          have ga : Gr (fun _ => False) G1 (addG G1 1 (.inr (8, [.int 0]))) 1 1 := grw_add hR1.1.1
          have hR2 := hR1.fr ga
          unfold s9_init
          refine Ev.call (P := fun G' => G'.1 G1.2.1 = some (true, .inr (8, [.int (J (kwN tp n x - 0))])) ∧ Gq G1.2.1 (addG G1 1 (.inr (8, [.int 0]))) G') (Ev.hp addG_at (by simp) (fun G' y1 y2 => ⟨_, rfl, y1, y2⟩)) (fun G' y => ?_)
          obtain ⟨y1, y2⟩ := y
          have hle1 := hg1.2.1.1
          have hlt : (addG G1 1 (.inr (8, [.int 0]))).2.1 = G1.2.1 + 1 := rfl
          have hle2 := y2.2.1.1
          have gq2 : Gr (fun a => a = q) G G' (0 + 1 + 0) (0 + 1 + 0) := (((hg1.mono (fun a ha => Or.inl ha)).tr (ga.mono (fun _ z => z.elim))).tr (y2.mono (fun a ha => Or.inr ha))).drop2 hRs.1.1 (fun a ha => by
            rcases ha with ha | ha
            · exact Or.inl ha
            · exact Or.inr (by omega))
          rw [Nat.sub_zero] at y1
          exact ⟨_, rfl, G1.2.1, rfl, (Fw.val y1 c6 hle1 (show G1.2.1 < G'.2.1 by omega)).mono h1 (Nat.le_refl _) (Nat.le_refl _), hR2.2.2.1.gr y2 (by have := hR1.lt; omega), _, _, gq2, by show 0 + 1 + 0 + 10 * 6 ≤ 200 * (enN tp n x - x); omega, by show 0 + 1 + 0 + 500 * 6 ≤ 9000 * (enN tp n x - x); omega⟩
        · have ew : (if 0 ≤ kwN tp n x ∧ kwN tp n x < 0 + 6 then J (kwN tp n x - 0) else (-1 : Int32)) = -1 := if_neg (by omega)
          rw [if_neg c6, ew, if_pos rfl, hK.hC]
          exact hs_thr (k := 3) (C := 0) (Z := 0) hRs.1 hK Gr.rf (hr.le (by omega) (by omega)) (by omega) (by omega)
      · have cz1 : ¬ J (kdN tp n x) = (1 : Int32) := by rw [lit_1, J_eq (by omega) (by omega)]; exact c1
        rw [if_neg c1, if_neg cz1, if_neg cz1]
        show HRs ct tp n c q d s _ x 6 ddE G (u5_part_J76 q S P ad ct (false, G) (J 0)) _
        unfold u5_part_J76
        dsimp only
        rw [hK.hC]
        obtain ⟨w, e, hw⟩ := hs_thr (P := P) (ad := ad) (S := S) (ct := ct) (A := 6) (x0 := x) (k := 1) (C := 0) (Z := 0) hRs.1 hK Gr.rf (hr.le (by omega) (by omega)) (by omega) (by omega)
        rw [show u5_want ct ad P S G q (J 0) (1 : Int32) = some w from e, tB_s]
        exact ⟨w, rfl, hw⟩
end PT
