set_option maxRecDepth 100000
/-! THE PLAIN LAW, 28: who might have torn it -/
def glN (p : Nat → Bool) : Nat → List Nat
  | 0 => []
  | g + 1 => if p g = true then glN p g ++ [g] else glN p g
theorem glN_t {p : Nat → Bool} {g : Nat} (h : p g = true) : glN p (g + 1) = glN p g ++ [g] := if_pos h
theorem glN_f {p : Nat → Bool} {g : Nat} (h : p g = false) : glN p (g + 1) = glN p g := if_neg (by rw [h]; decide)
theorem glN_len {p : Nat → Bool} {g : Nat} : (glN p g).length ≤ g := by
  induction g with
  | zero => exact Nat.le_refl _
  | succ g ih =>
    cases h : p g with
    | true => rw [glN_t h, List.length_append]; show _ + 1 ≤ _; omega
    | false => rw [glN_f h]; omega
theorem glN_skip {p : Nat → Bool} {g m : Nat} (h : ∀ i, i < m → p (g + i) = false) : glN p (g + m) = glN p g := by
  induction m with
  | zero => rfl
  | succ m ih =>
    rw [← Nat.add_assoc, glN_f (h m (by omega)), ih (fun i hi => h i (by omega))]
theorem gdA1 {l : List Nat} {x i : Nat} (h : i < l.length) : (l ++ [x]).getD i 0 = l.getD i 0 := by
  rw [List.getD_eq_getElem?_getD, List.getD_eq_getElem?_getD, List.getElem?_append_left h]
theorem gdA2 {l : List Nat} {x : Nat} : (l ++ [x]).getD l.length 0 = x := by
  rw [List.getD_eq_getElem?_getD, List.getElem?_append_right (Nat.le_refl _), Nat.sub_self]
  rfl
theorem glN_gd {p : Nat → Bool} {g i : Nat} (h : i < (glN p g).length) : (glN p g).getD i 0 < g ∧ p ((glN p g).getD i 0) = true := by
  induction g with
  | zero => exact absurd h (Nat.not_lt_zero i)
  | succ g ih =>
    cases hp : p g with
    | true =>
      rw [glN_t hp] at h ⊢
      by_cases e : i < (glN p g).length
      · rw [gdA1 e]
        have := ih e
        exact ⟨by omega, this.2⟩
      · rw [List.length_append] at h
        have h : i < (glN p g).length + 1 := h
        have e2 : i = (glN p g).length := by omega
        rw [e2, gdA2]
        exact ⟨by omega, hp⟩
    | false =>
      rw [glN_f hp] at h ⊢
      have := ih h
      exact ⟨by omega, this.2⟩
def valN (g : Nat) : Nat := g / 50 * 100 + g % 50 + 1
/-- a list of numbers, as objects -/
def IntL (h : AH) (f : Nat → Option Nat) (l : List Nat) : Prop := ∀ i, i < l.length → ∃ (b : Nat) (o : Bool), f i = some b ∧ h b = some (o, .inr (12, [.int (J (valN (l.getD i 0)))]))
theorem tN_valueOf {ct : CT} {G : GS} {v : Nat} (B : GB ct G) (hv : v < 100000) (hr : Rm ct G 1 1) : Ev (sN_valueOf ct G (J v)) (fun x => ∃ (b : Nat) (o : Bool), x.1 = some b ∧ x.2.1 b = some (o, .inr (12, [.int (J v)])) ∧ Gr (fun _ => False) G x.2 1 1) := by
  have n1 : ¬ J v < (-128 : Int32) := by
    rw [Int32.lt_iff_toInt_lt, J_ti (by omega), show (-128 : Int32).toInt = -128 from by decide]
    omega
  unfold sN_valueOf
  rw [if_neg n1]
  by_cases c : 127 < v
  · rw [if_pos (by rw [show (127 : Int32) = J 127 from rfl, J_lt (by omega) (by omega)]; exact c), newB_eq hr]
    unfold sN_init sM_init
    rw [callK_eq, hPut_eq addG_at (Nat.le_of_ble_eq_true rfl)]
    have ga : Gr (fun _ => False) G (addG G 1 (.inr (12, [.int 0]))) 1 1 := grw_add B.1
    exact ⟨_, rfl, G.2.1, true, rfl, setG_at, ga.fresh (grw_set (M := fun a => a = G.2.1) addG_at rfl (fun _ => rfl)) B.1 (fun a ha => by rw [ha]; exact Nat.le_refl _)⟩
  · rw [if_neg (by rw [show (127 : Int32) = J 127 from rfl, J_lt (by omega) (by omega)]; exact c), show (128 : Int32) = J 128 from rfl, J_add, gd (by omega) (by omega), J_tn (by omega)]
    obtain ⟨h1, ⟨h0, h2, h3⟩, h4⟩ := B
    have e := h3 _ _ (h2.2.2.2.1 (v + 128) (by omega))
    have e2 : vb_c (v + 128) = J v := by
      unfold vb_c
      rw [show Int32.ofNat (v + 128) = J (v + 128) from rfl, show (128 : Int32) = J 128 from rfl, J_sub (by omega), Nat.add_sub_cancel]
    rw [e2] at e
    exact ⟨_, rfl, _, false, rfl, e, Gr.rf.le (by omega) (by omega)⟩
/-- whether a stretch, torn so much, agrees with what was seen -/
def pG (u : RU) (r : Nat → Nat) (c : Nat) (sn : Nat → Nat) (g : Nat) : Bool := !gapN r (g / 50) && soN u (loosN u.1 r (g / 50) (g % 50 + 1)) c sn
def Oth (ct : CT) (G : GS) (S : US) (p : Nat → Bool) (g : Nat) (x1 : US) (x2 : GS) : Prop := HFr S 1 x1 ∧ ∃ (e cap : Nat) (f : Nat → Option Nat), OLstC ct x2.1 G.2.1 e (glN p g).length cap f ∧ IntL x2.1 f (glN p g) ∧ (e = ct.2.1 0 ∨ G.2.1 ≤ e) ∧ cap ≤ 2 * (glN p g).length + 10 ∧ Gr (fun _ => False) G x2 (1 + 2 * (glN p g).length) (3 + (glN p g).length + 4 * cap)
theorem tH_others {ct : CT} {P : Nat → Nat → Option Nat} {ad : Nat → Nat} {G : GS} {S S2 : US} {u : RU} {r : Nat → Nat} {q c : Nat} {f : Nat → Option Nat} {sn : Nat → Nat} (B : GB ct G) (hC : Core ct P G.1 S S2 u r) (hP : P 0 10 = some q) (hl : LstH G.1 q c f) (hs : SeeH G.1 u.1 f c sn) (h8 : c ≤ 8) (hr : Rm ct G 2000 10000) : Ev (s1_others ct ad P S G) (fun o => o.1 = some G.2.1 ∧ Oth ct G S (pG u r c sn) (50 * u.1) o.2.1 o.2.2) := by
  have ho12 := hC.1.2.1
  have ho3 := hC.1.1
  have ho := hC.1
  have hR := hC.2.1
  have hd := hC.2.2.1
  unfold s1_others
  refine Ev.nl (f := fun _ => none) B (hr.le (by omega) (by omega)) (fun G3 k1 k2 => ?_)
  obtain ⟨cap0, k1c⟩ := k1.olc
  have hcap0 : cap0 = 0 := by
    obtain ⟨⟨md, o, g, w1, w2, -⟩, -⟩ := k1c
    have := k2.1 _ _ (fun z => z) (B.oa (i := 0) (by decide)).1
    cases this.symm.trans w2
    rfl
  subst hcap0
  refine Ev.loop (I := fun k x => x.2.2 = J k ∧ Oth ct G S (pG u r c sn) (50 * k) x.1 x.2.1) u.1 ?_ ?_ ⟨rfl, HFr.rf, ct.2.1 0, 0, _, k1c, fun i hi => absurd hi (Nat.not_lt_zero i), Or.inl rfl, Nat.zero_le _, k2.le (by omega) (by omega)⟩ (by unfold FUEL; omega)
  · rintro k hk ⟨S4, G5, v6⟩ ⟨h0, h1⟩ rc hrc
    simp only at h0 h1
    subst h0
    show Ev (s1_others_L10 P ct G.2.1 rc S4 G5 (J k)) _
    have hn4 : S4 1 2 = J u.1 := by rw [h1.1.one]; exact hC.2.2.2.1.1
    unfold s1_others_L10
    simp (disch := omega) only [lit_0, lit_1, lit_2, lit_3, lit_4, lit_5, lit_6, lit_7, lit_8, lit_9, lit_10, lit_11, lit_12, lit_13, lit_14, lit_15, lit_20, lit_24, lit_25, lit_37, lit_40, lit_43, lit_48, lit_49, lit_50, lit_60, lit_96, lit_98, lit_99, lit_100, lit_999, lit_62, lit_74, lit_86, lit_92, lit_99999, lit_100000, lit_16, lit_32767, lit_2147483639, J_add, J_mul, J_sub, J_tn, J_le, J_lt, J_eq, Nat.not_lt_zero, false_or, or_false, le_t, le_f, lt_t, lt_f, eq_f, ↓reduceIte, callK_eq, letB_eq, joinB_eq, Nat.add_assoc, hn4]
    have hop : ∀ {x : US}, HFr S 1 x → s3_isOpen x 0 (J k) = some (gapN r k) := fun hx => tH_isOpen ((KeepH.of (by omega) hx).row hC.2.2.2.2.1) (by omega) (by have := hR.1 k (by omega); omega)
    cases hg : gapN r k with
    | true =>
      have hsk : glN (pG u r c sn) (50 * (k + 1)) = glN (pG u r c sn) (50 * k) := by
        rw [show 50 * (k + 1) = 50 * k + 50 by omega]
        refine glN_skip (fun i hi => ?_)
        unfold pG
        rw [show (50 * k + i) / 50 = k by omega, hg]
        rfl
      show Ev (s1_others_L23 P ct G.2.1 (J k) rc _ S4 G5 (J 1)) _
      unfold s1_others_L23
      rw [hop h1.1, hg]
      simp (disch := omega) only [lit_0, lit_1, lit_2, lit_3, lit_4, lit_5, lit_6, lit_7, lit_8, lit_9, lit_10, lit_11, lit_12, lit_13, lit_14, lit_15, lit_20, lit_24, lit_25, lit_37, lit_40, lit_43, lit_48, lit_49, lit_50, lit_60, lit_96, lit_98, lit_99, lit_100, lit_999, lit_62, lit_74, lit_86, lit_92, lit_99999, lit_100000, lit_16, lit_32767, lit_2147483639, J_add, J_mul, J_sub, J_tn, J_le, J_lt, J_eq, Nat.not_lt_zero, false_or, or_false, le_t, le_f, lt_t, lt_f, eq_f, ↓reduceIte, callK_eq, letB_eq, joinB_eq, Nat.add_assoc, bI_t]
      refine hrc _ ⟨rfl, ?_⟩
      unfold Oth at h1 ⊢
      rw [hsk]
      exact h1
    | false =>
      refine Ev.loop (I := fun m x => x.2.2 = J (m + 1) ∧ Oth ct G S (pG u r c sn) (50 * k + m) x.1 x.2.1) 50 ?_ ?_ ⟨rfl, h1⟩ (by unfold FUEL; omega)
      · rintro m hm ⟨S8, G9, v10⟩ ⟨h0, h2⟩ rc2 hrc2
        simp only at h0 h2
        subst h0
        show Ev (s1_others_L23 P ct G.2.1 (J k) rc rc2 S8 G9 (J (m + 1))) _
        have h2f := h2.1
        obtain ⟨e, cap, f', l1, l2, l3, l4, l5⟩ := h2.2
        have hlen := glN_len (p := pG u r c sn) (g := 50 * k + m)
        unfold s1_others_L23
        rw [hop h2f, hg]
        simp (disch := omega) only [lit_0, lit_1, lit_2, lit_3, lit_4, lit_5, lit_6, lit_7, lit_8, lit_9, lit_10, lit_11, lit_12, lit_13, lit_14, lit_15, lit_20, lit_24, lit_25, lit_37, lit_40, lit_43, lit_48, lit_49, lit_50, lit_60, lit_96, lit_98, lit_99, lit_100, lit_999, lit_62, lit_74, lit_86, lit_92, lit_99999, lit_100000, lit_16, lit_32767, lit_2147483639, J_add, J_mul, J_sub, J_tn, J_le, J_lt, J_eq, Nat.not_lt_zero, false_or, or_false, le_t, le_f, lt_t, lt_f, eq_f, ↓reduceIte, callK_eq, letB_eq, joinB_eq, Nat.add_assoc, bI_f]
        refine Ev.call (tH_be (S0 := S) (L := 1) h2f ((KeepH.of (by omega) h2f).row hC.2.2.2.2.1) (by decide)) (fun S9 h9 => ?_)
        refine Ev.call (tH_loosen (S0 := S) hC.2.2.2.1.1 ho3 ho12 h9.1 hR hk (v := m + 1) (by omega)) (fun S10 h10 => ?_)
        refine Ev.call (tH_isSo (S0 := S) (hC.2.2.2.1.sub l5.sub) ho h10 (hR.loos (by omega) ho12 hk) (by rw [loos_0]; exact hd) hP (hl.sub l5.sub) (hs.sub l5.sub) h8) (fun o ho => ?_)
        have hpg : o.1 = pG u r c sn (50 * k + m) := by
          rw [ho.1]
          unfold pG
          rw [show (50 * k + m) / 50 = k by omega, show (50 * k + m) % 50 = m by omega, hg]
          rfl
        rw [hpg]
        cases hp : pG u r c sn (50 * k + m) with
        | false =>
          simp (disch := omega) only [lit_0, lit_1, lit_2, lit_3, lit_4, lit_5, lit_6, lit_7, lit_8, lit_9, lit_10, lit_11, lit_12, lit_13, lit_14, lit_15, lit_20, lit_24, lit_25, lit_37, lit_40, lit_43, lit_48, lit_49, lit_50, lit_60, lit_96, lit_98, lit_99, lit_100, lit_999, lit_62, lit_74, lit_86, lit_92, lit_99999, lit_100000, lit_16, lit_32767, lit_2147483639, J_add, J_mul, J_sub, J_tn, J_le, J_lt, J_eq, Nat.not_lt_zero, false_or, or_false, le_t, le_f, lt_t, lt_f, eq_f, ↓reduceIte, callK_eq, letB_eq, joinB_eq, Nat.add_assoc, bI_f]
          refine hrc2 _ ⟨rfl, ho.2, ?_⟩
          rw [show 50 * k + (m + 1) = 50 * k + m + 1 from rfl, glN_f hp]
          exact ⟨e, cap, f', l1, l2, l3, l4, l5⟩
        | true =>
          simp (disch := omega) only [lit_0, lit_1, lit_2, lit_3, lit_4, lit_5, lit_6, lit_7, lit_8, lit_9, lit_10, lit_11, lit_12, lit_13, lit_14, lit_15, lit_20, lit_24, lit_25, lit_37, lit_40, lit_43, lit_48, lit_49, lit_50, lit_60, lit_96, lit_98, lit_99, lit_100, lit_999, lit_62, lit_74, lit_86, lit_92, lit_99999, lit_100000, lit_16, lit_32767, lit_2147483639, J_add, J_mul, J_sub, J_tn, J_le, J_lt, J_eq, Nat.not_lt_zero, false_or, or_false, le_t, le_f, lt_t, lt_f, eq_f, ↓reduceIte, callK_eq, letB_eq, joinB_eq, Nat.add_assoc, bI_t]
          have B9 := B.gr l5 (fun a h => h.elim)
          have r9 : Rm ct G9 3 (2 + (2 * (glN (pG u r c sn) (50 * k + m)).length + 12)) := Rm.gr (hr.le (by omega) (by omega)) l5
          refine Ev.call (tN_valueOf (v := 100 * k + (m + 1)) B9 (by omega) (r9.le (by omega) (by omega))) (fun x hx => ?_)
          obtain ⟨b, ob, x1, x2, x3⟩ := hx
          have B10 := B9.gr x3 (fun a h => h.elim)
          have ol : OLstC ct x.2.1 G.2.1 e (glN (pG u r c sn) (50 * k + m)).length cap f' := by
            obtain ⟨⟨md, oo, g, y1, y2, y3, y4, y5, y6⟩, y7⟩ := l1
            exact ⟨⟨md, oo, g, x3.sub _ _ y1, x3.sub _ _ y2, y3, y4, fun i hi => ⟨(y5 i hi).1, x3.2.2.2.2 _ (y5 i hi).2⟩, y6⟩, y7⟩
          rw [tL_cls ol.ol.1.lst]
          refine Ev.call (tL_addP (x := x.1) B10 ol (by omega) (by rw [x1]; exact okR_iff.mpr ⟨_, x2, rfl⟩) (Rm.gr (c := 1) (z := 1) (r9.le (by omega) (by omega)) x3)) (fun y hy => ?_)
          obtain ⟨y1, e', cap', z, y2, y3, y4, y5⟩ := hy
          have hb := B.1
          have hlm : ∀ a, lm ct G.2.1 e a → G.2.1 ≤ a := fun a ha => by
            have hoa := (B.oa (i := 0) (by decide)).2
            have := ha.2
            rcases ha.1 with h | h
            · omega
            · rcases l3 with h' | h' <;> omega
          have hval : valN (50 * k + m) = 100 * k + (m + 1) := by unfold valN; omega
          have keepI : ∀ (b' : Nat) (o' : Bool) (v : Int32), x.2.1 b' = some (o', .inr (12, [.int v])) → y.2.1 b' = some (o', .inr (12, [.int v])) := fun b' o' v hb' => by
            refine y4.1 _ _ (fun zz => ?_) hb'
            obtain ⟨⟨md, oo, g, y1, y2, -⟩, -⟩ := ol
            rcases zz.1 with h | h
            · rw [h] at hb'; cases hb'.symm.trans y1
            · rw [h] at hb'; cases hb'.symm.trans y2
          have hlen2 : (glN (pG u r c sn) (50 * k + m + 1)).length = (glN (pG u r c sn) (50 * k + m)).length + 1 := by rw [glN_t hp, List.length_append]; rfl
          refine hrc2 _ ⟨rfl, ho.2, e', cap', _, by rw [show 50 * k + (m + 1) = 50 * k + m + 1 from rfl, hlen2]; exact y2, fun i hi => ?_, ?_, ?_, ?_⟩
          · rw [show 50 * k + (m + 1) = 50 * k + m + 1 from rfl] at hi ⊢
            rw [hlen2] at hi
            rw [glN_t hp]
            by_cases ei : i = (glN (pG u r c sn) (50 * k + m)).length
            · refine ⟨b, ob, (if_pos ei).trans x1, ?_⟩
              rw [ei, gdA2, hval]
              exact keepI _ _ _ x2
            · obtain ⟨b', o', z1, z2⟩ := l2 i (by omega)
              refine ⟨b', o', (if_neg ei).trans z1, ?_⟩
              rw [gdA1 (by omega)]
              exact keepI _ _ _ (x3.sub _ _ z2)
          · rcases y3 with h | h
            · rw [h]; exact l3
            · have h1 := l5.2.1.1
              have h2 := x3.2.1.1
              right; omega
          · rw [show 50 * k + (m + 1) = 50 * k + m + 1 from rfl, hlen2]
            rcases y5 with h | h <;> omega
          · rw [show 50 * k + (m + 1) = 50 * k + m + 1 from rfl, hlen2]
            exact ((l5.tr x3).fresh y4 hb hlm).le (by omega) (by rcases y5 with h | h <;> omega)
      · rintro ⟨S8, G9, v10⟩ ⟨h0, h2⟩ rc2
        simp only at h0 h2
        subst h0
        show Ev (s1_others_L23 P ct G.2.1 (J k) rc rc2 S8 G9 (J 51)) _
        unfold s1_others_L23
        rw [if_pos (by decide), show (1 : Int32) = J 1 from rfl, J_add]
        refine hrc _ ⟨rfl, ?_⟩
        rw [show 50 * (k + 1) = 50 * k + 50 by omega]
        exact h2
  · rintro ⟨S4, G5, v6⟩ ⟨h0, h1⟩ rc
    simp only at h0 h1
    subst h0
    show Ev (s1_others_L10 P ct G.2.1 rc S4 G5 (J u.1)) _
    have hn4 : S4 1 2 = J u.1 := by rw [h1.1.one]; exact hC.2.2.2.1.1
    unfold s1_others_L10
    simp (disch := omega) only [lit_0, lit_1, lit_2, lit_3, lit_4, lit_5, lit_6, lit_7, lit_8, lit_9, lit_10, lit_11, lit_12, lit_13, lit_14, lit_15, lit_20, lit_24, lit_25, lit_37, lit_40, lit_43, lit_48, lit_49, lit_50, lit_60, lit_96, lit_98, lit_99, lit_100, lit_999, lit_62, lit_74, lit_86, lit_92, lit_99999, lit_100000, lit_16, lit_32767, lit_2147483639, J_add, J_mul, J_sub, J_tn, J_le, J_lt, J_eq, Nat.not_lt_zero, false_or, or_false, le_t, le_f, lt_t, lt_f, eq_f, ↓reduceIte, callK_eq, letB_eq, joinB_eq, Nat.add_assoc, hn4]
    exact ⟨_, rfl, rfl, h1⟩
theorem tM_isGuess {ct : CT} {P : Nat → Nat → Option Nat} {h : AH} {S S0 S1 : US} {u : RU} {r : Nat → Nat} {c g : Nat} {sn : Nat → Nat} (hC : Core ct P h S S0 u r) (hF : MFs S0 S1) (hc : S0 0 51 = J c) (h8 : c ≤ 8) (hs : ∀ i, i < c → sn (3 * i) < u.1 ∧ sn (3 * i + 1) ≤ 20 ∧ sn (3 * i + 2) ≤ 99) (hm : SeeM S0 24 c sn) (hg : g < 50 * u.1) : Ev (sM_isGuess S1 (J g)) (fun o => o.1 = pG u r c sn g ∧ MFs S0 o.2 ∧ (o.1 = true → ∀ s, s < u.1 → o.2 25 s = J (aftrN u (loosN u.1 r (g / 50) (g % 50 + 1)) 5 (13 + s))) ∧ o.2 26 = S1 26) := by
  obtain ⟨ho, hR, hd, -, -, hu, hr⟩ := hC
  have ho12 := ho.2.1
  have hk : g / 50 < u.1 := by omega
  have u1 := hF.k.rul hu
  have r1 := hF.k.row hr
  have v1 := hR.1 (g / 50) (by omega)
  have e1 := tM_isGap (b := 0) r1 (by omega) (show g / 50 < 12 by omega) (by omega)
  have hmod : g - g / 50 * 50 = g % 50 := by omega
  unfold sM_isGuess pG
  simp (disch := omega) only [lit_0, lit_1, lit_2, lit_3, lit_4, lit_5, lit_6, lit_7, lit_8, lit_9, lit_10, lit_11, lit_12, lit_13, lit_14, lit_15, lit_20, lit_24, lit_25, lit_37, lit_40, lit_43, lit_48, lit_49, lit_50, lit_60, lit_96, lit_98, lit_99, lit_100, lit_999, lit_62, lit_74, lit_86, lit_92, lit_99999, lit_100000, lit_16, lit_32767, lit_2147483639, J_add, J_mul, J_sub, J_tn, J_le, J_lt, J_eq, Nat.not_lt_zero, false_or, or_false, le_t, le_f, lt_t, lt_f, eq_f, ↓reduceIte, callK_eq, letB_eq, joinB_eq, Nat.add_assoc, J_div, hmod, e1]
  cases hgp : gapN r (g / 50) with
  | true =>
    simp (disch := omega) only [lit_0, lit_1, lit_2, lit_3, lit_4, lit_5, lit_6, lit_7, lit_8, lit_9, lit_10, lit_11, lit_12, lit_13, lit_14, lit_15, lit_20, lit_24, lit_25, lit_37, lit_40, lit_43, lit_48, lit_49, lit_50, lit_60, lit_96, lit_98, lit_99, lit_100, lit_999, lit_62, lit_74, lit_86, lit_92, lit_99999, lit_100000, lit_16, lit_32767, lit_2147483639, J_add, J_mul, J_sub, J_tn, J_le, J_lt, J_eq, Nat.not_lt_zero, false_or, or_false, le_t, le_f, lt_t, lt_f, eq_f, ↓reduceIte, callK_eq, letB_eq, joinB_eq, Nat.add_assoc, bI_t]
    exact ⟨_, rfl, rfl, hF, (fun z => by cases z), rfl⟩
  | false =>
    simp (disch := omega) only [lit_0, lit_1, lit_2, lit_3, lit_4, lit_5, lit_6, lit_7, lit_8, lit_9, lit_10, lit_11, lit_12, lit_13, lit_14, lit_15, lit_20, lit_24, lit_25, lit_37, lit_40, lit_43, lit_48, lit_49, lit_50, lit_60, lit_96, lit_98, lit_99, lit_100, lit_999, lit_62, lit_74, lit_86, lit_92, lit_99999, lit_100000, lit_16, lit_32767, lit_2147483639, J_add, J_mul, J_sub, J_tn, J_le, J_lt, J_eq, Nat.not_lt_zero, false_or, or_false, le_t, le_f, lt_t, lt_f, eq_f, ↓reduceIte, callK_eq, letB_eq, joinB_eq, Nat.add_assoc, bI_f]
    refine Ev.call (tM_tries (S0 := S1) MFr.rf r1) (fun S3 h3 => ?_)
    refine Ev.call (tM_loosens (S0 := S1) (b := 49) u1.1 ho.1 ho12 h3 hR (by omega) hk (v := g % 50 + 1) (by omega)) (fun S4 h4 => ?_)
    refine Ev.call (tM_isSeen (S0 := S0) hu ho h4.1 (hF.tr (MFs.of h4.2)) (hR.loos (by omega) ho12 hk) (by rw [loos_0]; exact hd) hc h8 hs hm) (fun o ho => ⟨_, rfl, ?_, ho.2.1, ho.2.2.1, ho.2.2.2.trans ((h4.2.1 26 (by decide) (by decide) (by decide) (by decide)))⟩)
    show o.1 = _
    rw [ho.1]
    rfl
/-- what a method comes to that makes cells and only looks -/
def RG (S S2 : US) (G : GS) (C Z : Nat) (s : Option (Int32 × US × GS)) (m : Option (Int32 × US)) : Prop := ∃ os om, s = some os ∧ m = some om ∧ os.1 = om.1 ∧ om.2 0 0 = J 0 ∧ KeepH S os.2.1 ∧ KeepM S2 om.2 ∧ Gr (fun _ => False) G os.2.2 C Z
theorem RG.mk {S S2 : US} {G : GS} {C Z : Nat} {s : Option (Int32 × US × GS)} {m : Option (Int32 × US)} (v : Int32) (hs : Ev s (fun o => o.1 = v ∧ KeepH S o.2.1 ∧ Gr (fun _ => False) G o.2.2 C Z)) (hm : Ev m (fun o => o.1 = v ∧ MFs (Z0 S2) o.2)) : RG S S2 G C Z s m := by
  obtain ⟨os, o1, o2, o3, o4⟩ := hs
  obtain ⟨om, m1, m2, m3⟩ := hm
  refine ⟨os, om, o1, m1, o2.trans m2.symm, ?_, o3, Z0_k.tr m3.k, o4⟩
  rw [m3.1 0 (by decide) (by decide) (by decide) (by decide) (by decide) (by decide)]
  exact Z0_0
def frsN (l : List Nat) : Int32 := match l with
  | [] => -J 1
  | x :: _ => J (valN x)
theorem frsN_a {l : List Nat} {x : Nat} : frsN (l ++ [x]) = if l.length = 0 then J (valN x) else frsN l := by
  cases l with
  | nil => rfl
  | cons y l => rfl
theorem A_torn {ct : CT} {a0 q0 j : Nat} {S : US} {G : GS} {P : Nat → Nat → Option Nat} {ad : Nat → Nat} {S2 : US} {u : RU} {r : Nat → Nat} {q1 e1 c1 : Nat} {f1 : Nat → Option Nat} {R1 : Nat → Nat → Nat} {q2 e2 c2 : Nat} {f2 : Nat → Option Nat} {sn : Nat → Nat} {t : Nat} (hj : j < 24) (H : InvD ct a0 q0 j S G P ad S2 u r q1 e1 c1 f1 R1 q2 e2 c2 f2 sn t) (p1 : Int32) : AgR [(1, 1)] S2 (RG S S2 G 2000 10000) (t1_torn S ct P G.1 p1) (s1_torn ct ad P S G p1) (sM_torn S2 p1) := by
  have Hz := H.z
  have hCo := H.core
  have hZ := Hz.core
  have ho12 := hCo.1.2.1
  have ho := hCo.1
  obtain ⟨i1, i2, i3, i4, i5, i6⟩ := id Hz.2.2.2.1
  have hrm : Rm ct G 49000 228000 := H.1.2.2.1.rm H.1.2.1 hj (by omega) (by omega)
  have hs : ∀ i, i < c2 → sn (3 * i) < u.1 ∧ sn (3 * i + 1) ≤ 20 ∧ sn (3 * i + 2) ≤ 99 := fun i hi => (i3 i hi).2
  unfold t1_torn s1_torn sM_torn
  refine Ar_z (Ar_whatE 2 (by decide) (by decide) (fun w hw e => Ar_ok ?_))
  subst e
  rcases (show w = 2 ∨ w = 0 ∨ w = 1 by omega) with rfl | hw2
  · simp (disch := omega) only [lit_0, lit_1, lit_2, lit_3, lit_4, lit_5, lit_6, lit_7, lit_8, lit_9, lit_10, lit_11, lit_12, lit_13, lit_14, lit_15, lit_20, lit_24, lit_25, lit_37, lit_40, lit_43, lit_48, lit_49, lit_50, lit_60, lit_96, lit_98, lit_99, lit_100, lit_999, lit_62, lit_74, lit_86, lit_92, lit_99999, lit_100000, lit_16, lit_32767, lit_2147483639, J_add, J_mul, J_sub, J_tn, J_le, J_lt, J_eq, Nat.not_lt_zero, false_or, or_false, le_t, le_f, lt_t, lt_f, eq_f, ↓reduceIte, callK_eq, letB_eq, joinB_eq, Nat.add_assoc, bI_t]
    refine RG.mk (bI (soN u r c2 sn)) ?_ ?_
    · refine Ev.call (tH_be (S0 := S) (L := 1) HFr.rf hCo.2.2.2.2.1 (by decide)) (fun S1 h1 => ?_)
      refine Ev.call (tH_isSo (S0 := S) hCo.2.2.2.1 ho h1.1 hCo.2.1 hCo.2.2.1 i1 i2.1.lst (i3.sub cutM_sub) i4) (fun o h2 => ?_)
      rw [h2.1]
      cases soN u r c2 sn with
      | true => simp (disch := omega) only [lit_0, lit_1, lit_2, lit_3, lit_4, lit_5, lit_6, lit_7, lit_8, lit_9, lit_10, lit_11, lit_12, lit_13, lit_14, lit_15, lit_20, lit_24, lit_25, lit_37, lit_40, lit_43, lit_48, lit_49, lit_50, lit_60, lit_96, lit_98, lit_99, lit_100, lit_999, lit_62, lit_74, lit_86, lit_92, lit_99999, lit_100000, lit_16, lit_32767, lit_2147483639, J_add, J_mul, J_sub, J_tn, J_le, J_lt, J_eq, Nat.not_lt_zero, false_or, or_false, le_t, le_f, lt_t, lt_f, eq_f, ↓reduceIte, callK_eq, letB_eq, joinB_eq, Nat.add_assoc, bI_t]; exact ⟨_, rfl, rfl, KeepH.of (by omega) h2.2, Gr.rf.le (by omega) (by omega)⟩
      | false => simp (disch := omega) only [lit_0, lit_1, lit_2, lit_3, lit_4, lit_5, lit_6, lit_7, lit_8, lit_9, lit_10, lit_11, lit_12, lit_13, lit_14, lit_15, lit_20, lit_24, lit_25, lit_37, lit_40, lit_43, lit_48, lit_49, lit_50, lit_60, lit_96, lit_98, lit_99, lit_100, lit_999, lit_62, lit_74, lit_86, lit_92, lit_99999, lit_100000, lit_16, lit_32767, lit_2147483639, J_add, J_mul, J_sub, J_tn, J_le, J_lt, J_eq, Nat.not_lt_zero, false_or, or_false, le_t, le_f, lt_t, lt_f, eq_f, ↓reduceIte, callK_eq, letB_eq, joinB_eq, Nat.add_assoc, bI_f]; exact ⟨_, rfl, rfl, KeepH.of (by omega) h2.2, Gr.rf.le (by omega) (by omega)⟩
    · refine Ev.call (tM_tries (S0 := Z0 S2) MFr.rf hZ.2.2.2.2.2.2) (fun S1 h1 => ?_)
      refine Ev.call (tM_isSeen (S0 := Z0 S2) hZ.2.2.2.2.2.1 ho h1.1 (MFs.of h1.2) hCo.2.1 hCo.2.2.1 i5 i4 hs i6) (fun o h2 => ?_)
      rw [h2.1]
      cases soN u r c2 sn with
      | true => simp (disch := omega) only [lit_0, lit_1, lit_2, lit_3, lit_4, lit_5, lit_6, lit_7, lit_8, lit_9, lit_10, lit_11, lit_12, lit_13, lit_14, lit_15, lit_20, lit_24, lit_25, lit_37, lit_40, lit_43, lit_48, lit_49, lit_50, lit_60, lit_96, lit_98, lit_99, lit_100, lit_999, lit_62, lit_74, lit_86, lit_92, lit_99999, lit_100000, lit_16, lit_32767, lit_2147483639, J_add, J_mul, J_sub, J_tn, J_le, J_lt, J_eq, Nat.not_lt_zero, false_or, or_false, le_t, le_f, lt_t, lt_f, eq_f, ↓reduceIte, callK_eq, letB_eq, joinB_eq, Nat.add_assoc, bI_t]; exact ⟨_, rfl, rfl, h2.2.1⟩
      | false => simp (disch := omega) only [lit_0, lit_1, lit_2, lit_3, lit_4, lit_5, lit_6, lit_7, lit_8, lit_9, lit_10, lit_11, lit_12, lit_13, lit_14, lit_15, lit_20, lit_24, lit_25, lit_37, lit_40, lit_43, lit_48, lit_49, lit_50, lit_60, lit_96, lit_98, lit_99, lit_100, lit_999, lit_62, lit_74, lit_86, lit_92, lit_99999, lit_100000, lit_16, lit_32767, lit_2147483639, J_add, J_mul, J_sub, J_tn, J_le, J_lt, J_eq, Nat.not_lt_zero, false_or, or_false, le_t, le_f, lt_t, lt_f, eq_f, ↓reduceIte, callK_eq, letB_eq, joinB_eq, Nat.add_assoc, bI_f]; exact ⟨_, rfl, rfl, h2.2.1⟩
  · have w2 : ¬ J w = J 2 := by rw [J_eq (by omega) (by omega)]; omega
    simp only [lit_0, lit_1, lit_2]
    rw [if_neg w2, if_neg w2]
    refine RG.mk (if w = 0 then J (glN (pG u r c2 sn) (50 * u.1)).length else frsN (glN (pG u r c2 sn) (50 * u.1))) ?_ ?_
    · refine Ev.call (tH_others H.1.2.1 hCo i1 i2.1.lst (i3.sub cutM_sub) i4 (hrm.le (by omega) (by omega))) (fun o h1 => ?_)
      obtain ⟨h1, h2, e, cap, f, h3, h4, h5, h6, h7⟩ := h1
      have hlen := glN_len (p := pG u r c2 sn) (g := 50 * u.1)
      have hk := KeepH.of (by omega) h2
      have hg := h7.le (c' := 2000) (z' := 10000) (by omega) (by omega)
      rw [h1, onR_eq]
      rcases hw2 with rfl | rfl
      · rw [if_pos rfl, tL_cls h3.ol.1.lst, m_call (tL_size h3.ol.1.lst)]
        exact ⟨_, rfl, rfl, hk, hg⟩
      · rw [if_neg (by decide), tL_cls h3.ol.1.lst, m_call (tL_empty h3.ol.1.lst)]
        rw [if_neg (show ¬ (1 : Nat) = 0 by decide)]
        cases hl : glN (pG u r c2 sn) (50 * u.1) with
        | nil =>
          show Ev (if bI true = J 0 then _ else some (-J 1, o.2.1, o.2.2)) _
          rw [bI_t, if_neg (by decide)]
          exact ⟨_, rfl, rfl, hk, hg⟩
        | cons x l =>
          rw [hl] at h3 h4
          obtain ⟨b, ob, z1, z2⟩ := h4 0 (by simp)
          show Ev (if bI false = J 0 then _ else _) _
          rw [bI_f, if_pos rfl, tL_cls h3.ol.1.lst, m_call (tL_get (i := 0) h3.ol.1.lst (by simp)), z1, onR_eq, hC_eq z2, hC_eq z2]
          unfold sN_intValue
          rw [hI_eq z2 rfl, callK_eq]
          exact ⟨_, rfl, rfl, hk, hg⟩
    · refine Ev.loop4 (i0 := 0) (fun g x b l => MFs (Z0 S2) x ∧ b = J (glN (pG u r c2 sn) g).length ∧ l = frsN (glN (pG u r c2 sn) g)) (50 * u.1) ⟨MFs.rf, rfl, rfl⟩ (by omega) ?_ ?_ (by unfold FUEL; omega)
      · rintro g - hg S1 b l ⟨h1, rfl, rfl⟩ rc hrc
        have u1 := h1.k.rul hZ.2.2.2.2.2.1
        have hlen := glN_len (p := pG u r c2 sn) (g := g)
        unfold sM_torn_L45
        simp (disch := omega) only [lit_0, lit_1, lit_2, lit_3, lit_4, lit_5, lit_6, lit_7, lit_8, lit_9, lit_10, lit_11, lit_12, lit_13, lit_14, lit_15, lit_20, lit_24, lit_25, lit_37, lit_40, lit_43, lit_48, lit_49, lit_50, lit_60, lit_96, lit_98, lit_99, lit_100, lit_999, lit_62, lit_74, lit_86, lit_92, lit_99999, lit_100000, lit_16, lit_32767, lit_2147483639, J_add, J_mul, J_sub, J_tn, J_le, J_lt, J_eq, Nat.not_lt_zero, false_or, or_false, le_t, le_f, lt_t, lt_f, eq_f, ↓reduceIte, callK_eq, letB_eq, joinB_eq, Nat.add_assoc, u1.1]
        refine Ev.call (tM_isGuess hZ h1 i5 i4 hs i6 hg) (fun o h2 => ?_)
        rw [h2.1]
        cases hp : pG u r c2 sn g with
        | false =>
          simp (disch := omega) only [lit_0, lit_1, lit_2, lit_3, lit_4, lit_5, lit_6, lit_7, lit_8, lit_9, lit_10, lit_11, lit_12, lit_13, lit_14, lit_15, lit_20, lit_24, lit_25, lit_37, lit_40, lit_43, lit_48, lit_49, lit_50, lit_60, lit_96, lit_98, lit_99, lit_100, lit_999, lit_62, lit_74, lit_86, lit_92, lit_99999, lit_100000, lit_16, lit_32767, lit_2147483639, J_add, J_mul, J_sub, J_tn, J_le, J_lt, J_eq, Nat.not_lt_zero, false_or, or_false, le_t, le_f, lt_t, lt_f, eq_f, ↓reduceIte, callK_eq, letB_eq, joinB_eq, Nat.add_assoc, bI_f]
          exact hrc _ _ _ ⟨h2.2.1, by rw [glN_f hp], by rw [glN_f hp]⟩
        | true =>
          simp (disch := omega) only [lit_0, lit_1, lit_2, lit_3, lit_4, lit_5, lit_6, lit_7, lit_8, lit_9, lit_10, lit_11, lit_12, lit_13, lit_14, lit_15, lit_20, lit_24, lit_25, lit_37, lit_40, lit_43, lit_48, lit_49, lit_50, lit_60, lit_96, lit_98, lit_99, lit_100, lit_999, lit_62, lit_74, lit_86, lit_92, lit_99999, lit_100000, lit_16, lit_32767, lit_2147483639, J_add, J_mul, J_sub, J_tn, J_le, J_lt, J_eq, Nat.not_lt_zero, false_or, or_false, le_t, le_f, lt_t, lt_f, eq_f, ↓reduceIte, callK_eq, letB_eq, joinB_eq, Nat.add_assoc, bI_t]
          cases hl : glN (pG u r c2 sn) g with
          | nil =>
            have hmod : g - g / 50 * 50 = g % 50 := by omega
            simp (disch := omega) only [lit_0, lit_1, lit_2, lit_3, lit_4, lit_5, lit_6, lit_7, lit_8, lit_9, lit_10, lit_11, lit_12, lit_13, lit_14, lit_15, lit_20, lit_24, lit_25, lit_37, lit_40, lit_43, lit_48, lit_49, lit_50, lit_60, lit_96, lit_98, lit_99, lit_100, lit_999, lit_62, lit_74, lit_86, lit_92, lit_99999, lit_100000, lit_16, lit_32767, lit_2147483639, J_add, J_mul, J_sub, J_tn, J_le, J_lt, J_eq, Nat.not_lt_zero, false_or, or_false, le_t, le_f, lt_t, lt_f, eq_f, ↓reduceIte, callK_eq, letB_eq, joinB_eq, Nat.add_assoc, J_div, hmod, frsN]
            refine hrc _ _ _ ⟨h2.2.1, by rw [glN_t hp, hl]; rfl, ?_⟩
            rw [glN_t hp, hl]
            rfl
          | cons x l =>
            have hx : frsN (x :: l) = J (valN x) := rfl
            have hxb : valN x < 100000 := by
              have := (glN_gd (p := pG u r c2 sn) (g := g) (i := 0) (by rw [hl]; simp)).1
              rw [hl] at this
              have : x < g := this
              unfold valN
              omega
            rw [hx]
            simp (disch := omega) only [lit_0, lit_1, lit_2, lit_3, lit_4, lit_5, lit_6, lit_7, lit_8, lit_9, lit_10, lit_11, lit_12, lit_13, lit_14, lit_15, lit_20, lit_24, lit_25, lit_37, lit_40, lit_43, lit_48, lit_49, lit_50, lit_60, lit_96, lit_98, lit_99, lit_100, lit_999, lit_62, lit_74, lit_86, lit_92, lit_99999, lit_100000, lit_16, lit_32767, lit_2147483639, J_add, J_mul, J_sub, J_tn, J_le, J_lt, J_eq, Nat.not_lt_zero, false_or, or_false, le_t, le_f, lt_t, lt_f, eq_f, ↓reduceIte, callK_eq, letB_eq, joinB_eq, Nat.add_assoc, J_neg]
            refine hrc _ _ _ ⟨h2.2.1, by rw [glN_t hp, hl, List.length_append]; rfl, ?_⟩
            rw [glN_t hp, hl]
            rfl
      · rintro S1 b l ⟨h1, rfl, rfl⟩ rc
        have u1 := h1.k.rul hZ.2.2.2.2.2.1
        unfold sM_torn_L45
        rcases hw2 with rfl | rfl
        · simp (disch := omega) only [lit_0, lit_1, lit_2, lit_3, lit_4, lit_5, lit_6, lit_7, lit_8, lit_9, lit_10, lit_11, lit_12, lit_13, lit_14, lit_15, lit_20, lit_24, lit_25, lit_37, lit_40, lit_43, lit_48, lit_49, lit_50, lit_60, lit_96, lit_98, lit_99, lit_100, lit_999, lit_62, lit_74, lit_86, lit_92, lit_99999, lit_100000, lit_16, lit_32767, lit_2147483639, J_add, J_mul, J_sub, J_tn, J_le, J_lt, J_eq, Nat.not_lt_zero, false_or, or_false, le_t, le_f, lt_t, lt_f, eq_f, ↓reduceIte, callK_eq, letB_eq, joinB_eq, Nat.add_assoc, u1.1]
          exact ⟨_, rfl, rfl, h1⟩
        · simp (disch := omega) only [lit_0, lit_1, lit_2, lit_3, lit_4, lit_5, lit_6, lit_7, lit_8, lit_9, lit_10, lit_11, lit_12, lit_13, lit_14, lit_15, lit_20, lit_24, lit_25, lit_37, lit_40, lit_43, lit_48, lit_49, lit_50, lit_60, lit_96, lit_98, lit_99, lit_100, lit_999, lit_62, lit_74, lit_86, lit_92, lit_99999, lit_100000, lit_16, lit_32767, lit_2147483639, J_add, J_mul, J_sub, J_tn, J_le, J_lt, J_eq, Nat.not_lt_zero, false_or, or_false, le_t, le_f, lt_t, lt_f, eq_f, ↓reduceIte, callK_eq, letB_eq, joinB_eq, Nat.add_assoc, u1.1]
          exact ⟨_, rfl, rfl, h1⟩
