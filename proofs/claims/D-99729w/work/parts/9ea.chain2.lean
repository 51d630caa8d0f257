set_option maxRecDepth 100000
/-! THE PLAIN LAW, 59b: a chain begins -/
theorem Ev.hp {ρ : Type} {G : GS} {q ci k : Nat} {v : Value} {fs : List Value} {kp : GS → Option ρ} {Q : ρ → Prop} (h : G.1 q = some (true, .inr (ci, fs))) (hk : k < fs.length) (hk2 : ∀ G', G'.1 q = some (true, .inr (ci, fs.set k v)) → Gq q G G' → Ev (kp G') Q) : Ev (hPut G q ci k v kp) Q := by
  rw [hPut_eq h hk]
  exact hk2 _ setG_at (grw_set (M := fun x => x = q) h rfl (fun z => z))
theorem tC_init {ct : CT} {lo q q0 dd b : Nat} {G0 G : GS} {F : FV} {c z : Nat} (B0 : GB ct G0) (B : GB ct G) (hlo : ct.2.2.1 ≤ lo ∧ lo ≤ q) (h1 : G0.1 q = some (true, .inr (6, [.null, .null]))) (hg : Gr (fun a => a = q0) G0 G c z) (hq0 : ct.2.2.1 ≤ q0 ∧ q0 < lo) (hF : Fw ct dd G0.2.1 G.2.1 G.1 b F) (hr : Rm ct G 4 40) : Ev (s7_init ct G q (some b)) (fun G' => ChO ct lo G' q dd 1 F ∧ Gr (fun a => lo ≤ a) G G' 4 40) := by
  have w1 := B0.1 _ _ h1
  have hle := hg.2.1.1
  have h1' := hg.1 _ _ (show ¬ q = q0 by omega) h1
  unfold s7_init
  refine Ev.nl (f := fun _ => none) B (hr.le (by omega) (by omega)) (fun G3 k1 k2 => ?_)
  have B3 := B.gr k2 (fun a ha => ha.elim)
  have h3 := k2.1 _ _ (fun zz => zz) h1'
  refine Ev.hp h3 (by simp) (fun G4 h4 g1 => ?_)
  have h4 : G4.1 q = some (true, .inr (6, [.ref G.2.1, .null])) := h4
  have B4 := B3.gr g1 (fun a ha => by omega)
  have g04 : Gr (fun a => a = q) G G4 (1 + 0) (3 + 0) := (k2.mono (fun _ zz => zz.elim)).tr g1
  have r4 : Rm ct G4 3 37 := (hr.le (c' := 1 + 0 + 3) (z' := 3 + 0 + 37) (by omega) (by omega)).gr g04
  rw [newB_eq (r4.le (by omega) (by omega))]
  have g2 : Gr (fun _ => False) G4 (addG G4 4 (.inr (11, [.null, .int 0, .int 0, .int 0]))) 1 4 := grw_add B4.1
  have B5 := B4.gr g2 (fun a ha => ha.elim)
  have r5 := Rm.gr (c' := 2) (z' := 33) (r4.le (by omega) (by omega)) g2
  have hle34 := g04.2.1.1
  refine (tA_init (x := .null) (v := 0) (v2 := .null) B5 addG_at (by omega) (r5.le (by omega) (by omega))).call (fun G7 k => ?_)
  obtain ⟨s1, s2⟩ := k
  have h5 : (addG G4 4 (.inr (11, [.null, .int 0, .int 0, .int 0]))).1 q = some (true, .inr (6, [.ref G.2.1, .null])) := (addG_lt (B4.1 _ _ h4)).trans h4
  have hq4 := B4.1 _ _ h4
  have h7 := s2.1 _ _ (show ¬ q = G4.2.1 by omega) h5
  have B7 := B5.gr s2 (fun a ha => by omega)
  refine Ev.hp h7 (by simp) (fun G8 h8 g3 => ?_)
  have h8 : G8.1 q = some (true, .inr (6, [.ref G.2.1, .ref G4.2.1])) := h8
  have B8 := B7.gr g3 (fun a ha => by omega)
  -- the list lives on
  have gq3 : ∀ a, a ≠ q → a ≠ G4.2.1 → ∀ e, G3.1 a = some e → G8.1 a = some e := fun a z1 z2 e he => by
    have e4 := g1.1 _ _ z1 he
    have e5 := g2.1 _ _ (fun zz => zz) e4
    exact g3.1 _ _ z1 (s2.1 _ _ z2 e5)
  obtain ⟨⟨md, oo, cap2, g, t1, t2, t3, t4, t5, t6⟩, hqb, heb⟩ := k1
  have hlt3 : G.2.1 < G3.2.1 := B3.1 _ _ t1
  have hle4 := g1.2.1.1
  have hoa := (B.oa (i := 0) (by decide)).2
  have hlst : OLst ct G8.1 G.2.1 (ct.2.1 0) 0 (fun _ => none) := ⟨⟨md, oo, cap2, g, gq3 _ (by omega) (by omega) _ t1, gq3 _ (by omega) (by omega) _ t2, t3, t4, fun i hi => absurd hi (Nat.not_lt_zero i), t6⟩, hqb, heb⟩
  have g48 : Gr (fun a => a = q ∨ a = G4.2.1) G4 G8 (1 + 1 + 0) (4 + 16 + 0) := ((g2.mono (fun _ zz => zz.elim)).tr (s2.mono (fun a ha => Or.inr ha))).tr (g3.mono (fun a ha => Or.inl ha))
  have g08 : Gr (fun a => a = q) G G8 (1 + 0 + (1 + 1 + 0)) (3 + 0 + (4 + 16 + 0)) := ((g04.mono (fun a ha => Or.inl ha)).tr g48).drop2 B.1 (fun a ha => by
    rcases ha with ha | ha
    · exact Or.inl ha
    · exact Or.inr (by omega))
  have hF8 := hF.gr g08 (fun a ha => ⟨by omega, by omega⟩)
  have hok : okR G8.1 (some b) = true := by
    obtain ⟨⟨ci, fs, e1, e2, -⟩, -⟩ := hF8
    exact okR_iff.mpr ⟨_, e1, rfl⟩
  have r8 : Rm ct G8 1 12 := Rm.gr (hr.le (c' := 1 + 0 + (1 + 1 + 0) + 1) (z' := 3 + 0 + (4 + 16 + 0) + 12) (by omega) (by omega)) g08
  rw [hR_eq h8 rfl, onR_eq, tL_cls hlst.1.lst]
  refine (tL_add (x := some b) B8 hlst (by omega) hok r8).call (fun o11 k => ?_)
  obtain ⟨-, el', y1, y2, y3⟩ := k
  have nl : ∀ a, a ≠ G.2.1 → a ≠ ct.2.1 0 → ¬ lm ct G.2.1 (ct.2.1 0) a := fun a z1 z2 zz => by rcases zz.1 with w | w <;> omega
  obtain ⟨v2, f, u1, u2', u3⟩ := s1
  have hb5 : (addG G4 4 (.inr (11, [.null, .int 0, .int 0, .int 0]))).2.1 = G4.2.1 + 1 := rfl
  rw [hb5] at u1 u2'
  have u1' := g3.1 _ _ (show ¬ G4.2.1 = q by omega) u1
  have u2'' := g3.1 _ _ (show ¬ G4.2.1 + 1 = q by omega) u2'
  have hle8 := g08.2.1.1
  have hlt8 := B8.1 _ _ u2''
  have elo : G.2.1 ≤ el' := by
    rcases y2 with y2 | y2
    · have hown := y1.own (B8.gr y3 (fun a ha => ha.2)) (by omega)
      omega
    · omega
  have hel : el' ≠ q := fun zz => by
    obtain ⟨⟨_, _, _, _, q1, q2, _⟩, -⟩ := y1
    have := y3.1 _ _ (nl q (by omega) (by omega)) h8
    rw [zz, this] at q2
    cases q2
  refine ⟨_, rfl, ⟨G.2.1, el', G4.2.1, G4.2.1 + 1, 16, _, _, fun _ => G0.2.1, fun _ => G.2.1, fun _ => F, fun _ => 0, y3.1 _ _ (nl q (by omega) (by omega)) h8, y1, ⟨v2, f, y3.1 _ _ (nl _ (by omega) (by omega)) u1', y3.1 _ _ (nl _ (by omega) (by omega)) u2'', u3⟩, ⟨hlo.1, hlo.2, by omega, by omega, by omega, by omega⟩, fun i hi => ?_, fun i hi => absurd hi (by omega), rfl⟩, ?_⟩
  · have hi0 : i = 0 := by omega
    have hle11 := y3.2.1.1
    refine ⟨b, if_pos hi0, ?_, (show lo ≤ G0.2.1 by omega), (show G.2.1 ≤ o11.2.2.1 by omega), fun a ha => (show ¬ (G0.2.1 ≤ a ∧ a < G.2.1) by omega)⟩
    exact hF8.gr y3 (fun a ha => ⟨ha.2, by rcases ha.1 with w | w <;> omega⟩)
  · have gfin : Gr (fun a => a = q ∨ a = G.2.1 ∨ (a = ct.2.1 0 ∧ ct.2.2.1 ≤ a)) G o11.2 (1 + 0 + (1 + 1 + 0) + 1) (3 + 0 + (4 + 16 + 0) + (2 * 0 + 12)) := (g08.mono (fun a ha => Or.inl ha)).tr (y3.mono (fun a ha => by
      rcases ha.1 with w | w
      · exact Or.inr (Or.inl w)
      · exact Or.inr (Or.inr ⟨w, ha.2⟩)))
    exact (gfin.mono (fun a ha => by omega)).le (by omega) (by omega)
