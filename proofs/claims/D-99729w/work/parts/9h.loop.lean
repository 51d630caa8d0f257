set_option maxRecDepth 100000
/-! THE PLAIN LAW, 62: HorizonSeam's reader, 7: chains are read -/
section LP
variable {ct : CT} {ad : Nat → Nat} {P : Nat → Nat → Option Nat} {S : US} {tp : Nat → Nat} {n : Nat} {c : RC} {q : Nat} {d s : Int32}
theorem RS.up {G G' : GS} {x lo C Z : Nat} (H : RS ct tp n c q d s G x) (hg : Gr (fun a => lo ≤ a) G G' C Z) (hlo : ct.2.2.1 ≤ lo) (hn : q < lo ∧ c.2.2.2.1 < lo ∧ c.2.2.2.2.1 < lo) : RS ct tp n c q d s G' x := ⟨H.1.gr hg (fun a ha => by omega), H.2.1, H.2.2.1.gr hg (by omega), H.2.2.2.gr hg (by omega) (by omega)⟩
theorem RS.low {G : GS} {x : Nat} (H : RS ct tp n c q d s G x) : q < G.2.1 ∧ c.2.2.2.1 < G.2.1 ∧ c.2.2.2.2.1 < G.2.1 := by
  obtain ⟨h1, h2, ⟨u, h3, -⟩, ⟨o, f, a1, -⟩, o', f', b1, -⟩ := H
  exact ⟨h1.1 _ _ h3, h1.1 _ _ a1, h1.1 _ _ b1⟩
theorem sg_chr {k : Nat} (h : k < 128) : ((sbJ k).toUInt32 % 65536).toInt32 = J k ∧ vp_nar .char (J k) = J k := by
  have h1 := co_dec (P := fun k => ((sbJ k).toUInt32 % 65536).toInt32 = J k) (N := 128) (by decide +kernel) h
  exact ⟨h1, (chr_ok h).2⟩
theorem tH_sign {G : GS} {x k : Nat} (hF : RF ct ad S tp n c q) (H : RS ct tp n c q d s G x) (hk : k < 128) (hg : isG tp n x k = true) : Ev (s5_sign ct ad P S G q) (fun o => o.1 = J k ∧ RS ct tp n c q d s o.2 (enN tp n x) ∧ Gq q G o.2) := by
  obtain ⟨f1, f2, f3, f4⟩ := id hF
  obtain ⟨u, hRD, -⟩ := id H.2.2.1
  have h3 := isG_nz hg
  obtain ⟨e1, e2, e3, e4⟩ := en_ok (tp := tp) H.2.1
  have e4 := e4 (by omega)
  have hn := f1.1
  unfold isG at hg
  have hg := (of_decide_eq_true hg).2
  obtain ⟨g1, g2⟩ := f1.2 (bgN tp n x) e4.2
  obtain ⟨w1, w2⟩ := sg_chr hk
  unfold s5_sign
  rw [hRD.r12, if_pos (by rw [f3]), hRD.i7, gd (by omega) (by omega), J_tn (by omega), g2, hg, w1, hRD.hC]
  refine (H.nx (P := P) hF).call (fun G1 y => ?_)
  rw [if_pos w2]
  exact ⟨_, rfl, rfl, y.1, y.2⟩
theorem tP_loop {opf : Nat → Nat} {pt : Nat → PR} {A dd q1 : Nat} {uF : GS → Option (Nat × GS)} {sF : GS → Option (Option Nat × GS)} {uB : (GS → Option (Nat × GS)) → GS → Option (Nat × GS)} {sB : (GS → Option (Option Nat × GS)) → GS → Option (Option Nat × GS)} {G0 : GS} {x0 : Nat} (hF : RF ct ad S tp n c q) (hpt : HOk ct tp n c q d s pt (A + 1) dd uF sF) (hAdv : Adv n pt) (ho : ∀ x, opf x ≠ 0 → kdN tp n x ≠ 0) (h0 : RS ct tp n c q d s G0 x0) (hr0 : Rm ct G0 (200 * (n + 1 - x0) - 10 * A) (9000 * (n + 1 - x0) - 500 * A))
    (hbody : ∀ G x m acc, RS ct tp n c q d s G x → ChO ct G0.2.1 G q1 dd m acc →
      (opf x = 0 → ∀ rcu rcs, uB rcu G = none ∧ sB rcs G = callK (s7_plain ct G q1) (fun o8 => some (o8.1, o8.2))) ∧
      (opf x ≠ 0 → ∃ ch, bopR (opf x) ch ∧ ∃ G1, RS ct tp n c q d s G1 (enN tp n x) ∧ Gq q G G1 ∧ ∀ rcu rcs, uB rcu G = tB (uF G1) (callK (sF G1) (fun o => hC o.2.1 q1 6 (callK (s7_add ct o.2 q1 (J ch) o.1) (fun o => rcu o)))) ∧ sB rcs G = callK (sF G1) (fun o => hC o.2.1 q1 6 (callK (s7_add ct o.2 q1 (J ch) o.1) (fun o => rcs o))))) :
    ∀ f fu G x m (a : Fm) C Z, n - x < f → n - x < fu → RS ct tp n c q d s G x → ChO ct G0.2.1 G q1 dd m a.2 → 1 ≤ m → m + (n - x) ≤ 500 → x0 < x → Gr (fun a => a = q) G0 G C Z → C + 10 * A ≤ 200 * (x - x0) → Z + 500 * A ≤ 9000 * (x - x0) → HRs ct tp n c q d s (chP tp n opf pt f a x) x0 A (dd + 1) G0 (loopK uB fu G) (loopK sB fu G) := fun f => by
  obtain ⟨f1, f2, f3, f4⟩ := id hF
  induction f with
  | zero => intro fu G x m a C Z h; exact absurd h (by omega)
  | succ f ih =>
    intro fu G x m a C Z hf hfu hRs hCh hm hmn hx0 hg hC1 hZ1
    obtain ⟨fu, rfl⟩ : ∃ fu', fu = fu' + 1 := ⟨fu - 1, by omega⟩
    obtain ⟨b1, b2⟩ := hbody G x m a.2 hRs hCh
    have hx := hRs.2.1
    show HRs ct tp n c q d s (chP tp n opf pt (f + 1) a x) x0 A (dd + 1) G0 (uB (loopK uB fu) G) (sB (loopK sB fu) G)
    have hlo := h0.low
    have hbase := h0.1.2.2
    by_cases c0 : opf x = 0
    · have e : chP tp n opf pt (f + 1) a x = .inr (a, x) := if_pos c0
      obtain ⟨k1, k2⟩ := b1 c0 (loopK uB fu) (loopK sB fu)
      rw [e, k1, k2]
      refine ⟨rfl, (tC_plain hRs.1.1 hm (by omega) hCh).call (fun o y => ?_)⟩
      obtain ⟨b, y1, y2, y3⟩ := y
      refine ⟨_, rfl, b, y1, ?_, ?_, C, Z, ?_, hC1, hZ1⟩
      · show Fw ct (dd + 1) G0.2.1 o.2.2.1 o.2.1 b a.2
        rw [y2]; exact y3
      · show TkH tp n x c q o.2 d s
        rw [y2]; exact hRs.2.2.1
      · show Gr (fun a => a = q) G0 o.2 C Z
        rw [y2]; exact hg
    · obtain ⟨ch, hch, G1, hR1, hg1, hrc⟩ := b2 c0
      obtain ⟨k1, k2⟩ := hrc (loopK uB fu) (loopK sB fu)
      obtain ⟨g1, g2⟩ := en_gt (tp := tp) hx (ho x c0)
      have e : chP tp n opf pt (f + 1) a x = match pt (enN tp n x) with
        | .inl e => .inl e
        | .inr r => chP tp n opf pt f (binF (opf x) a r.1) r.2 := if_neg c0
      have hgg := hg.tr hg1
      have hr1 : Rm ct G1 (200 * (n + 1 - enN tp n x) + 100) (9000 * (n + 1 - enN tp n x) + 5000) := Rm.gr (hr0.le (by omega) (by omega)) hgg
      have hp := hpt G1 _ hR1 (hr1.le (by omega) (by omega))
      have hA := hAdv _ g2
      rw [e, k1, k2]
      cases hr : pt (enN tp n x) with
      | inl e =>
        rw [hr] at hp
        obtain ⟨w, ew, w1, w2, C2, Z2, w3, w4, w5⟩ := hp
        rw [ew, tB_s]
        exact ⟨w, rfl, w1, w2, _, _, hgg.tr w3, by omega, by omega⟩
      | inr r =>
        rw [hr] at hp hA
        obtain ⟨hu, o, eo, b, o1, o2, o3, C2, Z2, o4, o5, o6⟩ := hp
        obtain ⟨a1, a2, a3⟩ := hA
        have hR2 := hR1.gr f4 o4 a2 o3
        have hCh1 := hCh.gr hg1 (fun a ha => ⟨by omega, by omega⟩)
        have hr2 : Rm ct o.2 2 4000 := Rm.gr (hr0.le (c' := C + 0 + C2 + 2) (z' := Z + 0 + Z2 + 4000) (by omega) (by omega)) (hgg.tr o4)
        obtain ⟨G3, e3, hCh3, hg3⟩ := tC_add hR1.1 hR2.1 hCh1 o4 ⟨f4, hlo.1⟩ o2 hm (by omega) hch hr2
        have hR3 := hR2.up hg3 hbase hlo
        have hcls : ∀ (ρ : Type) (k : Option ρ), hC o.2.1 q1 6 k = k := fun ρ k => by
          obtain ⟨ql, el, qs, bs, cap, fl, sg, l, u, Fs, op, t1, -⟩ := hCh1.gr o4 (fun a ha => ⟨by omega, by omega⟩)
          exact hC_eq t1
        rw [hu, tB_n, eo, callK_eq, callK_eq, hcls, hcls, o1, e3, callK_eq, callK_eq]
        have hgf : Gr (fun a => a = q) G0 G3 (C + 0 + C2 + 2) (Z + 0 + Z2 + 4000) := (((hgg.tr o4).mono (fun a ha => Or.inl ha)).tr (hg3.mono (fun a ha => Or.inr ha))).drop2 h0.1.1 (fun a ha => ha)
        exact ih fu G3 r.2 (m + 1) (binF (opf x) a r.1) _ _ (by omega) (by omega) hR3 hCh3 (by omega) (by omega) (by omega) hgf (by omega) (by omega)
/-- a chain: its first operand, then the loop -/
theorem tP_chain {opf : Nat → Nat} {pt : Nat → PR} {A dd : Nat} {uF : GS → Option (Nat × GS)} {sF : GS → Option (Option Nat × GS)} {uB : Nat → (GS → Option (Nat × GS)) → GS → Option (Nat × GS)} {sB : Nat → (GS → Option (Option Nat × GS)) → GS → Option (Option Nat × GS)} (hA5 : A ≤ 5) (hF : RF ct ad S tp n c q) (hpt : HOk ct tp n c q d s pt (A + 1) dd uF sF) (hAdv : Adv n pt) (ho : ∀ x, opf x ≠ 0 → kdN tp n x ≠ 0)
    (hbody : ∀ q1 lo G x m acc, RS ct tp n c q d s G x → ChO ct lo G q1 dd m acc →
      (opf x = 0 → ∀ rcu rcs, uB q1 rcu G = none ∧ sB q1 rcs G = callK (s7_plain ct G q1) (fun o8 => some (o8.1, o8.2))) ∧
      (opf x ≠ 0 → ∃ ch, bopR (opf x) ch ∧ ∃ G1, RS ct tp n c q d s G1 (enN tp n x) ∧ Gq q G G1 ∧ ∀ rcu rcs, uB q1 rcu G = tB (uF G1) (callK (sF G1) (fun o => hC o.2.1 q1 6 (callK (s7_add ct o.2 q1 (J ch) o.1) (fun o => rcu o)))) ∧ sB q1 rcs G = callK (sF G1) (fun o => hC o.2.1 q1 6 (callK (s7_add ct o.2 q1 (J ch) o.1) (fun o => rcs o))))) :
    HOk ct tp n c q d s (pCh tp n opf pt) A (dd + 1) (fun G => newB ct G 2 (.inr (6, [.null, .null])) (fun q1 G2 => tB (hC G2.1 q 4 (uF G2)) (hC G2.1 q 4 (callK (sF G2) (fun o3 => callK (s7_init ct o3.2 q1 o3.1) (fun o4 => loopK (fun rc (x : GS) => uB q1 rc x) FUEL o4)))))) (fun G => newB ct G 2 (.inr (6, [.null, .null])) (fun q1 G2 => hC G2.1 q 4 (callK (sF G2) (fun o3 => callK (s7_init ct o3.2 q1 o3.1) (fun o4 => loopK (fun rc (x : GS) => sB q1 rc x) FUEL o4))))) := by
  intro G0 x0 h0 hr0
  obtain ⟨f1, f2, f3, f4⟩ := id hF
  have hx0 := h0.2.1
  have hn := f1.1
  have hlo := h0.low
  have hbase := h0.1.2.2
  dsimp only
  rw [newB_eq (hr0.le (by omega) (by omega)), newB_eq (hr0.le (by omega) (by omega))]
  have ga : Gr (fun _ => False) G0 (addG G0 2 (.inr (6, [.null, .null]))) 1 2 := grw_add h0.1.1
  obtain ⟨G2, hG2⟩ : ∃ G2, G2 = addG G0 2 (.inr (6, [.null, .null])) := ⟨_, rfl⟩
  have hc2 : G2.1 G0.2.1 = some (true, .inr (6, [.null, .null])) := by rw [hG2]; exact addG_at
  have hn2 : G2.2.1 = G0.2.1 + 1 := by rw [hG2]; rfl
  rw [← hG2] at ga ⊢
  have h2 := h0.fr ga
  have hr2 : Rm ct G2 (200 * (n + 1 - x0) - 10 * (A + 1)) (9000 * (n + 1 - x0) - 500 * (A + 1)) := Rm.gr (hr0.le (by omega) (by omega)) ga
  have hp := hpt G2 x0 h2 hr2
  have hA := hAdv _ hx0
  have ga' : Gr (fun a => a = q) G0 G2 1 2 := ga.mono (fun _ z => z.elim)
  rw [h2.2.2.1.hC, h2.2.2.1.hC, h2.2.2.1.hC]
  unfold pCh
  cases hr : pt x0 with
  | inl e =>
    rw [hr] at hp
    obtain ⟨w, ew, w1, w2, C2, Z2, w3, w4, w5⟩ := hp
    rw [ew, tB_s]
    exact ⟨w, rfl, w1, w2, _, _, ga'.tr w3, by omega, by omega⟩
  | inr r =>
    rw [hr] at hp hA
    obtain ⟨hu, o, eo, b, o1, o2, o3, C2, Z2, o4, o5, o6⟩ := hp
    obtain ⟨a1, a2, a3⟩ := hA
    have hR2 := h2.gr f4 o4 a2 o3
    have hr3 : Rm ct o.2 4 40 := Rm.gr (hr0.le (c' := 1 + C2 + 4) (z' := 2 + Z2 + 40) (by omega) (by omega)) (ga'.tr o4)
    obtain ⟨G4, e4, hCh, hg4⟩ := tC_init h2.1 hR2.1 ⟨hbase, Nat.le_refl _⟩ hc2 o4 ⟨f4, hlo.1⟩ o2 hr3
    have hR4 := hR2.up hg4 hbase hlo
    rw [hu, tB_n, eo, callK_eq, callK_eq, o1, e4, callK_eq, callK_eq]
    have hgf : Gr (fun a => a = q) G0 G4 (1 + C2 + 4) (2 + Z2 + 40) := (((ga'.tr o4).mono (fun a ha => Or.inl ha)).tr (hg4.mono (fun a ha => Or.inr ha))).drop2 h0.1.1 (fun a ha => ha)
    exact tP_loop hF hpt hAdv ho h0 hr0 (fun G x m acc k1 k2 => hbody _ _ G x m acc k1 k2) (n + 1) FUEL G4 r.2 1 r.1 _ _ (by omega) (by unfold FUEL; omega) hR4 hCh (Nat.le_refl _) (by omega) a1 hgf (by omega) (by omega)
end LP
