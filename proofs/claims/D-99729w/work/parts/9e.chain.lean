set_option maxRecDepth 100000
/-! THE PLAIN LAW, 59: chains of forms -/
def bopR (o ch : Nat) : Prop := (o = 4 ∧ ch = 38) ∨ (o = 5 ∧ ch = 124) ∨ (o = 6 ∧ ch = 60) ∨ (o = 7 ∧ ch = 61) ∨ (o = 8 ∧ ch = 43) ∨ (o = 9 ∧ ch = 45) ∨ (o = 10 ∧ ch = 42) ∨ (o = 11 ∧ ch = 47)
def chV (Fs : Nat → FV) (op : Nat → Nat) : Nat → FV
  | 0 => Fs 0
  | i + 1 => fun t => byN (op i) (chV Fs op i t) (Fs (i + 1) t)
theorem chV_congr {Fs Fs' : Nat → FV} {op op' : Nat → Nat} : ∀ k, (∀ i, i ≤ k → Fs i = Fs' i) → (∀ i, i < k → op i = op' i) → chV Fs op k = chV Fs' op' k := fun k => by
  induction k with
  | zero => intro h _; exact h 0 (Nat.le_refl _)
  | succ k ih =>
    intro h h'
    show (fun t => byN (op k) (chV Fs op k t) (Fs (k + 1) t)) = (fun t => byN (op' k) (chV Fs' op' k t) (Fs' (k + 1) t))
    rw [ih (fun i hi => h i (by omega)) (fun i hi => h' i (by omega)), h (k + 1) (Nat.le_refl _), h' k (by omega)]
theorem tB_charAt {ct : CT} {h : AH} {q b cap m i : Nat} {sg : Nat → Nat} (H : SbO h q b cap m sg) (hi : i < m) : sB_charAt ct h q (J i) = some (J (sg i)) := by
  obtain ⟨v2, f, h1, h2, h3, h4, h5, h6, h7⟩ := H
  obtain ⟨g1, g2⟩ := h6 i hi
  obtain ⟨c1, c2⟩ := chr_ok g2
  have e0 : J cap >>> ((0 : Int32) &&& 31) = J cap := (J_shr (a := cap) (k := 0) (by omega) (by omega)).trans (by rw [Nat.shiftRight_zero])
  have e1 : (if J cap < J m then J cap else J m) = J m := if_neg (by rw [J_lt (by omega) (by omega)]; omega)
  unfold sB_charAt sA_charAt sS_checkIndex
  rw [hC_eq h1, hI_eq h1 rfl, hR_eq h1 rfl, hI_eq h1 rfl, onR_eq, hL_eq h2, e0, e1, tP_check hi (by omega), callK_eq, callK_eq, if_pos rfl, hZ_eq h2 (by omega) (by omega), g1, c1, if_pos c2, callK_eq, if_pos c2]
def ChO (ct : CT) (lo : Nat) (G : GS) (q dd m : Nat) (A : FV) : Prop := ∃ (ql el qs bs cap : Nat) (fl : Nat → Option Nat) (sg : Nat → Nat) (l u : Nat → Nat) (Fs : Nat → FV) (op : Nat → Nat),
  G.1 q = some (true, .inr (6, [.ref ql, .ref qs])) ∧ OLst ct G.1 ql el m fl ∧ SbO G.1 qs bs cap (m - 1) sg ∧ (ct.2.2.1 ≤ lo ∧ lo ≤ q ∧ lo ≤ ql ∧ lo ≤ el ∧ lo ≤ qs ∧ lo ≤ bs) ∧
  (∀ i, i < m → ∃ b, fl i = some b ∧ Fw ct dd (l i) (u i) G.1 b (Fs i) ∧ lo ≤ l i ∧ u i ≤ G.2.1 ∧ ∀ a, (a = q ∨ a = ql ∨ a = el ∨ a = qs ∨ a = bs) → ¬ (l i ≤ a ∧ a < u i)) ∧ (∀ i, i + 1 < m → bopR (op i) (sg i)) ∧ A = chV Fs op (m - 1)
theorem ChO.gr {ct : CT} {lo q dd m c z : Nat} {M : Nat → Prop} {G G' : GS} {A : FV} (H : ChO ct lo G q dd m A) (hg : Gr M G G' c z) (hM : ∀ a, M a → ct.2.2.1 ≤ a ∧ a < lo) : ChO ct lo G' q dd m A := by
  obtain ⟨ql, el, qs, bs, cap, fl, sg, l, u, Fs, op, h1, h2, h3, h4, h5, h6, h7⟩ := H
  have nm : ∀ a, lo ≤ a → ¬ M a := fun a ha m => by have := hM a m; omega
  obtain ⟨v2, f, t1, t2, t3⟩ := h3
  refine ⟨ql, el, qs, bs, cap, fl, sg, l, u, Fs, op, hg.1 _ _ (nm q (by omega)) h1, h2.gr hg (nm ql (by omega)) (nm el (by omega)), ⟨v2, f, hg.1 _ _ (nm qs (by omega)) t1, hg.1 _ _ (nm bs (by omega)) t2, t3⟩, h4, fun i hi => ?_, h6, h7⟩
  obtain ⟨b, k1, k2, k3, k4, k5⟩ := h5 i hi
  have hle := hg.2.1.1
  exact ⟨b, k1, k2.gr hg (fun a m => ⟨(hM a m).1, by have := hM a m; omega⟩), k3, by omega, k5⟩
/-- the chain as a form -/
theorem ChO.form {ct : CT} {lo q dd m : Nat} {G : GS} {A : FV} (hb : Bd G) (hm : 1 ≤ m) (hm2 : m < 1000) (H : ChO ct lo G q dd m A) : Fw ct (dd + 1) lo G.2.1 G.1 q A := by
  obtain ⟨ql, el, qs, bs, cap, fl, sg, l, u, Fs, op, h1, h2, h3, ⟨l0, l1, l2, l3, l4, l5⟩, h5, h6, rfl⟩ := H
  have hq := hb _ _ h1
  refine ⟨⟨6, _, h1, by omega, l1, hq⟩, fun h' hs fuel hd S => ?_⟩
  obtain ⟨⟨md, o, cap2, g, t1, t2, t3, t4, t5, t6⟩, -⟩ := h2
  obtain ⟨v2, f, s1, s2, s3⟩ := h3
  have inw : ∀ a e, lo ≤ a → G.1 a = some e → h' a = some e := fun a e ha he => hs a e ((win_in (Or.inr ⟨ha, hb _ _ he⟩)).trans he)
  have e := inw q _ l1 h1
  have hlst : LstH h' ql m fl := ⟨true, md, el, o, cap2, g, inw ql _ l2 t1, inw el _ l3 t2, t3, by omega, fun i hi => (t5 i hi).1⟩
  have hsb : SbO h' qs bs cap (m - 1) sg := ⟨v2, f, inw qs _ l4 s1, inw bs _ l5 s2, s3⟩
  obtain ⟨fu, rfl⟩ : ∃ fu, fuel = fu + 1 := ⟨fuel - 1, by omega⟩
  have hel : ∀ i, i < m → ∃ b, fl i = some b ∧ (∀ (ρ : Type) (k : Option ρ), hF h' b k = k) ∧ sF_of fu S ct h' b = some (Fs i (tv S 2)) := fun i hi => by
    obtain ⟨b, k1, k2, k3, k4, -⟩ := h5 i hi
    refine ⟨b, k1, fun ρ k => ?_, k2.2 h' ((win_mono k3 k4).tr hs) fu (by omega) S⟩
    obtain ⟨⟨ci, fs, e1, e2, e3, e4⟩, -⟩ := k2
    have := inw b _ (by omega) e1
    unfold hF
    rw [this]
    exact if_pos e2
  have key : Ev (s7_of S ct h' (sF_of fu S ct h') q) (fun o => o = chV Fs op (m - 1) (tv S 2)) := by
    unfold s7_of
    obtain ⟨b0, z1, z2, z3⟩ := hel 0 (by omega)
    rw [hR_eq e rfl, onR_eq, tL_cls hlst, show (0 : Int32) = J 0 from rfl, tL_get hlst (by omega), callK_eq, z1, onR_eq, z2, z3, callK_eq]
    refine Ev.loop (fun i s => s = (chV Fs op i (tv S 2), J (i + 1))) (m - 1) ?_ ?_ rfl (by unfold FUEL; omega)
    · rintro i hi _ rfl rc hrc
      obtain ⟨b1, y1, y2, y3⟩ := hel (i + 1) (by omega)
      have hby := (bop_ok (h6 i (by omega)) (chV Fs op i (tv S 2)) (Fs (i + 1) (tv S 2))).1
      show Ev (s7_of_L22 q h' ct (sF_of fu S ct h') rc (chV Fs op i (tv S 2)) (J (i + 1))) _
      unfold s7_of_L22
      rw [hR_eq e rfl, onR_eq, tL_cls hlst, tL_size hlst, callK_eq, if_neg (by rw [J_le (by omega) (by omega)]; omega), hR_eq e rfl, onR_eq]
      obtain ⟨v2', f', s1', -⟩ := id hsb
      rw [hC_eq s1', lit_1, J_sub (by omega), Nat.add_sub_cancel, tB_charAt hsb (by omega), callK_eq, hR_eq e rfl, onR_eq, tL_cls hlst, tL_get hlst (by omega), callK_eq, y1, onR_eq, y2, y3, callK_eq, hby, callK_eq, J_add]
      exact hrc _ rfl
    · rintro _ rfl rc
      show Ev (s7_of_L22 q h' ct (sF_of fu S ct h') rc (chV Fs op (m - 1) (tv S 2)) (J (m - 1 + 1))) _
      unfold s7_of_L22
      rw [hR_eq e rfl, onR_eq, tL_cls hlst, tL_size hlst, callK_eq, if_pos (by rw [J_le (by omega) (by omega)]; omega)]
      exact ⟨_, rfl, rfl⟩
  unfold sF_of
  rw [e]
  show s7_of S ct h' (sF_of fu S ct h') q = _
  obtain ⟨r, hr, rfl⟩ := key
  exact hr
/-- what the chain stands for -/
theorem tC_plain {ct : CT} {lo q dd m : Nat} {G : GS} {A : FV} (hb : Bd G) (hm : 1 ≤ m) (hm2 : m < 1000) (H : ChO ct lo G q dd m A) : Ev (s7_plain ct G q) (fun o => ∃ b, o.1 = some b ∧ o.2 = G ∧ Fw ct (dd + 1) lo G.2.1 G.1 b A) := by
  have hfm := H.form hb hm hm2
  obtain ⟨ql, el, qs, bs, cap, fl, sg, l, u, Fs, op, h1, h2, h3, h4, h5, h6, rfl⟩ := H
  have hlst := h2.1.lst
  unfold s7_plain
  rw [hR_eq h1 rfl, onR_eq, tL_cls hlst, tL_size hlst, callK_eq]
  by_cases c : m = 1
  · obtain ⟨b, k1, k2, k3, k4, -⟩ := h5 0 (by omega)
    rw [if_pos (by rw [c]; rfl), hR_eq h1 rfl, onR_eq, tL_cls hlst, show (0 : Int32) = J 0 from rfl, tL_get hlst (by omega), callK_eq, k1, onR_eq, k2.cls]
    refine ⟨_, rfl, b, rfl, rfl, ?_⟩
    subst c
    exact k2.mono (by omega) k3 k4
  · rw [if_neg (by rw [lit_1, J_eq (by omega) (by omega)]; exact c)]
    exact ⟨_, rfl, q, rfl, rfl, hfm⟩
theorem tC_add {ct : CT} {lo q q0 dd m b o ch c z : Nat} {G0 G : GS} {A F : FV} (B0 : GB ct G0) (B : GB ct G) (H0 : ChO ct lo G0 q dd m A) (hg : Gr (fun a => a = q0) G0 G c z) (hq0 : ct.2.2.1 ≤ q0 ∧ q0 < lo) (hF : Fw ct dd G0.2.1 G.2.1 G.1 b F) (hm : 1 ≤ m) (hm2 : m < 600) (ho : bopR o ch) (hr : Rm ct G 2 4000) : Ev (s7_add ct G q (J ch) (some b)) (fun G' => ChO ct lo G' q dd (m + 1) (fun t => byN o (A t) (F t)) ∧ Gr (fun a => lo ≤ a) G G' 2 4000) := by
  have H := H0.gr hg (fun a ha => by rw [ha]; exact hq0)
  -- its cells lie below the form
  have hlow : ∀ a e, G0.1 a = some e → a < G0.2.1 := fun a e he => B0.1 a e he
  obtain ⟨ql, el, qs, bs, cap, fl, sg, l, u, Fs, op, h1, h2, h3, ⟨l0, l1, l2, l3, l4, l5⟩, h5, h6, rfl⟩ := H0
  have nm : ∀ a, lo ≤ a → ¬ a = q0 := fun a ha m => by omega
  obtain ⟨⟨md, oo, cap2, g, t1, t2, t3, t4, t5, t6⟩, hqb, heb⟩ := id h2
  obtain ⟨v2, f, s1, s2, s3⟩ := id h3
  have w1 := hlow _ _ h1
  have w2 := hlow _ _ t1
  have w3 := hlow _ _ t2
  have w4 := hlow _ _ s1
  have w5 := hlow _ _ s2
  have h1' := hg.1 _ _ (nm q l1) h1
  have h2' := h2.gr hg (nm ql l2) (nm el l3)
  have h3' : SbO G.1 qs bs cap (m - 1) sg := ⟨v2, f, hg.1 _ _ (nm qs l4) s1, hg.1 _ _ (nm bs l5) s2, s3⟩
  have t1' := hg.1 _ _ (nm ql l2) t1
  have t2' := hg.1 _ _ (nm el l3) t2
  have s1' := hg.1 _ _ (nm qs l4) s1
  have s2' := hg.1 _ _ (nm bs l5) s2
  have hle := hg.2.1.1
  have hch : ch < 128 := by unfold bopR at ho; omega
  -- all differ
  have d1 : ql ≠ qs := fun zz => by rw [zz, s1'] at t1'; cases t1'
  have d2 : ql ≠ bs := fun zz => by rw [zz, s2'] at t1'; cases t1'
  have d3 : el ≠ qs := fun zz => by rw [zz, s1'] at t2'; cases t2'
  have d4 : el ≠ bs := fun zz => by rw [zz, s2'] at t2'; cases t2'
  have d5 : q ≠ qs := fun zz => by rw [zz, s1'] at h1'; cases h1'
  have d6 : q ≠ bs := fun zz => by rw [zz, s2'] at h1'; cases h1'
  have d7 : q ≠ ql := fun zz => by rw [zz, t1'] at h1'; cases h1'
  have d8 : q ≠ el := fun zz => by rw [zz, t2'] at h1'; cases h1'
  unfold s7_add
  rw [hR_eq h1' rfl, onR_eq, hC_eq s1']
  refine (tB_append (ch := ch) B h3' (by omega) (by omega) (by omega) hch (hr.le (by omega) (by omega))).call (fun o3 k => ?_)
  obtain ⟨-, bs', cap', k1, k2, k3⟩ := k
  have B3 := B.gr k3 (fun a ha => by rcases ha with ha | ha <;> omega)
  have h1'' := k3.1 _ _ (fun zz => by rcases zz with zz | zz <;> omega) h1'
  have h2'' := h2'.gr k3 (fun zz => by rcases zz with zz | zz <;> omega) (fun zz => by rcases zz with zz | zz <;> omega)
  have t1'' := k3.1 _ _ (fun zz => by rcases zz with zz | zz <;> omega) t1'
  have hF3 := hF.gr k3 (fun a ha => by rcases ha with ha | ha <;> exact ⟨by omega, by omega⟩)
  have hok : okR o3.2.1 (some b) = true := by
    obtain ⟨⟨ci, fs, e1, e2, -⟩, -⟩ := hF3
    exact okR_iff.mpr ⟨_, e1, rfl⟩
  rw [hR_eq h1'' rfl, onR_eq, hC_eq t1'']
  refine (tL_add B3 h2'' (by omega) hok (((hr.le (c' := 1 + 1) (z' := 2100 + (2 * m + 12)) (by omega) (by omega)).gr k3))).call (fun o6 k => ?_)
  obtain ⟨-, el', y1, y2, y3⟩ := k
  obtain ⟨v2', f', u1, u2', u3⟩ := id k1
  have u1' := u1
  have u3' := u3
  rw [show m - 1 + 1 = m + 1 - 1 by omega] at u1' u3'
  have hle3 := k3.2.1.1
  have hle6 := y3.2.1.1
  have nl : ∀ a, a ≠ ql → a ≠ el → ¬ lm ct ql el a := fun a z1 z2 zz => by rcases zz.1 with w | w <;> omega
  have ub := B3.1 _ _ u2'
  have hbs' : bs' ≠ ql ∧ bs' ≠ el := by
    constructor
    · intro zz; rw [zz, t1''] at u2'; cases u2'
    · intro zz
      have t2'' := k3.1 _ _ (fun zz => by rcases zz with zz | zz <;> omega) t2'
      rw [zz, t2''] at u2'; cases u2'
  have gall : Gr (fun a => a = qs ∨ a = bs ∨ a = ql ∨ a = el) G o6.2 (1 + 1) (2100 + (2 * m + 12)) := (k3.mono (fun a ha => by omega)).tr (y3.mono (fun a ha => by rcases ha.1 with w | w <;> omega))
  refine ⟨_, rfl, ⟨ql, el', qs, bs', cap', _, _, fun i => if i = m then G0.2.1 else l i, fun i => if i = m then G.2.1 else u i, fun i => if i = m then F else Fs i, fun i => if i = m - 1 then o else op i, y3.1 _ _ (nl q d7 d8) h1'', y1, ⟨v2', f', y3.1 _ _ (nl qs (by omega) (by omega)) u1', y3.1 _ _ (nl bs' hbs'.1 hbs'.2) u2', u3'⟩, ⟨l0, l1, l2, by omega, l4, by omega⟩, fun i hi => ?_, fun i hi => ?_, ?_⟩, (gall.mono (fun a ha => by omega)).le (by omega) (by omega)⟩
  · by_cases e : i = m
    · refine ⟨b, if_pos e, ?_, ?_, ?_, ?_⟩
      · dsimp only
        rw [if_pos e, if_pos e, if_pos e]
        exact hF3.gr y3 (fun a ha => by rcases ha.1 with w | w <;> exact ⟨ha.2, by omega⟩)
      · dsimp only; rw [if_pos e]; omega
      · dsimp only; rw [if_pos e]; omega
      · dsimp only
        rw [if_pos e, if_pos e]
        intro a ha
        omega
    · obtain ⟨bi, z1, z2, z3, z4, z5⟩ := h5 i (by omega)
      refine ⟨bi, (if_neg e).trans z1, ?_, ?_, ?_, ?_⟩
      · dsimp only
        rw [if_neg e, if_neg e, if_neg e]
        refine (z2.gr hg (fun a ha => ⟨by omega, by omega⟩)).gr gall (fun a ha => ⟨by omega, z5 a (by omega)⟩)
      · dsimp only; rw [if_neg e]; exact z3
      · dsimp only; rw [if_neg e]; omega
      · dsimp only
        rw [if_neg e, if_neg e]
        intro a ha
        have q1 := z5 q (by omega)
        have q2 := z5 ql (by omega)
        have q3 := z5 el (by omega)
        have q4 := z5 qs (by omega)
        have q5 := z5 bs (by omega)
        omega
  · dsimp only
    by_cases e : i = m - 1
    · rw [if_pos e, if_pos (by omega)]
      exact ho
    · rw [if_neg e, if_neg (by omega)]
      exact h6 i (by omega)
  · rw [Nat.add_sub_cancel]
    obtain ⟨m', rfl⟩ : ∃ m', m = m' + 1 := ⟨m - 1, by omega⟩
    rw [Nat.add_sub_cancel]
    show _ = (fun t => byN (if m' = m' then o else op m') (chV _ _ m' t) ((if m' + 1 = m' + 1 then F else Fs (m' + 1)) t))
    rw [if_pos rfl, if_pos rfl]
    rw [chV_congr (Fs := fun i => if i = m' + 1 then F else Fs i) (Fs' := Fs) (op := fun i => if i = m' then o else op i) (op' := op) m' (fun i hi => if_neg (by omega)) (fun i hi => if_neg (by omega))]
