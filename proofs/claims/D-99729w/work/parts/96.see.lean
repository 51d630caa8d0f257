set_option maxRecDepth 100000
/-! THE PLAIN LAW, 25: see, count, fault, feed -/
/-- a number is put into an array of ours -/
theorem Ev.pz {ρ : Type} {G : GS} {a n i : Nat} {v : Int32} {f : Nat → Int32} {kp : GS → Option ρ} {Q : ρ → Prop} (h : G.1 a = some (true, .inl (0, n, .inl f))) (hi : i < n) (hn : n ≤ 2147483648) (hk : ∀ G', G'.1 a = some (true, .inl (0, n, .inl (upd f i v))) → Gr (fun x => x = a) G G' 0 0 → G'.2 = G.2 → Ev (kp G') Q) : Ev (hPutZ G a 0 (J i) v kp) Q := by
  rw [hPutZ_eq h hi hn]
  exact hk _ setG_at (grw_set h rfl (fun z => z)) rfl
theorem Ev.arr3 {ρ : Type} {ct : CT} {G : GS} {x0 x1 x2 : Int32} {kp : Nat → GS → Option ρ} {Q : ρ → Prop} (hb : Bd G) (hr : Rm ct G 1 3) (h : ∀ G' g, G'.1 G.2.1 = some (true, .inl (0, 3, .inl g)) → g 0 = x0 → g 1 = x1 → g 2 = x2 → Gr (fun _ => False) G G' 1 3 → Ev (kp G.2.1 G') Q) : Ev (newB ct G 3 (.inl (0, 3, .inl (fun _ => J 0))) (fun q G1 => hPutZ G1 q 0 (J 0) x0 (fun G2 => hPutZ G2 q 0 (J 1) x1 (fun G3 => hPutZ G3 q 0 (J 2) x2 (fun G4 => kp q G4))))) Q := by
  rw [newB_eq hr]
  have ga : Gr (fun _ => False) G (addG G 3 (.inl (0, 3, .inl (fun _ => J 0)))) 1 3 := grw_add hb
  refine Ev.pz addG_at (by omega) (by omega) (fun G1 k1 g1 _ => ?_)
  refine Ev.pz k1 (by omega) (by omega) (fun G2 k2 g2 _ => ?_)
  refine Ev.pz k2 (by omega) (by omega) (fun G3 k3 g3 _ => ?_)
  refine h _ _ k3 ?_ ?_ ?_ (ga.fresh ((g1.tr g2).tr g3) hb (fun a ha => by rw [ha]; exact Nat.le_refl _))
  · rw [upd_ne (by omega), upd_ne (by omega), upd_at]
  · rw [upd_ne (by omega), upd_at]
  · rw [upd_at]
theorem see_st {S : US} {c s d v : Nat} : (u2 (u2 (u2 (u2 S 24 (3 * c) (J s)) 24 (3 * c + 1) (J d)) 24 (3 * c + 2) (J v)) 0 51 (J (c + 1))) 0 51 = J (c + 1) ∧ (∀ k, k ≠ 51 → (u2 (u2 (u2 (u2 S 24 (3 * c) (J s)) 24 (3 * c + 1) (J d)) 24 (3 * c + 2) (J v)) 0 51 (J (c + 1))) 0 k = S 0 k) ∧ (∀ a, a ≠ 0 → a ≠ 24 → (u2 (u2 (u2 (u2 S 24 (3 * c) (J s)) 24 (3 * c + 1) (J d)) 24 (3 * c + 2) (J v)) 0 51 (J (c + 1))) a = S a) ∧ ∀ i, i < 3 * (c + 1) → (u2 (u2 (u2 (u2 S 24 (3 * c) (J s)) 24 (3 * c + 1) (J d)) 24 (3 * c + 2) (J v)) 0 51 (J (c + 1))) 24 i = if i = 3 * c then J s else if i = 3 * c + 1 then J d else if i = 3 * c + 2 then J v else S 24 i := by
  refine ⟨u2_at, fun k hk => ?_, fun a h0 h24 => ?_, fun i hi => ?_⟩
  · rw [u2_off (by omega), u2_row _ _ _ _ (by decide), u2_row _ _ _ _ (by decide), u2_row _ _ _ _ (by decide)]
  · rw [u2_row _ _ _ _ h0, u2_row _ _ _ _ h24, u2_row _ _ _ _ h24, u2_row _ _ _ _ h24]
  · rw [u2_row _ _ _ _ (by decide)]
    by_cases z2 : i = 3 * c + 2
    · rw [z2, u2_at, if_neg (by omega), if_neg (by omega), if_pos rfl]
    · rw [u2_off (by omega)]
      by_cases z1 : i = 3 * c + 1
      · rw [z1, u2_at, if_neg (by omega), if_pos rfl]
      · rw [u2_off (by omega)]
        by_cases z0 : i = 3 * c
        · rw [z0, u2_at, if_pos rfl]
        · rw [u2_off (by omega), if_neg z0, if_neg z1, if_neg z2]
theorem A_see {ct : CT} {a0 q0 j : Nat} {S : US} {G : GS} {P : Nat → Nat → Option Nat} {ad : Nat → Nat} {S2 : US} {u : RU} {r : Nat → Nat} {q1 e1 c1 : Nat} {f1 : Nat → Option Nat} {R1 : Nat → Nat → Nat} {q2 e2 c2 : Nat} {f2 : Nat → Option Nat} {sn : Nat → Nat} {t : Nat} (hj : j < 24) (H : InvD ct a0 q0 j S G P ad S2 u r q1 e1 c1 f1 R1 q2 e2 c2 f2 sn t) (p1 p2 p3 : Int32) : AgA ct a0 q0 j P ad S2 (t1_see S ct P G.1 p1 p2 p3) (s1_see ct ad P S G p1 p2 p3) (sM_see S2 p1 p2 p3) := by
  have Hz := H.z
  have hCo := H.core
  have hZ := Hz.core
  have ho12 := hCo.1.2.1
  have ho3 := hCo.1.1
  have ho6 := hCo.1.2.2.1
  have h9 := hCo.2.2.1
  obtain ⟨i1, i2, i3, i4, i5, i6⟩ := id H.2.2.2.1
  unfold t1_see s1_see sM_see
  refine Ar_z (Ar_strE hCo (by decide) (fun s hs e => Ar_ok ?_))
  subst e
  have e51 : Z0 S2 0 51 = J c2 := by unfold Z0; rw [u2_off (by omega)]; exact i5
  rw [letB_eq, i1, onR_eq, tL_cls i2.1.lst, m_call (tL_size i2.1.lst)]
  have b2 := tH_in (p := p2) (a := 0) (b := 20)
  have b3 := tH_in (p := p3) (a := 0) (b := 99)
  have d2 := tM_within (p := p2) (a := 0) (b := 20)
  have d3 := tM_within (p := p3) (a := 0) (b := 99)
  by_cases c8 : c2 = 8
  · subst c8
    simp (disch := omega) only [lit_0, lit_1, lit_2, lit_3, lit_4, lit_5, lit_6, lit_7, lit_8, lit_9, lit_10, lit_11, lit_12, lit_13, lit_14, lit_15, lit_20, lit_24, lit_25, lit_37, lit_40, lit_43, lit_48, lit_49, lit_50, lit_60, lit_96, lit_98, lit_99, lit_100, lit_999, lit_62, lit_74, lit_86, lit_92, lit_99999, lit_100000, lit_16, lit_32767, lit_2147483639, J_add, J_mul, J_sub, J_tn, J_le, J_lt, J_eq, Nat.not_lt_zero, false_or, or_false, le_t, le_f, lt_t, lt_f, eq_f, ↓reduceIte, callK_eq, letB_eq, joinB_eq, Nat.add_assoc, e51, bI_t]
    exact RA_ref Hz (by omega) Z0_0
  · have c8' : c2 < 8 := by omega
    simp (disch := omega) only [lit_0, lit_1, lit_2, lit_3, lit_4, lit_5, lit_6, lit_7, lit_8, lit_9, lit_10, lit_11, lit_12, lit_13, lit_14, lit_15, lit_20, lit_24, lit_25, lit_37, lit_40, lit_43, lit_48, lit_49, lit_50, lit_60, lit_96, lit_98, lit_99, lit_100, lit_999, lit_62, lit_74, lit_86, lit_92, lit_99999, lit_100000, lit_16, lit_32767, lit_2147483639, J_add, J_mul, J_sub, J_tn, J_le, J_lt, J_eq, Nat.not_lt_zero, false_or, or_false, le_t, le_f, lt_t, lt_f, eq_f, ↓reduceIte, callK_eq, letB_eq, joinB_eq, Nat.add_assoc, e51, bI_t, b2, b3, d2, d3]
    cases k2 : inN p2 0 20 with
    | false =>
      simp (disch := omega) only [lit_0, lit_1, lit_2, lit_3, lit_4, lit_5, lit_6, lit_7, lit_8, lit_9, lit_10, lit_11, lit_12, lit_13, lit_14, lit_15, lit_20, lit_24, lit_25, lit_37, lit_40, lit_43, lit_48, lit_49, lit_50, lit_60, lit_96, lit_98, lit_99, lit_100, lit_999, lit_62, lit_74, lit_86, lit_92, lit_99999, lit_100000, lit_16, lit_32767, lit_2147483639, J_add, J_mul, J_sub, J_tn, J_le, J_lt, J_eq, Nat.not_lt_zero, false_or, or_false, le_t, le_f, lt_t, lt_f, eq_f, ↓reduceIte, callK_eq, letB_eq, joinB_eq, Nat.add_assoc, bI_f]
      exact RA_ref Hz (by omega) Z0_0
    | true =>
      obtain ⟨d, -, hd, rfl⟩ := J_of (by omega) (by omega) k2
      cases k3 : inN p3 0 99 with
      | false =>
        simp (disch := omega) only [lit_0, lit_1, lit_2, lit_3, lit_4, lit_5, lit_6, lit_7, lit_8, lit_9, lit_10, lit_11, lit_12, lit_13, lit_14, lit_15, lit_20, lit_24, lit_25, lit_37, lit_40, lit_43, lit_48, lit_49, lit_50, lit_60, lit_96, lit_98, lit_99, lit_100, lit_999, lit_62, lit_74, lit_86, lit_92, lit_99999, lit_100000, lit_16, lit_32767, lit_2147483639, J_add, J_mul, J_sub, J_tn, J_le, J_lt, J_eq, Nat.not_lt_zero, false_or, or_false, le_t, le_f, lt_t, lt_f, eq_f, ↓reduceIte, callK_eq, letB_eq, joinB_eq, Nat.add_assoc, bI_t, bI_f]
        exact RA_ref Hz (by omega) Z0_0
      | true =>
        obtain ⟨v, -, hv, rfl⟩ := J_of (by omega) (by omega) k3
        simp (disch := omega) only [lit_0, lit_1, lit_2, lit_3, lit_4, lit_5, lit_6, lit_7, lit_8, lit_9, lit_10, lit_11, lit_12, lit_13, lit_14, lit_15, lit_20, lit_24, lit_25, lit_37, lit_40, lit_43, lit_48, lit_49, lit_50, lit_60, lit_96, lit_98, lit_99, lit_100, lit_999, lit_62, lit_74, lit_86, lit_92, lit_99999, lit_100000, lit_16, lit_32767, lit_2147483639, J_add, J_mul, J_sub, J_tn, J_le, J_lt, J_eq, Nat.not_lt_zero, false_or, or_false, le_t, le_f, lt_t, lt_f, eq_f, ↓reduceIte, callK_eq, letB_eq, joinB_eq, Nat.add_assoc, bI_t, u2_row', e51]
        have hrm : Rm ct G 49000 228000 := H.1.2.2.1.rm H.1.2.1 hj (by omega) (by omega)
        obtain ⟨⟨h1, h2, h3, h4, h5, h6⟩, hC', hA, hI, hT, hF, hW, hIm⟩ := H
        obtain ⟨s1, ⟨s2, s3, s4, s5⟩, s6, s7, s8, s9⟩ := id h5
        have hb := h2.1
        have key : Ev (newB ct G 3 (.inl (0, 3, .inl (fun _ => J 0))) (fun q10 G11 => hPutZ G11 q10 0 (J 0) (J s) (fun G12 => hPutZ G12 q10 0 (J 1) (J d) (fun G13 => hPutZ G13 q10 0 (J 2) (J v) (fun G14 => onR (some q2) (fun b15 => hC G14.1 b15 10 (callK (sL_add ct G14 b15 (some q10)) (fun o16 => onR (some q2) (fun b18 => hC o16.2.1 b18 10 (callK (sL_size o16.2.1 b18) (fun o19 => some (o19, S, o16.2)))))))))))) (fun os => os.1 = J (c2 + 1) ∧ os.2.1 = S ∧ ∃ e2' g, OLst ct os.2.2.1 q2 e2' (c2 + 1) (fun i => if i = c2 then some G.2.1 else f2 i) ∧ (e2' = e2 ∨ G.2.1 < e2') ∧ Gr (lm ct q2 e2) G os.2.2 2 (15 + 2 * c2) ∧ os.2.2.1 G.2.1 = some (true, .inl (0, 3, .inl g)) ∧ g 0 = J s ∧ g 1 = J d ∧ g 2 = J v) := by
          refine Ev.arr3 hb (hrm.le (by omega) (by omega)) (fun G1 g k1 x0 x1 x2 g1 => ?_)
          have B1 := h2.gr g1 (fun a h => h.elim)
          have ol := i2.gr g1 (fun z => z) (fun z => z)
          rw [onR_eq, tL_cls ol.1.lst]
          refine Ev.call (tL_add (x := some G.2.1) B1 ol (by omega) (okR_iff.mpr ⟨_, k1, rfl⟩) (Rm.gr (c := 1) (z := 3) (hrm.le (by omega) (by omega)) g1)) (fun o h => ?_)
          obtain ⟨p1, e', p2, p3, p4⟩ := h
          have l2 := i2.lt hb
          have hlt := g1.2.2.2.1 hb _ _ k1
          rw [onR_eq, tL_cls p2.1.lst, m_call (tL_size p2.1.lst)]
          refine ⟨_, rfl, rfl, rfl, e', g, p2, p3.imp id (fun h => by omega), ((g1.mono (fun _ h => h.elim)).tr p4).le (by omega) (by omega), p4.1 _ _ (fun z => ?_) k1, x0, x1, x2⟩
          rcases z.1 with h | h <;> omega
        obtain ⟨os, o1, o2, o3, e2', g, o4, o5, o6, o7, x0, x1, x2⟩ := key
        obtain ⟨g0, h4'⟩ := h4
        have l1 := hA.2.1.lt hb
        have l2 := i2.lt hb
        have l0 := hb _ _ h4'
        have nl : ¬ lm ct q2 e2 q0 := fun z => by rcases z.1 with h | h <;> omega
        have nl2 : ¬ lm ct q2 e2 q1 := fun z => by rcases z.1 with h | h <;> omega
        have nl3 : ¬ lm ct q2 e2 e1 := fun z => by
          have := z.2
          rcases z.1 with h | h
          · omega
          · have := s9 h
            omega
        have hk : Sub (cutI ct q0 q1 e1 q2 e2 G.1) (cutI ct q0 q1 e1 q2 e2' os.2.2.1) := cutM_gr hb o6 (fun a ha => ⟨by rcases ha.1 with h | h <;> simp [h], ha.2⟩) (fun a ha _ => by
          simp only [List.mem_cons, List.not_mem_nil, or_false] at ha ⊢
          omega)
        have hcut : cutI ct q0 q1 e1 q2 e2' os.2.2.1 G.2.1 = some (true, .inl (0, 3, .inl g)) := by
          refine Eq.trans (cutM_out ?_) o7
          simp only [List.mem_cons, List.not_mem_nil, or_false]
          omega
        have hms := see_st (S := Z0 S2) (c := c2) (s := s) (d := d) (v := v)
        generalize u2 (u2 (u2 (u2 (Z0 S2) 24 (3 * c2) (J s)) 24 (3 * c2 + 1) (J d)) 24 (3 * c2 + 2) (J v)) 0 51 (J (c2 + 1)) = S3 at hms ⊢
        obtain ⟨m1, m2, m3, m4⟩ := hms
        have n0 : ∀ k, k ≠ 0 → k ≠ 51 → S3 0 k = S2 0 k := fun k k0 k51 => (m2 k k51).trans (by unfold Z0; rw [u2_off (by omega)])
        have na : ∀ a, a ≠ 0 → a ≠ 24 → S3 a = S2 a := fun a k0 k51 => (m3 a k0 k51).trans (by unfold Z0; rw [u2_row _ _ _ _ k0])
        refine ⟨os, (S3 0 51, S3), o1, rfl, o2.trans m1.symm, (m2 0 (by decide)).trans Z0_0, ?_⟩
        rw [o3]
        refine ⟨u, r, q1, e1, c1, f1, R1, q2, e2', c2 + 1, _, fun i => if i = 3 * c2 then s else if i = 3 * c2 + 1 then d else if i = 3 * c2 + 2 then v else sn i, t, ⟨h1, h2.gr o6 (fun a h => h.2), h3.gr o6 (by omega) (by omega), ⟨g0, o6.1 _ _ nl h4'⟩, ⟨s1, ⟨s2, s3, s4, by omega⟩, s6, by omega, s8, fun h => ?_⟩, by omega⟩, ⟨hC'.1, hC'.2.1, hC'.2.2.1, hC'.2.2.2.1.sub hk, hC'.2.2.2.2.1, hC'.2.2.2.2.2.1.of2 (fun k hk1 hk7 => n0 k (by omega) (by omega)) (na 1 (by decide) (by decide)) (na 4 (by decide) (by decide)), hC'.2.2.2.2.2.2.of (na 14 (by decide) (by decide))⟩, hA.keep hk o6 nl2 nl3 rfl (n0 42 (by decide) (by decide)) (na 15 (by decide) (by decide)) (by omega), ⟨i1, o4, fun i hi => ?_, by omega, m1, fun i hi => ?_⟩, hT.keep rfl (n0 12 (by decide) (by decide)) rfl (na 5 (by decide) (by decide)), hF.keep rfl (n0 14 (by decide) (by decide)) rfl (na 6 (by decide) (by decide)), hW.keep hk rfl (n0 3 (by decide) (by decide)) (na 2 (by decide) (by decide)) (na 3 (by decide) (by decide)), hIm.keep hk rfl rfl rfl (n0 57 (by decide) (by decide)) (n0 58 (by decide) (by decide)) (n0 59 (by decide) (by decide)) (na 28 (by decide) (by decide)) (na 29 (by decide) (by decide)) (na 30 (by decide) (by decide)) (by omega)⟩
        · rcases o5 with h' | h'
          · rw [h'] at h; exact s9 h
          · omega
        · by_cases e : i = c2
          · subst e
            refine ⟨⟨G.2.1, true, g, if_pos rfl, hcut, ?_, ?_, ?_⟩, ?_, ?_, ?_⟩
            · dsimp only; rw [if_pos rfl]; exact x0
            · dsimp only; rw [if_neg (by omega), if_pos rfl]; exact x1
            · dsimp only; rw [if_neg (by omega), if_neg (by omega), if_pos rfl]; exact x2
            · dsimp only; rw [if_pos rfl]; exact hs
            · dsimp only; rw [if_neg (by omega), if_pos rfl]; exact hd
            · dsimp only; rw [if_neg (by omega), if_neg (by omega), if_pos rfl]; exact hv
          · obtain ⟨⟨b, o, gg, w1, w2, w3, w4, w5⟩, w6, w7, w8⟩ := i3 i (by omega)
            refine ⟨⟨b, o, gg, (if_neg e).trans w1, hk _ _ w2, ?_, ?_, ?_⟩, ?_, ?_, ?_⟩
            · dsimp only; rw [if_neg (by omega), if_neg (by omega), if_neg (by omega)]; exact w3
            · dsimp only; rw [if_neg (by omega), if_neg (by omega), if_neg (by omega)]; exact w4
            · dsimp only; rw [if_neg (by omega), if_neg (by omega), if_neg (by omega)]; exact w5
            · dsimp only; rw [if_neg (by omega), if_neg (by omega), if_neg (by omega)]; exact w6
            · dsimp only; rw [if_neg (by omega), if_neg (by omega), if_neg (by omega)]; exact w7
            · dsimp only; rw [if_neg (by omega), if_neg (by omega), if_neg (by omega)]; exact w8
        · refine (m4 i hi).trans ?_
          dsimp only
          by_cases z0 : i = 3 * c2
          · rw [if_pos z0, if_pos z0]
          · by_cases z1 : i = 3 * c2 + 1
            · rw [if_neg z0, if_neg z0, if_pos z1, if_pos z1]
            · by_cases z2 : i = 3 * c2 + 2
              · rw [if_neg z0, if_neg z0, if_neg z1, if_neg z1, if_pos z2, if_pos z2]
              · rw [if_neg z0, if_neg z0, if_neg z1, if_neg z1, if_neg z2, if_neg z2]
                unfold Z0
                rw [u2_row' (by omega)]
                exact i6 i (by omega)
/-! idle -/
def idlN (r : Nat → Nat) (m : Nat) : Nat → Nat
  | 0 => 0
  | w + 1 => idlN r m w ||| (if r (43 + w) = 0 ∨ (womN r (r (37 + w)) m &&& (1 <<< w - 1)) ≠ 0 then 1 <<< w else 0)
theorem idlN_s {r : Nat → Nat} {m w : Nat} : idlN r m (w + 1) = idlN r m w ||| (if r (43 + w) = 0 ∨ (womN r (r (37 + w)) m &&& (1 <<< w - 1)) ≠ 0 then 1 <<< w else 0) := rfl
theorem shl6 {w : Nat} (h : w < 6) : 1 ≤ 1 <<< w ∧ 1 <<< w < 64 := co_dec (P := fun w => 1 ≤ 1 <<< w ∧ 1 <<< w < 64) (N := 6) (by decide +kernel) h
theorem tH_idle {ct : CT} {P : Nat → Nat → Option Nat} {h : AH} {S S2 : US} {u : RU} {r : Nat → Nat} (c : Core ct P h S S2 u r) : s1_idle S P h = some (J (idlN r u.2.1 u.2.1)) := by
  have hu := c.2.2.2.1
  have hm := c.1.2.2.1
  have h12 := c.1.2.1
  have hR := c.2.1
  unfold s1_idle
  refine loop_from (i0 := 0) (fun i => (J (idlN r u.2.1 i), J i)) u.2.1 (by omega) (fun i _ hi rc => ?_) (fun rc => ?_) FUEL (by unfold FUEL; omega)
  · unfold s1_idle_L4
    have hv := c.2.2.2.2.1.2.2 i (by omega)
    have b1 := (hR.2.1 i (by omega)).1
    have b2 := hR.2.2 i hi
    have b3 := shl6 (show i < 6 by omega)
    have b4 := womN_lt r (r (37 + i)) u.2.1
    have b5 : 2 ^ u.2.1 ≤ 2 ^ 6 := Nat.pow_le_pow_right (by decide) hm
    have b6 : womN r (r (37 + i)) u.2.1 &&& (1 <<< i - 1) ≤ womN r (r (37 + i)) u.2.1 := Nat.and_le_left
    rw [tH_women hu]
    by_cases z : r (43 + i) = 0
    · simp (disch := omega) only [lit_0, lit_1, lit_2, lit_3, lit_4, lit_5, lit_6, lit_7, lit_8, lit_9, lit_10, lit_11, lit_12, lit_13, lit_14, lit_15, lit_20, lit_24, lit_25, lit_37, lit_40, lit_43, lit_48, lit_49, lit_50, lit_60, lit_96, lit_98, lit_99, lit_100, lit_999, lit_62, lit_74, lit_86, lit_92, lit_99999, lit_100000, lit_16, lit_32767, lit_2147483639, J_add, J_mul, J_sub, J_tn, J_le, J_lt, J_eq, Nat.not_lt_zero, false_or, or_false, le_t, le_f, lt_t, lt_f, eq_f, ↓reduceIte, callK_eq, letB_eq, joinB_eq, Nat.add_assoc, hv.1, hv.2, z, J_shl, J_or, idlN_s, true_or]
    · have e := tH_womenAt (S := S) (L := 0) (s := r (37 + i)) hu c.2.2.2.2.1 hm (by omega) (fun w hw => by have := (hR.2.1 w hw).2; omega)
      simp (disch := omega) only [lit_0, lit_1, lit_2, lit_3, lit_4, lit_5, lit_6, lit_7, lit_8, lit_9, lit_10, lit_11, lit_12, lit_13, lit_14, lit_15, lit_20, lit_24, lit_25, lit_37, lit_40, lit_43, lit_48, lit_49, lit_50, lit_60, lit_96, lit_98, lit_99, lit_100, lit_999, lit_62, lit_74, lit_86, lit_92, lit_99999, lit_100000, lit_16, lit_32767, lit_2147483639, J_add, J_mul, J_sub, J_tn, J_le, J_lt, J_eq, Nat.not_lt_zero, false_or, or_false, le_t, le_f, lt_t, lt_f, eq_f, ↓reduceIte, callK_eq, letB_eq, joinB_eq, Nat.add_assoc, hv.1, hv.2, e, J_shl, J_or, J_and, idlN_s, false_or, ne_eq]
      by_cases z2 : womN r (r (37 + i)) u.2.1 &&& (1 <<< i - 1) = 0
      · simp only [z2, ↓reduceIte, not_true_eq_false, Nat.or_zero]
      · simp only [z2, ↓reduceIte, not_false_eq_true]
  · unfold s1_idle_L4
    rw [tH_women hu]
    simp (disch := omega) only [lit_0, lit_1, lit_2, lit_3, lit_4, lit_5, lit_6, lit_7, lit_8, lit_9, lit_10, lit_11, lit_12, lit_13, lit_14, lit_15, lit_20, lit_24, lit_25, lit_37, lit_40, lit_43, lit_48, lit_49, lit_50, lit_60, lit_96, lit_98, lit_99, lit_100, lit_999, lit_62, lit_74, lit_86, lit_92, lit_99999, lit_100000, lit_16, lit_32767, lit_2147483639, J_add, J_mul, J_sub, J_tn, J_le, J_lt, J_eq, Nat.not_lt_zero, false_or, or_false, le_t, le_f, lt_t, lt_f, eq_f, ↓reduceIte, callK_eq, letB_eq, joinB_eq, Nat.add_assoc]
theorem tM_idle {S : US} {u : RU} {r : Nat → Nat} (hu : RulM S u) (ho : RuOk u) (h : MRow S 0 r) (hR : ROk u.1 u.2.1 r) : sM_idle S = some (J (idlN r u.2.1 u.2.1)) := by
  have hm := ho.2.2.1
  have h12 := ho.2.1
  unfold sM_idle
  refine loop_from (i0 := 0) (fun i => (J (idlN r u.2.1 i), J i)) u.2.1 (by omega) (fun i _ hi rc => ?_) (fun rc => ?_) FUEL (by unfold FUEL; omega)
  · unfold sM_idle_L4
    have v1 := mrow_0 (k := 43 + i) h (by omega)
    have v2 := mrow_0 (k := 37 + i) h (by omega)
    have b1 := (hR.2.1 i (by omega)).1
    have b2 := hR.2.2 i hi
    have b3 := shl6 (show i < 6 by omega)
    have b4 := womN_lt r (r (37 + i)) u.2.1
    have b5 : 2 ^ u.2.1 ≤ 2 ^ 6 := Nat.pow_le_pow_right (by decide) hm
    have b6 : womN r (r (37 + i)) u.2.1 &&& (1 <<< i - 1) ≤ womN r (r (37 + i)) u.2.1 := Nat.and_le_left
    have hn := hu.2.1
    by_cases z : r (43 + i) = 0
    · simp (disch := omega) only [lit_0, lit_1, lit_2, lit_3, lit_4, lit_5, lit_6, lit_7, lit_8, lit_9, lit_10, lit_11, lit_12, lit_13, lit_14, lit_15, lit_20, lit_24, lit_25, lit_37, lit_40, lit_43, lit_48, lit_49, lit_50, lit_60, lit_96, lit_98, lit_99, lit_100, lit_999, lit_62, lit_74, lit_86, lit_92, lit_99999, lit_100000, lit_16, lit_32767, lit_2147483639, J_add, J_mul, J_sub, J_tn, J_le, J_lt, J_eq, Nat.not_lt_zero, false_or, or_false, le_t, le_f, lt_t, lt_f, eq_f, ↓reduceIte, callK_eq, letB_eq, joinB_eq, Nat.add_assoc, hn, v1, v2, z, J_shl, J_or, idlN_s, true_or]
    · have e := tM_womenAt (b := 0) (s := r (37 + i)) h (by omega) hn hm (by omega) (fun w hw => by have := (hR.2.1 w hw).2; omega)
      simp (disch := omega) only [lit_0, lit_1, lit_2, lit_3, lit_4, lit_5, lit_6, lit_7, lit_8, lit_9, lit_10, lit_11, lit_12, lit_13, lit_14, lit_15, lit_20, lit_24, lit_25, lit_37, lit_40, lit_43, lit_48, lit_49, lit_50, lit_60, lit_96, lit_98, lit_99, lit_100, lit_999, lit_62, lit_74, lit_86, lit_92, lit_99999, lit_100000, lit_16, lit_32767, lit_2147483639, J_add, J_mul, J_sub, J_tn, J_le, J_lt, J_eq, Nat.not_lt_zero, false_or, or_false, le_t, le_f, lt_t, lt_f, eq_f, ↓reduceIte, callK_eq, letB_eq, joinB_eq, Nat.add_assoc, hn, v1, v2, e, J_shl, J_or, J_and, idlN_s, false_or, ne_eq]
      by_cases z2 : womN r (r (37 + i)) u.2.1 &&& (1 <<< i - 1) = 0
      · simp only [z2, ↓reduceIte, not_true_eq_false, Nat.or_zero]
      · simp only [z2, ↓reduceIte, not_false_eq_true]
  · unfold sM_idle_L4
    simp (disch := omega) only [lit_0, lit_1, lit_2, lit_3, lit_4, lit_5, lit_6, lit_7, lit_8, lit_9, lit_10, lit_11, lit_12, lit_13, lit_14, lit_15, lit_20, lit_24, lit_25, lit_37, lit_40, lit_43, lit_48, lit_49, lit_50, lit_60, lit_96, lit_98, lit_99, lit_100, lit_999, lit_62, lit_74, lit_86, lit_92, lit_99999, lit_100000, lit_16, lit_32767, lit_2147483639, J_add, J_mul, J_sub, J_tn, J_le, J_lt, J_eq, Nat.not_lt_zero, false_or, or_false, le_t, le_f, lt_t, lt_f, eq_f, ↓reduceIte, callK_eq, letB_eq, joinB_eq, Nat.add_assoc, hu.2.1]
theorem A_count {ct : CT} {a0 q0 j : Nat} {S : US} {G : GS} {P : Nat → Nat → Option Nat} {ad : Nat → Nat} {S2 : US} {u : RU} {r : Nat → Nat} {q1 e1 c1 : Nat} {f1 : Nat → Option Nat} {R1 : Nat → Nat → Nat} {q2 e2 c2 : Nat} {f2 : Nat → Option Nat} {sn : Nat → Nat} {t : Nat} (H : InvD ct a0 q0 j S G P ad S2 u r q1 e1 c1 f1 R1 q2 e2 c2 f2 sn t) (p : Int32) : AgV [(1, 1)] S2 (t1_count S ct P G.1 p) (s1_count S P G.1 p) (sM_count S2 p) := by
  have Hz := H.z
  have hC := H.core
  have hZ := Hz.core
  have ho12 := hC.1.2.1
  have ho3 := hC.1.1
  have ho6 := hC.1.2.2.1
  have h9 := hC.2.2.1
  have hR := hC.2.1
  have hM := hZ.2.2.2.2.2.1
  have eW := tM_within (p := p) (a := 0) (b := 14)
  have hT := tM_right (S := Z0 S2) (c := true) (k := 1) Z0_0 (Or.inl rfl)
  have hF := tM_right (S := Z0 S2) (c := false) (k := 1) Z0_0 (Or.inl rfl)
  rw [bI_t, if_pos rfl] at hT
  rw [bI_f, if_neg (by decide)] at hF
  unfold sM_count
  refine Ag_z ?_
  cases c0 : inN p 0 14 with
  | false =>
    rw [c0] at eW
    rw [show (0 : Int32) = J 0 from rfl, show (14 : Int32) = J 14 from rfl, eW, callK_eq, bI_f, show (1 : Int32) = J 1 from rfl, hF, callK_eq, bI_f, if_pos rfl]
    have hne : ∀ i, i < 15 → p ≠ J i := fun i hi z => by
      rw [z, inN_J (by omega) (by omega) (by omega), decide_eq_true (show 0 ≤ i by omega), decide_eq_true (show i ≤ 14 by omega)] at c0
      cases c0
    have hin : inN p 12 14 = false := by
      cases c1 : inN p 12 14 with
      | false => rfl
      | true =>
        obtain ⟨k, k1, k2, k3⟩ := J_of (by omega) (by omega) c1
        exact absurd k3 (hne k (by omega))
    have e3 := tH_in (p := p) (a := 12) (b := 14)
    unfold t1_count s1_count
    simp only [lit_0, lit_1, lit_2, lit_3, lit_4, lit_5, lit_6, lit_7, lit_8, lit_9, lit_10, lit_11, lit_12, lit_14]
    simp only [hne 0 (by omega), hne 1 (by omega), hne 2 (by omega), hne 3 (by omega), hne 4 (by omega), hne 5 (by omega), hne 6 (by omega), hne 7 (by omega), hne 8 (by omega), hne 9 (by omega), hne 10 (by omega), hne 11 (by omega), ↓reduceIte]
    rw [e3, hin]
    exact Or.inl ⟨1, 1, by decide, rfl, ev_thr⟩
  | true =>
    rw [c0] at eW
    rw [show (0 : Int32) = J 0 from rfl, show (14 : Int32) = J 14 from rfl, eW, callK_eq, bI_t, show (1 : Int32) = J 1 from rfl, hT, callK_eq, bI_t, if_neg (show ¬ J 1 = J 0 by decide)]
    obtain ⟨k, -, hk, rfl⟩ := J_of (by omega) (by omega) c0
    have z0 : ∀ i, i ≠ 0 → Z0 S2 0 i = S2 0 i := fun i hi => by unfold Z0; rw [u2_off (by omega)]
    have ev : ∀ v : Int32, Ev (some (v, Z0 S2)) (fun o => o.1 = v ∧ o.2 0 0 = J 0 ∧ KeepM S2 o.2) := fun v => ⟨_, rfl, rfl, (Z0_0 : Z0 S2 0 0 = J 0), Z0_k⟩
    have eh : ∀ v : Int32, Ev (some v) (fun o => o = v ∧ True) := fun v => ⟨_, rfl, rfl, trivial⟩
    obtain ⟨cw, dw, lw, ⟨w1, qw, fw, w2, w3, w4⟩, w5, w6⟩ := H.2.2.2.2.2.2.1
    obtain ⟨a1, a2, a3, a4, a5, a6⟩ := H.2.2.1
    obtain ⟨i1, i2, i3, i4, i5, i6⟩ := H.2.2.2.1
    obtain ⟨t1, t2, t3⟩ := H.2.2.2.2.1
    obtain ⟨x1, x2⟩ := H.2.2.2.2.2.1
    unfold t1_count s1_count
    rcases (show k = 0 ∨ k = 1 ∨ k = 2 ∨ k = 3 ∨ k = 4 ∨ k = 5 ∨ k = 6 ∨ k = 7 ∨ k = 8 ∨ k = 9 ∨ k = 10 ∨ k = 11 ∨ k = 12 ∨ k = 13 ∨ k = 14 by omega) with rfl | rfl | rfl | rfl | rfl | rfl | rfl | rfl | rfl | rfl | rfl | rfl | rfl | rfl | rfl
    · simp (disch := omega) only [lit_0, lit_1, lit_2, lit_3, lit_4, lit_5, lit_6, lit_7, lit_8, lit_9, lit_10, lit_11, lit_12, lit_13, lit_14, lit_15, lit_20, lit_24, lit_25, lit_37, lit_40, lit_43, lit_48, lit_49, lit_50, lit_60, lit_96, lit_98, lit_99, lit_100, lit_999, lit_62, lit_74, lit_86, lit_92, lit_99999, lit_100000, lit_16, lit_32767, lit_2147483639, J_add, J_mul, J_sub, J_tn, J_le, J_lt, J_eq, Nat.not_lt_zero, false_or, or_false, le_t, le_f, lt_t, lt_f, eq_f, ↓reduceIte, callK_eq, letB_eq, joinB_eq, Nat.add_assoc, bI_t]
      refine Ag_ok (J u.1) ?_ ?_
      · rw [hC.2.2.2.1.1]; exact eh _
      · rw [z0 1 (by omega), hC.2.2.2.2.2.1.1]; exact ev _
    · simp (disch := omega) only [lit_0, lit_1, lit_2, lit_3, lit_4, lit_5, lit_6, lit_7, lit_8, lit_9, lit_10, lit_11, lit_12, lit_13, lit_14, lit_15, lit_20, lit_24, lit_25, lit_37, lit_40, lit_43, lit_48, lit_49, lit_50, lit_60, lit_96, lit_98, lit_99, lit_100, lit_999, lit_62, lit_74, lit_86, lit_92, lit_99999, lit_100000, lit_16, lit_32767, lit_2147483639, J_add, J_mul, J_sub, J_tn, J_le, J_lt, J_eq, Nat.not_lt_zero, false_or, or_false, le_t, le_f, lt_t, lt_f, eq_f, ↓reduceIte, callK_eq, letB_eq, joinB_eq, Nat.add_assoc, bI_t]
      refine Ag_ok (J u.2.1) ?_ ?_
      · rw [tH_women hC.2.2.2.1]; exact eh _
      · rw [z0 2 (by omega), hC.2.2.2.2.2.1.2.1]; exact ev _
    · simp (disch := omega) only [lit_0, lit_1, lit_2, lit_3, lit_4, lit_5, lit_6, lit_7, lit_8, lit_9, lit_10, lit_11, lit_12, lit_13, lit_14, lit_15, lit_20, lit_24, lit_25, lit_37, lit_40, lit_43, lit_48, lit_49, lit_50, lit_60, lit_96, lit_98, lit_99, lit_100, lit_999, lit_62, lit_74, lit_86, lit_92, lit_99999, lit_100000, lit_16, lit_32767, lit_2147483639, J_add, J_mul, J_sub, J_tn, J_le, J_lt, J_eq, Nat.not_lt_zero, false_or, or_false, le_t, le_f, lt_t, lt_f, eq_f, ↓reduceIte, callK_eq, letB_eq, joinB_eq, Nat.add_assoc, bI_t]
      refine Ag_ok (J cw) ?_ ?_
      · have w3' := w3.sub (cutM_sub (ct := ct) (M := [q0, q1, e1, q2, e2]) (h := G.1))
        rw [w2, onR_eq, tL_cls w3', tL_size w3']; exact eh _
      · rw [z0 3 (by omega), w5]; exact ev _
    · simp (disch := omega) only [lit_0, lit_1, lit_2, lit_3, lit_4, lit_5, lit_6, lit_7, lit_8, lit_9, lit_10, lit_11, lit_12, lit_13, lit_14, lit_15, lit_20, lit_24, lit_25, lit_37, lit_40, lit_43, lit_48, lit_49, lit_50, lit_60, lit_96, lit_98, lit_99, lit_100, lit_999, lit_62, lit_74, lit_86, lit_92, lit_99999, lit_100000, lit_16, lit_32767, lit_2147483639, J_add, J_mul, J_sub, J_tn, J_le, J_lt, J_eq, Nat.not_lt_zero, false_or, or_false, le_t, le_f, lt_t, lt_f, eq_f, ↓reduceIte, callK_eq, letB_eq, joinB_eq, Nat.add_assoc, bI_t]
      refine Ag_ok (J u.2.2.1) ?_ ?_
      · rw [hC.2.2.2.1.2.1]; exact eh _
      · rw [z0 4 (by omega), hC.2.2.2.2.2.1.2.2.1]; exact ev _
    · simp (disch := omega) only [lit_0, lit_1, lit_2, lit_3, lit_4, lit_5, lit_6, lit_7, lit_8, lit_9, lit_10, lit_11, lit_12, lit_13, lit_14, lit_15, lit_20, lit_24, lit_25, lit_37, lit_40, lit_43, lit_48, lit_49, lit_50, lit_60, lit_96, lit_98, lit_99, lit_100, lit_999, lit_62, lit_74, lit_86, lit_92, lit_99999, lit_100000, lit_16, lit_32767, lit_2147483639, J_add, J_mul, J_sub, J_tn, J_le, J_lt, J_eq, Nat.not_lt_zero, false_or, or_false, le_t, le_f, lt_t, lt_f, eq_f, ↓reduceIte, callK_eq, letB_eq, joinB_eq, Nat.add_assoc, bI_t]
      refine Ag_ok (J (r 0)) ?_ ?_
      · rw [show S (lc 0 0) 6 = J (r 0) from hC.2.2.2.2.1.1]; exact eh _
      · rw [mrow_0 (k := 0) hZ.2.2.2.2.2.2 (by omega)]; exact ev _
    · simp (disch := omega) only [lit_0, lit_1, lit_2, lit_3, lit_4, lit_5, lit_6, lit_7, lit_8, lit_9, lit_10, lit_11, lit_12, lit_13, lit_14, lit_15, lit_20, lit_24, lit_25, lit_37, lit_40, lit_43, lit_48, lit_49, lit_50, lit_60, lit_96, lit_98, lit_99, lit_100, lit_999, lit_62, lit_74, lit_86, lit_92, lit_99999, lit_100000, lit_16, lit_32767, lit_2147483639, J_add, J_mul, J_sub, J_tn, J_le, J_lt, J_eq, Nat.not_lt_zero, false_or, or_false, le_t, le_f, lt_t, lt_f, eq_f, ↓reduceIte, callK_eq, letB_eq, joinB_eq, Nat.add_assoc, bI_t]
      refine Ag_ok (J (openN r u.1)) ?_ ?_
      · rw [tH_open hC.2.2.2.1.1 ho12 hC.2.2.2.2.1 hR]; exact eh _
      · rw [tM_openOnes (b := 0) hM.1 ho12 (by decide) hZ.2.2.2.2.2.2 hR]; exact ev _
    · simp (disch := omega) only [lit_0, lit_1, lit_2, lit_3, lit_4, lit_5, lit_6, lit_7, lit_8, lit_9, lit_10, lit_11, lit_12, lit_13, lit_14, lit_15, lit_20, lit_24, lit_25, lit_37, lit_40, lit_43, lit_48, lit_49, lit_50, lit_60, lit_96, lit_98, lit_99, lit_100, lit_999, lit_62, lit_74, lit_86, lit_92, lit_99999, lit_100000, lit_16, lit_32767, lit_2147483639, J_add, J_mul, J_sub, J_tn, J_le, J_lt, J_eq, Nat.not_lt_zero, false_or, or_false, le_t, le_f, lt_t, lt_f, eq_f, ↓reduceIte, callK_eq, letB_eq, joinB_eq, Nat.add_assoc, bI_t]
      refine Ag_ok (J (sumN r 13 u.1)) ?_ ?_
      · rw [tH_allSeam hC.2.2.2.1.1 ho12 hC.2.2.2.2.1 hR]; exact eh _
      · rw [hM.1, tM_sumOf (b := 0) (c := 13) (by decide) hZ.2.2.2.2.2.2 (by omega)]; exact ev _
    · simp (disch := omega) only [lit_0, lit_1, lit_2, lit_3, lit_4, lit_5, lit_6, lit_7, lit_8, lit_9, lit_10, lit_11, lit_12, lit_13, lit_14, lit_15, lit_20, lit_24, lit_25, lit_37, lit_40, lit_43, lit_48, lit_49, lit_50, lit_60, lit_96, lit_98, lit_99, lit_100, lit_999, lit_62, lit_74, lit_86, lit_92, lit_99999, lit_100000, lit_16, lit_32767, lit_2147483639, J_add, J_mul, J_sub, J_tn, J_le, J_lt, J_eq, Nat.not_lt_zero, false_or, or_false, le_t, le_f, lt_t, lt_f, eq_f, ↓reduceIte, callK_eq, letB_eq, joinB_eq, Nat.add_assoc, bI_t]
      refine Ag_ok (J (sumN r 43 u.2.1)) ?_ ?_
      · rw [tH_allThread hC.2.2.2.1 hC.1 hC.2.2.2.2.1 hR]; exact eh _
      · rw [hM.2.1, tM_sumOf (b := 0) (c := 43) (by decide) hZ.2.2.2.2.2.2 (by omega)]; exact ev _
    · simp (disch := omega) only [lit_0, lit_1, lit_2, lit_3, lit_4, lit_5, lit_6, lit_7, lit_8, lit_9, lit_10, lit_11, lit_12, lit_13, lit_14, lit_15, lit_20, lit_24, lit_25, lit_37, lit_40, lit_43, lit_48, lit_49, lit_50, lit_60, lit_96, lit_98, lit_99, lit_100, lit_999, lit_62, lit_74, lit_86, lit_92, lit_99999, lit_100000, lit_16, lit_32767, lit_2147483639, J_add, J_mul, J_sub, J_tn, J_le, J_lt, J_eq, Nat.not_lt_zero, false_or, or_false, le_t, le_f, lt_t, lt_f, eq_f, ↓reduceIte, callK_eq, letB_eq, joinB_eq, Nat.add_assoc, bI_t]
      refine Ag_ok (J (idlN r u.2.1 u.2.1)) ?_ ?_
      · rw [tH_idle hC]; exact eh _
      · rw [tM_idle hM hC.1 hZ.2.2.2.2.2.2 hR]; exact ev _
    · simp (disch := omega) only [lit_0, lit_1, lit_2, lit_3, lit_4, lit_5, lit_6, lit_7, lit_8, lit_9, lit_10, lit_11, lit_12, lit_13, lit_14, lit_15, lit_20, lit_24, lit_25, lit_37, lit_40, lit_43, lit_48, lit_49, lit_50, lit_60, lit_96, lit_98, lit_99, lit_100, lit_999, lit_62, lit_74, lit_86, lit_92, lit_99999, lit_100000, lit_16, lit_32767, lit_2147483639, J_add, J_mul, J_sub, J_tn, J_le, J_lt, J_eq, Nat.not_lt_zero, false_or, or_false, le_t, le_f, lt_t, lt_f, eq_f, ↓reduceIte, callK_eq, letB_eq, joinB_eq, Nat.add_assoc, bI_t]
      refine Ag_ok (J c1) ?_ ?_
      · rw [a1, onR_eq, tL_cls a2.1.lst, tL_size a2.1.lst]; exact eh _
      · rw [z0 42 (by omega), a5]; exact ev _
    · simp (disch := omega) only [lit_0, lit_1, lit_2, lit_3, lit_4, lit_5, lit_6, lit_7, lit_8, lit_9, lit_10, lit_11, lit_12, lit_13, lit_14, lit_15, lit_20, lit_24, lit_25, lit_37, lit_40, lit_43, lit_48, lit_49, lit_50, lit_60, lit_96, lit_98, lit_99, lit_100, lit_999, lit_62, lit_74, lit_86, lit_92, lit_99999, lit_100000, lit_16, lit_32767, lit_2147483639, J_add, J_mul, J_sub, J_tn, J_le, J_lt, J_eq, Nat.not_lt_zero, false_or, or_false, le_t, le_f, lt_t, lt_f, eq_f, ↓reduceIte, callK_eq, letB_eq, joinB_eq, Nat.add_assoc, bI_t]
      refine Ag_ok (J c2) ?_ ?_
      · rw [i1, onR_eq, tL_cls i2.1.lst, tL_size i2.1.lst]; exact eh _
      · rw [z0 51 (by omega), i5]; exact ev _
    · simp (disch := omega) only [lit_0, lit_1, lit_2, lit_3, lit_4, lit_5, lit_6, lit_7, lit_8, lit_9, lit_10, lit_11, lit_12, lit_13, lit_14, lit_15, lit_20, lit_24, lit_25, lit_37, lit_40, lit_43, lit_48, lit_49, lit_50, lit_60, lit_96, lit_98, lit_99, lit_100, lit_999, lit_62, lit_74, lit_86, lit_92, lit_99999, lit_100000, lit_16, lit_32767, lit_2147483639, J_add, J_mul, J_sub, J_tn, J_le, J_lt, J_eq, Nat.not_lt_zero, false_or, or_false, le_t, le_f, lt_t, lt_f, eq_f, ↓reduceIte, callK_eq, letB_eq, joinB_eq, Nat.add_assoc, bI_t]
      refine Ag_ok (J t) ?_ ?_
      · rw [t1]; exact eh _
      · rw [z0 12 (by omega), t2]; exact ev _
    · have e3 := tH_in (p := J 12) (a := 12) (b := 14)
      rw [inN_J (by omega) (by omega) (by omega)] at e3
      simp (disch := omega) only [lit_0, lit_1, lit_2, lit_3, lit_4, lit_5, lit_6, lit_7, lit_8, lit_9, lit_10, lit_11, lit_12, lit_13, lit_14, lit_15, lit_20, lit_24, lit_25, lit_37, lit_40, lit_43, lit_48, lit_49, lit_50, lit_60, lit_96, lit_98, lit_99, lit_100, lit_999, lit_62, lit_74, lit_86, lit_92, lit_99999, lit_100000, lit_16, lit_32767, lit_2147483639, J_add, J_mul, J_sub, J_tn, J_le, J_lt, J_eq, Nat.not_lt_zero, false_or, or_false, le_t, le_f, lt_t, lt_f, eq_f, ↓reduceIte, callK_eq, letB_eq, joinB_eq, Nat.add_assoc, bI_t, e3, bI_t, bI_f, Bool.false_eq_true, tB_s, tB_n, fd_1, fd_0, fe_1, fe_0, ri_1, ri_0, re_1, re_0]
      refine Ag_ok (S2 6 0) ?_ ?_
      · rw [← x2 0 (by omega)]; exact eh _
      · have : Z0 S2 6 = S2 6 := by unfold Z0; rw [u2_row' (by omega)]
        rw [this]; exact ev _
    · have e3 := tH_in (p := J 13) (a := 12) (b := 14)
      rw [inN_J (by omega) (by omega) (by omega)] at e3
      simp (disch := omega) only [lit_0, lit_1, lit_2, lit_3, lit_4, lit_5, lit_6, lit_7, lit_8, lit_9, lit_10, lit_11, lit_12, lit_13, lit_14, lit_15, lit_20, lit_24, lit_25, lit_37, lit_40, lit_43, lit_48, lit_49, lit_50, lit_60, lit_96, lit_98, lit_99, lit_100, lit_999, lit_62, lit_74, lit_86, lit_92, lit_99999, lit_100000, lit_16, lit_32767, lit_2147483639, J_add, J_mul, J_sub, J_tn, J_le, J_lt, J_eq, Nat.not_lt_zero, false_or, or_false, le_t, le_f, lt_t, lt_f, eq_f, ↓reduceIte, callK_eq, letB_eq, joinB_eq, Nat.add_assoc, bI_t, e3, bI_t, bI_f, Bool.false_eq_true, tB_s, tB_n, fd_1, fd_0, fe_1, fe_0, ri_1, ri_0, re_1, re_0]
      refine Ag_ok (S2 6 1) ?_ ?_
      · rw [← x2 1 (by omega)]; exact eh _
      · have : Z0 S2 6 = S2 6 := by unfold Z0; rw [u2_row' (by omega)]
        rw [this]; exact ev _
    · have e3 := tH_in (p := J 14) (a := 12) (b := 14)
      rw [inN_J (by omega) (by omega) (by omega)] at e3
      simp (disch := omega) only [lit_0, lit_1, lit_2, lit_3, lit_4, lit_5, lit_6, lit_7, lit_8, lit_9, lit_10, lit_11, lit_12, lit_13, lit_14, lit_15, lit_20, lit_24, lit_25, lit_37, lit_40, lit_43, lit_48, lit_49, lit_50, lit_60, lit_96, lit_98, lit_99, lit_100, lit_999, lit_62, lit_74, lit_86, lit_92, lit_99999, lit_100000, lit_16, lit_32767, lit_2147483639, J_add, J_mul, J_sub, J_tn, J_le, J_lt, J_eq, Nat.not_lt_zero, false_or, or_false, le_t, le_f, lt_t, lt_f, eq_f, ↓reduceIte, callK_eq, letB_eq, joinB_eq, Nat.add_assoc, bI_t, e3, bI_t, bI_f, Bool.false_eq_true, tB_s, tB_n, fd_1, fd_0, fe_1, fe_0, ri_1, ri_0, re_1, re_0]
      refine Ag_ok (S2 6 2) ?_ ?_
      · rw [← x2 2 (by omega)]; exact eh _
      · have : Z0 S2 6 = S2 6 := by unfold Z0; rw [u2_row' (by omega)]
        rw [this]; exact ev _
