set_option maxRecDepth 100000
/-! THE PLAIN LAW, 32: whom to which, 2 -/
theorem j00 : J 0 = (0 : Int32) := rfl
def stS (n : Nat) (r : Nat → Nat) (l : List Nat) (i w : Nat) : Nat := farN n (r (37 + w)) (l.getD i 0)
theorem hv_mn {D st m k g w : Nat} {stf : Nat → Nat → Nat} {N : Nat} {f : Nat → Option Nat} (hD : 1000 ≤ D) (hst : ∀ i w, i < N → w < m → stf i w ≤ 12) (hN : N ≤ 6) (hk : k < N) (hw : w < m) (hs : st = stf (N - 1 - k) w) (hf : f = (fun w => if bitB g w = true then none else (dpN m N stf k (g ||| 1 <<< w)).map (fun v => stf (N - 1 - k) w + v))) (hb : bitB g w = false) : min (hvN D (mnN f w)) (st + hvN D (dpN m N stf k (g ||| 1 <<< w))) = hvN D (mnN f (w + 1)) := by
  have h1 : ∀ v, mnN f w = some v → v ≤ 1000 := fun v e => by
    refine mnN_le (fun w' x hw' hx => ?_) v e
    rw [hf] at hx
    dsimp only at hx
    split at hx
    · cases hx
    · cases hd : dpN m N stf k (g ||| 1 <<< w') with
      | none => rw [hd] at hx; cases hx
      | some y =>
        rw [hd] at hx
        cases hx
        have := dpN_le hst (by omega) _ y hd
        have := hst (N - 1 - k) w' (by omega) (by omega)
        show stf (N - 1 - k) w' + y ≤ 1000
        omega
  have h2 : f w = (dpN m N stf k (g ||| 1 <<< w)).map (fun v => st + v) := by
    rw [hf, hs]
    dsimp only
    rw [if_neg (by rw [hb]; decide)]
  rcases hv_min (st := st) (d := dpN m N stf k (g ||| 1 <<< w)) hD h1 with h | ⟨v, hv1, hv2⟩
  · rw [h, mnN_s, h2]
  · have := dpN_le hst (by omega) _ v hv1
    have := hst (N - 1 - k) w (by omega) hw
    omega
theorem mn_skip {f : Nat → Option Nat} {w : Nat} (h : f w = none) : mnN f (w + 1) = mnN f w := by
  rw [mnN_s, h]
  cases mnN f w <;> rfl
theorem hvN_le {D : Nat} {o : Option Nat} (h : ∀ v, o = some v → v ≤ D) : hvN D o ≤ D := by
  cases o with
  | none => exact Nat.le_refl _
  | some v => exact h v rfl
theorem stS_le {n m : Nat} {r : Nat → Nat} {l : List Nat} {N : Nat} (hn : n ≤ 12) (hR : ∀ w, w < m → r (37 + w) < n) (hl : ∀ i, i < N → l.getD i 0 < n) : ∀ i w, i < N → w < m → stS n r l i w ≤ 12 := fun i w hi hw => Nat.le_trans (farN_le (hR w hw) (hl i hi)) hn
theorem tH_leastTo {ct : CT} {ad : Nat → Nat} {P : Nat → Nat → Option Nat} {G : GS} {S : US} {u : RU} {r : Nat → Nat} {b1 : Nat} {l : List Nat} {f : Nat → Int32} (hb : Bd G) (hu : RulH ct P G.1 S u) (ho : RuOk u) (hr : HRow S 0 r) (hR : ROk u.1 u.2.1 r) (h6 : l.length ≤ 6) (hl : ∀ i, i < l.length → l.getD i 0 < u.1) (hb1 : G.1 b1 = some (true, .inl (0, l.length, .inl f))) (hf : ∀ i, i < l.length → f i = J (l.getD i 0)) (hm : Rm ct G 10 1000) : Ev (s1_leastTo ct ad P S G (some b1)) (fun o => o.1 = some G.2.1 ∧ (∃ T, TabH o.2.1 G.2.1 (l.length + 1) (1 <<< u.2.1) T ∧ ∀ i, i ≤ l.length → ∀ g, g < 1 <<< u.2.1 → T i g = J (hvN 100000 (dpN u.2.1 l.length (stS u.1 r l) (l.length - i) g))) ∧ Gr (fun _ => False) G o.2 10 1000) := by
  have hm6 := ho.2.2.1
  have ho12 := ho.2.1
  have h64 := shl6' (show u.2.1 < 7 by omega)
  have hmul : (l.length + 1) * (1 <<< u.2.1) ≤ 7 * 64 := Nat.mul_le_mul (by omega) h64.2
  have hst := stS_le (l := l) (N := l.length) ho12 hR.2.2 hl
  unfold s1_leastTo
  rw [onR_eq, hL_eq hb1, tH_women hu]
  simp (disch := omega) only [lit_0, lit_1, lit_2, lit_3, lit_4, lit_5, lit_6, lit_7, lit_8, lit_9, lit_10, lit_11, lit_12, lit_13, lit_14, lit_15, lit_20, lit_24, lit_25, lit_37, lit_40, lit_43, lit_48, lit_49, lit_50, lit_60, lit_96, lit_98, lit_99, lit_100, lit_999, lit_62, lit_74, lit_86, lit_92, lit_99999, lit_100000, lit_16, lit_32767, lit_2147483639, J_add, J_mul, J_sub, J_tn, J_le, J_lt, J_eq, Nat.not_lt_zero, false_or, or_false, le_t, le_f, lt_t, lt_f, eq_f, ↓reduceIte, callK_eq, letB_eq, joinB_eq, Nat.add_assoc, J_shl]
  refine Ev.nm hb (by omega) (by omega) (hm.le (by omega) (by omega)) (fun G5 k1 k2 => ?_)
  have k2 := k2.le (c' := 10) (z' := 1000) (by omega) (by omega)
  refine Ev.loop (I := fun t x => x.2 = J (l.length - t) - J 1 ∧ (∃ T, TabH x.1.1 G.2.1 (l.length + 1) (1 <<< u.2.1) T ∧ ∀ i, l.length - t ≤ i → i ≤ l.length → ∀ g, g < 1 <<< u.2.1 → T i g = J (hvN 100000 (dpN u.2.1 l.length (stS u.1 r l) (l.length - i) g))) ∧ Gr (fun _ => False) G x.1 10 1000) l.length ?_ ?_ ⟨rfl, ⟨_, k1, fun i h1 h2 g hg => ?_⟩, k2⟩ (by unfold FUEL; omega)
  · rintro t ht ⟨G6, v7⟩ ⟨h0, ⟨T, t1, t2⟩, t3⟩ rc hrc
    simp only at h0 t1 t2 t3
    have h0 : v7 = J (l.length - 1 - t) := by rw [h0, J_sub (by omega), show l.length - t - 1 = l.length - 1 - t by omega]
    subst h0
    obtain ⟨i, hi⟩ : ∃ i, i = l.length - 1 - t := ⟨_, rfl⟩
    rw [← hi]
    show Ev (s1_leastTo_L25 S P b1 G.2.1 rc G6 (J i)) _
    unfold s1_leastTo_L25
    simp (disch := omega) only [lit_0, lit_1, lit_2, lit_3, lit_4, lit_5, lit_6, lit_7, lit_8, lit_9, lit_10, lit_11, lit_12, lit_13, lit_14, lit_15, lit_20, lit_24, lit_25, lit_37, lit_40, lit_43, lit_48, lit_49, lit_50, lit_60, lit_96, lit_98, lit_99, lit_100, lit_999, lit_62, lit_74, lit_86, lit_92, lit_99999, lit_100000, lit_16, lit_32767, lit_2147483639, J_add, J_mul, J_sub, J_tn, J_le, J_lt, J_eq, Nat.not_lt_zero, false_or, or_false, le_t, le_f, lt_t, lt_f, eq_f, ↓reduceIte, callK_eq, letB_eq, joinB_eq, Nat.add_assoc]
    refine Ev.loop (I := fun g x => x.2 = J g ∧ (∃ T, TabH x.1.1 G.2.1 (l.length + 1) (1 <<< u.2.1) T ∧ (∀ i', i < i' → i' ≤ l.length → ∀ g, g < 1 <<< u.2.1 → T i' g = J (hvN 100000 (dpN u.2.1 l.length (stS u.1 r l) (l.length - i') g))) ∧ ∀ g', g' < g → T i g' = J (hvN 100000 (dpN u.2.1 l.length (stS u.1 r l) (l.length - i) g'))) ∧ Gr (fun _ => False) G x.1 10 1000) (1 <<< u.2.1) ?_ ?_ ⟨rfl, ⟨T, t1, fun i' h1 h2 g hg => t2 i' (by omega) h2 g hg, fun g' hg' => absurd hg' (Nat.not_lt_zero g')⟩, t3⟩ (by unfold FUEL; omega)
    · rintro g hg ⟨G9, v10⟩ ⟨h0, ⟨T, t1, t2, t4⟩, t3⟩ rc2 hrc2
      simp only at h0 t1 t2 t3 t4
      subst h0
      show Ev (s1_leastTo_L33 S P b1 G.2.1 (J i) rc rc2 G9 (J g)) _
      unfold s1_leastTo_L33
      rw [hQ_eq t1.1 (show i < l.length + 1 by omega) (by omega), if_pos (show i < l.length + 1 by omega), onR_eq, hL_eq (t1.2 i (by omega)), if_neg (by rw [J_le (by omega) (by omega)]; omega), hQ_eq t1.1 (show i < l.length + 1 by omega) (by omega), if_pos (show i < l.length + 1 by omega), onR_eq]
      refine t1.put (by omega) (by omega) (by omega) (fun G17 y1 y2 => ?_)
      have y3 := t3.fresh y2 hb (fun a h => h)
      obtain ⟨fm, hfm⟩ : ∃ fm, fm = (fun w => if bitB g w = true then none else (dpN u.2.1 l.length (stS u.1 r l) (l.length - 1 - i) (g ||| 1 <<< w)).map (fun v => stS u.1 r l (l.length - 1 - (l.length - 1 - i)) w + v)) := ⟨_, rfl⟩
      have hdp : dpN u.2.1 l.length (stS u.1 r l) (l.length - i) g = mnN fm u.2.1 := by
        rw [show l.length - i = (l.length - 1 - i) + 1 by omega, dpN_s, hfm]
      have hmb : ∀ w, w ≤ u.2.1 → hvN 100000 (mnN fm w) ≤ 100000 := fun w hw => hvN_le (fun v e => by
        have := mnN_le (B := 100000) (f := fm) (m := w) (fun w' x hw' hx => by
          rw [hfm] at hx
          dsimp only at hx
          split at hx
          · cases hx
          · cases hd : dpN u.2.1 l.length (stS u.1 r l) (l.length - 1 - i) (g ||| 1 <<< w') with
            | none => rw [hd] at hx; cases hx
            | some y =>
              rw [hd] at hx
              cases hx
              have := dpN_le hst (by omega) _ y hd
              have := hst (l.length - 1 - (l.length - 1 - i)) w' (by omega) (by omega)
              show stS u.1 r l (l.length - 1 - (l.length - 1 - i)) w' + y ≤ 100000
              omega) v e
        exact this)
      refine Ev.loop (I := fun w x => x.2 = J w ∧ (∃ T, TabH x.1.1 G.2.1 (l.length + 1) (1 <<< u.2.1) T ∧ (∀ i', i < i' → i' ≤ l.length → ∀ g, g < 1 <<< u.2.1 → T i' g = J (hvN 100000 (dpN u.2.1 l.length (stS u.1 r l) (l.length - i') g))) ∧ (∀ g', g' < g → T i g' = J (hvN 100000 (dpN u.2.1 l.length (stS u.1 r l) (l.length - i) g'))) ∧ T i g = J (hvN 100000 (mnN fm w))) ∧ Gr (fun _ => False) G x.1 10 1000) u.2.1 ?_ ?_ ⟨rfl, ⟨_, y1, fun i' h1 h2 g' hg' => ?_, fun g' hg' => ?_, ?_⟩, y3.le (by omega) (by omega)⟩ (by unfold FUEL; omega)
      · rintro w hw ⟨G18, v19⟩ ⟨h0, ⟨T, t1, t2, t4, t5⟩, t3⟩ rc3 hrc3
        simp only at h0 t1 t2 t3 t4 t5
        subst h0
        show Ev (s1_leastTo_L55 S P b1 G.2.1 (J i) (J g) rc2 rc3 G18 (J w)) _
        unfold s1_leastTo_L55
        rw [tH_women (hu.sub t3.sub), callK_eq, if_neg (by rw [J_le (by omega) (by omega)]; omega), tN_isOf (by omega) (by omega), callK_eq]
        cases hbit : bitB g w with
        | true =>
          rw [bI_t, if_neg (by decide), show (1 : Int32) = J 1 from rfl, J_add]
          refine hrc3 _ ⟨rfl, ⟨T, t1, t2, t4, ?_⟩, t3⟩
          rw [t5, mn_skip (by rw [hfm]; dsimp only; rw [if_pos hbit])]
        | false =>
          have hor := (pop_or u.2.1 g w (by omega) (by omega) (by omega) hw hg).1
          have hb1' := t3.sub _ _ hb1
          have hrw := (hr.2.2 w (by omega)).1
          have hsteps : s1_steps S (J w) (J (l.getD i 0)) = some (J (stS u.1 r l i w)) := by
            unfold s1_steps
            rw [gd (by omega) (by omega), J_tn (by omega), hrw, tH_far hu.1 ho12 (hR.2.2 w hw) (hl i (by omega))]
            rfl
          have hmn := hv_mn (D := 100000) (st := stS u.1 r l i w) (stf := stS u.1 r l) (k := l.length - 1 - i) (g := g) (w := w) (f := fm) (by omega) hst h6 (by omega) hw (by rw [show l.length - 1 - (l.length - 1 - i) = i by omega]) hfm hbit
          have hb5 := hmb w (by omega)
          have hsl := hst i w (by omega) hw
          have hdb : hvN 100000 (dpN u.2.1 l.length (stS u.1 r l) (l.length - 1 - i) (g ||| 1 <<< w)) ≤ 100000 := hvN_le (fun v e => by have := dpN_le hst (by omega) _ v e; omega)
          have e2 := t2 (i + 1) (by omega) (by omega) (g ||| 1 <<< w) hor
          rw [show l.length - (i + 1) = l.length - 1 - i by omega] at e2
          rw [bI_f, if_pos j00, hQ_eq t1.1 (show i < l.length + 1 by omega) (by omega), if_pos (show i < l.length + 1 by omega), hQ_eq t1.1 (show i < l.length + 1 by omega) (by omega), if_pos (show i < l.length + 1 by omega), onR_eq, hZ_eq (t1.2 i (by omega)) hg (by omega), t5, hZ_eq hb1' (show i < l.length by omega) (by omega), hf i (by omega), hsteps, callK_eq, show (1 : Int32) = J 1 from rfl, J_add, hQ_eq t1.1 (show i + 1 < l.length + 1 by omega) (by omega), if_pos (show i + 1 < l.length + 1 by omega), onR_eq, J_shl (by omega), J_or, hZ_eq (t1.2 (i + 1) (by omega)) hor (by omega), e2, onR_eq, J_add, J_add]
          have hmin : (if J (stS u.1 r l i w + hvN 100000 (dpN u.2.1 l.length (stS u.1 r l) (l.length - 1 - i) (g ||| 1 <<< w))) < J (hvN 100000 (mnN fm w)) then J (stS u.1 r l i w + hvN 100000 (dpN u.2.1 l.length (stS u.1 r l) (l.length - 1 - i) (g ||| 1 <<< w))) else J (hvN 100000 (mnN fm w))) = J (hvN 100000 (mnN fm (w + 1))) := by
            rw [← hmn]
            by_cases c : stS u.1 r l i w + hvN 100000 (dpN u.2.1 l.length (stS u.1 r l) (l.length - 1 - i) (g ||| 1 <<< w)) < hvN 100000 (mnN fm w)
            · rw [if_pos (by rw [J_lt (by omega) (by omega)]; exact c), Nat.min_eq_right (by omega)]
            · rw [if_neg (by rw [J_lt (by omega) (by omega)]; exact c), Nat.min_eq_left (by omega)]
          rw [hmin]
          refine t1.put (by omega) (by omega) (by omega) (fun G33 z1 z2 => ?_)
          refine hrc3 (G33, J (w + 1)) ⟨rfl, ⟨_, z1, fun i' h1 h2 g' hg' => ?_, fun g' hg' => ?_, ?_⟩, (t3.fresh z2 hb (fun a h => h))⟩
          · rw [u2_row' (by omega)]; exact t2 i' h1 h2 g' hg'
          · rw [u2_off (by omega)]; exact t4 g' hg'
          · rw [u2_at]
      · rintro ⟨G18, v19⟩ ⟨h0, ⟨T, t1, t2, t4, t5⟩, t3⟩ rc3
        simp only at h0 t1 t2 t3 t4 t5
        subst h0
        show Ev (s1_leastTo_L55 S P b1 G.2.1 (J i) (J g) rc2 rc3 G18 (J u.2.1)) _
        unfold s1_leastTo_L55
        rw [tH_women (hu.sub t3.sub), callK_eq, if_pos (Int32.le_refl _), show (1 : Int32) = J 1 from rfl, J_add]
        refine hrc2 _ ⟨rfl, ⟨T, t1, t2, fun g' hg' => ?_⟩, t3⟩
        by_cases e : g' = g
        · rw [e, t5, hdp]
        · exact t4 g' (by omega)
      · rw [u2_row' (by omega)]; exact t2 i' h1 h2 g' hg'
      · rw [u2_off (by omega)]; exact t4 g' hg'
      · rw [u2_at]; rfl
    · rintro ⟨G9, v10⟩ ⟨h0, ⟨T, t1, t2, t4⟩, t3⟩ rc2
      simp only at h0 t1 t2 t3 t4
      subst h0
      show Ev (s1_leastTo_L33 S P b1 G.2.1 (J i) rc rc2 G9 (J (1 <<< u.2.1))) _
      unfold s1_leastTo_L33
      rw [hQ_eq t1.1 (show i < l.length + 1 by omega) (by omega), if_pos (show i < l.length + 1 by omega), onR_eq, hL_eq (t1.2 i (by omega)), if_pos (Int32.le_refl _), add_m1]
      refine hrc _ ⟨?_, ⟨T, t1, fun i' h1 h2 g hg => ?_⟩, t3⟩
      · show J i - J 1 = J (l.length - (t + 1)) - J 1
        rw [show i = l.length - (t + 1) by omega]
      · by_cases e : i' = i
        · rw [e]; exact t4 g hg
        · exact t2 i' (by omega) h2 g hg
  · rintro ⟨G6, v7⟩ ⟨h0, ⟨T, t1, t2⟩, t3⟩ rc
    simp only at h0 t1 t2 t3
    rw [Nat.sub_self] at h0 t2
    subst h0
    show Ev (s1_leastTo_L25 S P b1 G.2.1 rc G6 (J 0 - J 1)) _
    unfold s1_leastTo_L25
    rw [if_pos (by decide)]
    exact ⟨_, rfl, rfl, ⟨T, t1, fun i hi g hg => t2 i (Nat.zero_le _) hi g hg⟩, t3⟩
  · have : i = l.length := by omega
    subst this
    rw [Nat.sub_self]
    rfl
