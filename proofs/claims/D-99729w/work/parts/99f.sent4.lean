set_option maxRecDepth 100000
/-! THE PLAIN LAW, 34: whom to which, 4 -/
/-- what the Model's table holds from a row on -/
def MTb (S : US) (m N : Nat) (st : Nat → Nat → Nat) (i0 : Nat) : Prop := ∀ i, i0 ≤ i → i ≤ N → ∀ g, g < 1 <<< m → S 19 (64 * i + g) = J (hvN 99999 (dpN m N st (N - i) g))
def MWn (S : US) (l : List Nat) : Prop := ∀ i, i < l.length → S 20 i = J (l.getD i 0)
theorem tM_dp {S0 S : US} {u : RU} {r : Nat → Nat} {l : List Nat} {p2 : Int32} {Q : (Int32 × US) → Prop} (hu : RulM S0 u) (ho : RuOk u) (hr : MRow S0 0 r) (hR : ROk u.1 u.2.1 r) (h6 : l.length ≤ 6) (hl : ∀ i, i < l.length → l.getD i 0 < u.1) (hF : MFq S0 S) (hW : MWn S l) (hT : MTb S u.2.1 l.length (stS u.1 r l) l.length) (hk : ∀ S', MFq S0 S' → MWn S' l → MTb S' u.2.1 l.length (stS u.1 r l) 0 → Ev (if p2 = (-1 : Int32) then if (0 : Int32) < 0 ∨ 448 ≤ (0 : Int32).toNatClampNeg then none else (some ((S' 19 (0 : Int32).toNatClampNeg), S')) else loopK (fun rc (x : (Int32 × Int32 × Int32)) => sM_sent_L289 p2 (J l.length) S' rc x.1 x.2.1 x.2.2) FUEL ((0 : Int32), (-1 : Int32), (0 : Int32))) Q) :
    Ev (loopK (fun rc (x : (US × Int32)) => sM_sent_L172 p2 (J l.length) rc x.1 x.2) FUEL (S, J l.length - J 1)) Q := by
  have hm6 := ho.2.2.1
  have ho12 := ho.2.1
  have h64 := shl6' (show u.2.1 < 7 by omega)
  have hst := stS_le (l := l) (N := l.length) ho12 hR.2.2 hl
  refine Ev.loop (I := fun t x => x.2 = J (l.length - t) - J 1 ∧ MFq S0 x.1 ∧ MWn x.1 l ∧ MTb x.1 u.2.1 l.length (stS u.1 r l) (l.length - t)) l.length ?_ ?_ ⟨rfl, hF, hW, hT⟩ (by unfold FUEL; omega)
  · rintro t ht ⟨S1, v16⟩ ⟨h0, h1, h2, h3⟩ rc hrc
    simp only at h0 h1 h2 h3
    obtain ⟨i, hi⟩ : ∃ i, i = l.length - 1 - t := ⟨_, rfl⟩
    have h0 : v16 = J i := by rw [h0, J_sub (by omega), hi]; congr 1; omega
    subst h0
    have h3 : MTb S1 u.2.1 l.length (stS u.1 r l) (i + 1) := by rw [hi, show l.length - 1 - t + 1 = l.length - t by omega]; exact h3
    show Ev (sM_sent_L172 p2 (J l.length) rc S1 (J i)) Q
    unfold sM_sent_L172
    rw [if_neg (by rw [lit_0, J_lt (by omega) (by omega)]; omega)]
    refine Ev.loop (I := fun g x => x.2 = J g ∧ MFq S0 x.1 ∧ MWn x.1 l ∧ MTb x.1 u.2.1 l.length (stS u.1 r l) (i + 1) ∧ ∀ g', g' < g → x.1 19 (64 * i + g') = J (hvN 99999 (dpN u.2.1 l.length (stS u.1 r l) (l.length - i) g'))) (1 <<< u.2.1) ?_ ?_ ⟨rfl, h1, h2, h3, fun g' hg' => absurd hg' (Nat.not_lt_zero g')⟩ (by unfold FUEL; omega)
    · rintro g hg ⟨S26, v27⟩ ⟨h0, k1, k2, k3, k4⟩ rc2 hrc2
      simp only at h0 k1 k2 k3 k4
      subst h0
      show Ev (sM_sent_L180 (J i) rc rc2 S26 (J g)) Q
      have u1 := k1.k.rul hu
      have r1 := k1.k.row hr
      obtain ⟨fm, hfm⟩ : ∃ fm, fm = (fun w => if bitB g w = true then none else (dpN u.2.1 l.length (stS u.1 r l) (l.length - 1 - i) (g ||| 1 <<< w)).map (fun v => stS u.1 r l (l.length - 1 - (l.length - 1 - i)) w + v)) := ⟨_, rfl⟩
      have hdp : dpN u.2.1 l.length (stS u.1 r l) (l.length - i) g = mnN fm u.2.1 := by
        rw [show l.length - i = (l.length - 1 - i) + 1 by omega, dpN_s, hfm]
      have hmb : ∀ w, w ≤ u.2.1 → hvN 99999 (mnN fm w) ≤ 99999 := fun w hw => hvN_le (fun v e => mnN_le (B := 99999) (f := fm) (m := w) (fun w' x hw' hx => by
          rw [hfm] at hx
          dsimp only at hx
          split at hx
          · cases hx
          · cases hd : dpN u.2.1 l.length (stS u.1 r l) (l.length - 1 - i) (g ||| 1 <<< w') with
            | none => rw [hd] at hx; cases hx
            | some y =>
              rw [hd] at hx
              cases hx
              have := dpN_le hst (by omega) _ y hd
              have := hst (l.length - 1 - (l.length - 1 - i)) w' (by omega) (by omega)
              show stS u.1 r l (l.length - 1 - (l.length - 1 - i)) w' + y ≤ 99999
              omega) v e)
      unfold sM_sent_L180
      rw [u1.2.1, show (1 : Int32) = J 1 from rfl, J_shl (by omega), if_neg (by rw [J_le (by omega) (by omega)]; omega)]
      refine Ev.loop2 (i0 := 0) (fun w x => x = J (hvN 99999 (mnN fm w))) u.2.1 rfl (by omega) ?_ ?_ (by unfold FUEL; omega)
      · rintro w - hw v rfl rc3 hrc3
        unfold sM_sent_L199
        have e1 := bit_J (v := g) (k := w) (by omega) (by omega)
        rw [u1.2.1, if_neg (by rw [J_le (by omega) (by omega)]; omega), e1]
        cases hbit : bitB g w with
        | true =>
          rw [bit_t hbit, if_neg (by decide), show (1 : Int32) = J 1 from rfl, J_add]
          exact hrc3 _ (by rw [mn_skip (by rw [hfm]; dsimp only; rw [if_pos hbit])])
        | false =>
          have hor := (pop_or u.2.1 g w (by omega) (by omega) (by omega) hw hg).1
          have e2 := k3 (i + 1) (by omega) (by omega) (g ||| 1 <<< w) hor
          rw [show l.length - (i + 1) = l.length - 1 - i by omega] at e2
          have e3 := tM_byW u1 ho r1 hR (by omega) (hl i (by omega)) (k2 i (by omega)) hw (by omega) e2
          have hmn := hv_mn (D := 99999) (st := stS u.1 r l i w) (stf := stS u.1 r l) (k := l.length - 1 - i) (g := g) (w := w) (f := fm) (by omega) hst h6 (by omega) hw (by rw [show l.length - 1 - (l.length - 1 - i) = i by omega]) hfm hbit
          have hb5 := hmb w (by omega)
          have hsl := hst i w (by omega) hw
          have hdb : hvN 99999 (dpN u.2.1 l.length (stS u.1 r l) (l.length - 1 - i) (g ||| 1 <<< w)) ≤ 99999 := hvN_le (fun v e => by have := dpN_le hst (by omega) _ v e; omega)
          rw [bit_f hbit, if_pos j00, e3, callK_eq, tM_lesser (by omega) (by omega), callK_eq, hmn, show (1 : Int32) = J 1 from rfl, J_add]
          exact hrc3 _ rfl
      · rintro v rfl rc3
        unfold sM_sent_L199
        rw [u1.2.1, if_pos (Int32.le_refl _), lit_64, J_mul, J_add, gd (by omega) (by omega), letB_eq, J_tn (by omega), show (1 : Int32) = J 1 from rfl, J_add]
        refine hrc2 (_, J (g + 1)) ⟨rfl, k1.u (Or.inl rfl), fun i' hi' => ?_, fun i' h1 h2 g' hg' => ?_, fun g' hg' => ?_⟩
        · show u2 S26 19 (64 * i + g) (J (hvN 99999 (mnN fm u.2.1))) 20 i' = _
          rw [u2_row' (by omega)]; exact k2 i' hi'
        · show u2 S26 19 (64 * i + g) (J (hvN 99999 (mnN fm u.2.1))) 19 _ = _
          rw [u2_off (by omega)]; exact k3 i' h1 h2 g' hg'
        · show u2 S26 19 (64 * i + g) (J (hvN 99999 (mnN fm u.2.1))) 19 _ = _
          by_cases e : g' = g
          · rw [e, u2_at, hdp]
          · rw [u2_off (by omega)]; exact k4 g' (by omega)
    · rintro ⟨S26, v27⟩ ⟨h0, k1, k2, k3, k4⟩ rc2
      simp only at h0 k1 k2 k3 k4
      subst h0
      show Ev (sM_sent_L180 (J i) rc rc2 S26 (J (1 <<< u.2.1))) Q
      have u1 := k1.k.rul hu
      unfold sM_sent_L180
      rw [u1.2.1, add_m1, show (1 : Int32) = J 1 from rfl, J_shl (by omega), if_pos (Int32.le_refl _)]
      refine hrc (S26, J i - J 1) ⟨?_, k1, k2, fun i' h1 h2 g hg => ?_⟩
      · show J i - J 1 = _
        rw [show i = l.length - (t + 1) by omega]
      · by_cases e : i' = i
        · rw [e]; exact k4 g hg
        · exact k3 i' (by omega) h2 g hg
  · rintro ⟨S1, v16⟩ ⟨h0, h1, h2, h3⟩ rc
    simp only at h0 h1 h2 h3
    rw [Nat.sub_self] at h0 h3
    subst h0
    show Ev (sM_sent_L172 p2 (J l.length) rc S1 (J 0 - J 1)) Q
    unfold sM_sent_L172
    rw [if_pos (by decide)]
    exact hk S1 h1 h2 h3
/-- the Model's choice of one -/
theorem tM_pick {S0 S : US} {u : RU} {r : Nat → Nat} {l : List Nat} {s i g v : Nat} {d : Int32} {rc21 : (Int32 × Int32 × Int32) → Option (Int32 × US)} (hu : RulM S0 u) (ho : RuOk u) (hr : MRow S0 0 r) (hR : ROk u.1 u.2.1 r) (h6 : l.length ≤ 6) (hl : ∀ i, i < l.length → l.getD i 0 < u.1) (hF : MFq S0 S) (hW : MWn S l) (hT : MTb S u.2.1 l.length (stS u.1 r l) 0) (hi : i < l.length) (hg : g < 1 <<< u.2.1) (hv : dpN u.2.1 l.length (stS u.1 r l) (l.length - i) g = some v) (hw : dwN (cwN u.2.1 l.length (stS u.1 r l) i g) u.2.1 u.2.1 = some (whoN u.2.1 l.length (stS u.1 r l) g i)) (hs : s < 12) :
    loopK (fun rc (x : (Int32 × Int32)) => sM_sent_L303 (J s) S (J g) (J i) rc21 rc x.1 x.2) FUEL (d, J u.2.1 - J 1) = (if l.getD i 0 = s then some (J (whoN u.2.1 l.length (stS u.1 r l) g i), S) else rc21 (J (g ||| 1 <<< whoN u.2.1 l.length (stS u.1 r l) g i), J (whoN u.2.1 l.length (stS u.1 r l) g i), J (i + 1))) := by
  have hm6 := ho.2.2.1
  have ho12 := ho.2.1
  have h64 := shl6' (show u.2.1 < 7 by omega)
  have hst := stS_le (l := l) (N := l.length) ho12 hR.2.2 hl
  have hvb := dpN_le hst (by omega) _ v hv
  have hli := hl i hi
  have hwm := dwN_ok (Nat.le_refl u.2.1) _ hw
  have u1 := hF.k.rul hu
  have r1 := hF.k.row hr
  refine loop_up (fun t => (whJ d (dwN (cwN u.2.1 l.length (stS u.1 r l) i g) u.2.1 t), J (u.2.1 - t) - J 1)) u.2.1 (fun t ht rc => ?_) (fun rc => ?_) FUEL (by unfold FUEL; omega)
  · show sM_sent_L303 (J s) S (J g) (J i) rc21 rc _ (J (u.2.1 - t) - J 1) = rc (_, J (u.2.1 - (t + 1)) - J 1)
    obtain ⟨w, hwd⟩ : ∃ w, w = u.2.1 - 1 - t := ⟨_, rfl⟩
    rw [show J (u.2.1 - t) - J 1 = J w by rw [J_sub (by omega), hwd]; congr 1; omega, show u.2.1 - (t + 1) = w by omega, dwN_s, ← hwd]
    unfold sM_sent_L303
    have e1 := bit_J (v := g) (k := w) (by omega) (by omega)
    rw [if_neg (by rw [lit_0, J_lt (by omega) (by omega)]; omega), e1, add_m1]
    unfold cwN
    cases hbit : bitB g w with
    | true =>
      rw [bit_t hbit, if_neg (by decide)]
      rfl
    | false =>
      have hor := (pop_or u.2.1 g w (by omega) (by omega) (by omega) (by omega) hg).1
      have hsl := hst i w hi (by omega)
      have hdb : hvN 99999 (dpN u.2.1 l.length (stS u.1 r l) (l.length - i - 1) (g ||| 1 <<< w)) ≤ 99999 := hvN_le (fun v e => by have := dpN_le hst (by omega) _ v e; omega)
      have e2 := hT (i + 1) (by omega) (by omega) (g ||| 1 <<< w) hor
      have e3 := hT i (by omega) (by omega) g hg
      rw [hv] at e3
      rw [show l.length - (i + 1) = l.length - i - 1 by omega] at e2
      have hcmp := hv_cmp (D := 99999) (st := stS u.1 r l i w) (v := v) (d := dpN u.2.1 l.length (stS u.1 r l) (l.length - i - 1) (g ||| 1 <<< w)) (by omega) (by omega)
      have e4 := tM_byW u1 ho r1 hR (by omega) hli (hW i hi) (show w < u.2.1 by omega) (by omega) e2
      rw [bit_f hbit, if_pos j00, e4, callK_eq, lit_64, J_mul, J_add, gd (by omega) (by omega), J_tn (by omega), e3, hv]
      show (if J (stS u.1 r l i w + hvN 99999 (dpN u.2.1 l.length (stS u.1 r l) (l.length - i - 1) (g ||| 1 <<< w))) = J v then rc (J w, J w - J 1) else rc (_, J w - J 1)) = rc (whJ d (if (!false && decide ((dpN u.2.1 l.length (stS u.1 r l) (l.length - i - 1) (g ||| 1 <<< w)).map (fun v => stS u.1 r l i w + v) = some v)) = true then some w else _), J w - J 1)
      by_cases c : (dpN u.2.1 l.length (stS u.1 r l) (l.length - i - 1) (g ||| 1 <<< w)).map (fun v => stS u.1 r l i w + v) = some v
      · rw [if_pos (by rw [J_eq (by omega) (by omega)]; exact hcmp.mpr c), decide_eq_true c]
        rfl
      · rw [if_neg (by rw [J_eq (by omega) (by omega)]; exact fun z => c (hcmp.mp z)), decide_eq_false c]
        rfl
  · show sM_sent_L303 (J s) S (J g) (J i) rc21 rc _ (J (u.2.1 - u.2.1) - J 1) = _
    rw [Nat.sub_self, hw]
    unfold sM_sent_L303
    rw [if_pos (by decide), gd (by omega) (by omega), J_tn (by omega), hW i hi]
    show (if J (l.getD i 0) = J s then some (J (whoN u.2.1 l.length (stS u.1 r l) g i), S) else rc21 (J g ||| 1 <<< (J (whoN u.2.1 l.length (stS u.1 r l) g i) &&& 31), J (whoN u.2.1 l.length (stS u.1 r l) g i), J i + 1)) = _
    rw [show (1 : Int32) = J 1 from rfl, J_shl (by omega), J_or, J_add]
    by_cases c : l.getD i 0 = s
    · rw [if_pos (by rw [c]), if_pos c]
    · rw [if_neg (by rw [J_eq (by omega) (by omega)]; exact c), if_neg c]
