set_option maxRecDepth 100000
/-! THE PLAIN LAW, 35: whom to which, 5 -/
theorem shl12 {n : Nat} (h : n ≤ 12) : 1 ≤ 1 <<< n ∧ 1 <<< n ≤ 4096 := co_dec (P := fun w => 1 ≤ 1 <<< w ∧ 1 <<< w ≤ 4096) (N := 13) (by decide +kernel) (by omega)
theorem pop_n {v n d : Nat} (hv : v < 1 <<< n) : popN v (n + d) = popN v n := by
  induction d with
  | zero => rfl
  | succ d ih =>
    rw [← Nat.add_assoc, popN_s, ih]
    have : v >>> (n + d) = 0 := by
      rw [Nat.shiftRight_eq_div_pow]
      refine Nat.div_eq_of_lt (Nat.lt_of_lt_of_le hv ?_)
      rw [Nat.one_shiftLeft]
      exact Nat.pow_le_pow_right (by decide) (by omega)
    rw [this]
    rfl
theorem tH_answer {ct : CT} {ad : Nat → Nat} {P : Nat → Nat → Option Nat} {G : GS} {S : US} {u : RU} {r : Nat → Nat} {v : Nat} {p2 : Int32} (hb : Bd G) (hu : RulH ct P G.1 S u) (ho : RuOk u) (hr : HRow S 0 r) (hR : ROk u.1 u.2.1 r) (hv : v < 1 <<< u.1) (hp : popN v 12 ≤ 6) (hp2 : p2 = -J 1 ∨ ∃ s, s < u.1 ∧ p2 = J s ∧ bitB v s = true) (hm : Rm ct G 20 2000) : Ev (callK (s1_bitsOf ct ad P S G (J v)) (fun o11 => onR o11.1 (fun b12 => hL o11.2.1 b12 0 (fun v13 => callK (s2_women S P o11.2.1) (fun o14 => (if v13 ≤ o14 then callK (s1_leastTo ct ad P S o11.2 (some b12)) (fun o15 => onR o15.1 (fun b16 => (if p2 = (-1 : Int32) then hQ o15.2.1 b16 6 (0 : Int32) (fun r35 => onR r35 (fun b36 => hZ o15.2.1 b36 0 (0 : Int32) (fun v37 => some (v37, o15.2)))) else loopK (fun rc (x : (Int32 × Int32)) => s1_sent_L120 p2 S P b12 o15 b16 rc x.1 x.2) FUEL ((0 : Int32), (0 : Int32))))) else some ((-2 : Int32), o11.2))))))) (fun o => o.1 = (if (glN (bitB v) u.1).length ≤ u.2.1 then (if p2 = -J 1 then J ((dpN u.2.1 (glN (bitB v) u.1).length (stS u.1 r (glN (bitB v) u.1)) (glN (bitB v) u.1).length 0).getD 0) else ansN u.2.1 (glN (bitB v) u.1).length (stS u.1 r (glN (bitB v) u.1)) (glN (bitB v) u.1) p2.toNatClampNeg (glN (bitB v) u.1).length 0) else -2) ∧ Gr (fun _ => False) G o.2 20 2000) := by
  have hm6 := ho.2.2.1
  have ho12 := ho.2.1
  have h64 := shl6' (show u.2.1 < 7 by omega)
  have h12 := shl12 ho12
  have hpn : popN v u.1 = popN v 12 := by
    have := pop_n (d := 12 - u.1) hv
    rw [show u.1 + (12 - u.1) = 12 by omega] at this
    exact this.symm
  have hlen : (glN (bitB v) u.1).length ≤ 6 := by rw [gl_pop, hpn]; exact hp
  have hl : ∀ i, i < (glN (bitB v) u.1).length → (glN (bitB v) u.1).getD i 0 < u.1 := fun i hi => (glN_gd hi).1
  have hex : ∀ s, s < u.1 → bitB v s = true → ∃ i, i < (glN (bitB v) u.1).length ∧ (glN (bitB v) u.1).getD i 0 = s := fun s h1 h2 => gl_find h1 h2
  refine Ev.call (tH_bitsOf hb hu.1 ho12 hv hp (by omega) hpn (hm.le (by omega) (by omega))) (fun o11 h11 => ?_)
  obtain ⟨x1, ⟨f, x2, x3⟩, x4⟩ := h11
  generalize hL : glN (bitB v) u.1 = l at *
  have hu1 := hu.sub x4.sub
  have hb1 := x4.2.2.2.1 hb
  rw [x1, onR_eq, hL_eq x2, tH_women hu1, callK_eq]
  by_cases c : l.length ≤ u.2.1
  · rw [if_pos (by rw [J_le (by omega) (by omega)]; exact c), if_pos c]
    refine Ev.call (tH_leastTo hb1 hu1 ho hr hR hlen hl x2 x3 (Rm.gr (hm.le (by omega) (by omega)) x4)) (fun o15 h15 => ?_)
    obtain ⟨y1, ⟨T, y2, y3⟩, y4⟩ := h15
    have hgr := (x4.tr y4).le (c' := 20) (z' := 2000) (by omega) (by omega)
    obtain ⟨v0, hv0⟩ := dpN_fin (N := l.length) (st := stS u.1 r l) (k := l.length) (show u.2.1 < 7 by omega) 0 (by omega) (by
      have key : ∀ k, popN 0 k = 0 := fun k => by
        induction k with
        | zero => rfl
        | succ k ih => rw [popN_s, ih, Nat.zero_shiftRight]
      rw [key]; omega)
    rw [y1, onR_eq]
    rcases hp2 with hp2 | ⟨s, s1, s2, s3⟩
    · rw [if_pos (show p2 = (-1 : Int32) from hp2), if_pos hp2, lit_0, hQ_eq y2.1 (by omega) (by omega), if_pos (by omega), onR_eq, hZ_eq (y2.2 0 (by omega)) (by omega) (by omega), y3 0 (by omega) 0 (by omega), Nat.sub_zero, hv0]
      exact ⟨_, rfl, rfl, hgr⟩
    · have hne : ¬ p2 = -J 1 := by rw [s2, J_neg (by omega)]; exact fun z => z
      rw [if_neg (show ¬ p2 = (-1 : Int32) from hne), if_neg hne, s2, J_tn (by omega)]
      have hst := stS_le (l := l) (N := l.length) ho12 hR.2.2 hl
      obtain ⟨i0, z1, z2⟩ := hex s s1 s3
      refine Ev.loop (I := fun i x => x = (J (gnN u.2.1 l.length (stS u.1 r l) i), J i) ∧ (∀ i', i' < i → l.getD i' 0 ≠ s) ∧ ansN u.2.1 l.length (stS u.1 r l) l s l.length 0 = ansN u.2.1 l.length (stS u.1 r l) l s (l.length - i) i) l.length ?_ ?_ ⟨rfl, fun i' h => absurd h (Nat.not_lt_zero i'), rfl⟩ (by unfold FUEL; omega)
      · rintro i hi x ⟨rfl, k1, k2⟩ rc hrc
        obtain ⟨g1, g2⟩ := gn_ok (st := stS u.1 r l) (i := i) (show u.2.1 < 7 by omega) c (by omega)
        obtain ⟨w1, w2, w3⟩ := who_ok (st := stS u.1 r l) (show u.2.1 < 7 by omega) hi g1 (by omega)
        obtain ⟨vv, hvv⟩ := dpN_fin (N := l.length) (st := stS u.1 r l) (k := l.length - i) (show u.2.1 < 7 by omega) _ g1 (by omega)
        have hu15 := hu1.sub y4.sub
        show Ev (s1_sent_L120 (J s) S P G.2.1 o15 o11.2.2.1 rc (J (gnN u.2.1 l.length (stS u.1 r l) i)) (J i)) _
        have e9 := tH_pick (s := s) (rc19 := rc) (o15 := o15) (G := o15.2) rfl hu.1 ho hr hR rfl hlen hl (y4.sub _ _ x2) x3 y2 y3 hi g1 hvv w1 (by omega)
        have hans : ansN u.2.1 l.length (stS u.1 r l) l s (l.length - i) i = if l.getD i 0 = s then J (whoN u.2.1 l.length (stS u.1 r l) (gnN u.2.1 l.length (stS u.1 r l) i) i) else ansN u.2.1 l.length (stS u.1 r l) l s (l.length - (i + 1)) (i + 1) := by
          rw [show l.length - i = (l.length - (i + 1)) + 1 by omega, ansN_s]
        unfold s1_sent_L120
        rw [hL_eq (y4.sub _ _ x2), if_neg (by rw [J_le (by omega) (by omega)]; omega), tH_women hu15, callK_eq]
        rw [show (J u.2.1 : Int32) - (1 : Int32) = J u.2.1 - J 1 from rfl, e9]
        by_cases cc : l.getD i 0 = s
        · rw [if_pos cc]
          refine ⟨_, rfl, ?_, hgr⟩
          rw [k2, hans, if_pos cc]
        · rw [if_neg cc]
          refine hrc _ ⟨by rw [gnN_s], fun i' hi' => ?_, ?_⟩
          · by_cases e : i' = i
            · rw [e]; exact cc
            · exact k1 i' (by omega)
          · rw [k2, hans, if_neg cc]
      · rintro x ⟨rfl, k1, k2⟩ rc
        exact absurd z2 (k1 i0 z1)
  · rw [if_neg (by rw [J_le (by omega) (by omega)]; exact c), if_neg c]
    exact ⟨_, rfl, rfl, x4.le (by omega) (by omega)⟩
theorem tM_answer {S2 : US} {u : RU} {r : Nat → Nat} {v : Nat} {p1 p2 : Int32} (hM : RulM (Z0 S2) u) (ho : RuOk u) (hMr : MRow (Z0 S2) 0 r) (hR : ROk u.1 u.2.1 r) (hv : v < 1 <<< u.1) (hp1 : p1 = J v) (hlen : (glN (bitB v) u.1).length ≤ 6) (w1 : p2 = -J 1 ∨ ∃ s, s < u.1 ∧ p2 = J s ∧ bitB v s = true) : Ev (loopK (fun rc (x : (US × Int32 × Int32)) => sM_sent_L89 p1 p2 rc x.1 x.2.1 x.2.2) FUEL (Z0 S2, (0 : Int32), (0 : Int32))) (fun o => o.1 = (if (glN (bitB v) u.1).length ≤ u.2.1 then (if p2 = -J 1 then J ((dpN u.2.1 (glN (bitB v) u.1).length (stS u.1 r (glN (bitB v) u.1)) (glN (bitB v) u.1).length 0).getD 0) else ansN u.2.1 (glN (bitB v) u.1).length (stS u.1 r (glN (bitB v) u.1)) (glN (bitB v) u.1) p2.toNatClampNeg (glN (bitB v) u.1).length 0) else -2) ∧ o.2 0 0 = J 0 ∧ KeepM S2 o.2) := by
  have ho12 := ho.2.1
  have hm6 := ho.2.2.1
  have h64 := shl6' (show u.2.1 < 7 by omega)
  have h12 := shl12 ho12
  have hl : ∀ i, i < (glN (bitB v) u.1).length → (glN (bitB v) u.1).getD i 0 < u.1 := fun i hi => (glN_gd hi).1
  obtain ⟨l, hL⟩ : ∃ l, l = glN (bitB v) u.1 := ⟨_, rfl⟩
  rw [← hL] at hlen hl ⊢
  refine Ev.loop (I := fun k x => x.2.1 = J (glN (bitB v) k).length ∧ x.2.2 = J k ∧ MFq (Z0 S2) x.1 ∧ MWn x.1 (glN (bitB v) k)) u.1 ?_ ?_ ⟨rfl, rfl, MFq.rf, fun i hi => absurd hi (Nat.not_lt_zero i)⟩ (by unfold FUEL; omega)
  · rintro k hk ⟨S8, v9, v10⟩ ⟨h1, h2, h3, h4⟩ rc hrc
    simp only at h1 h2 h3 h4
    subst h1
    subst h2
    have u8 := h3.k.rul hM
    have hkl : (glN (bitB v) k).length ≤ 12 := by have := glN_len (p := bitB v) (g := k); omega
    have n4 : ((p1 >>> (J k &&& 31)) &&& (1 : Int32)) = J ((v >>> k) % 2) := by rw [hp1]; exact bit_J (by omega) (by omega)
    show Ev (sM_sent_L89 p1 p2 rc S8 (J (glN (bitB v) k).length) (J k)) _
    unfold sM_sent_L89
    rw [u8.1, if_neg (by rw [J_le (by omega) (by omega)]; omega), n4, show (1 : Int32) = J 1 from rfl, J_add, J_add]
    cases hb : bitB v k with
    | false =>
      rw [bit_f hb, if_pos j00]
      exact hrc (S8, _, _) ⟨by rw [glN_f hb], rfl, h3, by rw [glN_f hb]; exact h4⟩
    | true =>
      have hlt : (glN (bitB v) k).length < 6 := by
        have key : ∀ d, popN v (k + 1) ≤ popN v (k + 1 + d) := fun d => by
          induction d with
          | zero => exact Nat.le_refl _
          | succ d ih => exact Nat.le_trans ih (Nat.le_add_right _ _)
        have h5 := key (u.1 - (k + 1))
        rw [show k + 1 + (u.1 - (k + 1)) = u.1 by omega, ← gl_pop, ← gl_pop, glN_t hb, List.length_append, ← hL] at h5
        have h5 : (glN (bitB v) k).length + 1 ≤ l.length := h5
        omega
      rw [bit_t hb, if_neg (by decide), gd (by omega) (by omega), letB_eq, J_tn (by omega)]
      refine hrc (u2 S8 20 (glN (bitB v) k).length (J k), J ((glN (bitB v) k).length + 1), J (k + 1)) ⟨by rw [glN_t hb, List.length_append]; rfl, rfl, h3.u (Or.inr rfl), ?_⟩
      rw [glN_t hb]
      intro i hi
      rw [List.length_append] at hi
      have hi : i < (glN (bitB v) k).length + 1 := hi
      by_cases e : i = (glN (bitB v) k).length
      · rw [e, gdA2]; exact u2_at
      · rw [gdA1 (by omega)]
        exact (u2_off (by omega)).trans (h4 i (by omega))
  · rintro ⟨S8, v9, v10⟩ ⟨h1, h2, h3, h4⟩ rc
    simp only at h1 h2 h3 h4
    rw [← hL] at h1 h4
    subst h1
    subst h2
    have u8 := h3.k.rul hM
    show Ev (sM_sent_L89 p1 p2 rc S8 (J l.length) (J u.1)) _
    unfold sM_sent_L89
    rw [u8.1, if_pos (Int32.le_refl _), u8.2.1]
    have hend : ∀ S', MFq (Z0 S2) S' → S' 0 0 = J 0 ∧ KeepM S2 S' := fun S' h => ⟨by rw [h 0 (by decide) (by decide)]; exact Z0_0, Z0_k.tr h.k⟩
    by_cases c : l.length ≤ u.2.1
    · rw [if_pos (by rw [J_le (by omega) (by omega)]; exact c), if_pos c]
      refine Ev.loop2 (i0 := 0) (fun g x => MFq (Z0 S2) x ∧ MWn x l ∧ ∀ g', g' < g → x 19 (64 * l.length + g') = J 0) 64 ⟨h3, h4, fun g' hg' => absurd hg' (Nat.not_lt_zero g')⟩ (by omega) ?_ ?_ (by unfold FUEL; omega)
      · rintro g - hg S12 ⟨k1, k2, k3⟩ rc2 hrc2
        unfold sM_sent_L141
        rw [if_neg (by rw [lit_64, J_le (by omega) (by omega)]; omega), lit_64, J_mul, J_add, gd (by omega) (by omega), letB_eq, J_tn (by omega), show (1 : Int32) = J 1 from rfl, J_add]
        refine hrc2 _ ⟨k1.u (Or.inl rfl), fun i hi => (by rw [u2_row' (by omega)]; exact k2 i hi), fun g' hg' => ?_⟩
        by_cases e : g' = g
        · rw [e, u2_at]; rfl
        · rw [u2_off (by omega)]; exact k3 g' (by omega)
      · rintro S12 ⟨k1, k2, k3⟩ rc2
        unfold sM_sent_L141
        rw [if_pos (show (64 : Int32) ≤ J 64 from Int32.le_refl _)]
        refine tM_dp hM ho hMr hR hlen hl k1 k2 (fun i h1 h2 g hg => ?_) (fun S' y1 y2 y3 => ?_)
        · have : i = l.length := by omega
          subst this
          rw [Nat.sub_self]
          exact k3 g (by omega)
        · obtain ⟨v0, hv0⟩ := dpN_fin (N := l.length) (st := stS u.1 r l) (k := l.length) (show u.2.1 < 7 by omega) 0 (by omega) (by
            have key : ∀ k, popN 0 k = 0 := fun k => by
              induction k with
              | zero => rfl
              | succ k ih => rw [popN_s, ih, Nat.zero_shiftRight]
            rw [key]; omega)
          rcases w1 with hp2 | ⟨s, z1, z2, z3⟩
          · have := y3 0 (by omega) (by omega) 0 (by omega)
            rw [Nat.sub_zero, hv0] at this
            rw [if_pos (show p2 = (-1 : Int32) from hp2), if_pos hp2, if_neg (by decide), hv0]
            exact ⟨_, rfl, this, hend S' y1⟩
          · have hne : ¬ p2 = -J 1 := by rw [z2, J_neg (by omega)]; exact fun z => z
            rw [if_neg (show ¬ p2 = (-1 : Int32) from hne), if_neg hne, z2, J_tn (by omega)]
            obtain ⟨i0, x1, x2⟩ := gl_find (n := u.1) z1 z3
            rw [← hL] at x1 x2
            have u9 := y1.k.rul hM
            refine Ev.loop (I := fun i x => x.1 = J (gnN u.2.1 l.length (stS u.1 r l) i) ∧ x.2.2 = J i ∧ (∀ i', i' < i → l.getD i' 0 ≠ s) ∧ ansN u.2.1 l.length (stS u.1 r l) l s l.length 0 = ansN u.2.1 l.length (stS u.1 r l) l s (l.length - i) i) l.length ?_ ?_ ⟨rfl, rfl, fun i' h => absurd h (Nat.not_lt_zero i'), rfl⟩ (by unfold FUEL; omega)
            · rintro i hi ⟨v18, v19, v20⟩ ⟨h1, h2, q1, q2⟩ rc3 hrc3
              simp only at h1 h2 q1 q2
              subst h1
              subst h2
              obtain ⟨g1, g2⟩ := gn_ok (st := stS u.1 r l) (i := i) (show u.2.1 < 7 by omega) c (by omega)
              obtain ⟨ww1, ww2, ww3⟩ := who_ok (st := stS u.1 r l) (show u.2.1 < 7 by omega) hi g1 (by omega)
              obtain ⟨vv, hvv⟩ := dpN_fin (N := l.length) (st := stS u.1 r l) (k := l.length - i) (show u.2.1 < 7 by omega) _ g1 (by omega)
              have e9 := tM_pick (s := s) (d := v19) (rc21 := rc3) hM ho hMr hR hlen hl y1 y2 y3 hi g1 hvv ww1 (by omega)
              have hans : ansN u.2.1 l.length (stS u.1 r l) l s (l.length - i) i = if l.getD i 0 = s then J (whoN u.2.1 l.length (stS u.1 r l) (gnN u.2.1 l.length (stS u.1 r l) i) i) else ansN u.2.1 l.length (stS u.1 r l) l s (l.length - (i + 1)) (i + 1) := by
                rw [show l.length - i = (l.length - (i + 1)) + 1 by omega, ansN_s]
              show Ev (sM_sent_L289 (J s) (J l.length) S' rc3 (J (gnN u.2.1 l.length (stS u.1 r l) i)) v19 (J i)) _
              unfold sM_sent_L289
              rw [if_neg (by rw [J_le (by omega) (by omega)]; omega), u9.2.1, show (J u.2.1 : Int32) - (1 : Int32) = J u.2.1 - J 1 from rfl, e9]
              by_cases cc : l.getD i 0 = s
              · rw [if_pos cc]
                refine ⟨_, rfl, ?_, hend S' y1⟩
                rw [q2, hans, if_pos cc]
              · rw [if_neg cc]
                refine hrc3 (_, _, _) ⟨by rw [gnN_s], rfl, fun i' hi' => ?_, ?_⟩
                · by_cases e : i' = i
                  · rw [e]; exact cc
                  · exact q1 i' (by omega)
                · rw [q2, hans, if_neg cc]
            · rintro ⟨v18, v19, v20⟩ ⟨h1, h2, q1, q2⟩ rc3
              exact absurd x2 (q1 i0 x1)
    · rw [if_neg (by rw [J_le (by omega) (by omega)]; exact c), if_neg c]
      exact ⟨_, rfl, rfl, hend S8 h3⟩
