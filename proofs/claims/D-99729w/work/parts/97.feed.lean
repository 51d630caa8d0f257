set_option maxRecDepth 100000
/-! THE PLAIN LAW, 26: feed, fault -/
theorem byt_ex (x : Int32) : ∃ b, b < 256 ∧ x &&& J 255 = J b ∧ vp_nar .byte x.toInt8.toInt32 = sbJ b := by
  refine ⟨x.toBitVec.toNat % 256, Nat.mod_lt _ (by decide), ?_, ?_⟩
  · apply Int32.toBitVec_inj.mp
    rw [Int32.toBitVec_and, J_bv, J_bv]
    apply BitVec.eq_of_toNat_eq
    rw [BitVec.toNat_and, BitVec.toNat_ofNat, BitVec.toNat_ofNat, show 255 % 2 ^ 32 = 2 ^ 8 - 1 from rfl, Nat.and_two_pow_sub_one_eq_mod]
    have : x.toBitVec.toNat % 256 < 2 ^ 32 := Nat.lt_trans (Nat.mod_lt _ (by decide)) (by decide)
    rw [Nat.mod_eq_of_lt this]
  · rw [vp_nar_byte]
    unfold sbJ
    have e : x.toInt8 = (J (x.toBitVec.toNat % 256)).toInt8 := by
      apply Int8.toBitVec_inj.mp
      show x.toBitVec.signExtend 8 = (J (x.toBitVec.toNat % 256)).toBitVec.signExtend 8
      rw [BitVec.signExtend_eq_setWidth_of_le _ (by decide), BitVec.signExtend_eq_setWidth_of_le _ (by decide), J_bv]
      apply BitVec.eq_of_toNat_eq
      simp
    have e2 : x.toInt8.toInt32.toInt8 = x.toInt8 := Int8.toInt8_toInt32 _
    rw [e2, e]
def shN (i : Nat) : Int32 := if i < 4 then J (24 - 8 * i) else -8
theorem shN_s {i : Nat} (h : i < 4) : shN i + (-8 : Int32) = shN (i + 1) := co_dec (P := fun i => shN i + (-8 : Int32) = shN (i + 1)) (N := 4) (by decide +kernel) h
theorem shN_nn {i : Nat} (h : i < 4) : ¬ shN i < 0 := co_dec (P := fun i => ¬ shN i < 0) (N := 4) (by decide +kernel) h
theorem tM_lays {S : US} {t : Nat} {v : Int32} (ht : S 0 12 = J t) (h7 : t + 4 ≤ 700) : Ev (sM_lays S v) (fun S' => S' 0 12 = J (t + 4) ∧ (∀ i, i < 4 → S' 5 (t + i) = (v >>> (J (24 - 8 * i) &&& 31)) &&& J 255) ∧ (∀ k, k < t → S' 5 k = S 5 k) ∧ (∀ k, k ≠ 12 → S' 0 k = S 0 k) ∧ ∀ a, a ≠ 0 → a ≠ 5 → S' a = S a) := by
  unfold sM_lays
  refine Ev.loop (I := fun i x => x.2 = shN i ∧ x.1 0 12 = J (t + i) ∧ (∀ k, k < i → x.1 5 (t + k) = (v >>> (J (24 - 8 * k) &&& 31)) &&& J 255) ∧ (∀ k, k < t → x.1 5 k = S 5 k) ∧ (∀ k, k ≠ 12 → x.1 0 k = S 0 k) ∧ ∀ a, a ≠ 0 → a ≠ 5 → x.1 a = S a) 4 ?_ ?_ ⟨rfl, ht, fun k hk => absurd hk (Nat.not_lt_zero k), fun _ _ => rfl, fun _ _ => rfl, fun _ _ _ => rfl⟩ (by unfold FUEL; omega)
  · rintro i hi ⟨S1, v2⟩ ⟨h0, h1, h2, h3, h4, h5⟩ rc hrc
    simp only at h0 h1 h2 h3 h4 h5
    subst h0
    have hs : shN i = J (24 - 8 * i) := if_pos hi
    show Ev (sM_lays_L3 v rc S1 (shN i)) _
    unfold sM_lays_L3
    rw [if_neg (shN_nn hi), h1, gd (by omega) (by omega), letB_eq, letB_eq, J_tn (by omega), shN_s hi]
    refine hrc _ ⟨rfl, ?_, fun k hk => ?_, fun k hk => ?_, fun k hk => ?_, fun a ha hb => ?_⟩
    · dsimp only
      rw [u2_at, u2_row' (by omega), h1, lit_1, J_add]
      rfl
    · dsimp only
      rw [u2_row' (by omega)]
      by_cases e : k = i
      · subst e; rw [u2_at, hs]; rfl
      · rw [u2_off (by omega)]; exact h2 k (by omega)
    · dsimp only
      rw [u2_row' (by omega), u2_off (by omega)]; exact h3 k hk
    · dsimp only
      rw [u2_off (by omega), u2_row' (by omega)]; exact h4 k hk
    · dsimp only
      rw [u2_row _ _ _ _ ha, u2_row _ _ _ _ hb]; exact h5 a ha hb
  · rintro ⟨S1, v2⟩ ⟨h0, h1, h2, h3, h4, h5⟩ rc
    simp only at h0 h1 h2 h3 h4 h5
    subst h0
    show Ev (sM_lays_L3 v rc S1 (shN 4)) _
    unfold sM_lays_L3
    rw [if_pos (by decide)]
    exact ⟨_, rfl, h1, h2, h3, h4, h5⟩
def wdN (p1 p2 p3 p4 p5 : Int32) (i : Nat) : Int32 := if i < 4 then p1 else if i < 8 then p2 else if i < 12 then p3 else if i < 16 then p4 else p5
def byX (p1 p2 p3 p4 p5 : Int32) (i : Nat) : Int32 := wdN p1 p2 p3 p4 p5 i >>> (J (24 - 8 * (i % 4)) &&& 31)
theorem tH_feed {S : US} {t : Nat} {p1 p2 p3 p4 p5 : Int32} (ht : S 0 6 = J t) (h7 : t + 20 ≤ 700) : Ev (s1_feed S p1 p2 p3 p4 p5) (fun o => o.1 = J (t + 20) ∧ o.2 0 6 = J (t + 20) ∧ (∀ i, i < 20 → o.2 3 (t + i) = vp_nar .byte (byX p1 p2 p3 p4 p5 i).toInt8.toInt32) ∧ (∀ k, k < t → o.2 3 k = S 3 k) ∧ (∀ k, k ≠ 6 → o.2 0 k = S 0 k) ∧ ∀ a, a ≠ 0 → a ≠ 3 → o.2 a = S a) := by
  unfold s1_feed
  rw [ht]
  rw [if_pos (by rw [lit_20, J_add, show (700 : Int32) = J 700 from rfl, J_le (by omega) (by omega)]; exact h7)]
  refine Ev.loop2 (i0 := 0) (fun i x => x 0 = S 0 ∧ (∀ k, k < i → x 3 (t + k) = vp_nar .byte (byX p1 p2 p3 p4 p5 k).toInt8.toInt32) ∧ (∀ k, k < t → x 3 k = S 3 k) ∧ ∀ a, a ≠ 3 → x a = S a) 20 ⟨rfl, fun k hk => absurd hk (Nat.not_lt_zero k), fun _ _ => rfl, fun _ _ => rfl⟩ (by omega) ?_ ?_ (by unfold FUEL; omega)
  · rintro i - hi S1 ⟨h1, h2, h3, h4⟩ rc hrc
    have hJ : ∀ y, y = wdN p1 p2 p3 p4 p5 i → Ev (s1_feed_J71 S1 (J i) rc y) (fun o => o.1 = J (t + 20) ∧ o.2 0 6 = J (t + 20) ∧ (∀ i, i < 20 → o.2 3 (t + i) = vp_nar .byte (byX p1 p2 p3 p4 p5 i).toInt8.toInt32) ∧ (∀ k, k < t → o.2 3 k = S 3 k) ∧ (∀ k, k ≠ 6 → o.2 0 k = S 0 k) ∧ ∀ a, a ≠ 0 → a ≠ 3 → o.2 a = S a) := by
      rintro y rfl
      have h6 : S1 0 6 = J t := by rw [h1]; exact ht
      unfold s1_feed_J71
      rw [h6, J_add, gd (by omega) (by omega), letB_eq, J_tn (by omega), show (4 : Int32) = J 4 from rfl, J_mod (by omega) (by omega), show (8 : Int32) = J 8 from rfl, J_mul, show (24 : Int32) = J 24 from rfl, J_sub (by omega), show (1 : Int32) = J 1 from rfl, J_add]
      refine hrc _ ⟨?_, fun k hk => ?_, fun k hk => ?_, fun a ha => ?_⟩
      · rw [u2_row' (by omega)]; exact h1
      · by_cases e : k = i
        · subst e; rw [u2_at]; rfl
        · rw [u2_off (by omega)]; exact h2 k (by omega)
      · rw [u2_off (by omega)]; exact h3 k hk
      · rw [u2_row _ _ _ _ ha]; exact h4 a ha
    unfold s1_feed_L18
    simp (disch := omega) only [lit_0, lit_1, lit_2, lit_3, lit_4, lit_5, lit_6, lit_7, lit_8, lit_9, lit_10, lit_11, lit_12, lit_13, lit_14, lit_15, lit_20, lit_24, lit_25, lit_37, lit_40, lit_43, lit_48, lit_49, lit_50, lit_60, lit_96, lit_98, lit_99, lit_100, lit_999, lit_62, lit_74, lit_86, lit_92, lit_99999, lit_100000, lit_16, lit_32767, lit_2147483639, J_add, J_mul, J_sub, J_tn, J_le, J_lt, J_eq, Nat.not_lt_zero, false_or, or_false, le_t, le_f, lt_t, lt_f, eq_f, ↓reduceIte, callK_eq, letB_eq, joinB_eq, Nat.add_assoc]
    by_cases k4 : 4 ≤ i
    · by_cases k8 : 8 ≤ i
      · by_cases k12 : 12 ≤ i
        · by_cases k16 : 16 ≤ i
          · simp only [k4, k8, k12, k16, ↓reduceIte]
            exact hJ _ (by unfold wdN; rw [if_neg (by omega), if_neg (by omega), if_neg (by omega), if_neg (by omega)])
          · simp only [k4, k8, k12, k16, ↓reduceIte]
            exact hJ _ (by unfold wdN; rw [if_neg (by omega), if_neg (by omega), if_neg (by omega), if_pos (by omega)])
        · simp only [k4, k8, k12, ↓reduceIte]
          exact hJ _ (by unfold wdN; rw [if_neg (by omega), if_neg (by omega), if_pos (by omega)])
      · simp only [k4, k8, ↓reduceIte]
        exact hJ _ (by unfold wdN; rw [if_neg (by omega), if_pos (by omega)])
    · simp only [k4, ↓reduceIte]
      exact hJ _ (by unfold wdN; rw [if_pos (by omega)])
  · rintro S1 ⟨h1, h2, h3, h4⟩ rc
    have h6 : S1 0 6 = J t := by rw [h1]; exact ht
    unfold s1_feed_L18
    simp (disch := omega) only [lit_0, lit_1, lit_2, lit_3, lit_4, lit_5, lit_6, lit_7, lit_8, lit_9, lit_10, lit_11, lit_12, lit_13, lit_14, lit_15, lit_20, lit_24, lit_25, lit_37, lit_40, lit_43, lit_48, lit_49, lit_50, lit_60, lit_96, lit_98, lit_99, lit_100, lit_999, lit_62, lit_74, lit_86, lit_92, lit_99999, lit_100000, lit_16, lit_32767, lit_2147483639, J_add, J_mul, J_sub, J_tn, J_le, J_lt, J_eq, Nat.not_lt_zero, false_or, or_false, le_t, le_f, lt_t, lt_f, eq_f, ↓reduceIte, callK_eq, letB_eq, joinB_eq, Nat.add_assoc, h6, u2_at]
    refine ⟨_, rfl, rfl, (u2_at : u2 S1 0 6 (J (t + 20)) 0 6 = J (t + 20)), fun i hi => ?_, fun k hk => ?_, fun k hk => ?_, fun a ha hb => ?_⟩
    · show u2 S1 0 6 (J (t + 20)) 3 (t + i) = _; rw [u2_row' (by omega)]; exact h2 i hi
    · show u2 S1 0 6 (J (t + 20)) 3 k = _; rw [u2_row' (by omega)]; exact h3 k hk
    · show u2 S1 0 6 (J (t + 20)) 0 k = _; rw [u2_off (by omega), h1]
    · show u2 S1 0 6 (J (t + 20)) a = _; rw [u2_row _ _ _ _ ha]; exact h4 a hb
theorem tM_feed {S : US} {t : Nat} {p1 p2 p3 p4 p5 : Int32} (ht : S 0 12 = J t) (h7 : t + 20 ≤ 700) : Ev (sM_feed S p1 p2 p3 p4 p5) (fun o => o.1 = J (t + 20) ∧ o.2 0 12 = J (t + 20) ∧ (∀ i, i < 20 → o.2 5 (t + i) = byX p1 p2 p3 p4 p5 i &&& J 255) ∧ (∀ k, k < t → o.2 5 k = S 5 k) ∧ (∀ k, k ≠ 0 → k ≠ 12 → o.2 0 k = S 0 k) ∧ ∀ a, a ≠ 0 → a ≠ 5 → o.2 a = S a) := by
  have hz : Z0 S 0 12 = J t := by unfold Z0; rw [u2_off (by omega)]; exact ht
  unfold sM_feed
  rw [letB_eq]
  show Ev (if Z0 S 0 12 + (20 : Int32) ≤ (700 : Int32) then _ else _) _
  rw [hz, if_pos (by rw [lit_20, J_add, show (700 : Int32) = J 700 from rfl, J_le (by omega) (by omega)]; exact h7)]
  refine Ev.call (tM_lays hz (by omega)) (fun S1 a => ?_)
  refine Ev.call (tM_lays a.1 (by omega)) (fun S2 b => ?_)
  refine Ev.call (tM_lays b.1 (by omega)) (fun S3 c => ?_)
  refine Ev.call (tM_lays c.1 (by omega)) (fun S4 d => ?_)
  refine Ev.call (tM_lays d.1 (by omega)) (fun S5 e => ?_)
  refine ⟨_, rfl, e.1, e.1, fun i hi => ?_, fun k hk => ?_, fun k hk h0 => ?_, fun x hx h5 => ?_⟩
  · show S5 5 (t + i) = _
    unfold byX wdN
    by_cases k4 : i < 4
    · rw [if_pos k4, e.2.2.1 _ (by omega), d.2.2.1 _ (by omega), c.2.2.1 _ (by omega), b.2.2.1 _ (by omega), a.2.1 i k4, show i % 4 = i by omega]
    · rw [if_neg k4]
      by_cases k8 : i < 8
      · have := b.2.1 (i - 4) (by omega)
        rw [show t + 4 + (i - 4) = t + i by omega] at this
        rw [if_pos k8, e.2.2.1 _ (by omega), d.2.2.1 _ (by omega), c.2.2.1 _ (by omega), this, show i % 4 = i - 4 by omega]
      · rw [if_neg k8]
        by_cases k12 : i < 12
        · have := c.2.1 (i - 8) (by omega)
          rw [show t + 4 + 4 + (i - 8) = t + i by omega] at this
          rw [if_pos k12, e.2.2.1 _ (by omega), d.2.2.1 _ (by omega), this, show i % 4 = i - 8 by omega]
        · rw [if_neg k12]
          by_cases k16 : i < 16
          · have := d.2.1 (i - 12) (by omega)
            rw [show t + 4 + 4 + 4 + (i - 12) = t + i by omega] at this
            rw [if_pos k16, e.2.2.1 _ (by omega), this, show i % 4 = i - 12 by omega]
          · have := e.2.1 (i - 16) (by omega)
            rw [show t + 4 + 4 + 4 + 4 + (i - 16) = t + i by omega] at this
            rw [if_neg k16, this, show i % 4 = i - 16 by omega]
  · show S5 5 k = _
    rw [e.2.2.1 _ (by omega), d.2.2.1 _ (by omega), c.2.2.1 _ (by omega), b.2.2.1 _ (by omega), a.2.2.1 k hk]
    rw [u2_row' (by omega)]
  · show S5 0 k = _
    rw [e.2.2.2.1 k h0, d.2.2.2.1 k h0, c.2.2.2.1 k h0, b.2.2.2.1 k h0, a.2.2.2.1 k h0]
    rw [u2_off (by omega)]
  · show S5 x = _
    rw [e.2.2.2.2 x hx h5, d.2.2.2.2 x hx h5, c.2.2.2.2 x hx h5, b.2.2.2.2 x hx h5, a.2.2.2.2 x hx h5]
    rw [u2_row _ _ _ _ hx]
theorem R_feed {ct : CT} {a0 q0 j : Nat} {S : US} {G : GS} {P : Nat → Nat → Option Nat} {ad : Nat → Nat} {S2 : US} {u : RU} {r : Nat → Nat} {q1 e1 c1 : Nat} {f1 : Nat → Option Nat} {R1 : Nat → Nat → Nat} {q2 e2 c2 : Nat} {f2 : Nat → Option Nat} {sn : Nat → Nat} {t : Nat} (hj : j < 24) (H : InvD ct a0 q0 j S G P ad S2 u r q1 e1 c1 f1 R1 q2 e2 c2 f2 sn t) (p1 p2 p3 p4 p5 : Int32) : ∃ os om, s1_feed S p1 p2 p3 p4 p5 = some os ∧ sM_feed S2 p1 p2 p3 p4 p5 = some om ∧ os.1 = om.1 ∧ Inv ct a0 q0 (j + 1) os.2 G P ad om.2 := by
  obtain ⟨⟨h1, h2, h3, h4, h5, h6⟩, hC, hA, hI, hT, hF, hW, hIm⟩ := H
  obtain ⟨t1, t2, t3⟩ := hT
  obtain ⟨os, o1, o2, o3, o4, o5, o6, o7⟩ := tH_feed (p1 := p1) (p2 := p2) (p3 := p3) (p4 := p4) (p5 := p5) t1 (by omega)
  obtain ⟨om, m1, m2, m3, m4, m5, m6, m7⟩ := tM_feed (p1 := p1) (p2 := p2) (p3 := p3) (p4 := p4) (p5 := p5) t2 (by omega)
  have hb : Sub (cutI ct q0 q1 e1 q2 e2 G.1) (cutI ct q0 q1 e1 q2 e2 G.1) := Sub.rf
  have hg : Gr (fun _ => False) G G 0 0 := Gr.rf
  refine ⟨os, om, o1, m1, o2.trans m2.symm, u, r, q1, e1, c1, f1, R1, q2, e2, c2, f2, sn, t + 20, ⟨h1, h2, ?_, h4, h5, by omega⟩, ⟨hC.1, hC.2.1, hC.2.2.1, hC.2.2.2.1.of (o7 1 (by decide) (by decide)), hC.2.2.2.2.1.of (fun i hi => o7 _ (by unfold lc; omega) (by unfold lc; omega)), hC.2.2.2.2.2.1.of2 (fun k hk hk7 => m6 k (by omega) (by omega)) (m7 1 (by decide) (by decide)) (m7 4 (by decide) (by decide)), hC.2.2.2.2.2.2.of (m7 14 (by decide) (by decide))⟩, hA.keep hb hg (fun z => z) (fun z => z) rfl (m6 42 (by decide) (by decide)) (m7 15 (by decide) (by decide)) (by omega), hI.keep hb hg (fun z => z) (fun z => z) rfl (m6 51 (by decide) (by decide)) (m7 24 (by decide) (by decide)), ⟨o3, m3, fun i hi => ?_⟩, hF.keep (o6 7 (by decide)) (m6 14 (by decide) (by decide)) (o7 4 (by decide) (by decide)) (m7 6 (by decide) (by decide)), hW.keep hb rfl (m6 3 (by decide) (by decide)) (m7 2 (by decide) (by decide)) (m7 3 (by decide) (by decide)), hIm.keep hb rfl rfl rfl (m6 57 (by decide) (by decide)) (m6 58 (by decide) (by decide)) (m6 59 (by decide) (by decide)) (m7 28 (by decide) (by decide)) (m7 29 (by decide) (by decide)) (m7 30 (by decide) (by decide)) (by omega)⟩
  · obtain ⟨x1, x2⟩ := h3
    exact ⟨by omega, by omega⟩
  · by_cases e : i < t
    · obtain ⟨b, b1, b2, b3⟩ := t3 i e
      exact ⟨b, b1, (m5 i e).trans b2, (o5 i e).trans b3⟩
    · obtain ⟨b, b1, b2, b3⟩ := byt_ex (byX p1 p2 p3 p4 p5 (i - t))
      have e1 := o4 (i - t) (by omega)
      have e2 := m4 (i - t) (by omega)
      rw [show t + (i - t) = i by omega] at e1 e2
      exact ⟨b, b1, e2.trans b2, e1.trans b3⟩
theorem R_fault {ct : CT} {a0 q0 j : Nat} {S : US} {G : GS} {P : Nat → Nat → Option Nat} {ad : Nat → Nat} {S2 : US} {u : RU} {r : Nat → Nat} {q1 e1 c1 : Nat} {f1 : Nat → Option Nat} {R1 : Nat → Nat → Nat} {q2 e2 c2 : Nat} {f2 : Nat → Option Nat} {sn : Nat → Nat} {t : Nat} (hj : j < 24) (H : InvD ct a0 q0 j S G P ad S2 u r q1 e1 c1 f1 R1 q2 e2 c2 f2 sn t) : ∃ v om, s1_fault S = some v ∧ sM_fault S2 = some om ∧ v = om.1 ∧ Inv ct a0 q0 (j + 1) S G P ad om.2 := by
  refine ⟨_, (Z0 S2 0 14, Z0 S2), rfl, rfl, ?_, u, r, q1, e1, c1, f1, R1, q2, e2, c2, f2, sn, t, H.z.nx⟩
  exact H.z.2.2.2.2.2.1.1
