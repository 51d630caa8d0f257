set_option maxRecDepth 100000
/-! THE PLAIN LAW, 5: HorizonSeam's day -/
theorem tH_pull {S0 S : US} {L s : Nat} {x : Int32} {r : Nat → Nat} (h : HR S0 L r S) (hs : s < 12) : Ev (s3_pull S L (J s) x) (HR S0 L (upN r (1 + s) (clN 0 99 (J (r (1 + s)) + x)))) := by
  unfold s3_pull
  have hr1 := (h.1.2.1 s hs).1
  simp (disch := omega) only [lit_0, lit_1, lit_2, lit_3, lit_4, lit_5, lit_6, lit_7, lit_8, lit_9, lit_10, lit_11, lit_12, lit_13, lit_14, lit_15, lit_20, lit_24, lit_25, lit_37, lit_40, lit_43, lit_48, lit_49, lit_50, lit_60, lit_96, lit_98, lit_99, lit_100, lit_999, lit_62, lit_74, lit_86, lit_92, lit_99999, lit_100000, lit_16, lit_32767, lit_2147483639, J_add, J_mul, J_sub, J_tn, J_le, J_lt, J_eq, Nat.not_lt_zero, false_or, or_false, le_t, le_f, lt_t, lt_f, eq_f, ↓reduceIte, callK_eq, letB_eq, joinB_eq, Nat.add_assoc, hr1, tH_within]
  exact ⟨_, rfl, h.up1 hs⟩
theorem clN_J {x hi : Nat} (h : x < 2147483648) (hh : hi < 2147483648) : clN 0 hi (J x) = min hi x := by
  unfold clN
  by_cases c : hi < x
  · simp (disch := omega) only [lit_0, lit_1, lit_2, lit_3, lit_4, lit_5, lit_6, lit_7, lit_8, lit_9, lit_10, lit_11, lit_12, lit_13, lit_14, lit_15, lit_20, lit_24, lit_25, lit_37, lit_40, lit_43, lit_48, lit_49, lit_50, lit_60, lit_96, lit_98, lit_99, lit_100, lit_999, lit_62, lit_74, lit_86, lit_92, lit_99999, lit_100000, lit_16, lit_32767, lit_2147483639, J_add, J_mul, J_sub, J_tn, J_le, J_lt, J_eq, Nat.not_lt_zero, false_or, or_false, le_t, le_f, lt_t, lt_f, eq_f, ↓reduceIte, callK_eq, letB_eq, joinB_eq, Nat.add_assoc]
    omega
  · simp (disch := omega) only [lit_0, lit_1, lit_2, lit_3, lit_4, lit_5, lit_6, lit_7, lit_8, lit_9, lit_10, lit_11, lit_12, lit_13, lit_14, lit_15, lit_20, lit_24, lit_25, lit_37, lit_40, lit_43, lit_48, lit_49, lit_50, lit_60, lit_96, lit_98, lit_99, lit_100, lit_999, lit_62, lit_74, lit_86, lit_92, lit_99999, lit_100000, lit_16, lit_32767, lit_2147483639, J_add, J_mul, J_sub, J_tn, J_le, J_lt, J_eq, Nat.not_lt_zero, false_or, or_false, le_t, le_f, lt_t, lt_f, eq_f, ↓reduceIte, callK_eq, letB_eq, joinB_eq, Nat.add_assoc]
    omega
theorem tH_over {β : Type} {S0 S : US} {L n s v : Nat} {r : Nat → Nat} {k : US → Option β} {Q : β → Prop} (h : HR S0 L r S) (hR : ROk n 0 r) (hs : s < 12) (hv : v < 100000) (hk : ∀ S', HR S0 L (overN r s v) S' → Ev (k S') Q) : Ev (callK (s3_isOpen S L (J s)) (fun o => if bI o = J 0 then callK (s3_pull S L (J s) (J v)) k else k S)) Q := by
  have h1 := hR.1 s hs
  rw [tH_isOpen h.1 hs (by omega)]
  unfold overN at hk
  cases hg : gapN r s with
  | true =>
    simp (disch := omega) only [lit_0, lit_1, lit_2, lit_3, lit_4, lit_5, lit_6, lit_7, lit_8, lit_9, lit_10, lit_11, lit_12, lit_13, lit_14, lit_15, lit_20, lit_24, lit_25, lit_37, lit_40, lit_43, lit_48, lit_49, lit_50, lit_60, lit_96, lit_98, lit_99, lit_100, lit_999, lit_62, lit_74, lit_86, lit_92, lit_99999, lit_100000, lit_16, lit_32767, lit_2147483639, J_add, J_mul, J_sub, J_tn, J_le, J_lt, J_eq, Nat.not_lt_zero, false_or, or_false, le_t, le_f, lt_t, lt_f, eq_f, ↓reduceIte, callK_eq, letB_eq, joinB_eq, Nat.add_assoc, bI_t]
    refine hk S ?_
    simp only [hg, ↓reduceIte]
    exact h
  | false =>
    simp (disch := omega) only [lit_0, lit_1, lit_2, lit_3, lit_4, lit_5, lit_6, lit_7, lit_8, lit_9, lit_10, lit_11, lit_12, lit_13, lit_14, lit_15, lit_20, lit_24, lit_25, lit_37, lit_40, lit_43, lit_48, lit_49, lit_50, lit_60, lit_96, lit_98, lit_99, lit_100, lit_999, lit_62, lit_74, lit_86, lit_92, lit_99999, lit_100000, lit_16, lit_32767, lit_2147483639, J_add, J_mul, J_sub, J_tn, J_le, J_lt, J_eq, Nat.not_lt_zero, false_or, or_false, le_t, le_f, lt_t, lt_f, eq_f, ↓reduceIte, callK_eq, letB_eq, joinB_eq, Nat.add_assoc, bI_f]
    refine Ev.call (tH_pull h hs) (fun S' h' => hk S' ?_)
    simp only [hg, Bool.false_eq_true, ↓reduceIte]
    unfold straN
    rw [J_add, clN_J (by omega) (by omega)] at h'
    exact h'
theorem HR.one {S0 S : US} {L n : Nat} {r : Nat → Nat} (h : HR S0 L r S) (hn : S0 1 2 = J n) : S 1 2 = J n := by rw [h.2.one]; exact hn
theorem tH_loosen {S0 S : US} {L s v m n : Nat} {r : Nat → Nat} (hn : S0 1 2 = J n) (h3 : 3 ≤ n) (h12 : n ≤ 12) (h : HR S0 L r S) (hR : ROk n m r) (hs : s < n) (hv : v < 100000) : Ev (s3_loosen S L (J s) (J v)) (HR S0 L (loosN n r s v)) := by
  have h1 := hR.1 s (by omega)
  have hr4 := h.1.2.1 s (by omega)
  have hr1 := hr4.2.1
  have hcl : (if J 0 < J (r (13 + s)) - J v then J (r (13 + s)) - J v else J 0) = J (r (13 + s) - v) := by
    by_cases hc : v ≤ r (13 + s)
    · by_cases hz : v = r (13 + s)
      · subst hz; rw [J_sub (Nat.le_refl _), Nat.sub_self, if_neg (by rw [J_lt (by decide) (by decide)]; omega)]
      · simp (disch := omega) only [lit_0, lit_1, lit_2, lit_3, lit_4, lit_5, lit_6, lit_7, lit_8, lit_9, lit_10, lit_11, lit_12, lit_13, lit_14, lit_15, lit_20, lit_24, lit_25, lit_37, lit_40, lit_43, lit_48, lit_49, lit_50, lit_60, lit_96, lit_98, lit_99, lit_100, lit_999, lit_62, lit_74, lit_86, lit_92, lit_99999, lit_100000, lit_16, lit_32767, lit_2147483639, J_add, J_mul, J_sub, J_tn, J_le, J_lt, J_eq, Nat.not_lt_zero, false_or, or_false, le_t, le_f, lt_t, lt_f, eq_f, ↓reduceIte, callK_eq, letB_eq, joinB_eq, Nat.add_assoc]
    · have e : (J (r (13 + s)) - J v).toInt = (r (13 + s) : Int) - v := by
        rw [Int32.toInt_sub, J_ti (by omega), J_ti (by omega)]
        exact Int.bmod_eq_of_le (by omega) (by omega)
      rw [if_neg (by rw [Int32.lt_iff_toInt_lt, e, J_ti (by omega)]; omega)]
      rw [Nat.sub_eq_zero_of_le (by omega)]
  unfold s3_loosen
  simp (disch := omega) only [lit_0, lit_1, lit_2, lit_3, lit_4, lit_5, lit_6, lit_7, lit_8, lit_9, lit_10, lit_11, lit_12, lit_13, lit_14, lit_15, lit_20, lit_24, lit_25, lit_37, lit_40, lit_43, lit_48, lit_49, lit_50, lit_60, lit_96, lit_98, lit_99, lit_100, lit_999, lit_62, lit_74, lit_86, lit_92, lit_99999, lit_100000, lit_16, lit_32767, lit_2147483639, J_add, J_mul, J_sub, J_tn, J_le, J_lt, J_eq, Nat.not_lt_zero, false_or, or_false, le_t, le_f, lt_t, lt_f, eq_f, ↓reduceIte, callK_eq, letB_eq, joinB_eq, Nat.add_assoc, hr1, hcl]
  have h2 : HR S0 L (upN r (13 + s) (r (13 + s) - v)) (u2 S (lc L 2) s (J (r (13 + s) - v))) := h.up2 (by omega)
  generalize u2 S (lc L 2) s (J (r (13 + s) - v)) = S2 at h2 ⊢
  have hR2 : ROk n m (upN r (13 + s) (r (13 + s) - v)) := hR.upB (by omega) (by omega)
  rw [tH_isOpen h2.1 (by omega) (by rw [upN_at]; omega)]
  by_cases hz : r (13 + s) - v = 0
  · have hg : gapN (upN r (13 + s) (r (13 + s) - v)) s = true := by unfold gapN; rw [upN_at]; exact decide_eq_true hz
    have hr2 : S2 (lc L 1) s = J (r (1 + s)) := by rw [(h2.1.2.1 s (by omega)).1, upN_off (by omega)]
    have hb1 := befN_lt (show 0 < n by omega) hs
    have ha1 := aftN_lt (show 0 < n by omega) hs
    have h5 : HR S0 L (upN (upN r (13 + s) (r (13 + s) - v)) (1 + s) 0) (u2 S2 (lc L 1) s (J 0)) := h2.up1 (by omega)
    rw [hg]
    simp (disch := omega) only [lit_0, lit_1, lit_2, lit_3, lit_4, lit_5, lit_6, lit_7, lit_8, lit_9, lit_10, lit_11, lit_12, lit_13, lit_14, lit_15, lit_20, lit_24, lit_25, lit_37, lit_40, lit_43, lit_48, lit_49, lit_50, lit_60, lit_96, lit_98, lit_99, lit_100, lit_999, lit_62, lit_74, lit_86, lit_92, lit_99999, lit_100000, lit_16, lit_32767, lit_2147483639, J_add, J_mul, J_sub, J_tn, J_le, J_lt, J_eq, Nat.not_lt_zero, false_or, or_false, le_t, le_f, lt_t, lt_f, eq_f, ↓reduceIte, callK_eq, letB_eq, joinB_eq, Nat.add_assoc, bI_t, hr2, J_half]
    generalize u2 S2 (lc L 1) s (J 0) = S5 at h5 ⊢
    have hR5 := hR2.upA (s := s) (v := 0) (by omega) (by omega)
    simp (disch := omega) only [lit_0, lit_1, lit_2, lit_3, lit_4, lit_5, lit_6, lit_7, lit_8, lit_9, lit_10, lit_11, lit_12, lit_13, lit_14, lit_15, lit_20, lit_24, lit_25, lit_37, lit_40, lit_43, lit_48, lit_49, lit_50, lit_60, lit_96, lit_98, lit_99, lit_100, lit_999, lit_62, lit_74, lit_86, lit_92, lit_99999, lit_100000, lit_16, lit_32767, lit_2147483639, J_add, J_mul, J_sub, J_tn, J_le, J_lt, J_eq, Nat.not_lt_zero, false_or, or_false, le_t, le_f, lt_t, lt_f, eq_f, ↓reduceIte, callK_eq, letB_eq, joinB_eq, Nat.add_assoc, tH_before (h5.one hn) (show 0 < n by omega) hs h12]
    refine tH_over (k := fun x => s3_loosen_J77 L (J s) S2 x) h5 hR5.z (by omega) (by omega) (fun S3 hS3 => ?_)
    unfold s3_loosen_J77
    simp (disch := omega) only [lit_0, lit_1, lit_2, lit_3, lit_4, lit_5, lit_6, lit_7, lit_8, lit_9, lit_10, lit_11, lit_12, lit_13, lit_14, lit_15, lit_20, lit_24, lit_25, lit_37, lit_40, lit_43, lit_48, lit_49, lit_50, lit_60, lit_96, lit_98, lit_99, lit_100, lit_999, lit_62, lit_74, lit_86, lit_92, lit_99999, lit_100000, lit_16, lit_32767, lit_2147483639, J_add, J_mul, J_sub, J_tn, J_le, J_lt, J_eq, Nat.not_lt_zero, false_or, or_false, le_t, le_f, lt_t, lt_f, eq_f, ↓reduceIte, callK_eq, letB_eq, joinB_eq, Nat.add_assoc, tH_after (hS3.one hn) (show 0 < n by omega) hs h12, hr2, J_half]
    have hR3 := hR5.over (s := befN n s) (v := r (1 + s) / 2) (by omega)
    refine tH_over (k := fun x => some x) hS3 hR3.z (by omega) (by omega) (fun S4 hS4 => ⟨_, rfl, ?_⟩)
    unfold loosN
    rw [if_neg (by omega)]
    rw [hz] at hS4
    exact hS4
  · have hg : gapN (upN r (13 + s) (r (13 + s) - v)) s = false := by unfold gapN; rw [upN_at]; exact decide_eq_false hz
    rw [hg]
    simp (disch := omega) only [lit_0, lit_1, lit_2, lit_3, lit_4, lit_5, lit_6, lit_7, lit_8, lit_9, lit_10, lit_11, lit_12, lit_13, lit_14, lit_15, lit_20, lit_24, lit_25, lit_37, lit_40, lit_43, lit_48, lit_49, lit_50, lit_60, lit_96, lit_98, lit_99, lit_100, lit_999, lit_62, lit_74, lit_86, lit_92, lit_99999, lit_100000, lit_16, lit_32767, lit_2147483639, J_add, J_mul, J_sub, J_tn, J_le, J_lt, J_eq, Nat.not_lt_zero, false_or, or_false, le_t, le_f, lt_t, lt_f, eq_f, ↓reduceIte, callK_eq, letB_eq, joinB_eq, Nat.add_assoc, bI_f]
    unfold loosN
    rw [if_pos hz]
    exact ⟨_, rfl, h2⟩
theorem tH_mend {ct : CT} {P : Nat → Nat → Option Nat} {h : AH} {S0 S : US} {u : RU} {L w : Nat} {r : Nat → Nat} (hu : RulH ct P h S0 u) (ho : RuOk u) (H : HR S0 L r S) (hR : ROk u.1 u.2.1 r) (hw : w < u.2.1) : Ev (s3_mend S P h L (J w)) (HR S0 L (mendN u.2.2.2.1 r w)) := by
  have h12 := ho.2.1
  have hm := ho.2.2.1
  have h1 := (hR.2.1 w (by omega)).1
  have h2 := hR.2.2 w hw
  have h3 := hR.1 (r (37 + w)) (by omega)
  have h9 := ho.2.2.2.2.2 w (by omega)
  have hr1 := (H.1.2.2 w (by omega)).2
  unfold s3_mend mendN
  by_cases hz : r (43 + w) = 0
  · rw [if_pos hz]
    simp (disch := omega) only [lit_0, lit_1, lit_2, lit_3, lit_4, lit_5, lit_6, lit_7, lit_8, lit_9, lit_10, lit_11, lit_12, lit_13, lit_14, lit_15, lit_20, lit_24, lit_25, lit_37, lit_40, lit_43, lit_48, lit_49, lit_50, lit_60, lit_96, lit_98, lit_99, lit_100, lit_999, lit_62, lit_74, lit_86, lit_92, lit_99999, lit_100000, lit_16, lit_32767, lit_2147483639, J_add, J_mul, J_sub, J_tn, J_le, J_lt, J_eq, Nat.not_lt_zero, false_or, or_false, le_t, le_f, lt_t, lt_f, eq_f, ↓reduceIte, callK_eq, letB_eq, joinB_eq, Nat.add_assoc, hr1, hz]
    exact ⟨_, rfl, H⟩
  · rw [if_neg hz]
    have h4 : HR S0 L (upN r (43 + w) (r (43 + w) - 1)) (u2 S (lc L 5) w (J (r (43 + w) - 1))) := H.up5 (by omega)
    simp (disch := omega) only [lit_0, lit_1, lit_2, lit_3, lit_4, lit_5, lit_6, lit_7, lit_8, lit_9, lit_10, lit_11, lit_12, lit_13, lit_14, lit_15, lit_20, lit_24, lit_25, lit_37, lit_40, lit_43, lit_48, lit_49, lit_50, lit_60, lit_96, lit_98, lit_99, lit_100, lit_999, lit_62, lit_74, lit_86, lit_92, lit_99999, lit_100000, lit_16, lit_32767, lit_2147483639, J_add, J_mul, J_sub, J_tn, J_le, J_lt, J_eq, Nat.not_lt_zero, false_or, or_false, le_t, le_f, lt_t, lt_f, eq_f, ↓reduceIte, callK_eq, letB_eq, joinB_eq, Nat.add_assoc, hr1]
    generalize u2 S (lc L 5) w (J (r (43 + w) - 1)) = S2 at h4 ⊢
    have e1 : S2 (lc L 4) w = J (r (37 + w)) := by rw [(h4.1.2.2 w (by omega)).1, upN_off (by omega)]
    have e2 : S2 (lc L 2) (r (37 + w)) = J (r (13 + r (37 + w))) := by rw [(h4.1.2.1 _ (by omega)).2.1, upN_off (by omega)]
    have e3 := hu.2.2.1
    obtain ⟨q, e3, f, e4, e5⟩ := e3
    obtain ⟨b, o, e6, e7⟩ := e5 w hw
    have e8 : sN_intValue h b = some (J (u.2.2.2.1 w)) := by unfold sN_intValue; rw [hI_eq e7 rfl]
    rw [e3]
    simp (disch := omega) only [lit_0, lit_1, lit_2, lit_3, lit_4, lit_5, lit_6, lit_7, lit_8, lit_9, lit_10, lit_11, lit_12, lit_13, lit_14, lit_15, lit_20, lit_24, lit_25, lit_37, lit_40, lit_43, lit_48, lit_49, lit_50, lit_60, lit_96, lit_98, lit_99, lit_100, lit_999, lit_62, lit_74, lit_86, lit_92, lit_99999, lit_100000, lit_16, lit_32767, lit_2147483639, J_add, J_mul, J_sub, J_tn, J_le, J_lt, J_eq, Nat.not_lt_zero, false_or, or_false, le_t, le_f, lt_t, lt_f, eq_f, ↓reduceIte, callK_eq, letB_eq, joinB_eq, Nat.add_assoc, e1, e2, onR_eq, tL_cls e4, tL_get e4 hw, e6, hC_eq e7, e8]
    have e9 : (if r (13 + r (37 + w)) + (2 * u.2.2.2.1 w + 3) < 99 then J (r (13 + r (37 + w)) + (2 * u.2.2.2.1 w + 3)) else J 99) = J (min 99 (r (13 + r (37 + w)) + (2 * u.2.2.2.1 w + 3))) := by
      split
      · rw [Nat.min_eq_right (by omega)]
      · rw [Nat.min_eq_left (by omega)]
    rw [e9]
    exact ⟨_, rfl, h4.up2 (by omega)⟩
theorem tH_goOn {S0 S : US} {L w n m : Nat} {r : Nat → Nat} (hn : S0 1 2 = J n) (h3 : 3 ≤ n) (h12 : n ≤ 12) (hm : m ≤ 6) (h : HR S0 L r S) (hR : ROk n m r) (hw : w < m) : Ev (s3_goOn S L (J w)) (HR S0 L (goN n r w)) := by
  have h2 := hR.2.2 w hw
  have hr2 := (h.1.2.2 w (by omega)).1
  unfold s3_goOn goN
  simp (disch := omega) only [lit_0, lit_1, lit_2, lit_3, lit_4, lit_5, lit_6, lit_7, lit_8, lit_9, lit_10, lit_11, lit_12, lit_13, lit_14, lit_15, lit_20, lit_24, lit_25, lit_37, lit_40, lit_43, lit_48, lit_49, lit_50, lit_60, lit_96, lit_98, lit_99, lit_100, lit_999, lit_62, lit_74, lit_86, lit_92, lit_99999, lit_100000, lit_16, lit_32767, lit_2147483639, J_add, J_mul, J_sub, J_tn, J_le, J_lt, J_eq, Nat.not_lt_zero, false_or, or_false, le_t, le_f, lt_t, lt_f, eq_f, ↓reduceIte, callK_eq, letB_eq, joinB_eq, Nat.add_assoc, hr2, tH_after (h.one hn) (show 0 < n by omega) h2 h12]
  exact ⟨_, rfl, h.up4 (by omega)⟩
theorem tH_day4 {ct : CT} {P : Nat → Nat → Option Nat} {h : AH} {S0 S : US} {u : RU} {L : Nat} {r : Nat → Nat} (hu : RulH ct P h S0 u) (ho : RuOk u) (H : HR S0 L r S) (hR : ROk u.1 u.2.1 r) (hd : r 0 < 10000) :
    Ev (loopK (fun rc (x : (US × Int32)) => s3_pass_L116 L P h rc x.1 x.2) FUEL (S, J 0)) (HR S0 L (let r3 := if r 0 % u.2.2.1 = u.2.2.1 - 1 then womAll u.1 u.2.2.2.1 r u.2.1 else r
      upN r3 0 (r3 0 + 1))) := by
  have ho3 := ho.1
  have ho6 := ho.2.2.1
  have ho7 := ho.2.2.2.1
  have ho8 := ho.2.2.2.2.1
  have hlt : r 0 % u.2.2.1 < u.2.2.1 := Nat.mod_lt _ (by omega)
  by_cases hw : r 0 % u.2.2.1 = u.2.2.1 - 1
  · have e : (let r3 := if r 0 % u.2.2.1 = u.2.2.1 - 1 then womAll u.1 u.2.2.2.1 r u.2.1 else r; upN r3 0 (r3 0 + 1)) = upN (womAll u.1 u.2.2.2.1 r u.2.1) 0 (r 0 + 1) := by simp only [hw, ↓reduceIte, womAll_0]
    rw [e]
    refine Ev.loop2 (i0 := 0) (fun i x => HR S0 L (womAll u.1 u.2.2.2.1 r i) x) u.2.1 H (by omega) ?_ ?_ (by unfold FUEL; omega)
    · rintro i - hi S1 h1 rc hrc
      have hR1 := hR.womAll (i := i) (sk := u.2.2.2.1) (by omega) ho.2.1 ho6 (by omega)
      have hd1 : S1 (lc L 0) 6 = J (r 0) := by rw [h1.1.1, womAll_0]
      have hk1 : S1 1 3 = J u.2.2.1 := by rw [h1.2.one]; exact hu.2.1
      unfold s3_pass_L116
      rw [tH_women hu]
      simp (disch := omega) only [lit_0, lit_1, lit_2, lit_3, lit_4, lit_5, lit_6, lit_7, lit_8, lit_9, lit_10, lit_11, lit_12, lit_13, lit_14, lit_15, lit_20, lit_24, lit_25, lit_37, lit_40, lit_43, lit_48, lit_49, lit_50, lit_60, lit_96, lit_98, lit_99, lit_100, lit_999, lit_62, lit_74, lit_86, lit_92, lit_99999, lit_100000, lit_16, lit_32767, lit_2147483639, J_add, J_mul, J_sub, J_tn, J_le, J_lt, J_eq, Nat.not_lt_zero, false_or, or_false, le_t, le_f, lt_t, lt_f, eq_f, ↓reduceIte, callK_eq, letB_eq, joinB_eq, Nat.add_assoc, hd1, hk1, J_mod, hw]
      refine Ev.call (tH_mend hu ho h1 hR1 hi) (fun S2 h2 => ?_)
      refine Ev.call (tH_goOn hu.1 ho3 ho.2.1 ho6 h2 (hR1.mend ho.2.1 ho6 hi) hi) (fun S3 h3 => ?_)
      exact hrc _ h3
    · rintro S1 h1 rc
      have hd1 : S1 (lc L 0) 6 = J (r 0) := by rw [h1.1.1, womAll_0]
      unfold s3_pass_L116
      rw [tH_women hu]
      simp (disch := omega) only [lit_0, lit_1, lit_2, lit_3, lit_4, lit_5, lit_6, lit_7, lit_8, lit_9, lit_10, lit_11, lit_12, lit_13, lit_14, lit_15, lit_20, lit_24, lit_25, lit_37, lit_40, lit_43, lit_48, lit_49, lit_50, lit_60, lit_96, lit_98, lit_99, lit_100, lit_999, lit_62, lit_74, lit_86, lit_92, lit_99999, lit_100000, lit_16, lit_32767, lit_2147483639, J_add, J_mul, J_sub, J_tn, J_le, J_lt, J_eq, Nat.not_lt_zero, false_or, or_false, le_t, le_f, lt_t, lt_f, eq_f, ↓reduceIte, callK_eq, letB_eq, joinB_eq, Nat.add_assoc, hd1, hw]
      exact ⟨_, rfl, h1.up0⟩
  · have e : (let r3 := if r 0 % u.2.2.1 = u.2.2.1 - 1 then womAll u.1 u.2.2.2.1 r u.2.1 else r; upN r3 0 (r3 0 + 1)) = upN r 0 (r 0 + 1) := by simp only [hw, ↓reduceIte]
    rw [e]
    have hd1 : S (lc L 0) 6 = J (r 0) := H.1.1
    have hk1 : S 1 3 = J u.2.2.1 := by rw [H.2.one]; exact hu.2.1
    show Ev (s3_pass_L116 L P h _ S (J 0)) _
    unfold s3_pass_L116
    rw [tH_women hu]
    have e2 : (if u.2.1 ≤ 0 then some (u2 S (lc L 0) 6 (J (r 0 + 1))) else some (u2 S (lc L 0) 6 (J (r 0 + 1)))) = some (u2 S (lc L 0) 6 (J (r 0 + 1))) := by split <;> rfl
    simp (disch := omega) only [lit_0, lit_1, lit_2, lit_3, lit_4, lit_5, lit_6, lit_7, lit_8, lit_9, lit_10, lit_11, lit_12, lit_13, lit_14, lit_15, lit_20, lit_24, lit_25, lit_37, lit_40, lit_43, lit_48, lit_49, lit_50, lit_60, lit_96, lit_98, lit_99, lit_100, lit_999, lit_62, lit_74, lit_86, lit_92, lit_99999, lit_100000, lit_16, lit_32767, lit_2147483639, J_add, J_mul, J_sub, J_tn, J_le, J_lt, J_eq, Nat.not_lt_zero, false_or, or_false, le_t, le_f, lt_t, lt_f, eq_f, ↓reduceIte, callK_eq, letB_eq, joinB_eq, Nat.add_assoc, hd1, hk1, J_mod, hw]
    rw [e2]
    exact ⟨_, rfl, H.up0⟩
theorem tH_day3 {ct : CT} {P : Nat → Nat → Option Nat} {h : AH} {S0 S : US} {u : RU} {L : Nat} {r : Nat → Nat} (hu : RulH ct P h S0 u) (ho : RuOk u) (H : HR S0 L r S) (hR : ROk u.1 u.2.1 r) (hd : r 0 < 10000) :
    Ev (loopK (fun rc (x : (US × Int32)) => s3_pass_L76 L P h ct rc x.1 x.2) FUEL (S, J 0)) (HR S0 L (let r2 := loosAll u.1 u.2.1 u.2.2.2.2.1 r u.1
      let r3 := if r2 0 % u.2.2.1 = u.2.2.1 - 1 then womAll u.1 u.2.2.2.1 r2 u.2.1 else r2
      upN r3 0 (r3 0 + 1))) := by
  have ho3 := ho.1
  have ho12 := ho.2.1
  refine Ev.loop2 (i0 := 0) (fun i x => HR S0 L (loosAll u.1 u.2.1 u.2.2.2.2.1 r i) x) u.1 H (by omega) ?_ ?_ (by unfold FUEL; omega)
  · rintro i - hi S1 h1 rc hrc
    have hu1 : RulH ct P h S1 u := hu.of h1.2.one
    have hR1 := hR.loosAll (i := i) (fF := u.2.2.2.2.1) (by omega) ho12 (by omega)
    have hg1 := hR1.1 i (by omega)
    unfold s3_pass_L76
    rw [tH_isOpen h1.1 (show i < 12 by omega) (by omega)]
    cases hg : gapN (loosAll u.1 u.2.1 u.2.2.2.2.1 r i) i with
    | true =>
      simp (disch := omega) only [lit_0, lit_1, lit_2, lit_3, lit_4, lit_5, lit_6, lit_7, lit_8, lit_9, lit_10, lit_11, lit_12, lit_13, lit_14, lit_15, lit_20, lit_24, lit_25, lit_37, lit_40, lit_43, lit_48, lit_49, lit_50, lit_60, lit_96, lit_98, lit_99, lit_100, lit_999, lit_62, lit_74, lit_86, lit_92, lit_99999, lit_100000, lit_16, lit_32767, lit_2147483639, J_add, J_mul, J_sub, J_tn, J_le, J_lt, J_eq, Nat.not_lt_zero, false_or, or_false, le_t, le_f, lt_t, lt_f, eq_f, ↓reduceIte, callK_eq, letB_eq, joinB_eq, Nat.add_assoc, hu1.1, bI_t]
      refine hrc _ ?_
      rw [loosAll_s]
      simp only [hg, ↓reduceIte]
      exact h1
    | false =>
      simp (disch := omega) only [lit_0, lit_1, lit_2, lit_3, lit_4, lit_5, lit_6, lit_7, lit_8, lit_9, lit_10, lit_11, lit_12, lit_13, lit_14, lit_15, lit_20, lit_24, lit_25, lit_37, lit_40, lit_43, lit_48, lit_49, lit_50, lit_60, lit_96, lit_98, lit_99, lit_100, lit_999, lit_62, lit_74, lit_86, lit_92, lit_99999, lit_100000, lit_16, lit_32767, lit_2147483639, J_add, J_mul, J_sub, J_tn, J_le, J_lt, J_eq, Nat.not_lt_zero, false_or, or_false, le_t, le_f, lt_t, lt_f, eq_f, ↓reduceIte, callK_eq, letB_eq, joinB_eq, Nat.add_assoc, hu1.1, bI_f]
      refine Ev.call (tH_frays hu1 ho h1.1 hR1 hi) (fun o ho1 => ?_)
      rw [ho1.1]
      have h2 : HR S0 L (loosAll u.1 u.2.1 u.2.2.2.2.1 r i) o.2 := h1.of (fun a g1 _ => ho1.2 a g1)
      refine Ev.call (tH_loosen hu.1 ho3 ho12 h2 hR1 hi (v := freN u.1 u.2.1 u.2.2.2.2.1 (loosAll u.1 u.2.1 u.2.2.2.2.1 r i) i) (Nat.lt_of_le_of_lt freN_le (by decide))) (fun S3 h3 => ?_)
      refine hrc _ ?_
      rw [loosAll_s]
      simp only [hg, Bool.false_eq_true, ↓reduceIte]
      exact h3
  · rintro S1 h1 rc
    have hu1 : RulH ct P h S1 u := hu.of h1.2.one
    have hR1 := hR.loosAll (i := u.1) (fF := u.2.2.2.2.1) (by omega) ho12 (by omega)
    unfold s3_pass_L76
    simp (disch := omega) only [lit_0, lit_1, lit_2, lit_3, lit_4, lit_5, lit_6, lit_7, lit_8, lit_9, lit_10, lit_11, lit_12, lit_13, lit_14, lit_15, lit_20, lit_24, lit_25, lit_37, lit_40, lit_43, lit_48, lit_49, lit_50, lit_60, lit_96, lit_98, lit_99, lit_100, lit_999, lit_62, lit_74, lit_86, lit_92, lit_99999, lit_100000, lit_16, lit_32767, lit_2147483639, J_add, J_mul, J_sub, J_tn, J_le, J_lt, J_eq, Nat.not_lt_zero, false_or, or_false, le_t, le_f, lt_t, lt_f, eq_f, ↓reduceIte, callK_eq, letB_eq, joinB_eq, Nat.add_assoc, hu1.1]
    exact tH_day4 hu ho h1 hR1 (by rw [loosAll_0]; exact hd)
theorem tH_day2 {ct : CT} {P : Nat → Nat → Option Nat} {h : AH} {S0 S : US} {u : RU} {L : Nat} {r : Nat → Nat} {p : Nat → Int32} (hu : RulH ct P h S0 u) (ho : RuOk u) (H : HR S0 L r S) (hR : ROk u.1 u.2.1 r) (hd : r 0 < 10000) (hp : ∀ k, k < u.1 → S (lc L 6) k = p k) :
    Ev (loopK (fun rc (x : (US × Int32)) => s3_pass_L35 L P h ct rc x.1 x.2) FUEL (S, J 0)) (HR S0 L (let r2 := loosAll u.1 u.2.1 u.2.2.2.2.1 (pullAll p r u.1) u.1
      let r3 := if r2 0 % u.2.2.1 = u.2.2.1 - 1 then womAll u.1 u.2.2.2.1 r2 u.2.1 else r2
      upN r3 0 (r3 0 + 1))) := by
  have ho3 := ho.1
  have ho12 := ho.2.1
  refine Ev.loop2 (i0 := 0) (fun i x => HR S0 L (pullAll p r i) x ∧ ∀ k, k < u.1 → x (lc L 6) k = p k) u.1 ⟨H, hp⟩ (by omega) ?_ ?_ (by unfold FUEL; omega)
  · rintro i - hi S1 ⟨h1, hp1⟩ rc hrc
    have hu1 : RulH ct P h S1 u := hu.of h1.2.one
    have hR1 := hR.pullAll (i := i) (p := p) (by omega)
    have hg1 := hR1.1 i (by omega)
    have hp2 := hp1 i hi
    have hr1 := (h1.1.2.1 i (by omega)).1
    unfold s3_pass_L35
    rw [tH_isOpen h1.1 (show i < 12 by omega) (by omega)]
    cases hg : gapN (pullAll p r i) i with
    | true =>
      simp (disch := omega) only [lit_0, lit_1, lit_2, lit_3, lit_4, lit_5, lit_6, lit_7, lit_8, lit_9, lit_10, lit_11, lit_12, lit_13, lit_14, lit_15, lit_20, lit_24, lit_25, lit_37, lit_40, lit_43, lit_48, lit_49, lit_50, lit_60, lit_96, lit_98, lit_99, lit_100, lit_999, lit_62, lit_74, lit_86, lit_92, lit_99999, lit_100000, lit_16, lit_32767, lit_2147483639, J_add, J_mul, J_sub, J_tn, J_le, J_lt, J_eq, Nat.not_lt_zero, false_or, or_false, le_t, le_f, lt_t, lt_f, eq_f, ↓reduceIte, callK_eq, letB_eq, joinB_eq, Nat.add_assoc, hu1.1, bI_t]
      refine hrc _ ⟨?_, hp1⟩
      rw [pullAll_s]
      simp only [hg, ↓reduceIte]
      exact h1
    | false =>
      unfold s3_pull
      simp (disch := omega) only [lit_0, lit_1, lit_2, lit_3, lit_4, lit_5, lit_6, lit_7, lit_8, lit_9, lit_10, lit_11, lit_12, lit_13, lit_14, lit_15, lit_20, lit_24, lit_25, lit_37, lit_40, lit_43, lit_48, lit_49, lit_50, lit_60, lit_96, lit_98, lit_99, lit_100, lit_999, lit_62, lit_74, lit_86, lit_92, lit_99999, lit_100000, lit_16, lit_32767, lit_2147483639, J_add, J_mul, J_sub, J_tn, J_le, J_lt, J_eq, Nat.not_lt_zero, false_or, or_false, le_t, le_f, lt_t, lt_f, eq_f, ↓reduceIte, callK_eq, letB_eq, joinB_eq, Nat.add_assoc, hu1.1, bI_f, hp2, hr1, tH_within]
      refine hrc _ ⟨?_, fun k hk => ?_⟩
      · rw [pullAll_s]
        simp only [hg, Bool.false_eq_true, ↓reduceIte]
        exact h1.up1 (by omega)
      · rw [u2_row' (lc_ne (by omega))]; exact hp1 k hk
  · rintro S1 ⟨h1, hp1⟩ rc
    have hu1 : RulH ct P h S1 u := hu.of h1.2.one
    unfold s3_pass_L35
    simp (disch := omega) only [lit_0, lit_1, lit_2, lit_3, lit_4, lit_5, lit_6, lit_7, lit_8, lit_9, lit_10, lit_11, lit_12, lit_13, lit_14, lit_15, lit_20, lit_24, lit_25, lit_37, lit_40, lit_43, lit_48, lit_49, lit_50, lit_60, lit_96, lit_98, lit_99, lit_100, lit_999, lit_62, lit_74, lit_86, lit_92, lit_99999, lit_100000, lit_16, lit_32767, lit_2147483639, J_add, J_mul, J_sub, J_tn, J_le, J_lt, J_eq, Nat.not_lt_zero, false_or, or_false, le_t, le_f, lt_t, lt_f, eq_f, ↓reduceIte, callK_eq, letB_eq, joinB_eq, Nat.add_assoc, hu1.1]
    exact tH_day3 hu ho h1 (hR.pullAll (by omega)) (by rw [pullAll_0]; exact hd)
theorem tH_pass {ct : CT} {P : Nat → Nat → Option Nat} {h : AH} {S0 S : US} {u : RU} {L : Nat} {r : Nat → Nat} (hu : RulH ct P h S0 u) (ho : RuOk u) (H : HR S0 L r S) (hR : ROk u.1 u.2.1 r) (hd : r 0 < 10000) : Ev (s3_pass S ct P h L) (HR S0 L (passN u r)) := by
  have ho3 := ho.1
  have ho12 := ho.2.1
  unfold s3_pass
  refine Ev.loop2 (i0 := 0) (fun i x => HR S0 L r x ∧ ∀ k, k < i → x (lc L 6) k = pulN u.1 u.2.1 u.2.2.2.2.2 r k) u.1 ⟨H, fun k hk => absurd hk (Nat.not_lt_zero k)⟩ (by omega) ?_ ?_ (by unfold FUEL; omega)
  · rintro i - hi S1 ⟨h1, hp1⟩ rc hrc
    have hu1 : RulH ct P h S1 u := hu.of h1.2.one
    unfold s3_pass_L2
    simp (disch := omega) only [lit_0, lit_1, lit_2, lit_3, lit_4, lit_5, lit_6, lit_7, lit_8, lit_9, lit_10, lit_11, lit_12, lit_13, lit_14, lit_15, lit_20, lit_24, lit_25, lit_37, lit_40, lit_43, lit_48, lit_49, lit_50, lit_60, lit_96, lit_98, lit_99, lit_100, lit_999, lit_62, lit_74, lit_86, lit_92, lit_99999, lit_100000, lit_16, lit_32767, lit_2147483639, J_add, J_mul, J_sub, J_tn, J_le, J_lt, J_eq, Nat.not_lt_zero, false_or, or_false, le_t, le_f, lt_t, lt_f, eq_f, ↓reduceIte, callK_eq, letB_eq, joinB_eq, Nat.add_assoc, hu1.1]
    refine Ev.call (tH_pulls hu1 ho h1.1 hR hi) (fun o ho1 => ?_)
    rw [ho1.1]
    refine hrc _ ⟨h1.of (fun a g1 g2 => ?_), fun k hk => ?_⟩
    · rw [u2_row _ _ _ _ g2]; exact ho1.2 a g1
    · by_cases e : k = i
      · subst e; rw [u2_at]
      · rw [u2_off (by omega), ho1.2 _ (by unfold lc; omega)]; exact hp1 k (by omega)
  · rintro S1 ⟨h1, hp1⟩ rc
    have hu1 : RulH ct P h S1 u := hu.of h1.2.one
    unfold s3_pass_L2
    simp (disch := omega) only [lit_0, lit_1, lit_2, lit_3, lit_4, lit_5, lit_6, lit_7, lit_8, lit_9, lit_10, lit_11, lit_12, lit_13, lit_14, lit_15, lit_20, lit_24, lit_25, lit_37, lit_40, lit_43, lit_48, lit_49, lit_50, lit_60, lit_96, lit_98, lit_99, lit_100, lit_999, lit_62, lit_74, lit_86, lit_92, lit_99999, lit_100000, lit_16, lit_32767, lit_2147483639, J_add, J_mul, J_sub, J_tn, J_le, J_lt, J_eq, Nat.not_lt_zero, false_or, or_false, le_t, le_f, lt_t, lt_f, eq_f, ↓reduceIte, callK_eq, letB_eq, joinB_eq, Nat.add_assoc, hu1.1]
    exact tH_day2 hu ho h1 hR hd hp1
