set_option maxRecDepth 100000
/-! THE PLAIN LAW, 39: how many readings, 2: the digits of a number -/
theorem nsub {a b : Nat} (h : a ≤ b) : -J a - -J b = J (b - a) := by
  rw [Int32.sub_neg, Int32.add_comm, ← Int32.sub_eq_add_neg, J_sub h]
theorem m100 : (-100 : Int32) = -J 100 := by decide
theorem m9 : (-9 : Int32) = -J 9 := by decide
theorem lit_c : (100 : Int32) = J 100 := asEq rfl
theorem dig_a {p L i : Nat} (h : 2 * i + 1 ≤ L) : digN p L (L - 2 * i - 1) = p / 100 ^ i % 10 := by
  unfold digN
  rw [show L - 1 - (L - 2 * i - 1) = 2 * i by omega, Nat.pow_mul]
theorem dig_b {p L i : Nat} (h : 2 * i + 2 ≤ L) : digN p L (L - 2 * i - 1 - 1) = p / 100 ^ i / 10 % 10 := by
  unfold digN
  rw [show L - 1 - (L - 2 * i - 1 - 1) = 2 * i + 1 by omega, Nat.pow_succ, Nat.pow_mul, Nat.div_div_eq_div_mul]
theorem tN_chars {ct : CT} {G : GS} {q p L : Nat} {f0 : Nat → Int32} (B : GB ct G) (hp : p ≤ 999999999) (hL : L = ndN p) (hq : G.1 q = some (true, .inl (2, L, .inl f0))) (hq0 : ct.2.2.1 ≤ q) : Ev (sN_getChars ct G (J p) (J L) (some q)) (fun o => (∃ f, o.2.1 q = some (true, .inl (2, L, .inl f)) ∧ ∀ j, j < L → f j = J (48 + digN p L j)) ∧ Gr (fun a => a = q) G o.2 0 0) := by
  obtain ⟨h1, h2, h3, h4⟩ := nd_ok hp
  rw [← hL] at h1 h2 h3 h4
  unfold sN_getChars
  rw [joinB_eq, if_pos (show (0 : Int32) ≤ J p by rw [lit_0, J_le (by omega) (by omega)]; omega)]
  show Ev (sN_getChars_J12 (J p) (J L) (some q) G ct (J 0)) _
  unfold sN_getChars_J12
  rw [joinB_eq, if_pos j00]
  show Ev (sN_getChars_J22 (J L) (some q) G ct (J 0) (-J p)) _
  unfold sN_getChars_J22
  refine Ev.loop (fun i s => ∃ G' f, s = (G', -J (p / 100 ^ i), J (L - 2 * i)) ∧ G'.1 q = some (true, .inl (2, L, .inl f)) ∧ (∀ j, L - 2 * i ≤ j → j < L → f j = J (48 + digN p L j)) ∧ Gr (fun a => a = q) G G' 0 0) ((L - 1) / 2) ?_ ?_ ⟨G, f0, by rw [Nat.pow_zero, Nat.div_one]; rfl, hq, fun j z1 z2 => by omega, Gr.rf⟩ (by unfold FUEL; omega)
  · rintro i hi _ ⟨G', f, rfl, k1, k2, k3⟩ rc hrc
    have B' : GB ct G' := B.gr k3 (fun a ha => by rw [ha]; exact hq0)
    have e0 : 100 ^ i * 100 ≤ 10 ^ (L - 1) := by
      rw [← Nat.pow_succ, show (100 : Nat) = 10 ^ 2 from rfl, ← Nat.pow_mul]
      exact Nat.pow_le_pow_right (by decide) (by omega)
    have e1 : 100 ≤ p / 100 ^ i := (Nat.le_div_iff_mul_le (Nat.pow_pos (by decide))).mpr (by omega)
    have e2 : p / 100 ^ i ≤ p := Nat.div_le_self _ _
    have e3 : p / 100 ^ i / 100 = p / 100 ^ (i + 1) := by rw [Nat.pow_succ, Nat.div_div_eq_div_mul]
    have e4 : p / 100 ^ i - p / 100 ^ i / 100 * 100 = p / 100 ^ i % 100 := by omega
    obtain ⟨f4, t1, t2⟩ := tab4 B' (v := p / 100 ^ i % 100) (by omega)
    show Ev (sN_getChars_L22 (some q) ct (J 0) rc G' (-J (p / 100 ^ i)) (J (L - 2 * i))) _
    unfold sN_getChars_L22
    rw [if_neg (by rw [m100, nlt (by omega) (by omega)]; omega), lit_c, J_ndiv (by omega) (by omega), nmul', nsub (by omega), e4, hZ_eq t1 (by omega) (by omega), t2, onR_eq, add_m1, J_sub (by omega), add_m1, J_sub (by omega), nar_dig (by omega)]
    refine Ev.pb k1 (by omega) (by omega) (fun G1 a1 a2 a3 => ?_)
    have B1 : GB ct G1 := B'.gr a2 (fun a ha => by rw [ha]; exact hq0)
    obtain ⟨f3, s1, s2⟩ := tab3 B1 (v := p / 100 ^ i % 100) (by omega)
    rw [hZ_eq s1 (by omega) (by omega), s2, nar_dig (by omega)]
    refine Ev.pb a1 (by omega) (by omega) (fun G2 b1 b2 b3 => ?_)
    refine hrc _ ⟨G2, _, by rw [e3, show L - 2 * i - 1 - 1 = L - 2 * (i + 1) by omega], b1, fun j z1 z2 => ?_, (k3.tr a2).tr b2⟩
    by_cases c1 : j = L - 2 * i - 1 - 1
    · rw [c1, upd_at, dig_b (by omega)]
      congr 2
      omega
    · rw [upd_ne (by omega)]
      by_cases c2 : j = L - 2 * i - 1
      · rw [c2, upd_at, dig_a (by omega)]
        congr 2
        omega
      · rw [upd_ne (by omega)]
        exact k2 j (by omega) z2
  · rintro _ ⟨G', f, rfl, k1, k2, k3⟩ rc
    have B' : GB ct G' := B.gr k3 (fun a ha => by rw [ha]; exact hq0)
    have e0 : 10 ^ L ≤ 100 ^ ((L - 1) / 2) * 100 := by
      rw [← Nat.pow_succ, show (100 : Nat) = 10 ^ 2 from rfl, ← Nat.pow_mul]
      exact Nat.pow_le_pow_right (by decide) (by omega)
    have e1 : p / 100 ^ ((L - 1) / 2) < 100 := (Nat.div_lt_iff_lt_mul (Nat.pow_pos (by decide))).mpr (by rw [Nat.mul_comm]; omega)
    obtain ⟨f4, t1, t2⟩ := tab4 B' e1
    show Ev (sN_getChars_L22 (some q) ct (J 0) rc G' (-J (p / 100 ^ ((L - 1) / 2))) (J (L - 2 * ((L - 1) / 2)))) _
    unfold sN_getChars_L22
    rw [if_pos (by rw [m100, nlt (by omega) (by omega)]; omega), nneg, hZ_eq t1 (by omega) (by omega), t2, onR_eq, add_m1, J_sub (by omega), add_m1, nar_dig (by omega)]
    refine Ev.pb k1 (by omega) (by omega) (fun G1 a1 a2 a3 => ?_)
    have B1 : GB ct G1 := B'.gr a2 (fun a ha => by rw [ha]; exact hq0)
    obtain ⟨f3, s1, s2⟩ := tab3 B1 e1
    rw [joinB_eq]
    by_cases c : L % 2 = 1
    · have e2 : L - 2 * ((L - 1) / 2) = 1 := by omega
      have e3 : 10 ^ L = 100 ^ ((L - 1) / 2) * 10 := by
        rw [show (100 : Nat) = 10 ^ 2 from rfl, ← Nat.pow_mul, ← Nat.pow_succ]
        congr 1
        omega
      have e4 : p / 100 ^ ((L - 1) / 2) < 10 := (Nat.div_lt_iff_lt_mul (Nat.pow_pos (by decide))).mpr (by rw [Nat.mul_comm]; omega)
      rw [if_pos (by rw [m9, nle (by omega) (by omega)]; omega)]
      show Ev (sN_getChars_J104 (J 0) q G1 _) _
      unfold sN_getChars_J104
      rw [if_pos j00]
      refine ⟨_, rfl, ⟨_, a1, fun j z => ?_⟩, k3.tr a2⟩
      by_cases c1 : j = L - 2 * ((L - 1) / 2) - 1
      · rw [c1, upd_at, dig_a (by omega)]
      · rw [upd_ne (by omega)]
        exact k2 j (by omega) z
    · have e3 : 100 ^ ((L - 1) / 2) * 10 = 10 ^ (L - 1) := by
        rw [show (100 : Nat) = 10 ^ 2 from rfl, ← Nat.pow_mul, ← Nat.pow_succ]
        congr 1
        omega
      have e4 : 10 ≤ p / 100 ^ ((L - 1) / 2) := (Nat.le_div_iff_mul_le (Nat.pow_pos (by decide))).mpr (by rw [Nat.mul_comm]; omega)
      rw [if_neg (by rw [m9, nle (by omega) (by omega)]; omega), hZ_eq s1 (by omega) (by omega), s2, nar_dig (by omega), J_sub (by omega)]
      refine Ev.pb a1 (by omega) (by omega) (fun G2 b1 b2 b3 => ?_)
      show Ev (sN_getChars_J104 (J 0) q G2 _) _
      unfold sN_getChars_J104
      rw [if_pos j00]
      refine ⟨_, rfl, ⟨_, b1, fun j z => ?_⟩, (k3.tr a2).tr b2⟩
      by_cases c1 : j = L - 2 * ((L - 1) / 2) - 1 - 1
      · rw [c1, upd_at, dig_b (by omega)]
        congr 2
        omega
      · rw [upd_ne (by omega)]
        by_cases c2 : j = L - 2 * ((L - 1) / 2) - 1
        · rw [c2, upd_at, dig_a (by omega)]
        · rw [upd_ne (by omega)]
          exact k2 j (by omega) z
theorem big_no {n : Nat} (h : n ≤ 67108864) : ¬ (J n < 0 ∨ 67108864 < (J n).toNatClampNeg) := by
  rw [J_tn (by omega), lit_0, J_lt (by omega) (by omega)]
  omega
theorem tS_init3 {ct : CT} {G : GS} {q b : Nat} {x0 x1 x2 x3 : Value} (hq : G.1 q = some (true, .inr (13, [x0, x1, x2, x3]))) : Ev (sS_init_3 ct G q (some b) 0) (fun G' => G'.1 q = some (true, .inr (13, [.ref b, .int 0, x2, x3])) ∧ (∀ a, a ≠ q → G'.1 a = G.1 a) ∧ Gr (fun a => a = q) G G' 0 0) := by
  unfold sS_init_3
  rw [hPut_eq hq (by simp), if_pos (by decide), hPut_eq setG_at (by simp)]
  have g1 : Gr (fun a => a = q) G (setG G q (true, .inr (13, [.ref b, x1, x2, x3]))) 0 0 := grw_set hq rfl (fun z => z)
  have g2 : Gr (fun a => a = q) (setG G q (true, .inr (13, [.ref b, x1, x2, x3]))) (setG (setG G q (true, .inr (13, [.ref b, x1, x2, x3]))) q (true, .inr (13, [.ref b, .int 0, x2, x3]))) 0 0 := grw_set setG_at rfl (fun z => z)
  exact ⟨_, rfl, setG_at, fun a ha => by rw [setG_ne (by omega), setG_ne (by omega)], g1.tr g2⟩
theorem tN_toString {ct : CT} {G : GS} {p : Nat} (B : GB ct G) (hp : p ≤ 999999999) (hr : Rm ct G 2 13) : Ev (sN_toString ct G (J p)) (fun o => ∃ q, o.1 = some q ∧ StrH o.2.1 q (ndN p) (fun j => J (48 + digN p (ndN p) j)) ∧ Gr (fun _ => False) G o.2 2 13) := by
  obtain ⟨h1, h2, h3, h4⟩ := nd_ok hp
  have hr1 : Rm ct G 1 (ndN p) := hr.le (by omega) (by omega)
  unfold sN_toString
  rw [tN_size hp, callK_eq, if_neg (by decide), if_neg (big_no (by omega)), J_tn (by omega), newB_eq hr1]
  have g1 : Gr (fun _ => False) G (addG G (ndN p) (.inl (2, ndN p, .inl (fun _ => 0)))) 1 (ndN p) := grw_add B.1
  have B1 := B.gr g1 (fun a ha => ha.elim)
  refine (tN_chars B1 hp rfl addG_at B.2.2).call (fun o k => ?_)
  obtain ⟨⟨f, k1, k2⟩, k3⟩ := k
  have g2 : Gr (fun _ => False) G o.2 (1 + 0) (ndN p + 0) := g1.fresh k3 B.1 (fun a ha => by rw [ha]; exact Nat.le_refl _)
  have B2 := B.gr g2 (fun a ha => ha.elim)
  have hr2 : Rm ct o.2 1 4 := (hr.le (c' := 1 + 0 + 1) (z' := ndN p + 0 + 4) (by omega) (by omega)).gr g2
  rw [newB_eq hr2]
  have hlt := B2.1 _ _ k1
  have g3 : Gr (fun _ => False) o.2 (addG o.2 4 (.inr (13, [.null, .int 0, .int 0, .int 0]))) 1 4 := grw_add B2.1
  refine (tS_init3 (b := G.2.1) addG_at).call (fun o9 k => ?_)
  obtain ⟨y1, y2, y3⟩ := k
  refine ⟨_, rfl, _, rfl, ⟨true, G.2.1, .int 0, .int 0, true, f, y1, ?_, k2⟩, ?_⟩
  · show o9.1 G.2.1 = _
    rw [y2 _ (by omega), addG_lt hlt]
    exact k1
  · refine Gr.le (c := 1 + 0 + (1 + 0)) (z := ndN p + 0 + (4 + 0)) ?_ (by omega) (by omega)
    refine g2.fresh (M := fun a => a = o.2.2.1) ((g3.mono (fun _ z => z.elim)).tr y3) B.1 (fun a ha => ?_)
    rw [ha]
    have := g2.2.1.1
    omega
