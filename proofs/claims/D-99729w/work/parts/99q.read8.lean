set_option maxRecDepth 100000
/-! THE PLAIN LAW, 45: how many readings, 8: the Model -/
theorem gz10 {ρ : Type} {x : Option ρ} : (if (0 : Int32) < 0 ∨ 10 ≤ (0 : Int32).toNatClampNeg then none else x) = x := if_neg (by decide)
theorem tn0 : (0 : Int32).toNatClampNeg = 0 := by decide
theorem tM_rdOut {S0 S : US} {c L : Nat} {x : Nat → Nat} {d : Nat → Nat → Nat} {kl : Nat → Nat} {p2 : Int32} (h1L : 1 ≤ L) (hL : L ≤ 9) (hc8 : c ≤ 8) (hx : ∀ j, j < L → x j ≤ 9) (hwd : ∀ w, w < c → 1 ≤ kl w ∧ kl w ≤ 4 ∧ ∀ j, j < kl w → d w j ≤ 9) (hF : MFw S0 S) (H : RdM S c L x d kl) :
    Ev (loopK (fun rc (x : (US × Int32)) => sM_readings_L99 p2 (J L) rc x.1 x.2) FUEL (S, J L)) (fun o => o.1 = anR p2 (wyT c L kl (mtW x d L kl) L 0) ∧ MFw S0 o.2) := by
  have hok := mtW_ok (x := x) (d := d) (L := L) (fun w hw => (hwd w hw).1)
  have htb := tb_ok (L := L) (c := c) (kl := kl) (mt := mtW x d L kl) hc8 hok
  refine Ev.loop (fun m s => s.2 = J (L + 1 - m) - J 1 ∧ MFw S0 s.1 ∧ RdM s.1 c L x d kl ∧ (1 ≤ m → RepT 99999 (s.1 22) (s.1 23) (wyT c L kl (mtW x d L kl) (m - 1)) L (m - 1))) (L + 1) ?_ ?_ ⟨by show J L = _; rw [J_sub (by omega)]; congr 1, hF, H, fun z => absurd z (by omega)⟩ (by unfold FUEL; omega)
  · rintro m hm ⟨Sx, v13⟩ ⟨k0, k1, k2, k3⟩ rc hrc
    simp only at k0 k1 k2 k3
    obtain ⟨i, hi⟩ : ∃ i, i = L - m := ⟨_, rfl⟩
    have k0 : v13 = J i := by rw [k0, J_sub (by omega), hi]; congr 1; omega
    subst k0
    show Ev (sM_readings_L99 p2 (J L) rc Sx (J i)) _
    unfold sM_readings_L99
    rw [if_neg (by rw [lit_0, J_lt (by omega) (by omega)]; omega), joinB_eq]
    have hnx : J i + (-1 : Int32) = J (L + 1 - (m + 1)) - J 1 := by rw [add_m1, hi]; congr 2; omega
    by_cases c0 : m = 0
    · have hiL : i = L := by omega
      rw [if_pos (by rw [hiL])]
      show Ev (sM_readings_J121 (J L) Sx (J i) rc (J 1)) _
      unfold sM_readings_J121
      rw [gd (by omega) (by omega), J_tn (by omega), letB_eq, joinB_eq, if_pos (by rw [hiL])]
      show Ev (sM_readings_J141 (J L) (J i) rc (u2 Sx 22 i (J 1)) (J 0)) _
      unfold sM_readings_J141
      rw [gd (by omega) (by omega), J_tn (by omega), letB_eq]
      obtain ⟨Sy, hSy⟩ : ∃ Sy, Sy = u2 (u2 Sx 22 i (J 1)) 23 i (J 0) := ⟨_, rfl⟩
      rw [← hSy]
      have y1 : RdM Sy c L x d kl := by rw [hSy]; exact (k2.u (Or.inl rfl)).u (Or.inr rfl)
      refine Ev.loop2 (i0 := 0) (fun w Sz => Sz = Sy) c rfl (by omega) ?_ ?_ (by unfold FUEL; omega)
      · rintro w - hw Sz hz rc2 hrc2
        rw [hz]
        unfold sM_readings_L145
        rw [y1.1.1, if_neg (by rw [J_le (by omega) (by omega)]; omega), if_pos (by rw [hiL]), lit_1, J_add]
        exact hrc2 _ rfl
      · rintro Sz hz rc2
        rw [hz]
        unfold sM_readings_L145
        rw [y1.1.1, if_pos (Int32.le_refl _)]
        refine hrc (Sy, _) ⟨hnx, ?_, y1, fun _ j z1 z2 => ?_⟩
        · rw [hSy]
          exact (k1.u (Or.inr (Or.inl rfl))).u (Or.inr (Or.inr rfl))
        · have : j = i := by omega
          subst this
          subst c0
          show Sy 22 j = _ ∧ Sy 23 j = _
          rw [hSy, u2_row' (show 22 < 23 ∨ 23 < 22 by omega), u2_at, u2_at]
          exact ⟨rfl, rfl⟩
    · have hne : ¬ J i = J L := by rw [J_eq (by omega) (by omega)]; omega
      rw [if_neg hne]
      show Ev (sM_readings_J121 (J L) Sx (J i) rc (J 0)) _
      unfold sM_readings_J121
      rw [gd (by omega) (by omega), J_tn (by omega), letB_eq, joinB_eq, if_neg hne]
      show Ev (sM_readings_J141 (J L) (J i) rc (u2 Sx 22 i (J 0)) (J 99999)) _
      unfold sM_readings_J141
      rw [gd (by omega) (by omega), J_tn (by omega), letB_eq]
      have r0 := k3 (by omega)
      refine tM_rdIn (S0 := S0) (T := wyT c L kl (mtW x d L kl) (m - 1)) hL hc8 hx hwd (htb (m - 1) (by omega)) (show i = L - (m - 1 + 1) by omega) (by omega) ((k1.u (Or.inr (Or.inl rfl))).u (Or.inr (Or.inr rfl))) ((k2.u (Or.inl rfl)).u (Or.inr rfl)) (fun j z1 z2 => ?_) (by rw [u2_row' (show 22 < 23 ∨ 23 < 22 by omega), u2_at]) u2_at (fun S' y0 y1 y2 y3 y4 => ?_)
      · obtain ⟨a1, a2⟩ := r0 j z1 z2
        rw [u2_row' (show 22 < 23 ∨ 23 < 22 by omega), u2_off (by omega), u2_off (by omega), u2_row' (show 23 < 22 ∨ 22 < 23 by omega)]
        exact ⟨a1, a2⟩
      · refine hrc (S', _) ⟨hnx, y0, y1, fun _ j z1 z2 => ?_⟩
        rw [show m + 1 - 1 = (m - 1) + 1 by omega] at z1 ⊢
        by_cases e : j = i
        · rw [e, tb_s, if_pos (by omega)]
          exact ⟨y3, y4⟩
        · obtain ⟨a1, a2⟩ := r0 j (by omega) z2
          obtain ⟨b1, b2⟩ := y2 j e
          rw [u2_row' (show 22 < 23 ∨ 23 < 22 by omega), u2_off (by omega)] at b1
          rw [u2_off (by omega), u2_row' (show 23 < 22 ∨ 22 < 23 by omega)] at b2
          rw [tb_s, if_neg (by omega)]
          exact ⟨b1.trans a1, b2.trans a2⟩
  · rintro ⟨Sx, v13⟩ ⟨k0, k1, k2, k3⟩ rc
    simp only at k0 k1 k2 k3
    rw [Nat.sub_self] at k0
    subst k0
    obtain ⟨a1, a2⟩ := k3 (by omega) 0 (by omega) (by omega)
    rw [show L + 1 - 1 = L by omega] at a1 a2
    obtain ⟨t1, t2⟩ := ok_b (htb L (Nat.le_refl _)) hL (show L - L ≤ 0 by omega) (by omega)
    show Ev (sM_readings_L99 p2 (J L) rc Sx (J 0 - J 1)) _
    unfold sM_readings_L99
    rw [if_pos m1_lt]
    unfold anR
    by_cases c0 : p2 = 0
    · rw [if_pos c0, if_pos c0, gz10, tn0, a1]
      exact ⟨_, rfl, rfl, k1⟩
    · rw [if_neg c0, if_neg c0, gz10, gz10, tn0, a2, lit_mm]
      cases hd : (wyT c L kl (mtW x d L kl) L 0).2 with
      | none =>
        rw [if_neg (by show ¬ J 99999 < J 99999; rw [J_lt (by omega) (by omega)]; omega)]
        exact ⟨_, rfl, rfl, k1⟩
      | some v =>
        have := t2 v hd
        rw [if_pos (by show J v < J 99999; rw [J_lt (by omega) (by omega)]; omega)]
        exact ⟨_, rfl, rfl, k1⟩
