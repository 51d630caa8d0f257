set_option maxRecDepth 100000
/-! THE PLAIN LAW, 44: how many readings, 7: the Model's tables -/
theorem gdn {ρ : Type} {k n : Nat} {x : Option ρ} (h : k < n) (hn : n ≤ 2147483648) : (if J k < 0 ∨ n ≤ k then none else x) = x := by
  have := gd (x := x) h hn
  rw [J_tn (by omega)] at this
  exact this
def MFw (S S' : US) : Prop := ∀ a, a ≠ 21 → a ≠ 22 → a ≠ 23 → S' a = S a
theorem MFw.u {S S' : US} {a k : Nat} {v : Int32} (h : MFw S S') (ha : a = 21 ∨ a = 22 ∨ a = 23) : MFw S (u2 S' a k v) := fun b h1 h2 h3 => by rw [u2_row' (by omega)]; exact h b h1 h2 h3
theorem MFw.k {S S' : US} (h : MFw S S') : KeepM S S' := ⟨fun a ha => h a (by omega) (by omega) (by omega), fun k _ => by rw [h 14 (by decide) (by decide) (by decide)], fun k _ _ => by rw [h 0 (by decide) (by decide) (by decide)]⟩
/-- the words and the digits, as the Model holds them -/
def RdM (S : US) (c L : Nat) (x : Nat → Nat) (d : Nat → Nat → Nat) (kl : Nat → Nat) : Prop := WdM S c d kl ∧ ∀ j, j < L → S 21 j = J (x j)
theorem RdM.u {S : US} {c L a k : Nat} {x : Nat → Nat} {d : Nat → Nat → Nat} {kl : Nat → Nat} {v : Int32} (h : RdM S c L x d kl) (ha : a = 22 ∨ a = 23) : RdM (u2 S a k v) c L x d kl := by
  obtain ⟨⟨h1, h2⟩, h3⟩ := h
  refine ⟨⟨by rw [u2_row' (by omega)]; exact h1, fun i hi => by rw [u2_row' (by omega), u2_row' (by omega)]; exact h2 i hi⟩, fun j hj => by rw [u2_row' (by omega)]; exact h3 j hj⟩
theorem tM_rdIn {S0 S : US} {c L n i : Nat} {x : Nat → Nat} {d : Nat → Nat → Nat} {kl : Nat → Nat} {T : Nat → Nat × Option Nat} {rc14 : US × Int32 → Option (Int32 × US)} {Q : Int32 × US → Prop} (hL : L ≤ 9) (hc8 : c ≤ 8) (hx : ∀ j, j < L → x j ≤ 9) (hwd : ∀ w, w < c → 1 ≤ kl w ∧ kl w ≤ 4 ∧ ∀ j, j < kl w → d w j ≤ 9) (hT : OkT L n T) (hi : i = L - (n + 1)) (hn : n < L) (hF : MFw S0 S) (H : RdM S c L x d kl) (hR : RepT 99999 (S 22) (S 23) T L n) (e7 : S 22 i = J 0) (e9 : S 23 i = J 99999)
    (hk : ∀ S', MFw S0 S' → RdM S' c L x d kl → (∀ j, j ≠ i → S' 22 j = S 22 j ∧ S' 23 j = S 23 j) → S' 22 i = J (fwN kl (mtW x d L kl) T i c).1 → S' 23 i = J (hvN 99999 (fwN kl (mtW x d L kl) T i c).2) → Ev (rc14 (S', J i + (-1 : Int32))) Q) :
    Ev (loopK (fun rc (x : (US × Int32)) => sM_readings_L145 (J L) (J i) rc14 rc x.1 x.2) FUEL (S, (0 : Int32))) Q := by
  have hm : ∀ w, w < c → mtW x d L kl w i = true → i + kl w ≤ L ∧ 1 ≤ kl w := fun w hw z => mtW_ok (fun w hw => (hwd w hw).1) w i hw z
  refine Ev.loop2 (i0 := 0) (fun w Sx => MFw S0 Sx ∧ RdM Sx c L x d kl ∧ (∀ j, j ≠ i → Sx 22 j = S 22 j ∧ Sx 23 j = S 23 j) ∧ Sx 22 i = J (fwN kl (mtW x d L kl) T i w).1 ∧ Sx 23 i = J (hvN 99999 (fwN kl (mtW x d L kl) T i w).2)) c ⟨hF, H, fun j _ => ⟨rfl, rfl⟩, e7, e9⟩ (by omega) ?_ ?_ (by unfold FUEL; omega)
  · rintro w - hw Sx ⟨f0, k1, k2, k3, k4⟩ rc hrc
    obtain ⟨w1, w2, w3⟩ := hwd w hw
    obtain ⟨⟨y1, y2⟩, y3⟩ := k1
    obtain ⟨y4, y5⟩ := y2 w hw
    have fwb := fw_b (mt := mtW x d L kl) hT hi hn hL hc8 hm (show w ≤ c by omega)
    have hst := tM_isHere (off := i) y5 y4 (by omega) y3 hx w3 w2 hL (by omega)
    unfold sM_readings_L145
    rw [y1, if_neg (by rw [J_le (by omega) (by omega)]; omega), if_neg (by rw [J_eq (by omega) (by omega)]; omega), hst, callK_eq]
    cases hmt : mtB x (d w) L (kl w) i with
    | false =>
      rw [bI_f, if_pos j00, lit_1, J_add]
      refine hrc Sx ⟨f0, ⟨⟨y1, y2⟩, y3⟩, k2, ?_, ?_⟩
      · rw [k3, fw_s, if_neg (by show ¬ mtB x (d w) L (kl w) i = true; rw [hmt]; decide)]
      · rw [k4, fw_s, if_neg (by show ¬ mtB x (d w) L (kl w) i = true; rw [hmt]; decide)]
    | true =>
      obtain ⟨m1, m2⟩ := hm w hw hmt
      obtain ⟨t1, t2⟩ := ok_b hT hL (show L - n ≤ i + kl w by omega) m1
      obtain ⟨r1, r2⟩ := hR (i + kl w) (by omega) m1
      have g7 : Sx 22 (i + kl w) = J (T (i + kl w)).1 := by rw [(k2 _ (by omega)).1, r1]
      have g9 : Sx 23 (i + kl w) = J (hvN 99999 (T (i + kl w)).2) := by rw [(k2 _ (by omega)).2, r2]
      have hb1 := hv_b (D := 99999) (by decide) t2
      have hb2 := hv_b (D := 99999) (by decide) fwb.2
      obtain ⟨-, hv1⟩ := hv_one (D := 99999) (by decide) fwb.2 t2
      rw [bI_t, if_neg (by decide), J_tn (show i < 2147483648 by omega), J_tn (show w < 2147483648 by omega), gdn (by omega) (by omega), gdn (by omega) (by omega), y5, J_add, gd (by omega) (by omega), gdn (by omega) (by omega), J_tn (by omega), k3, g7, J_add, letB_eq]
      try dsimp only
      rw [gdn (by omega) (by omega), gdn (by omega) (by omega), u2_row' (show 3 < 22 ∨ 22 < 3 by omega), y5, J_add, gd (by omega) (by omega), J_tn (by omega), u2_row' (show 23 < 22 ∨ 22 < 23 by omega), k4, g9, lit_1, J_add]
      have hv2 : min (hvN 99999 (fwN kl (mtW x d L kl) T i w).2) (1 + hvN 99999 (T (i + kl w)).2) = _ := Eq.trans (by split <;> omega) hv1
      rw [tM_lesser (by omega) (by omega), hv2, callK_eq]
      try dsimp only
      rw [gdn (by omega) (by omega), letB_eq]
      try dsimp only
      rw [J_add]
      refine hrc _ ⟨(f0.u (Or.inr (Or.inl rfl))).u (Or.inr (Or.inr rfl)), (RdM.u ⟨⟨y1, y2⟩, y3⟩ (Or.inl rfl)).u (Or.inr rfl), fun j hj => ?_, ?_, ?_⟩
      · rw [u2_row' (show 22 < 23 ∨ 23 < 22 by omega), u2_off (by omega), u2_off (by omega), u2_row' (show 23 < 22 ∨ 22 < 23 by omega)]
        exact k2 j hj
      · rw [u2_row' (show 22 < 23 ∨ 23 < 22 by omega), u2_at, fw_s, if_pos hmt]
      · rw [u2_at, fw_s, if_pos hmt]
  · rintro Sx ⟨f0, k1, k2, k3, k4⟩ rc
    unfold sM_readings_L145
    rw [k1.1.1, if_pos (Int32.le_refl _)]
    exact hk Sx f0 k1 k2 k3 k4
