set_option maxRecDepth 100000
/-! THE PLAIN LAW, 46: how many readings, 9 -/
theorem lit_bil : (999999999 : Int32) = J 999999999 := asEq rfl
theorem tM_digits {S : US} {c p : Nat} {d : Nat → Nat → Nat} {kl : Nat → Nat} {p2 : Int32} {b : Bool} (hp : p ≤ 999999999) (hc8 : c ≤ 8) (hwd : ∀ w, w < c → 1 ≤ kl w ∧ kl w ≤ 4 ∧ ∀ j, j < kl w → d w j ≤ 9) (H : WdM S c d kl) :
    Ev (loopK (fun rc (x : (Int32 × Int32)) => sM_readings_L40 (J p) p2 (b, S) rc x.1 x.2) FUEL ((1 : Int32), (J p / (10 : Int32)))) (fun o => o.1 = anR p2 (wyT c (ndN p) kl (mtW (digN p (ndN p)) d (ndN p) kl) (ndN p) 0) ∧ MFw S o.2) := by
  obtain ⟨n1, n2, n3, n4⟩ := nd_ok hp
  obtain ⟨L, hL⟩ : ∃ L, L = ndN p := ⟨_, rfl⟩
  rw [← hL] at n1 n2 n3 n4 ⊢
  refine Ev.loop (fun i s => s = (J (i + 1), J (p / 10 ^ (i + 1)))) (L - 1) ?_ ?_ (by rw [lit_10, J_div (by omega) (by omega), lit_1]) (by unfold FUEL; omega)
  · rintro i hi _ rfl rc hrc
    show Ev (sM_readings_L40 (J p) p2 (b, S) rc (J (i + 1)) (J (p / 10 ^ (i + 1)))) _
    have e1 : 10 ^ (i + 1) ≤ 10 ^ (L - 1) := Nat.pow_le_pow_right (by decide) (by omega)
    have e2 : 1 ≤ p / 10 ^ (i + 1) := (Nat.le_div_iff_mul_le (Nat.pow_pos (by decide))).mpr (by omega)
    have e3 : p / 10 ^ (i + 1) ≤ p := Nat.div_le_self _ _
    unfold sM_readings_L40
    rw [if_neg (by rw [lit_0, J_le (by omega) (by omega)]; omega)]
    refine hrc _ ?_
    rw [lit_1, J_add, lit_10, J_div (by omega) (by omega), Nat.div_div_eq_div_mul, Nat.pow_succ 10 (i + 1)]
  · rintro _ rfl rc
    show Ev (sM_readings_L40 (J p) p2 (b, S) rc (J (L - 1 + 1)) (J (p / 10 ^ (L - 1 + 1)))) _
    unfold sM_readings_L40
    rw [Nat.sub_add_cancel n1, Nat.div_eq_of_lt n3, if_pos (by rw [lit_0]; exact Int32.le_refl _)]
    refine Ev.loop (fun i s => MFw S s.1 ∧ s.2.1 = J (p / 10 ^ i) ∧ s.2.2 = J (L - i) - J 1 ∧ ∀ j, L - i ≤ j → j < L → s.1 21 j = J (digN p L j)) L ?_ ?_ ⟨fun _ _ _ _ => rfl, by rw [Nat.pow_zero, Nat.div_one], rfl, fun j z1 z2 => by omega⟩ (by unfold FUEL; omega)
    · rintro i hi ⟨Sx, v9, v10⟩ ⟨k1, k2, k3, k4⟩ rc2 hrc2
      simp only at k1 k2 k3 k4
      have k3 : v10 = J (L - (i + 1)) := by rw [k3, J_sub (by omega)]; congr 1
      subst k2
      subst k3
      have e3 : p / 10 ^ i ≤ p := Nat.div_le_self _ _
      show Ev (sM_readings_L66 p2 (J L) rc2 Sx (J (p / 10 ^ i)) (J (L - (i + 1)))) _
      unfold sM_readings_L66
      have e4 : p / 10 ^ i - p / 10 ^ i / 10 * 10 = p / 10 ^ i % 10 := by omega
      rw [if_neg (by rw [lit_0, J_lt (by omega) (by omega)]; omega), gd (by omega) (by omega), J_tn (by omega), lit_10, J_div (by omega) (by omega), J_mul, J_sub (by omega), e4, letB_eq]
      refine hrc2 (_, _, _) ⟨k1.u (Or.inl rfl), by rw [Nat.div_div_eq_div_mul, Nat.pow_succ], by rw [add_m1], fun j z1 z2 => ?_⟩
      by_cases e : j = L - (i + 1)
      · show u2 Sx 21 (L - (i + 1)) (J (p / 10 ^ i % 10)) 21 j = _
        rw [e, u2_at]
        unfold digN
        congr 4
        omega
      · show u2 Sx 21 (L - (i + 1)) (J (p / 10 ^ i % 10)) 21 j = _
        rw [u2_off (by omega)]
        exact k4 j (by omega) z2
    · rintro ⟨Sx, v9, v10⟩ ⟨k1, k2, k3, k4⟩ rc2
      simp only at k1 k2 k3 k4
      rw [Nat.sub_self] at k3 k4
      subst k3
      show Ev (sM_readings_L66 p2 (J L) rc2 Sx v9 (J 0 - J 1)) _
      unfold sM_readings_L66
      rw [if_pos m1_lt]
      refine tM_rdOut n1 n2 hc8 (fun j hj => by unfold digN; omega) hwd k1 ⟨⟨?_, fun i hi => ?_⟩, fun j hj => k4 j (by omega) hj⟩
      · rw [k1 0 (by omega) (by omega) (by omega)]; exact H.1
      · rw [k1 2 (by omega) (by omega) (by omega), k1 3 (by omega) (by omega) (by omega)]; exact H.2 i hi
theorem A_readings {ct : CT} {a0 q0 j : Nat} {S : US} {G : GS} {P : Nat → Nat → Option Nat} {ad : Nat → Nat} {S2 : US} {u : RU} {r : Nat → Nat} {q1 e1 c1 : Nat} {f1 : Nat → Option Nat} {R1 : Nat → Nat → Nat} {q2 e2 c2 : Nat} {f2 : Nat → Option Nat} {sn : Nat → Nat} {t : Nat} (hj : j < 24) (H : InvD ct a0 q0 j S G P ad S2 u r q1 e1 c1 f1 R1 q2 e2 c2 f2 sn t) (p1 p2 : Int32) : AgR [(1, 1), (2, 2)] S2 (RG2 S2 G 20 2000) (t1_readings S ct P G.1 p1 p2) (s1_readings ct ad P S G p1 p2) (sM_readings S2 p1 p2) := by
  have hrm : Rm ct G 49000 228000 := H.1.2.2.1.rm H.1.2.1 hj (by omega) (by omega)
  have B := H.1.2.1
  obtain ⟨-, -, -, -, -, -, hW, -⟩ := H.z
  obtain ⟨c, d, kl, hWH, hWM⟩ := hW
  have hWH : WdH G.1 P c d kl := by
    obtain ⟨w1, q, f, w2, w3, w4⟩ := hWH
    exact ⟨w1, q, f, w2, w3.sub cutM_sub, fun i hi => by
      obtain ⟨g1, b, g2, g3⟩ := w4 i hi
      exact ⟨g1, b, g2, g3.sub cutM_sub⟩⟩
  have hc8 := hWH.1
  have hwd : ∀ w, w < c → 1 ≤ kl w ∧ kl w ≤ 4 ∧ ∀ j, j < kl w → d w j ≤ 9 := by
    obtain ⟨w1, q, f, w2, w3, w4⟩ := hWH
    exact fun w hw => (w4 w hw).1
  obtain ⟨o1, o2⟩ := tH_oneOf (b := 1) (p := p2)
  have e1 := tH_in (p := p1) (a := 0) (b := 999999999)
  have m1 := tM_isWhat (S := Z0 S2) (b := 1) (p := p2) Z0_0
  have m2 := tM_within (p := p1) (a := 0) (b := 999999999)
  have m3 := tM_right (S := Z0 S2) (c := inN p1 0 999999999) (k := 2) Z0_0 (Or.inr rfl)
  have eM : sM_readings S2 p1 p2 = callK (sM_isWhat (Z0 S2) p2 (J 1)) (fun o2 => (if (bI o2.1) = 0 then some ((0 : Int32), o2.2) else callK (sM_within p1 (J 0) (J 999999999)) (fun o3 => callK (sM_right o2.2 (bI o3) (J 2)) (fun o4 => (if (bI o4.1) = 0 then some ((0 : Int32), o4.2) else loopK (fun rc (x : (Int32 × Int32)) => sM_readings_L40 p1 p2 o4 rc x.1 x.2) FUEL ((1 : Int32), (p1 / (10 : Int32)))))))) := by
    unfold sM_readings
    rw [letB_eq, lit_bil]
    rfl
  rw [m1, callK_eq] at eM
  have eT : t1_readings S ct P G.1 p1 p2 = tB (t1_oneOf p2 (J 1)) (callK (s1_oneOf p2 (J 1)) (fun o1 => callK (s1_in p1 (J 0) (J 999999999)) (fun o2 => t1_right (bI o2)))) := by
    unfold t1_readings
    rw [lit_bil]
    rfl
  cases h1 : inN p2 0 1 with
  | false =>
    rw [h1] at o1 eM
    rw [if_neg (show ¬ (false = true) by decide)] at o1 eM
    rw [eT, o1, tB_s, eM]
    dsimp only
    rw [bI_f, if_pos j00]
    exact Or.inl ⟨1, 1, by decide, rfl, ev_thr⟩
  | true =>
    rw [h1] at o1 o2 eM
    rw [if_pos rfl] at o1 o2 eM
    dsimp only at eM
    rw [bI_t, if_neg (by decide), m2, callK_eq, m3, callK_eq] at eM
    cases h2 : inN p1 0 999999999 with
    | false =>
      rw [h2] at eM e1
      rw [if_neg (show ¬ (false = true) by decide)] at eM
      dsimp only at eM
      rw [bI_f, if_pos j00] at eM
      rw [eT, o1, tB_n, o2, callK_eq, e1, callK_eq, bI_f, ri_0, eM]
      exact Or.inl ⟨2, 2, by decide, rfl, ev_thr⟩
    | true =>
      obtain ⟨p, -, hp, hp1⟩ := J_of (by omega) (by omega) h2
      subst hp1
      rw [h2] at eM e1
      rw [if_pos rfl] at eM
      dsimp only at eM
      rw [bI_t, if_neg (by decide)] at eM
      rw [eT, o1, tB_n, o2, callK_eq, e1, callK_eq, bI_t, ri_1, eM]
      obtain ⟨rs, s1, s2, s3⟩ := tH_readings (ad := ad) (S := S) (p2 := p2) B hp hWH o2 (by rw [lit_bil]; exact e1) (hrm.le (by omega) (by omega))
      obtain ⟨rm, k1, k2, k3⟩ := tM_digits (p2 := p2) (b := true) hp hc8 hwd hWM
      refine Ar_ok (RG2.mk _ ⟨rs, s1, s2, s3.le (by omega) (by omega)⟩ ⟨rm, k1, k2, ?_, ?_⟩)
      · rw [k3 0 (by omega) (by omega) (by omega)]; exact Z0_0
      · exact Z0_k.tr k3.k
