set_option maxRecDepth 100000
/-! THE PLAIN LAW, 43: how many readings, 6: HorizonSeam -/
theorem lit_hm : (100000 : Int32) = J 100000 := asEq rfl
theorem lit_mm : (99999 : Int32) = J 99999 := asEq rfl
abbrev mtW (x : Nat → Nat) (d : Nat → Nat → Nat) (L : Nat) (kl : Nat → Nat) : Nat → Nat → Bool := fun w off => mtB x (d w) L (kl w) off
theorem mtW_ok {x : Nat → Nat} {d : Nat → Nat → Nat} {L c : Nat} {kl : Nat → Nat} (h : ∀ w, w < c → 1 ≤ kl w) : ∀ w i, w < c → mtW x d L kl w i = true → i + kl w ≤ L ∧ 1 ≤ kl w := fun w i hw z => by
  unfold mtW mtB at z
  exact ⟨(of_decide_eq_true z).1, h w hw⟩
theorem m1_lt : J 0 - J 1 < (0 : Int32) := by decide
theorem tH_rdOut {ct : CT} {G2 G : GS} {P : Nat → Nat → Option Nat} {c L b5 q7 q9 : Nat} {x : Nat → Nat} {d : Nat → Nat → Nat} {kl : Nat → Nat} {f7 f9 : Nat → Int32} {p2 : Int32} (hb : Bd G2) (h7 : G2.2.1 ≤ q7) (h9 : G2.2.1 ≤ q9) (hne : q7 ≠ q9) (hL : L ≤ 9) (hS : StrH G2.1 b5 L (fun j => J (48 + x j))) (hx : ∀ j, j < L → x j ≤ 9) (hW : WdH G2.1 P c d kl) (H : RdH G2 L q7 q9 G f7 f9) (e7 : f7 L = J 1) (e9 : f9 L = J 0) (e0 : ∀ j, j < L → f7 j = J 0) :
    Ev (loopK (fun rc (x : (GS × Int32)) => s1_readings_L55 p2 P b5 q7 q9 rc x.1 x.2) FUEL (G, J L - J 1)) (fun o => o.1 = anR p2 (wyT c L kl (mtW x d L kl) L 0) ∧ Gr (fun _ => False) G2 o.2 2 20) := by
  have hok := mtW_ok (x := x) (d := d) (L := L) (fun w hw => (hW.2.choose_spec.choose_spec.2.2 w hw).1.1)
  have hc8 := hW.1
  have htb := tb_ok (L := L) (c := c) (kl := kl) (mt := mtW x d L kl) hc8 hok
  refine Ev.loop (fun n s => ∃ f7 f9, s.2 = J (L - n) - J 1 ∧ RdH G2 L q7 q9 s.1 f7 f9 ∧ RepT 100000 f7 f9 (wyT c L kl (mtW x d L kl) n) L n ∧ ∀ j, j < L - n → f7 j = J 0) L ?_ ?_ ⟨f7, f9, rfl, H, fun j z1 z2 => ?_, e0⟩ (by unfold FUEL; omega)
  · rintro n hn ⟨Gx, v13⟩ ⟨g7, g9, k0, k1, k2, k3⟩ rc hrc
    simp only at k0 k1
    obtain ⟨i, hi⟩ : ∃ i, i = L - (n + 1) := ⟨_, rfl⟩
    have k0 : v13 = J i := by rw [k0, J_sub (by omega), hi]; congr 1
    subst k0
    show Ev (s1_readings_L55 p2 P b5 q7 q9 rc Gx (J i)) _
    unfold s1_readings_L55
    rw [if_neg (by rw [lit_0, J_lt (by omega) (by omega)]; omega), lit_hm]
    refine k1.p9 hb h9 hne (by omega) hL (fun G18 j1 => ?_)
    refine tH_rdIn (ct := ct) (f7 := g7) (f9 := upd g9 i (J 100000)) hb h7 h9 hne hL hS hx hW (htb n (by omega)) hi hn j1 (fun j z1 z2 => ?_) (k3 i (by omega)) upd_at (fun G' f7' f9' y1 y2 y3 y4 => ?_)
    · obtain ⟨a1, a2⟩ := k2 j z1 z2
      exact ⟨a1, by rw [upd_ne (by omega)]; exact a2⟩
    · refine hrc (G', _) ⟨f7', f9', by show J i + (-1 : Int32) = _; rw [add_m1, hi], y1, fun j z1 z2 => ?_, fun j z => ?_⟩
      · by_cases e : j = i
        · rw [e, tb_s, if_pos hi]
          exact ⟨y3, y4⟩
        · obtain ⟨a1, a2⟩ := k2 j (by omega) z2
          rw [tb_s, if_neg (by omega), (y2 j e).1, (y2 j e).2, upd_ne (by omega)]
          exact ⟨a1, a2⟩
      · rw [(y2 j (by omega)).1]
        exact k3 j (by omega)
  · rintro ⟨Gx, v13⟩ ⟨g7, g9, k0, k1, k2, k3⟩ rc
    simp only at k0 k1
    rw [Nat.sub_self] at k0
    subst k0
    obtain ⟨a1, a2⟩ := k2 0 (by omega) (by omega)
    obtain ⟨t1, t2⟩ := ok_b (htb L (Nat.le_refl _)) hL (show L - L ≤ 0 by omega) (by omega)
    show Ev (s1_readings_L55 p2 P b5 q7 q9 rc Gx (J 0 - J 1)) _
    unfold s1_readings_L55
    rw [if_pos m1_lt]
    unfold anR
    by_cases c0 : p2 = 0
    · rw [if_pos c0, if_pos c0, lit_0, hZ_J k1.2.1 (by omega) (by omega) a1]
      exact ⟨_, rfl, rfl, k1.1⟩
    · rw [if_neg c0, if_neg c0, lit_0, hZ_J k1.2.2 (by omega) (by omega) a2, lit_hm]
      cases hd : (wyT c L kl (mtW x d L kl) L 0).2 with
      | none =>
        rw [if_neg (by show ¬ J 100000 < J 100000; rw [J_lt (by omega) (by omega)]; omega)]
        exact ⟨_, rfl, rfl, k1.1⟩
      | some v =>
        have := t2 v hd
        rw [if_pos (by show J v < J 100000; rw [J_lt (by omega) (by omega)]; omega), hZ_J k1.2.2 (by omega) (by omega) a2, hd]
        exact ⟨_, rfl, rfl, k1.1⟩
  · have : j = L := by omega
    subst this
    exact ⟨e7, e9⟩
theorem big_no' {n : Nat} (h : n ≤ 67108864) : ¬ (J n < 0 ∨ 67108864 < n) := by
  rw [lit_0, J_lt (by omega) (by omega)]
  omega
/-- HorizonSeam's answer -/
theorem tH_readings {ct : CT} {ad : Nat → Nat} {G : GS} {P : Nat → Nat → Option Nat} {S : US} {c p : Nat} {d : Nat → Nat → Nat} {kl : Nat → Nat} {p2 : Int32} (B : GB ct G) (hp : p ≤ 999999999) (hW : WdH G.1 P c d kl) (h1 : s1_oneOf p2 (1 : Int32) = some ()) (h2 : s1_in (J p) (0 : Int32) (999999999 : Int32) = some true) (hr : Rm ct G 4 40) :
    Ev (s1_readings ct ad P S G (J p) p2) (fun o => o.1 = anR p2 (wyT c (ndN p) kl (mtW (digN p (ndN p)) d (ndN p) kl) (ndN p) 0) ∧ Gr (fun _ => False) G o.2 4 40) := by
  obtain ⟨n1, n2, n3, n4⟩ := nd_ok hp
  obtain ⟨L, hL⟩ : ∃ L, L = ndN p := ⟨_, rfl⟩
  unfold s1_readings
  rw [h1, callK_eq, h2, callK_eq, bI_t, re_1, callK_eq]
  refine (tN_toString B hp (hr.le (by omega) (by omega))).call (fun o4 k => ?_)
  obtain ⟨b5, k1, k2, k3⟩ := k
  rw [← hL] at n1 n2 n3 n4 k2 ⊢
  have B2 := B.gr k3 (fun a ha => ha.elim)
  have hW2 := hW
  obtain ⟨o, v, x1, y1, o2, f, s1, s2, s3⟩ := k2
  have hlen := tS_length (q := b5) (h := o4.2.1) (n := L) ⟨o, v, x1, y1, o2, f, s1, s2, s3⟩ (by omega)
  have r2 : Rm ct o4.2 2 27 := (hr.le (c' := 2 + 2) (z' := 13 + 27) (by omega) (by omega)).gr k3
  have r2a : Rm ct o4.2 1 (L + 1) := r2.le (by omega) (by omega)
  rw [k1, onR_eq, hC_eq s1, hlen, callK_eq, lit_1, J_add, if_neg (big_no (by omega)), J_tn (by omega), newB_eq r2a, if_neg (big_no' (by omega))]
  have g1 : Gr (fun _ => False) o4.2 (addG o4.2 (L + 1) (.inl (0, L + 1, .inl (fun _ => 0)))) 1 (L + 1) := grw_add B2.1
  have B3 := B2.gr g1 (fun a ha => ha.elim)
  have r3 : Rm ct (addG o4.2 (L + 1) (.inl (0, L + 1, .inl (fun _ => 0)))) 1 (L + 1) := (r2.le (c' := 1 + 1) (z' := L + 1 + (L + 1)) (by omega) (by omega)).gr g1
  rw [newB_eq r3]
  have g2 : Gr (fun _ => False) (addG o4.2 (L + 1) (.inl (0, L + 1, .inl (fun _ => 0)))) (addG (addG o4.2 (L + 1) (.inl (0, L + 1, .inl (fun _ => 0)))) (L + 1) (.inl (0, L + 1, .inl (fun _ => 0)))) 1 (L + 1) := grw_add B3.1
  have hq : (addG o4.2 (L + 1) (.inl (0, L + 1, .inl (fun _ => 0)))).2.1 = o4.2.2.1 + 1 := rfl
  have H : RdH o4.2 L o4.2.2.1 (o4.2.2.1 + 1) (addG (addG o4.2 (L + 1) (.inl (0, L + 1, .inl (fun _ => 0)))) (L + 1) (.inl (0, L + 1, .inl (fun _ => 0)))) (fun _ => 0) (fun _ => 0) := ⟨(g1.tr g2).le (by omega) (by omega), g2.1 _ _ (fun z => z) addG_at, addG_at⟩
  rw [hq]
  refine H.p7 B2.1 (Nat.le_refl _) (by omega) (Nat.le_refl _) (by omega) (fun G11 j1 => ?_)
  have hfin := tH_rdOut (ct := ct) (p2 := p2) B2.1 (Nat.le_refl _) (show o4.2.2.1 ≤ o4.2.2.1 + 1 by omega) (by omega) (by omega) ⟨o, v, x1, y1, o2, f, s1, s2, s3⟩ (fun j hj => by unfold digN; omega) ((show WdH o4.2.1 P c d kl from by
    obtain ⟨w1, q, f, w2, w3, w4⟩ := hW
    exact ⟨w1, q, f, w2, w3.sub k3.sub, fun i hi => by
      obtain ⟨g1, b, g2, g3⟩ := w4 i hi
      exact ⟨g1, b, g2, g3.sub k3.sub⟩⟩)) j1 upd_at rfl (fun j hj => by rw [upd_ne (by omega)]; rfl)
  obtain ⟨r, e1, e2, e3⟩ := hfin
  exact ⟨r, e1, e2, (k3.tr e3).le (by omega) (by omega)⟩
