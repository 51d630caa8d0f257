set_option maxRecDepth 100000
/-! THE PLAIN LAW, 42: how many readings, 5: HorizonSeam's tables -/
def RdH (G2 : GS) (L q7 q9 : Nat) (Gx : GS) (f7 f9 : Nat → Int32) : Prop := Gr (fun _ => False) G2 Gx 2 20 ∧ Gx.1 q7 = some (true, .inl (0, L + 1, .inl f7)) ∧ Gx.1 q9 = some (true, .inl (0, L + 1, .inl f9))
theorem RdH.p7 {ρ : Type} {G2 Gx : GS} {L q7 q9 j : Nat} {f7 f9 : Nat → Int32} {v : Int32} {kp : GS → Option ρ} {Q : ρ → Prop} (H : RdH G2 L q7 q9 Gx f7 f9) (hb : Bd G2) (h7 : G2.2.1 ≤ q7) (hne : q7 ≠ q9) (hj : j ≤ L) (hL : L ≤ 9) (hk : ∀ G', RdH G2 L q7 q9 G' (upd f7 j v) f9 → Ev (kp G') Q) : Ev (hPutZ Gx q7 0 (J j) v kp) Q := by
  obtain ⟨h1, h2, h3⟩ := H
  refine Ev.pb h2 (by omega) (by omega) (fun G' a1 a2 a3 => hk G' ⟨h1.fresh a2 hb (fun a ha => by rw [ha]; exact h7), a1, a2.1 _ _ (fun z => hne z.symm) h3⟩)
theorem RdH.p9 {ρ : Type} {G2 Gx : GS} {L q7 q9 j : Nat} {f7 f9 : Nat → Int32} {v : Int32} {kp : GS → Option ρ} {Q : ρ → Prop} (H : RdH G2 L q7 q9 Gx f7 f9) (hb : Bd G2) (h9 : G2.2.1 ≤ q9) (hne : q7 ≠ q9) (hj : j ≤ L) (hL : L ≤ 9) (hk : ∀ G', RdH G2 L q7 q9 G' f7 (upd f9 j v) → Ev (kp G') Q) : Ev (hPutZ Gx q9 0 (J j) v kp) Q := by
  obtain ⟨h1, h2, h3⟩ := H
  refine Ev.pb h3 (by omega) (by omega) (fun G' a1 a2 a3 => hk G' ⟨h1.fresh a2 hb (fun a ha => by rw [ha]; exact h9), a2.1 _ _ (fun z => hne z) h2, a1⟩)
theorem hZ_J {ρ : Type} {h : AH} {a t n i : Nat} {o : Bool} {f : Nat → Int32} {kp : Int32 → Option ρ} {v : Int32} (h1 : h a = some (o, .inl (t, n, .inl f))) (hi : i < n) (hn : n ≤ 10) (hv : f i = v) : hZ h a t (J i) kp = kp v := by
  rw [hZ_eq h1 hi (by omega), hv]
theorem tH_rdIn {ct : CT} {G2 G : GS} {P : Nat → Nat → Option Nat} {c L b5 q7 q9 n i : Nat} {x : Nat → Nat} {d : Nat → Nat → Nat} {kl : Nat → Nat} {T : Nat → Nat × Option Nat} {f7 f9 : Nat → Int32} {rc14 : GS × Int32 → Option (Int32 × GS)} {Q : Int32 × GS → Prop} (hb : Bd G2) (h7 : G2.2.1 ≤ q7) (h9 : G2.2.1 ≤ q9) (hne : q7 ≠ q9) (hL : L ≤ 9) (hS : StrH G2.1 b5 L (fun j => J (48 + x j))) (hx : ∀ j, j < L → x j ≤ 9) (hW : WdH G2.1 P c d kl) (hT : OkT L n T) (hi : i = L - (n + 1)) (hn : n < L) (H : RdH G2 L q7 q9 G f7 f9) (hR : RepT 100000 f7 f9 T L n) (e7 : f7 i = J 0) (e9 : f9 i = J 100000)
    (hk : ∀ G' f7' f9', RdH G2 L q7 q9 G' f7' f9' → (∀ j, j ≠ i → f7' j = f7 j ∧ f9' j = f9 j) → f7' i = J (fwN kl (fun w off => mtB x (d w) L (kl w) off) T i c).1 → f9' i = J (hvN 100000 (fwN kl (fun w off => mtB x (d w) L (kl w) off) T i c).2) → Ev (rc14 (G', J i + (-1 : Int32))) Q) :
    Ev (loopK (fun rc (x : (GS × Int32)) => s1_readings_L70 P b5 q7 q9 (J i) rc14 rc x.1 x.2) FUEL (G, (0 : Int32))) Q := by
  obtain ⟨hc8, qw, fw, hP, hLst, hwd⟩ := hW
  have hm : ∀ w, w < c → mtB x (d w) L (kl w) i = true → i + kl w ≤ L ∧ 1 ≤ kl w := fun w hw z => by
    unfold mtB at z
    exact ⟨(of_decide_eq_true z).1, (hwd w hw).1.1⟩
  refine Ev.loop2 (i0 := 0) (fun w Gx => ∃ f7' f9', RdH G2 L q7 q9 Gx f7' f9' ∧ (∀ j, j ≠ i → f7' j = f7 j ∧ f9' j = f9 j) ∧ f7' i = J (fwN kl (fun w off => mtB x (d w) L (kl w) off) T i w).1 ∧ f9' i = J (hvN 100000 (fwN kl (fun w off => mtB x (d w) L (kl w) off) T i w).2)) c ⟨f7, f9, H, fun j _ => ⟨rfl, rfl⟩, e7, e9⟩ (by omega) ?_ ?_ (by unfold FUEL; omega)
  · rintro w - hw Gx ⟨f7', f9', k1, k2, k3, k4⟩ rc hrc
    have hs := k1.1.sub
    have hl := hLst.sub hs
    obtain ⟨⟨w1, w2, w3⟩, bw, w4, w5⟩ := hwd w hw
    have hsw := w5.sub hs
    have hsb := hS.sub hs
    have hst := tS_starts (off := i) hsb hsw hx w3 w2 hL (by omega)
    have hln := tS_length hsw (by omega)
    have fwb := fw_b (mt := fun w off => mtB x (d w) L (kl w) off) hT hi hn hL hc8 hm (show w ≤ c by omega)
    have hcw : ∀ {ρ : Type} {k : Option ρ} {Gy : GS}, Sub G2.1 Gy.1 → hC Gy.1 bw 13 k = k := fun hs' => by
      obtain ⟨o, v, x1, y1, o2, f, h1, h2, h3⟩ := w5.sub hs'
      exact hC_eq h1
    have hcb : ∀ {ρ : Type} {k : Option ρ}, hC Gx.1 b5 13 k = k := by
      obtain ⟨o, v, x1, y1, o2, f, h1, h2, h3⟩ := hsb
      exact hC_eq h1
    unfold s1_readings_L70
    rw [letB_eq, hP, onR_eq, tL_cls hl, tL_size hl, callK_eq, if_neg (by rw [J_le (by omega) (by omega)]; omega), letB_eq, onR_eq, tL_cls hl, tL_get hl hw, callK_eq, w4, onR_eq, hcw hs, hcb, hst, callK_eq]
    cases hmt : mtB x (d w) L (kl w) i with
    | false =>
      rw [bI_f, if_pos j00, lit_1, J_add]
      refine hrc Gx ⟨f7', f9', k1, k2, ?_, ?_⟩
      · rw [k3, fw_s, if_neg (by rw [hmt]; decide)]
      · rw [k4, fw_s, if_neg (by rw [hmt]; decide)]
    | true =>
      obtain ⟨m1, m2⟩ := hm w hw hmt
      obtain ⟨t1, t2⟩ := ok_b hT hL (show L - n ≤ i + kl w by omega) m1
      obtain ⟨r1, r2⟩ := hR (i + kl w) (by omega) m1
      have g7 : f7' (i + kl w) = J (T (i + kl w)).1 := by rw [(k2 _ (by omega)).1, r1]
      have g9 : f9' (i + kl w) = J (hvN 100000 (T (i + kl w)).2) := by rw [(k2 _ (by omega)).2, r2]
      have hb1 := hv_b (D := 100000) (by decide) t2
      have hb2 := hv_b (D := 100000) (by decide) fwb.2
      obtain ⟨hv1, -⟩ := hv_one (D := 100000) (by decide) fwb.2 t2
      rw [bI_t, if_neg (by decide), hZ_J k1.2.1 (by omega) (by omega) k3, hcw hs, hln, callK_eq, J_add, hZ_J k1.2.1 (by omega) (by omega) g7, J_add]
      refine k1.p7 hb h7 hne (by omega) hL (fun G33 j1 => ?_)
      have hs' := j1.1.sub
      rw [hZ_J j1.2.2 (by omega) (by omega) k4, hcw hs', tS_length (w5.sub hs') (by omega), callK_eq, J_add, hZ_J j1.2.2 (by omega) (by omega) g9, lit_1, J_add]
      refine j1.p9 hb h9 hne (by omega) hL (fun G37 j2 => ?_)
      rw [J_add]
      refine hrc G37 ⟨_, _, j2, fun j hj => ?_, ?_, ?_⟩
      · rw [upd_ne (by omega), upd_ne (by omega)]
        exact k2 j hj
      · rw [upd_at, fw_s, if_pos hmt]
      · rw [upd_at, fw_s, if_pos hmt]
        show _ = J (hvN 100000 (omN _ _))
        rw [← hv1]
        rw [apply_ite J]
        simp only [J_lt (show 1 + hvN 100000 (T (i + kl w)).2 < 2147483648 by omega) (show hvN 100000 (fwN kl (fun w off => mtB x (d w) L (kl w) off) T i w).2 < 2147483648 by omega)]
  · rintro Gx ⟨f7', f9', k1, k2, k3, k4⟩ rc
    have hl := hLst.sub k1.1.sub
    unfold s1_readings_L70
    rw [letB_eq, hP, onR_eq, tL_cls hl, tL_size hl, callK_eq, if_pos (Int32.le_refl _)]
    exact hk Gx f7' f9' k1 k2 k3 k4
