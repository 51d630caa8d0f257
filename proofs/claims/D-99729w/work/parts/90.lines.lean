set_option maxRecDepth 100000
/-! THE PLAIN LAW, 19: lines in the free heap -/
/-- a new cell whose address is put into a field -/
theorem Ev.np {ρ : Type} {ct : CT} {G : GS} {q ci k z : Nat} {x : AX} {fs : List Value} {kp : GS → Option ρ} {Q : ρ → Prop} (hb : Bd G) (hq : G.1 q = some (true, .inr (ci, fs))) (hk : k < fs.length) (hr : Rm ct G 1 z)
    (h : ∀ G', G'.2 = (G.2.1 + 1, G.2.2 + z) → G'.1 q = some (true, .inr (ci, fs.set k (.ref G.2.1))) → G'.1 G.2.1 = some (true, x) → (∀ a, a ≠ q → a ≠ G.2.1 → G'.1 a = G.1 a) → Gr (fun a => a = q) G G' 1 z → Ev (kp G') Q) : Ev (newB ct G z x (fun p G1 => hPut G1 q ci k (.ref p) kp)) Q := by
  have hlt := hb _ _ hq
  rw [newB_eq hr]
  have h1 : (addG G z x).1 q = some (true, .inr (ci, fs)) := (addG_lt hlt).trans hq
  rw [hPut_eq h1 hk]
  refine h _ rfl setG_at ((setG_ne (by omega)).trans addG_at) (fun a h2 h3 => ?_) ((grw_add hb).tr (grw_set (M := fun a => a = q) h1 rfl (fun _ => rfl)))
  rw [setG_ne (by omega)]
  exact hset_ne (by omega)
/-- what changes lies where nothing lay -/
theorem Gr.fresh {M : Nat → Prop} {G0 G1 G2 : GS} {c z c' z' : Nat} (h : Gr (fun _ => False) G0 G1 c z) (h' : Gr M G1 G2 c' z') (hb : Bd G0) (hM : ∀ a, M a → G0.2.1 ≤ a) : Gr (fun _ => False) G0 G2 (c + c') (z + z') := by
  obtain ⟨h1, h2, h3, h4, h5⟩ := h
  obtain ⟨g1, g2, g3, g4, g5⟩ := h'
  exact ⟨fun a e hm ha => g1 a e (fun x => by have := hM a x; have := hb a e ha; omega) (h1 a e hm ha), ⟨by omega, by omega⟩, ⟨by omega, by omega⟩, fun hb => g4 (h4 hb), fun x hx => g5 x (h5 x hx)⟩
/-- a line of ours, its cells one behind the other -/
def LnF (h : AH) (b : Nat) (d : Int32) (o : Value) (f : US) : Prop := h b = some (true, .inr (3, [.ref (b + 1), .ref (b + 2), .ref (b + 3), .ref (b + 4), .ref (b + 5), .ref (b + 6), .int d, o])) ∧ h (b + 1) = some (true, .inl (0, 12, .inl (f 0))) ∧ h (b + 2) = some (true, .inl (0, 12, .inl (f 1))) ∧ h (b + 3) = some (true, .inl (0, 12, .inl (f 2))) ∧ h (b + 4) = some (true, .inl (0, 6, .inl (f 3))) ∧ h (b + 5) = some (true, .inl (0, 6, .inl (f 4))) ∧ h (b + 6) = some (true, .inl (0, 12, .inl (f 5)))
/-- a line of whatever cells -/
def LnH (h : AH) (o b : Nat) (r : Nat → Nat) : Prop := ∃ (a0 a1 a2 a3 a4 a5 : Nat) (f : US), h b = some (true, .inr (3, [.ref a0, .ref a1, .ref a2, .ref a3, .ref a4, .ref a5, .int (J (r 0)), .ref o])) ∧ (h a0 = some (true, .inl (0, 12, .inl (f 0))) ∧ h a1 = some (true, .inl (0, 12, .inl (f 1))) ∧ h a2 = some (true, .inl (0, 12, .inl (f 2))) ∧ h a3 = some (true, .inl (0, 6, .inl (f 3))) ∧ h a4 = some (true, .inl (0, 6, .inl (f 4)))) ∧ (∀ k, k < 12 → f 0 k = J (r (1 + k)) ∧ f 1 k = J (r (13 + k)) ∧ f 2 k = J (r (25 + k))) ∧ ∀ w, w < 6 → f 3 w = J (r (37 + w)) ∧ f 4 w = J (r (43 + w))
def RowF (f : US) (r : Nat → Nat) : Prop := (∀ k, k < 12 → f 0 k = J (r (1 + k)) ∧ f 1 k = J (r (13 + k)) ∧ f 2 k = J (r (25 + k))) ∧ ∀ w, w < 6 → f 3 w = J (r (37 + w)) ∧ f 4 w = J (r (43 + w))
theorem LnH.sub {h h' : AH} {o b : Nat} {r : Nat → Nat} (hs : Sub h h') (H : LnH h o b r) : LnH h' o b r := by
  obtain ⟨a0, a1, a2, a3, a4, a5, f, h1, ⟨k0, k1, k2, k3, k4⟩, h2⟩ := H
  exact ⟨a0, a1, a2, a3, a4, a5, f, hs _ _ h1, ⟨hs _ _ k0, hs _ _ k1, hs _ _ k2, hs _ _ k3, hs _ _ k4⟩, h2⟩
theorem LnF.ln {h : AH} {b o : Nat} {f : US} {r : Nat → Nat} (H : LnF h b (J (r 0)) (.ref o) f) (hf : RowF f r) : LnH h o b r := by
  obtain ⟨h1, k0, k1, k2, k3, k4, k5⟩ := H
  exact ⟨_, _, _, _, _, _, f, h1, ⟨k0, k1, k2, k3, k4⟩, hf⟩
theorem LnF.at {h h' : AH} {b : Nat} {d : Int32} {o : Value} {f : US} (H : LnF h b d o f) (he : ∀ a, b ≤ a → a ≤ b + 6 → h' a = h a) : LnF h' b d o f := by
  unfold LnF
  rw [he b (by omega) (by omega), he (b + 1) (by omega) (by omega), he (b + 2) (by omega) (by omega), he (b + 3) (by omega) (by omega), he (b + 4) (by omega) (by omega), he (b + 5) (by omega) (by omega), he (b + 6) (by omega) (by omega)]
  exact H
theorem LnF.put0 {ρ : Type} {G : GS} {b k : Nat} {v : Int32} {d : Int32} {o : Value} {f : US} {kp : GS → Option ρ} {Q : ρ → Prop} (H : LnF G.1 b d o f) (hk : k < 12) (h : ∀ G', LnF G'.1 b d o (u2 f 0 k v) → Gr (fun a => b ≤ a) G G' 0 0 → G'.2 = G.2 → Ev (kp G') Q) : Ev (hPutZ G (b + 1) 0 (J k) v kp) Q := by
  obtain ⟨h1, k0, k1, k2, k3, k4, k5⟩ := H
  rw [hPutZ_eq k0 hk (by decide)]
  refine h _ ⟨?_, ?_, ?_, ?_, ?_, ?_, ?_⟩ (grw_set k0 (show b ≤ b + 1 by omega) (fun _ => rfl)) rfl
  · rw [setG_ne (by omega)]; exact h1
  · rw [u2_upd]; exact setG_at
  · rw [setG_ne (by omega), u2_row _ _ _ _ (by decide)]; exact k1
  · rw [setG_ne (by omega), u2_row _ _ _ _ (by decide)]; exact k2
  · rw [setG_ne (by omega), u2_row _ _ _ _ (by decide)]; exact k3
  · rw [setG_ne (by omega), u2_row _ _ _ _ (by decide)]; exact k4
  · rw [setG_ne (by omega), u2_row _ _ _ _ (by decide)]; exact k5
theorem LnF.put1 {ρ : Type} {G : GS} {b k : Nat} {v : Int32} {d : Int32} {o : Value} {f : US} {kp : GS → Option ρ} {Q : ρ → Prop} (H : LnF G.1 b d o f) (hk : k < 12) (h : ∀ G', LnF G'.1 b d o (u2 f 1 k v) → Gr (fun a => b ≤ a) G G' 0 0 → G'.2 = G.2 → Ev (kp G') Q) : Ev (hPutZ G (b + 2) 0 (J k) v kp) Q := by
  obtain ⟨h1, k0, k1, k2, k3, k4, k5⟩ := H
  rw [hPutZ_eq k1 hk (by decide)]
  refine h _ ⟨?_, ?_, ?_, ?_, ?_, ?_, ?_⟩ (grw_set k1 (show b ≤ b + 2 by omega) (fun _ => rfl)) rfl
  · rw [setG_ne (by omega)]; exact h1
  · rw [setG_ne (by omega), u2_row _ _ _ _ (by decide)]; exact k0
  · rw [u2_upd]; exact setG_at
  · rw [setG_ne (by omega), u2_row _ _ _ _ (by decide)]; exact k2
  · rw [setG_ne (by omega), u2_row _ _ _ _ (by decide)]; exact k3
  · rw [setG_ne (by omega), u2_row _ _ _ _ (by decide)]; exact k4
  · rw [setG_ne (by omega), u2_row _ _ _ _ (by decide)]; exact k5
theorem LnF.put2 {ρ : Type} {G : GS} {b k : Nat} {v : Int32} {d : Int32} {o : Value} {f : US} {kp : GS → Option ρ} {Q : ρ → Prop} (H : LnF G.1 b d o f) (hk : k < 12) (h : ∀ G', LnF G'.1 b d o (u2 f 2 k v) → Gr (fun a => b ≤ a) G G' 0 0 → G'.2 = G.2 → Ev (kp G') Q) : Ev (hPutZ G (b + 3) 0 (J k) v kp) Q := by
  obtain ⟨h1, k0, k1, k2, k3, k4, k5⟩ := H
  rw [hPutZ_eq k2 hk (by decide)]
  refine h _ ⟨?_, ?_, ?_, ?_, ?_, ?_, ?_⟩ (grw_set k2 (show b ≤ b + 3 by omega) (fun _ => rfl)) rfl
  · rw [setG_ne (by omega)]; exact h1
  · rw [setG_ne (by omega), u2_row _ _ _ _ (by decide)]; exact k0
  · rw [setG_ne (by omega), u2_row _ _ _ _ (by decide)]; exact k1
  · rw [u2_upd]; exact setG_at
  · rw [setG_ne (by omega), u2_row _ _ _ _ (by decide)]; exact k3
  · rw [setG_ne (by omega), u2_row _ _ _ _ (by decide)]; exact k4
  · rw [setG_ne (by omega), u2_row _ _ _ _ (by decide)]; exact k5
theorem LnF.put3 {ρ : Type} {G : GS} {b k : Nat} {v : Int32} {d : Int32} {o : Value} {f : US} {kp : GS → Option ρ} {Q : ρ → Prop} (H : LnF G.1 b d o f) (hk : k < 6) (h : ∀ G', LnF G'.1 b d o (u2 f 3 k v) → Gr (fun a => b ≤ a) G G' 0 0 → G'.2 = G.2 → Ev (kp G') Q) : Ev (hPutZ G (b + 4) 0 (J k) v kp) Q := by
  obtain ⟨h1, k0, k1, k2, k3, k4, k5⟩ := H
  rw [hPutZ_eq k3 hk (by decide)]
  refine h _ ⟨?_, ?_, ?_, ?_, ?_, ?_, ?_⟩ (grw_set k3 (show b ≤ b + 4 by omega) (fun _ => rfl)) rfl
  · rw [setG_ne (by omega)]; exact h1
  · rw [setG_ne (by omega), u2_row _ _ _ _ (by decide)]; exact k0
  · rw [setG_ne (by omega), u2_row _ _ _ _ (by decide)]; exact k1
  · rw [setG_ne (by omega), u2_row _ _ _ _ (by decide)]; exact k2
  · rw [u2_upd]; exact setG_at
  · rw [setG_ne (by omega), u2_row _ _ _ _ (by decide)]; exact k4
  · rw [setG_ne (by omega), u2_row _ _ _ _ (by decide)]; exact k5
theorem LnF.put4 {ρ : Type} {G : GS} {b k : Nat} {v : Int32} {d : Int32} {o : Value} {f : US} {kp : GS → Option ρ} {Q : ρ → Prop} (H : LnF G.1 b d o f) (hk : k < 6) (h : ∀ G', LnF G'.1 b d o (u2 f 4 k v) → Gr (fun a => b ≤ a) G G' 0 0 → G'.2 = G.2 → Ev (kp G') Q) : Ev (hPutZ G (b + 5) 0 (J k) v kp) Q := by
  obtain ⟨h1, k0, k1, k2, k3, k4, k5⟩ := H
  rw [hPutZ_eq k4 hk (by decide)]
  refine h _ ⟨?_, ?_, ?_, ?_, ?_, ?_, ?_⟩ (grw_set k4 (show b ≤ b + 5 by omega) (fun _ => rfl)) rfl
  · rw [setG_ne (by omega)]; exact h1
  · rw [setG_ne (by omega), u2_row _ _ _ _ (by decide)]; exact k0
  · rw [setG_ne (by omega), u2_row _ _ _ _ (by decide)]; exact k1
  · rw [setG_ne (by omega), u2_row _ _ _ _ (by decide)]; exact k2
  · rw [setG_ne (by omega), u2_row _ _ _ _ (by decide)]; exact k3
  · rw [u2_upd]; exact setG_at
  · rw [setG_ne (by omega), u2_row _ _ _ _ (by decide)]; exact k5
theorem LnF.put5 {ρ : Type} {G : GS} {b k : Nat} {v : Int32} {d : Int32} {o : Value} {f : US} {kp : GS → Option ρ} {Q : ρ → Prop} (H : LnF G.1 b d o f) (hk : k < 12) (h : ∀ G', LnF G'.1 b d o (u2 f 5 k v) → Gr (fun a => b ≤ a) G G' 0 0 → G'.2 = G.2 → Ev (kp G') Q) : Ev (hPutZ G (b + 6) 0 (J k) v kp) Q := by
  obtain ⟨h1, k0, k1, k2, k3, k4, k5⟩ := H
  rw [hPutZ_eq k5 hk (by decide)]
  refine h _ ⟨?_, ?_, ?_, ?_, ?_, ?_, ?_⟩ (grw_set k5 (show b ≤ b + 6 by omega) (fun _ => rfl)) rfl
  · rw [setG_ne (by omega)]; exact h1
  · rw [setG_ne (by omega), u2_row _ _ _ _ (by decide)]; exact k0
  · rw [setG_ne (by omega), u2_row _ _ _ _ (by decide)]; exact k1
  · rw [setG_ne (by omega), u2_row _ _ _ _ (by decide)]; exact k2
  · rw [setG_ne (by omega), u2_row _ _ _ _ (by decide)]; exact k3
  · rw [setG_ne (by omega), u2_row _ _ _ _ (by decide)]; exact k4
  · rw [u2_upd]; exact setG_at
theorem LnF.putD {ρ : Type} {G : GS} {b : Nat} {v : Int32} {d : Int32} {o : Value} {f : US} {kp : GS → Option ρ} {Q : ρ → Prop} (H : LnF G.1 b d o f) (h : ∀ G', LnF G'.1 b v o f → Gr (fun a => b ≤ a) G G' 0 0 → G'.2 = G.2 → Ev (kp G') Q) : Ev (hPut G b 3 6 (.int v) kp) Q := by
  obtain ⟨h1, k0, k1, k2, k3, k4, k5⟩ := H
  rw [hPut_eq h1 (Nat.le_of_ble_eq_true rfl)]
  exact h _ ⟨setG_at, (setG_ne (by omega)).trans k0, (setG_ne (by omega)).trans k1, (setG_ne (by omega)).trans k2, (setG_ne (by omega)).trans k3, (setG_ne (by omega)).trans k4, (setG_ne (by omega)).trans k5⟩ (grw_set h1 (Nat.le_refl b) (fun _ => rfl)) rfl
def f50 (m : Nat) : US := fun i k => if i = 1 ∧ k < m then J 50 else J 0
theorem f50_s {m : Nat} : u2 (f50 m) 1 m (J 50) = f50 (m + 1) := by
  funext a b
  unfold u2 f50
  by_cases h : a = 1 ∧ b = m
  · rw [if_pos h, if_pos (by omega)]
  · rw [if_neg h]
    by_cases h2 : a = 1 ∧ b < m
    · rw [if_pos h2, if_pos (by omega)]
    · rw [if_neg h2, if_neg (by omega)]
theorem tLn_init {ct : CT} {G : GS} {b : Nat} {p1 : Option Nat} (hb : Bd G) (hq : G.1 b = some (true, .inr (3, [.null, .null, .null, .null, .null, .null, .int 0, .null]))) (hn : G.2.1 = b + 1) (hr : Rm ct G 6 60) : Ev (s3_init ct G b p1) (fun G' => LnF G'.1 b 0 (va_rf p1) (f50 3) ∧ Gr (fun a => b ≤ a) G G' 6 60 ∧ G'.2 = (b + 7, G.2.2 + 60)) := by
  unfold s3_init
  rw [hPut_eq hq (Nat.le_of_ble_eq_true rfl)]
  have g0 : Gr (fun a => b ≤ a) G (setG G b (true, .inr (3, [.null, .null, .null, .null, .null, .null, .int 0, va_rf p1]))) 0 0 := grw_set hq (Nat.le_refl b) (fun _ => rfl)
  have q0 : (setG G b (true, .inr (3, [.null, .null, .null, .null, .null, .null, .int 0, va_rf p1]))).1 b = some (true, .inr (3, [.null, .null, .null, .null, .null, .null, .int 0, va_rf p1])) := setG_at
  have e0 : (setG G b (true, .inr (3, [.null, .null, .null, .null, .null, .null, .int 0, va_rf p1]))).2 = (b + 1, G.2.2 + 0) := by rw [← hn]; rfl
  rw [show ([.null, .null, .null, .null, .null, .null, .int 0, .null] : List Value).set 7 (va_rf p1) = [.null, .null, .null, .null, .null, .null, .int 0, va_rf p1] from rfl]
  generalize setG G b (true, .inr (3, [.null, .null, .null, .null, .null, .null, .int 0, va_rf p1])) = G0 at g0 q0 e0 ⊢
  simp (disch := omega) only [lit_0, lit_1, lit_2, lit_3, lit_4, lit_5, lit_6, lit_7, lit_8, lit_9, lit_10, lit_11, lit_12, lit_13, lit_14, lit_15, lit_20, lit_24, lit_25, lit_37, lit_40, lit_43, lit_48, lit_49, lit_50, lit_60, lit_96, lit_98, lit_99, lit_100, lit_999, lit_62, lit_74, lit_86, lit_92, lit_99999, lit_100000, lit_16, lit_32767, lit_2147483639, J_add, J_mul, J_sub, J_tn, J_le, J_lt, J_eq, Nat.not_lt_zero, false_or, or_false, le_t, le_f, lt_t, lt_f, eq_f, ↓reduceIte, callK_eq, letB_eq, joinB_eq, Nat.add_assoc]
  refine Ev.np (g0.2.2.2.1 hb) q0 (Nat.le_of_ble_eq_true rfl) (by obtain ⟨x1, x2⟩ := hr; unfold Rm; rw [e0]; exact ⟨by dsimp only; omega, by dsimp only; omega⟩) (fun G1 e1 q1 c1 o1 y1 => ?_)
  have n0 : G0.2.1 = b + 1 := by rw [e0]
  rw [n0] at q1 c1 o1
  replace q1 : G1.1 b = some (true, .inr (3, [.ref (b + 1), .null, .null, .null, .null, .null, .int 0, va_rf p1])) := q1
  replace e1 : G1.2 = (b + 2, G.2.2 + 12) := by first | (rw [e1, e0]; done) | (rw [e1, e0]; rfl)
  have g1 : Gr (fun a => b ≤ a) G G1 1 12 := g0.tr (y1.mono (fun a h => by rw [h]; exact Nat.le_refl b))
  refine Ev.np (g1.2.2.2.1 hb) q1 (Nat.le_of_ble_eq_true rfl) (by obtain ⟨x1, x2⟩ := hr; unfold Rm; rw [e1]; exact ⟨by dsimp only; omega, by dsimp only; omega⟩) (fun G2 e2 q2 c2 o2 y2 => ?_)
  have n1 : G1.2.1 = b + 2 := by rw [e1]
  rw [n1] at q2 c2 o2
  replace q2 : G2.1 b = some (true, .inr (3, [.ref (b + 1), .ref (b + 2), .null, .null, .null, .null, .int 0, va_rf p1])) := q2
  replace e2 : G2.2 = (b + 3, G.2.2 + 24) := by first | (rw [e2, e1]; done) | (rw [e2, e1]; rfl)
  have g2 : Gr (fun a => b ≤ a) G G2 2 24 := g1.tr (y2.mono (fun a h => by rw [h]; exact Nat.le_refl b))
  have c1 : G2.1 (b + 1) = _ := (o2 (b + 1) (by omega) (by omega)).trans c1
  refine Ev.np (g2.2.2.2.1 hb) q2 (Nat.le_of_ble_eq_true rfl) (by obtain ⟨x1, x2⟩ := hr; unfold Rm; rw [e2]; exact ⟨by dsimp only; omega, by dsimp only; omega⟩) (fun G3 e3 q3 c3 o3 y3 => ?_)
  have n2 : G2.2.1 = b + 3 := by rw [e2]
  rw [n2] at q3 c3 o3
  replace q3 : G3.1 b = some (true, .inr (3, [.ref (b + 1), .ref (b + 2), .ref (b + 3), .null, .null, .null, .int 0, va_rf p1])) := q3
  replace e3 : G3.2 = (b + 4, G.2.2 + 36) := by first | (rw [e3, e2]; done) | (rw [e3, e2]; rfl)
  have g3 : Gr (fun a => b ≤ a) G G3 3 36 := g2.tr (y3.mono (fun a h => by rw [h]; exact Nat.le_refl b))
  have c1 : G3.1 (b + 1) = _ := (o3 (b + 1) (by omega) (by omega)).trans c1
  have c2 : G3.1 (b + 2) = _ := (o3 (b + 2) (by omega) (by omega)).trans c2
  refine Ev.np (g3.2.2.2.1 hb) q3 (Nat.le_of_ble_eq_true rfl) (by obtain ⟨x1, x2⟩ := hr; unfold Rm; rw [e3]; exact ⟨by dsimp only; omega, by dsimp only; omega⟩) (fun G4 e4 q4 c4 o4 y4 => ?_)
  have n3 : G3.2.1 = b + 4 := by rw [e3]
  rw [n3] at q4 c4 o4
  replace q4 : G4.1 b = some (true, .inr (3, [.ref (b + 1), .ref (b + 2), .ref (b + 3), .ref (b + 4), .null, .null, .int 0, va_rf p1])) := q4
  replace e4 : G4.2 = (b + 5, G.2.2 + 42) := by first | (rw [e4, e3]; done) | (rw [e4, e3]; rfl)
  have g4 : Gr (fun a => b ≤ a) G G4 4 42 := g3.tr (y4.mono (fun a h => by rw [h]; exact Nat.le_refl b))
  have c1 : G4.1 (b + 1) = _ := (o4 (b + 1) (by omega) (by omega)).trans c1
  have c2 : G4.1 (b + 2) = _ := (o4 (b + 2) (by omega) (by omega)).trans c2
  have c3 : G4.1 (b + 3) = _ := (o4 (b + 3) (by omega) (by omega)).trans c3
  refine Ev.np (g4.2.2.2.1 hb) q4 (Nat.le_of_ble_eq_true rfl) (by obtain ⟨x1, x2⟩ := hr; unfold Rm; rw [e4]; exact ⟨by dsimp only; omega, by dsimp only; omega⟩) (fun G5 e5 q5 c5 o5 y5 => ?_)
  have n4 : G4.2.1 = b + 5 := by rw [e4]
  rw [n4] at q5 c5 o5
  replace q5 : G5.1 b = some (true, .inr (3, [.ref (b + 1), .ref (b + 2), .ref (b + 3), .ref (b + 4), .ref (b + 5), .null, .int 0, va_rf p1])) := q5
  replace e5 : G5.2 = (b + 6, G.2.2 + 48) := by first | (rw [e5, e4]; done) | (rw [e5, e4]; rfl)
  have g5 : Gr (fun a => b ≤ a) G G5 5 48 := g4.tr (y5.mono (fun a h => by rw [h]; exact Nat.le_refl b))
  have c1 : G5.1 (b + 1) = _ := (o5 (b + 1) (by omega) (by omega)).trans c1
  have c2 : G5.1 (b + 2) = _ := (o5 (b + 2) (by omega) (by omega)).trans c2
  have c3 : G5.1 (b + 3) = _ := (o5 (b + 3) (by omega) (by omega)).trans c3
  have c4 : G5.1 (b + 4) = _ := (o5 (b + 4) (by omega) (by omega)).trans c4
  refine Ev.np (g5.2.2.2.1 hb) q5 (Nat.le_of_ble_eq_true rfl) (by obtain ⟨x1, x2⟩ := hr; unfold Rm; rw [e5]; exact ⟨by dsimp only; omega, by dsimp only; omega⟩) (fun G6 e6 q6 c6 o6 y6 => ?_)
  have n5 : G5.2.1 = b + 6 := by rw [e5]
  rw [n5] at q6 c6 o6
  replace q6 : G6.1 b = some (true, .inr (3, [.ref (b + 1), .ref (b + 2), .ref (b + 3), .ref (b + 4), .ref (b + 5), .ref (b + 6), .int 0, va_rf p1])) := q6
  replace e6 : G6.2 = (b + 7, G.2.2 + 60) := by first | (rw [e6, e5]; done) | (rw [e6, e5]; rfl)
  have g6 : Gr (fun a => b ≤ a) G G6 6 60 := g5.tr (y6.mono (fun a h => by rw [h]; exact Nat.le_refl b))
  have c1 : G6.1 (b + 1) = _ := (o6 (b + 1) (by omega) (by omega)).trans c1
  have c2 : G6.1 (b + 2) = _ := (o6 (b + 2) (by omega) (by omega)).trans c2
  have c3 : G6.1 (b + 3) = _ := (o6 (b + 3) (by omega) (by omega)).trans c3
  have c4 : G6.1 (b + 4) = _ := (o6 (b + 4) (by omega) (by omega)).trans c4
  have c5 : G6.1 (b + 5) = _ := (o6 (b + 5) (by omega) (by omega)).trans c5
  have H6 : LnF G6.1 b 0 (va_rf p1) (f50 0) := ⟨q6, c1.trans ?_, c2.trans ?_, c3.trans ?_, c4.trans ?_, c5.trans ?_, c6.trans ?_⟩
  · refine Ev.loop2 (i0 := 0) (fun m x => LnF x.1 b 0 (va_rf p1) (f50 m) ∧ Gr (fun a => b ≤ a) G x 6 60 ∧ x.2 = (b + 7, G.2.2 + 60)) 3 ⟨H6, g6, e6⟩ (by omega) ?_ ?_ (by unfold FUEL; omega)
    · rintro i - hi G7 ⟨H7, g7, e7⟩ rc hrc
      unfold s3_init_L59
      simp (disch := omega) only [lit_0, lit_1, lit_2, lit_3, lit_4, lit_5, lit_6, lit_7, lit_8, lit_9, lit_10, lit_11, lit_12, lit_13, lit_14, lit_15, lit_20, lit_24, lit_25, lit_37, lit_40, lit_43, lit_48, lit_49, lit_50, lit_60, lit_96, lit_98, lit_99, lit_100, lit_999, lit_62, lit_74, lit_86, lit_92, lit_99999, lit_100000, lit_16, lit_32767, lit_2147483639, J_add, J_mul, J_sub, J_tn, J_le, J_lt, J_eq, Nat.not_lt_zero, false_or, or_false, le_t, le_f, lt_t, lt_f, eq_f, ↓reduceIte, callK_eq, letB_eq, joinB_eq, Nat.add_assoc]
      rw [hR_eq H7.1 rfl, onR_eq]
      refine H7.put1 (by omega) (fun G8 H8 g8 e8 => ?_)
      rw [f50_s] at H8
      exact hrc _ ⟨H8, (g7.tr g8), e8.trans e7⟩
    · rintro G7 ⟨H7, g7, e7⟩ rc
      unfold s3_init_L59
      simp (disch := omega) only [lit_0, lit_1, lit_2, lit_3, lit_4, lit_5, lit_6, lit_7, lit_8, lit_9, lit_10, lit_11, lit_12, lit_13, lit_14, lit_15, lit_20, lit_24, lit_25, lit_37, lit_40, lit_43, lit_48, lit_49, lit_50, lit_60, lit_96, lit_98, lit_99, lit_100, lit_999, lit_62, lit_74, lit_86, lit_92, lit_99999, lit_100000, lit_16, lit_32767, lit_2147483639, J_add, J_mul, J_sub, J_tn, J_le, J_lt, J_eq, Nat.not_lt_zero, false_or, or_false, le_t, le_f, lt_t, lt_f, eq_f, ↓reduceIte, callK_eq, letB_eq, joinB_eq, Nat.add_assoc]
      exact ⟨_, rfl, H7, g7, e7⟩
  all_goals congr 4
theorem RowF.u {f : US} {r : Nat → Nat} {k : Nat} : RowF f r → RowF f r := fun h => h
theorem tLn_beN {ct : CT} {ad : Nat → Nat} {P : Nat → Nat → Option Nat} {S : US} {G : GS} {b : Nat} {o : Value} {f : US} {r : Nat → Nat} (hr : HRow S 0 r) (H : LnF G.1 b 0 o f) : Ev (s3_beN ct ad P S G b) (fun x => x.1 = some b ∧ ∃ f', LnF x.2.1 b (J (r 0)) o f' ∧ RowF f' r ∧ Gr (fun a => b ≤ a) G x.2 0 0 ∧ x.2.2 = G.2) := by
  unfold s3_beN
  refine Ev.loop2 (i0 := 0) (fun i x => ∃ f', LnF x.1 b 0 o f' ∧ (∀ k, k < i → f' 0 k = J (r (1 + k)) ∧ f' 1 k = J (r (13 + k)) ∧ f' 2 k = J (r (25 + k))) ∧ Gr (fun a => b ≤ a) G x 0 0 ∧ x.2 = G.2) 12 ⟨f, H, fun k hk => absurd hk (Nat.not_lt_zero k), Gr.rf, rfl⟩ (by omega) ?_ ?_ (by unfold FUEL; omega)
  · rintro i - hi G1 ⟨f1, H1, hf1, g1, e1⟩ rc hrc
    have hm := hr.2.1 i hi
    unfold s3_beN_L2
    simp (disch := omega) only [lit_0, lit_1, lit_2, lit_3, lit_4, lit_5, lit_6, lit_7, lit_8, lit_9, lit_10, lit_11, lit_12, lit_13, lit_14, lit_15, lit_20, lit_24, lit_25, lit_37, lit_40, lit_43, lit_48, lit_49, lit_50, lit_60, lit_96, lit_98, lit_99, lit_100, lit_999, lit_62, lit_74, lit_86, lit_92, lit_99999, lit_100000, lit_16, lit_32767, lit_2147483639, J_add, J_mul, J_sub, J_tn, J_le, J_lt, J_eq, Nat.not_lt_zero, false_or, or_false, le_t, le_f, lt_t, lt_f, eq_f, ↓reduceIte, callK_eq, letB_eq, joinB_eq, Nat.add_assoc]
    rw [hR_eq H1.1 rfl, onR_eq]
    refine H1.put0 (by omega) (fun G2 H2 g2 e2 => ?_)
    rw [hR_eq H2.1 rfl, onR_eq]
    refine H2.put1 (by omega) (fun G3 H3 g3 e3 => ?_)
    rw [hR_eq H3.1 rfl, onR_eq]
    refine H3.put2 (by omega) (fun G4 H4 g4 e4 => ?_)
    refine hrc _ ⟨_, H4, fun k hk => ?_, ((g1.tr g2).tr g3).tr g4, e4.trans (e3.trans (e2.trans e1))⟩
    by_cases ek : k = i
    · subst ek
      refine ⟨?_, ?_, ?_⟩
      · rw [u2_row' (by omega), u2_row' (by omega), u2_at]; exact hm.1
      · rw [u2_row' (by omega), u2_at]; exact hm.2.1
      · rw [u2_at]; exact hm.2.2
    · have := hf1 k (by omega)
      rw [u2_row' (i := 2) (by omega), u2_row' (i := 1) (by omega), u2_off (i := 0) (by omega), u2_row' (i := 2) (a := 1) (by omega), u2_off (i := 1) (by omega), u2_row' (i := 0) (a := 1) (by omega), u2_off (i := 2) (by omega), u2_row' (i := 1) (a := 2) (by omega), u2_row' (i := 0) (a := 2) (by omega)]
      exact this
  · rintro G1 ⟨f1, H1, hf1, g1, e1⟩ rc
    unfold s3_beN_L2
    simp (disch := omega) only [lit_0, lit_1, lit_2, lit_3, lit_4, lit_5, lit_6, lit_7, lit_8, lit_9, lit_10, lit_11, lit_12, lit_13, lit_14, lit_15, lit_20, lit_24, lit_25, lit_37, lit_40, lit_43, lit_48, lit_49, lit_50, lit_60, lit_96, lit_98, lit_99, lit_100, lit_999, lit_62, lit_74, lit_86, lit_92, lit_99999, lit_100000, lit_16, lit_32767, lit_2147483639, J_add, J_mul, J_sub, J_tn, J_le, J_lt, J_eq, Nat.not_lt_zero, false_or, or_false, le_t, le_f, lt_t, lt_f, eq_f, ↓reduceIte, callK_eq, letB_eq, joinB_eq, Nat.add_assoc]
    refine Ev.loop2 (i0 := 0) (fun i x => ∃ f', LnF x.1 b 0 o f' ∧ (∀ k, k < 12 → f' 0 k = J (r (1 + k)) ∧ f' 1 k = J (r (13 + k)) ∧ f' 2 k = J (r (25 + k))) ∧ (∀ w, w < i → f' 3 w = J (r (37 + w)) ∧ f' 4 w = J (r (43 + w))) ∧ Gr (fun a => b ≤ a) G x 0 0 ∧ x.2 = G.2) 6 ⟨f1, H1, hf1, fun k hk => absurd hk (Nat.not_lt_zero k), g1, e1⟩ (by omega) ?_ ?_ (by unfold FUEL; omega)
    · rintro i - hi G2 ⟨f2, H2, hf2, hw2, g2, e2⟩ rc hrc
      have hm := hr.2.2 i hi
      unfold s3_beN_L52
      simp (disch := omega) only [lit_0, lit_1, lit_2, lit_3, lit_4, lit_5, lit_6, lit_7, lit_8, lit_9, lit_10, lit_11, lit_12, lit_13, lit_14, lit_15, lit_20, lit_24, lit_25, lit_37, lit_40, lit_43, lit_48, lit_49, lit_50, lit_60, lit_96, lit_98, lit_99, lit_100, lit_999, lit_62, lit_74, lit_86, lit_92, lit_99999, lit_100000, lit_16, lit_32767, lit_2147483639, J_add, J_mul, J_sub, J_tn, J_le, J_lt, J_eq, Nat.not_lt_zero, false_or, or_false, le_t, le_f, lt_t, lt_f, eq_f, ↓reduceIte, callK_eq, letB_eq, joinB_eq, Nat.add_assoc]
      rw [hR_eq H2.1 rfl, onR_eq]
      refine H2.put3 (by omega) (fun G3 H3 g3 e3 => ?_)
      rw [hR_eq H3.1 rfl, onR_eq]
      refine H3.put4 (by omega) (fun G4 H4 g4 e4 => ?_)
      refine hrc _ ⟨_, H4, fun k hk => ?_, fun k hk => ?_, (g2.tr g3).tr g4, e4.trans (e3.trans e2)⟩
      · rw [u2_row' (i := 4) (by omega), u2_row' (i := 3) (by omega), u2_row' (i := 4) (by omega), u2_row' (i := 3) (by omega), u2_row' (i := 4) (by omega), u2_row' (i := 3) (by omega)]
        exact hf2 k hk
      · by_cases ek : k = i
        · subst ek
          refine ⟨?_, ?_⟩
          · rw [u2_row' (by omega), u2_at]; exact hm.1
          · rw [u2_at]; exact hm.2
        · have := hw2 k (by omega)
          rw [u2_row' (i := 4) (a := 3) (by omega), u2_off (i := 3) (by omega), u2_off (i := 4) (by omega), u2_row' (i := 3) (a := 4) (by omega)]
          exact this
    · rintro G2 ⟨f2, H2, hf2, hw2, g2, e2⟩ rc
      unfold s3_beN_L52
      simp (disch := omega) only [lit_0, lit_1, lit_2, lit_3, lit_4, lit_5, lit_6, lit_7, lit_8, lit_9, lit_10, lit_11, lit_12, lit_13, lit_14, lit_15, lit_20, lit_24, lit_25, lit_37, lit_40, lit_43, lit_48, lit_49, lit_50, lit_60, lit_96, lit_98, lit_99, lit_100, lit_999, lit_62, lit_74, lit_86, lit_92, lit_99999, lit_100000, lit_16, lit_32767, lit_2147483639, J_add, J_mul, J_sub, J_tn, J_le, J_lt, J_eq, Nat.not_lt_zero, false_or, or_false, le_t, le_f, lt_t, lt_f, eq_f, ↓reduceIte, callK_eq, letB_eq, joinB_eq, Nat.add_assoc]
      refine H2.putD (fun G3 H3 g3 e3 => ?_)
      rw [show S (lc 0 0) 6 = J (r 0) from hr.1] at H3
      exact ⟨_, rfl, rfl, f2, H3, ⟨hf2, hw2⟩, g2.tr g3, e3.trans e2⟩
theorem tLn_beF {ct : CT} {G0 G : GS} {b o s c z : Nat} {f : US} {r : Nat → Nat} (hb : Bd G0) (h0 : G0.2.1 ≤ b) (hs : LnH G0.1 o s r) (hg : Gr (fun _ => False) G0 G c z) {ov : Value} (H : LnF G.1 b 0 ov f) : Ev (s3_beF ct G b (some s)) (fun x => x.1 = some b ∧ ∃ f', LnF x.2.1 b (J (r 0)) ov f' ∧ RowF f' r ∧ Gr (fun a => b ≤ a) G x.2 0 0 ∧ x.2.2 = G.2) := by
  obtain ⟨a0, a1, a2, a3, a4, a5, fs, hs, ⟨k0, k1, k2, k3, k4⟩, hf, hw⟩ := hs
  have sb : ∀ {G1 : GS}, Gr (fun a => b ≤ a) G G1 0 0 → Sub G0.1 G1.1 := fun g1 => (hg.fresh g1 hb (fun a h => Nat.le_trans h0 h)).sub
  unfold s3_beF
  refine Ev.loop2 (i0 := 0) (fun i x => ∃ f', LnF x.1 b 0 ov f' ∧ (∀ k, k < i → f' 0 k = J (r (1 + k)) ∧ f' 1 k = J (r (13 + k)) ∧ f' 2 k = J (r (25 + k))) ∧ Gr (fun a => b ≤ a) G x 0 0 ∧ x.2 = G.2) 12 ⟨f, H, fun k hk => absurd hk (Nat.not_lt_zero k), Gr.rf, rfl⟩ (by omega) ?_ ?_ (by unfold FUEL; omega)
  · rintro i - hi G1 ⟨f1, H1, hf1, g1, e1⟩ rc hrc
    have hm := hf i hi
    unfold s3_beF_L2
    simp (disch := omega) only [lit_0, lit_1, lit_2, lit_3, lit_4, lit_5, lit_6, lit_7, lit_8, lit_9, lit_10, lit_11, lit_12, lit_13, lit_14, lit_15, lit_20, lit_24, lit_25, lit_37, lit_40, lit_43, lit_48, lit_49, lit_50, lit_60, lit_96, lit_98, lit_99, lit_100, lit_999, lit_62, lit_74, lit_86, lit_92, lit_99999, lit_100000, lit_16, lit_32767, lit_2147483639, J_add, J_mul, J_sub, J_tn, J_le, J_lt, J_eq, Nat.not_lt_zero, false_or, or_false, le_t, le_f, lt_t, lt_f, eq_f, ↓reduceIte, callK_eq, letB_eq, joinB_eq, Nat.add_assoc]
    rw [hR_eq H1.1 rfl, onR_eq, hR_eq (sb g1 _ _ hs) rfl, onR_eq, hZ_eq (sb g1 _ _ k0) hi (by decide), onR_eq]
    refine H1.put0 (by omega) (fun G2 H2 g2 e2 => ?_)
    have g12 := g1.tr g2
    rw [hR_eq H2.1 rfl, hR_eq (sb g12 _ _ hs) rfl, onR_eq, hZ_eq (sb g12 _ _ k1) hi (by decide), onR_eq]
    refine H2.put1 (by omega) (fun G3 H3 g3 e3 => ?_)
    have g13 := g12.tr g3
    rw [hR_eq H3.1 rfl, hR_eq (sb g13 _ _ hs) rfl, onR_eq, hZ_eq (sb g13 _ _ k2) hi (by decide), onR_eq]
    refine H3.put2 (by omega) (fun G4 H4 g4 e4 => ?_)
    refine hrc _ ⟨_, H4, fun k hk => ?_, g13.tr g4, e4.trans (e3.trans (e2.trans e1))⟩
    by_cases ek : k = i
    · subst ek
      refine ⟨?_, ?_, ?_⟩
      · rw [u2_row' (by omega), u2_row' (by omega), u2_at]; exact hm.1
      · rw [u2_row' (by omega), u2_at]; exact hm.2.1
      · rw [u2_at]; exact hm.2.2
    · have := hf1 k (by omega)
      rw [u2_row' (i := 2) (by omega), u2_row' (i := 1) (by omega), u2_off (i := 0) (by omega), u2_row' (i := 2) (a := 1) (by omega), u2_off (i := 1) (by omega), u2_row' (i := 0) (a := 1) (by omega), u2_off (i := 2) (by omega), u2_row' (i := 1) (a := 2) (by omega), u2_row' (i := 0) (a := 2) (by omega)]
      exact this
  · rintro G1 ⟨f1, H1, hf1, g1, e1⟩ rc
    unfold s3_beF_L2
    simp (disch := omega) only [lit_0, lit_1, lit_2, lit_3, lit_4, lit_5, lit_6, lit_7, lit_8, lit_9, lit_10, lit_11, lit_12, lit_13, lit_14, lit_15, lit_20, lit_24, lit_25, lit_37, lit_40, lit_43, lit_48, lit_49, lit_50, lit_60, lit_96, lit_98, lit_99, lit_100, lit_999, lit_62, lit_74, lit_86, lit_92, lit_99999, lit_100000, lit_16, lit_32767, lit_2147483639, J_add, J_mul, J_sub, J_tn, J_le, J_lt, J_eq, Nat.not_lt_zero, false_or, or_false, le_t, le_f, lt_t, lt_f, eq_f, ↓reduceIte, callK_eq, letB_eq, joinB_eq, Nat.add_assoc]
    refine Ev.loop2 (i0 := 0) (fun i x => ∃ f', LnF x.1 b 0 ov f' ∧ (∀ k, k < 12 → f' 0 k = J (r (1 + k)) ∧ f' 1 k = J (r (13 + k)) ∧ f' 2 k = J (r (25 + k))) ∧ (∀ w, w < i → f' 3 w = J (r (37 + w)) ∧ f' 4 w = J (r (43 + w))) ∧ Gr (fun a => b ≤ a) G x 0 0 ∧ x.2 = G.2) 6 ⟨f1, H1, hf1, fun k hk => absurd hk (Nat.not_lt_zero k), g1, e1⟩ (by omega) ?_ ?_ (by unfold FUEL; omega)
    · rintro i - hi G2 ⟨f2, H2, hf2, hw2, g2, e2⟩ rc hrc
      have hm := hw i hi
      unfold s3_beF_L52
      simp (disch := omega) only [lit_0, lit_1, lit_2, lit_3, lit_4, lit_5, lit_6, lit_7, lit_8, lit_9, lit_10, lit_11, lit_12, lit_13, lit_14, lit_15, lit_20, lit_24, lit_25, lit_37, lit_40, lit_43, lit_48, lit_49, lit_50, lit_60, lit_96, lit_98, lit_99, lit_100, lit_999, lit_62, lit_74, lit_86, lit_92, lit_99999, lit_100000, lit_16, lit_32767, lit_2147483639, J_add, J_mul, J_sub, J_tn, J_le, J_lt, J_eq, Nat.not_lt_zero, false_or, or_false, le_t, le_f, lt_t, lt_f, eq_f, ↓reduceIte, callK_eq, letB_eq, joinB_eq, Nat.add_assoc]
      rw [hR_eq H2.1 rfl, onR_eq, hR_eq (sb g2 _ _ hs) rfl, onR_eq, hZ_eq (sb g2 _ _ k3) hi (by decide), onR_eq]
      refine H2.put3 (by omega) (fun G3 H3 g3 e3 => ?_)
      have g23 := g2.tr g3
      rw [hR_eq H3.1 rfl, hR_eq (sb g23 _ _ hs) rfl, onR_eq, hZ_eq (sb g23 _ _ k4) hi (by decide), onR_eq]
      refine H3.put4 (by omega) (fun G4 H4 g4 e4 => ?_)
      refine hrc _ ⟨_, H4, fun k hk => ?_, fun k hk => ?_, g23.tr g4, e4.trans (e3.trans e2)⟩
      · rw [u2_row' (i := 4) (by omega), u2_row' (i := 3) (by omega), u2_row' (i := 4) (by omega), u2_row' (i := 3) (by omega), u2_row' (i := 4) (by omega), u2_row' (i := 3) (by omega)]
        exact hf2 k hk
      · by_cases ek : k = i
        · subst ek
          refine ⟨?_, ?_⟩
          · rw [u2_row' (by omega), u2_at]; exact hm.1
          · rw [u2_at]; exact hm.2
        · have := hw2 k (by omega)
          rw [u2_row' (i := 4) (a := 3) (by omega), u2_off (i := 3) (by omega), u2_off (i := 4) (by omega), u2_row' (i := 3) (a := 4) (by omega)]
          exact this
    · rintro G2 ⟨f2, H2, hf2, hw2, g2, e2⟩ rc
      unfold s3_beF_L52
      simp (disch := omega) only [lit_0, lit_1, lit_2, lit_3, lit_4, lit_5, lit_6, lit_7, lit_8, lit_9, lit_10, lit_11, lit_12, lit_13, lit_14, lit_15, lit_20, lit_24, lit_25, lit_37, lit_40, lit_43, lit_48, lit_49, lit_50, lit_60, lit_96, lit_98, lit_99, lit_100, lit_999, lit_62, lit_74, lit_86, lit_92, lit_99999, lit_100000, lit_16, lit_32767, lit_2147483639, J_add, J_mul, J_sub, J_tn, J_le, J_lt, J_eq, Nat.not_lt_zero, false_or, or_false, le_t, le_f, lt_t, lt_f, eq_f, ↓reduceIte, callK_eq, letB_eq, joinB_eq, Nat.add_assoc]
      rw [onR_eq, hI_eq (sb g2 _ _ hs) rfl]
      refine H2.putD (fun G3 H3 g3 e3 => ?_)
      exact ⟨_, rfl, rfl, f2, H3, ⟨hf2, hw2⟩, g2.tr g3, e3.trans e2⟩
/-- a new line that holds the row -/
def NewLn (ct : CT) (o : Nat) (r : Nat → Nat) (G : GS) (x : Option Nat × GS) : Prop := x.1 = some G.2.1 ∧ (∃ f, LnF x.2.1 G.2.1 (J (r 0)) (.ref o) f ∧ RowF f r) ∧ Gr (fun _ => False) G x.2 7 68 ∧ x.2.2 = (G.2.1 + 7, G.2.2 + 68)
theorem tLn_copyN {ct : CT} {ad : Nat → Nat} {P : Nat → Nat → Option Nat} {S : US} {G : GS} {r : Nat → Nat} (hb : Bd G) (hr : HRow S 0 r) (hm : Rm ct G 7 68) : Ev (s3_copyN ct ad P S G) (NewLn ct (ad 0) r G) := by
  unfold s3_copyN
  rw [newB_eq (hm.le (by omega) (by omega))]
  have ga : Gr (fun _ => False) G (addG G 8 (.inr (3, [.null, .null, .null, .null, .null, .null, .int 0, .null]))) 1 8 := grw_add hb
  have k1 : (addG G 8 (.inr (3, [.null, .null, .null, .null, .null, .null, .int 0, .null]))).1 G.2.1 = _ := addG_at
  have e1 : (addG G 8 (.inr (3, [.null, .null, .null, .null, .null, .null, .int 0, .null]))).2 = (G.2.1 + 1, G.2.2 + 8) := rfl
  generalize addG G 8 (.inr (3, [.null, .null, .null, .null, .null, .null, .int 0, .null])) = G1 at ga k1 e1 ⊢
  refine Ev.call (tLn_init (p1 := some (ad 0)) (ga.2.2.2.1 hb) k1 (by rw [e1]) (Rm.gr (c := 1) (z := 8) hm ga)) (fun G2 h2 => ?_)
  obtain ⟨H2, g2, e2⟩ := h2
  rw [hC_eq H2.1]
  refine Ev.call (tLn_beN hr H2) (fun x hx => ?_)
  obtain ⟨x1, f', H3, hf, g3, e3⟩ := hx
  refine ⟨_, rfl, x1, ⟨f', H3, hf⟩, (ga.fresh (g2.tr g3) hb (fun a h => h)), ?_⟩
  rw [e3, e2, e1]
theorem tLn_copyF {ct : CT} {G : GS} {o s : Nat} {r : Nat → Nat} (hb : Bd G) (hs : LnH G.1 o s r) (hm : Rm ct G 7 68) : Ev (s3_copyF ct G s) (NewLn ct o r G) := by
  have hs' := hs
  obtain ⟨a0, a1, a2, a3, a4, a5, fs, h1, -⟩ := hs'
  unfold s3_copyF
  rw [newB_eq (hm.le (by omega) (by omega))]
  have ga : Gr (fun _ => False) G (addG G 8 (.inr (3, [.null, .null, .null, .null, .null, .null, .int 0, .null]))) 1 8 := grw_add hb
  have k1 : (addG G 8 (.inr (3, [.null, .null, .null, .null, .null, .null, .int 0, .null]))).1 G.2.1 = _ := addG_at
  have e1 : (addG G 8 (.inr (3, [.null, .null, .null, .null, .null, .null, .int 0, .null]))).2 = (G.2.1 + 1, G.2.2 + 8) := rfl
  generalize addG G 8 (.inr (3, [.null, .null, .null, .null, .null, .null, .int 0, .null])) = G1 at ga k1 e1 ⊢
  rw [hR_eq (ga.sub _ _ h1) rfl]
  refine Ev.call (tLn_init (p1 := some o) (ga.2.2.2.1 hb) k1 (by rw [e1]) (Rm.gr (c := 1) (z := 8) hm ga)) (fun G2 h2 => ?_)
  obtain ⟨H2, g2, e2⟩ := h2
  rw [hC_eq H2.1]
  refine Ev.call (tLn_beF hb (Nat.le_refl _) hs (ga.fresh g2 hb (fun a h => h)) H2) (fun x hx => ?_)
  obtain ⟨x1, f', H3, hf, g3, e3⟩ := hx
  refine ⟨_, rfl, x1, ⟨f', H3, hf⟩, (ga.fresh (g2.tr g3) hb (fun a h => h)), ?_⟩
  rw [e3, e2, e1]
