set_option maxRecDepth 100000
/-! THE PLAIN LAW, 67: the Model reckons -/
def CodeAt (f : Nat → Int32) (p : Nat) (c : List Nat) : Prop := ∀ i, i < c.length → f (p + i) = J (c.getD i 0)
theorem CodeAt.app {f : Nat → Int32} {p : Nat} {a b : List Nat} (h : CodeAt f p (a ++ b)) : CodeAt f p a ∧ CodeAt f (p + a.length) b := by
  refine ⟨fun i hi => ?_, fun i hi => ?_⟩
  · have := h i (by rw [List.length_append]; omega)
    rw [this]
    congr 1
    simp [List.getD_eq_getElem?_getD, List.getElem?_append_left hi]
  · have := h (a.length + i) (by rw [List.length_append]; omega)
    rw [Nat.add_assoc, this]
    congr 1
    simp [List.getD_eq_getElem?_getD, List.getElem?_append_right]
abbrev rkB : ((US × Int32 × Int32) → Option (Int32 × US)) → (US × Int32 × Int32) → Option (Int32 × US) := fun rc x => sM_reckons_L4 rc x.1 x.2.1 x.2.2
/-- the code's run -/
def RunM (c : List Nat) (F : FV) : Prop := 1 ≤ c.length ∧ ∃ T, T ≤ c.length ∧ ∀ (fu : Nat) (S : US) (k p : Nat) (Q : Int32 × US → Prop), CodeAt (S 4) p c → p + c.length < 1400 → k + c.length ≤ 950 → (∀ S', S' 17 k = F (tv S 16) → (∀ j, j < k → S' 17 j = S 17 j) → (∀ a, a ≠ 17 → S' a = S a) → Ev (loopK rkB fu (S', J (k + 1), J (p + c.length))) Q) → Ev (loopK rkB (fu + T) (S, J k, J p)) Q
theorem RunM.num {v : Nat} : RunM (numF v).1 (numF v).2 := by
  refine ⟨by show 1 ≤ 2; decide, 1, by show 1 ≤ 2; decide, fun fu S k p Q hc hp hk h => ?_⟩
  have c0 : S 4 p = J 1 := hc 0 (by show 0 < 2; decide)
  have c1 : S 4 (p + 1) = J v := hc 1 (by show 1 < 2; decide)
  have hp : p + 2 < 1400 := hp
  have hk : k + 2 ≤ 950 := hk
  show Ev (sM_reckons_L4 (loopK rkB fu) S (J k) (J p)) Q
  unfold sM_reckons_L4
  rw [gd (by omega) (by omega), gd (by omega) (by omega), J_tn (by omega), c0, if_neg (by decide), joinB_eq, if_pos (show J 1 = (1 : Int32) from rfl)]
  unfold sM_reckons_J36
  rw [J_tn (by omega), c0, if_pos (show J 1 = (1 : Int32) from rfl), lit_1, J_add, gd (by omega) (by omega), gd (by omega) (by omega), J_tn (by omega), J_tn (by omega), c1, letB_eq, J_add, J_add]
  exact h _ u2_at (fun j hj => u2_off (by omega)) (fun a ha => u2_row' (by omega))
theorem RunM.val {w : Nat} (hw : w < 6) : RunM (valF w).1 (valF w).2 := by
  refine ⟨by show 1 ≤ 2; decide, 1, by show 1 ≤ 2; decide, fun fu S k p Q hc hp hk h => ?_⟩
  have c0 : S 4 p = J 2 := hc 0 (by show 0 < 2; decide)
  have c1 : S 4 (p + 1) = J w := hc 1 (by show 1 < 2; decide)
  have hp : p + 2 < 1400 := hp
  have hk : k + 2 ≤ 950 := hk
  show Ev (sM_reckons_L4 (loopK rkB fu) S (J k) (J p)) Q
  unfold sM_reckons_L4
  rw [gd (by omega) (by omega), gd (by omega) (by omega), J_tn (by omega), c0, if_neg (by decide), joinB_eq, if_neg (by decide), if_pos (show J 2 = (2 : Int32) from rfl)]
  unfold sM_reckons_J36
  rw [J_tn (by omega), c0, if_neg (by decide), lit_1, J_add, gd (by omega) (by omega), J_tn (by omega), c1, gd (by omega) (by omega), gd (by omega) (by omega), J_tn (by omega), J_tn (by omega), letB_eq, J_add, J_add]
  refine h _ ?_ (fun j hj => u2_off (by omega)) (fun a ha => u2_row' (by omega))
  rw [u2_at]
  show S 16 w = tv S 16 w
  unfold tv
  rw [if_pos hw]
theorem RunM.neg {a : Fm} (H : RunM a.1 a.2) : RunM (negF a).1 (negF a).2 := by
  obtain ⟨h1l, T, hT, H⟩ := H
  have hl : (negF a).1.length = a.1.length + 1 := by show (a.1 ++ [3]).length = _; rw [List.length_append]; rfl
  refine ⟨by omega, T + 1, by omega, fun fu S k p Q hc hp hk h => ?_⟩
  rw [hl] at hp hk h
  obtain ⟨h1, h2⟩ := CodeAt.app (a := a.1) (b := [3]) hc
  have c3 : S 4 (p + a.1.length) = J 3 := h2 0 (by show 0 < 1; decide)
  rw [show fu + (T + 1) = (fu + 1) + T by omega]
  refine H (fu + 1) S k p Q h1 (by omega) (by omega) (fun S1 e1 e2 e3 => ?_)
  have c3' : S1 4 (p + a.1.length) = J 3 := by rw [e3 4 (by decide)]; exact c3
  show Ev (sM_reckons_L4 (loopK rkB fu) S1 (J (k + 1)) (J (p + a.1.length))) Q
  unfold sM_reckons_L4
  rw [gd (by omega) (by omega), gd (by omega) (by omega), J_tn (by omega), c3', if_neg (by decide), joinB_eq, if_neg (by decide), if_neg (by decide), if_pos (show J 3 = (3 : Int32) from rfl), lit_1, J_sub (by omega), Nat.add_sub_cancel, gd (by omega) (by omega), J_tn (by omega), e1, J_add]
  have hh : (negF a).2 (tv S 16) = if a.2 (tv S 16) = 0 then 1 else 0 := rfl
  rw [hh] at h
  by_cases z : a.2 (tv S 16) = 0
  · rw [if_pos z] at h
    rw [if_pos z, gdn (by omega) (by omega), letB_eq]
    exact h _ u2_at (fun j hj => (u2_off (by omega)).trans (e2 j hj)) (fun b hb => (u2_row' (by omega)).trans (e3 b hb))
  · rw [if_neg z] at h
    rw [if_neg z, gdn (by omega) (by omega), letB_eq]
    exact h _ u2_at (fun j hj => (u2_off (by omega)).trans (e2 j hj)) (fun b hb => (u2_row' (by omega)).trans (e3 b hb))
theorem RunM.bin {o ch : Nat} {a b : Fm} (ho : bopR o ch) (Ha : RunM a.1 a.2) (Hb : RunM b.1 b.2) : RunM (binF o a b).1 (binF o a b).2 := by
  obtain ⟨l1, T1, hT1, H1⟩ := Ha
  obtain ⟨l2, T2, hT2, H2⟩ := Hb
  have hl : (binF o a b).1.length = a.1.length + b.1.length + 1 := by show (a.1 ++ b.1 ++ [o]).length = _; rw [List.length_append, List.length_append]; rfl
  have ho12 : 4 ≤ o ∧ o ≤ 11 := by unfold bopR at ho; omega
  refine ⟨by omega, T1 + T2 + 1, by omega, fun fu S k p Q hc hp hk h => ?_⟩
  rw [hl] at hp hk h
  obtain ⟨h12, h3⟩ := CodeAt.app (a := a.1 ++ b.1) (b := [o]) hc
  obtain ⟨h1, h2⟩ := CodeAt.app h12
  rw [List.length_append] at h3
  have c3 : S 4 (p + (a.1.length + b.1.length)) = J o := h3 0 (by show 0 < 1; decide)
  rw [show fu + (T1 + T2 + 1) = (fu + 1 + T2) + T1 by omega]
  refine H1 (fu + 1 + T2) S k p Q h1 (by omega) (by omega) (fun S1 e1 e2 e3 => ?_)
  have r4 : S1 4 = S 4 := e3 4 (by decide)
  refine H2 (fu + 1) S1 (k + 1) (p + a.1.length) Q (by rw [r4]; exact h2) (by omega) (by omega) (fun S2 g1 g2 g3 => ?_)
  have q1 : S2 17 k = a.2 (tv S 16) := (g2 k (by omega)).trans e1
  have q2 : S2 17 (k + 1) = b.2 (tv S 16) := by
    rw [g1]
    unfold tv
    rw [e3 16 (by decide)]
  have c3' : S2 4 (p + a.1.length + b.1.length) = J o := by rw [g3 4 (by decide), r4, Nat.add_assoc]; exact c3
  have hne : ∀ v : Nat, v < 4 → ¬ J o = J v := fun v hv => by rw [J_eq (by omega) (by omega)]; omega
  have hw := (bop_ok ho (a.2 (tv S 16)) (b.2 (tv S 16))).2
  show Ev (sM_reckons_L4 (loopK rkB fu) S2 (J (k + 1 + 1)) (J (p + a.1.length + b.1.length))) Q
  unfold sM_reckons_L4
  rw [gd (by omega) (by omega), gd (by omega) (by omega), J_tn (by omega), c3', if_neg (show ¬ J o = (0 : Int32) from hne 0 (by omega)), joinB_eq, if_neg (show ¬ J o = (1 : Int32) from hne 1 (by omega)), if_neg (show ¬ J o = (2 : Int32) from hne 2 (by omega)), if_neg (show ¬ J o = (3 : Int32) from hne 3 (by omega)), add_m1, J_sub (by omega), Nat.add_sub_cancel, lit_1, J_sub (by omega), Nat.add_sub_cancel, gd (by omega) (by omega), gd (by omega) (by omega), J_tn (by omega), J_tn (by omega), q1, q2, hw, callK_eq, gdn (by omega) (by omega), letB_eq, J_add]
  rw [show p + (a.1.length + b.1.length + 1) = p + a.1.length + b.1.length + 1 by omega] at h
  exact h _ u2_at (fun j hj => (u2_off (by omega)).trans ((g2 j (by omega)).trans (e2 j hj))) (fun z hz => (u2_row' (by omega)).trans ((g3 z hz).trans (e3 z hz)))
/-- a code that ends -/
theorem RunM.den {c : List Nat} {F : FV} {code : Nat → Int32} {p : Nat} (H : RunM c F) (hc : CodeAt code p (c ++ [0])) (hp : p + c.length < 1399) (hl : c.length ≤ 950) : CDen code p F := fun S hS => by
  obtain ⟨h1, T, hT, H⟩ := H
  obtain ⟨h2, h3⟩ := CodeAt.app hc
  have c0 : code (p + c.length) = J 0 := h3 0 (by show 0 < 1; decide)
  unfold sM_reckons
  show Ev (loopK rkB FUEL (S, J 0, J p)) _
  rw [show FUEL = (FUEL - T - 1 + 1) + T by unfold FUEL; omega]
  refine H _ S 0 p _ (by rw [hS]; exact h2) (by omega) (by omega) (fun S1 e1 e2 e3 => ?_)
  have c0' : S1 4 (p + c.length) = J 0 := by rw [e3 4 (by decide), hS]; exact c0
  show Ev (sM_reckons_L4 (loopK rkB (FUEL - T - 1)) S1 (J (0 + 1)) (J (p + c.length))) _
  unfold sM_reckons_L4
  rw [gd (by omega) (by omega), J_tn (by omega), c0', if_pos j00, if_neg (by decide), tn0]
  exact ⟨_, rfl, e1, e3⟩
