set_option maxRecDepth 100000
/-! THE PLAIN LAW, 68: the Model's rules, 1: what waits -/
/-- what waits, the top first -/
def WsAt (f : Nat → Int32) : List Nat → Prop
  | [] => True
  | a :: ws => f ws.length = J a ∧ WsAt f ws
theorem WsAt.of {f g : Nat → Int32} : ∀ ws : List Nat, WsAt f ws → (∀ i, i < ws.length → g i = f i) → WsAt g ws := fun ws => by
  induction ws with
  | nil => intro _ _; exact trivial
  | cons a ws ih =>
    intro h hg
    exact ⟨(hg ws.length (by show _ < ws.length + 1; omega)).trans h.1, ih h.2 (fun i hi => hg i (by show _ < ws.length + 1; omega))⟩
def wgtN (a : Nat) : Nat := if a = 5 then 1 else if a = 4 then 2 else if a = 3 then 3 else if a = 6 then 4 else if a = 7 then 4 else if a = 8 then 5 else if a = 9 then 5 else 6
def drpN (l : Nat) : List Nat → List Nat → List Nat × List Nat
  | cs, [] => (cs, [])
  | cs, a :: ws => if 14 ≤ a then (cs, a :: ws) else if wgtN a < l then (cs, a :: ws) else drpN l (cs ++ [a]) ws
theorem drp_nil {l : Nat} {cs : List Nat} : drpN l cs [] = (cs, []) := rfl
theorem drp_cons {l a : Nat} {cs ws : List Nat} : drpN l cs (a :: ws) = if 14 ≤ a then (cs, a :: ws) else if wgtN a < l then (cs, a :: ws) else drpN l (cs ++ [a]) ws := rfl
theorem drp_len {l : Nat} : ∀ ws cs, (drpN l cs ws).1.length + (drpN l cs ws).2.length = cs.length + ws.length ∧ (drpN l cs ws).2.length ≤ ws.length := fun ws => by
  induction ws with
  | nil => intro cs; exact ⟨rfl, Nat.le_refl _⟩
  | cons a ws ih =>
    intro cs
    rw [drp_cons]
    by_cases c : 14 ≤ a
    · rw [if_pos c]; exact ⟨rfl, Nat.le_refl _⟩
    · rw [if_neg c]
      by_cases e : wgtN a < l
      · rw [if_pos e]; exact ⟨rfl, Nat.le_refl _⟩
      · rw [if_neg e]
        obtain ⟨h1, h2⟩ := ih (cs ++ [a])
        rw [List.length_append] at h1
        refine ⟨by rw [h1]; show cs.length + 1 + ws.length = cs.length + (ws.length + 1); omega, by show _ ≤ ws.length + 1; omega⟩
/-- what a rule's reading may change -/
def MFe (p0 : Nat) (S0 S : US) : Prop := (∀ a, a ≠ 0 → a ≠ 11 → a ≠ 12 → a ≠ 13 → S a = S0 a) ∧ (∀ i, i < p0 → S 11 i = S0 11 i) ∧ ∀ k, (k < 13 ∨ (14 < k ∧ k < 17) ∨ (22 < k ∧ k < 30) ∨ 32 < k) → S 0 k = S0 0 k
theorem MFe.rf {p0 : Nat} {S : US} : MFe p0 S S := ⟨fun _ _ _ _ _ => rfl, fun _ _ => rfl, fun _ _ => rfl⟩
theorem MFe.tr {p0 : Nat} {S0 S1 S2 : US} (h : MFe p0 S0 S1) (h' : MFe p0 S1 S2) : MFe p0 S0 S2 := ⟨fun a h1 h2 h3 h4 => (h'.1 a h1 h2 h3 h4).trans (h.1 a h1 h2 h3 h4), fun i hi => (h'.2.1 i hi).trans (h.2.1 i hi), fun k hk => (h'.2.2 k hk).trans (h.2.2 k hk)⟩
theorem MFe.f {p0 k : Nat} {S0 S : US} {v : Int32} (h : MFe p0 S0 S) (hk : k = 13 ∨ k = 14 ∨ (17 ≤ k ∧ k ≤ 22) ∨ (30 ≤ k ∧ k ≤ 32)) : MFe p0 S0 (u2 S 0 k v) := ⟨fun a h1 h2 h3 h4 => by rw [u2_row' (by omega)]; exact h.1 a h1 h2 h3 h4, fun i hi => by rw [u2_row' (by omega)]; exact h.2.1 i hi, fun j hj => by rw [u2_off (by omega)]; exact h.2.2 j hj⟩
theorem MFe.r {p0 a k : Nat} {S0 S : US} {v : Int32} (h : MFe p0 S0 S) (ha : a = 12 ∨ a = 13 ∨ (a = 11 ∧ p0 ≤ k)) : MFe p0 S0 (u2 S a k v) := ⟨fun b h1 h2 h3 h4 => by rw [u2_row' (by omega)]; exact h.1 b h1 h2 h3 h4, fun i hi => by
    by_cases e : a = 11
    · rw [e, u2_off (by omega)]; exact h.2.1 i hi
    · rw [u2_row' (by omega)]; exact h.2.1 i hi, fun j hj => by rw [u2_row' (by omega)]; exact h.2.2 j hj⟩
theorem MFe.g {p0 : Nat} {S0 S S' : US} (h : MFe p0 S0 S) (h' : MFg S S') : MFe p0 S0 S' := ⟨fun a h1 h2 h3 h4 => (h'.1 a h1).trans (h.1 a h1 h2 h3 h4), fun i hi => by rw [h'.1 11 (by decide)]; exact h.2.1 i hi, fun k hk => (h'.2 k (by omega)).trans (h.2.2 k hk)⟩
/-- the stacks -/
def MSt (p0 : Nat) (cs ws : List Nat) (S : US) : Prop := S 0 30 = J (p0 + cs.length) ∧ CodeAt (S 11) p0 cs ∧ S 0 31 = J ws.length ∧ WsAt (S 12) ws
theorem CodeAt.snoc {f : Nat → Int32} {p v : Nat} {a : List Nat} (h : CodeAt f p a) (hv : f (p + a.length) = J v) : CodeAt f p (a ++ [v]) := fun i hi => by
  rw [List.length_append] at hi
  have hi : i < a.length + 1 := hi
  by_cases e : i < a.length
  · rw [h i e]
    congr 1
    simp [List.getD_eq_getElem?_getD, List.getElem?_append_left e]
  · have : i = a.length := by omega
    subst this
    rw [hv]
    congr 1
    simp [List.getD_eq_getElem?_getD]
theorem tM_puts {p0 v : Nat} {cs ws : List Nat} {S : US} (H : MSt p0 cs ws S) (hb : p0 + cs.length < 1400) : ∃ S', sM_puts S (J v) = some S' ∧ MSt p0 (cs ++ [v]) ws S' ∧ MFe p0 S S' ∧ ∀ a, a ≠ 11 → (∀ k, (a = 0 → k ≠ 30) → S' a k = S a k) := by
  obtain ⟨h1, h2, h3, h4⟩ := H
  unfold sM_puts
  rw [h1, gd hb (by omega), J_tn (by omega), letB_eq, letB_eq, u2_row' (show 0 < 11 ∨ 11 < 0 by omega), h1, lit_1, J_add]
  refine ⟨_, rfl, ⟨?_, ?_, ?_, ?_⟩, (MFe.rf.r (by omega)).f (by omega), fun a ha k hk => ?_⟩
  · rw [u2_at, List.length_append]; rfl
  · refine CodeAt.snoc (fun i hi => ?_) ?_
    · rw [u2_row' (show 11 < 0 ∨ 0 < 11 by omega), u2_off (by omega)]; exact h2 i hi
    · rw [u2_row' (show 11 < 0 ∨ 0 < 11 by omega), u2_at]
  · rw [u2_off (by omega), u2_row' (by omega)]; exact h3
  · rw [u2_row' (show 12 < 0 ∨ 0 < 12 by omega), u2_row' (show 12 < 11 ∨ 11 < 12 by omega)]; exact h4
  · by_cases e : a = 0
    · subst e
      rw [u2_off (by have := hk rfl; omega), u2_row' (by omega)]
    · rw [u2_row' (by omega), u2_row' (by omega)]
theorem tM_waits {p0 v : Nat} {cs ws : List Nat} {S : US} (H : MSt p0 cs ws S) (hb : ws.length < 950) : ∃ S', sM_waitsFor S (J v) = some S' ∧ MSt p0 cs (v :: ws) S' ∧ MFe p0 S S' ∧ ∀ a, a ≠ 12 → (∀ k, (a = 0 → k ≠ 31) → S' a k = S a k) := by
  obtain ⟨h1, h2, h3, h4⟩ := H
  unfold sM_waitsFor
  rw [h3, gd hb (by omega), J_tn (by omega), letB_eq, letB_eq, u2_row' (show 0 < 12 ∨ 12 < 0 by omega), h3, lit_1, J_add]
  refine ⟨_, rfl, ⟨?_, ?_, u2_at, ?_, ?_⟩, (MFe.rf.r (by omega)).f (by omega), fun a ha k hk => ?_⟩
  · rw [u2_off (by omega), u2_row' (by omega)]; exact h1
  · rw [u2_row' (show 11 < 0 ∨ 0 < 11 by omega), u2_row' (show 11 < 12 ∨ 12 < 11 by omega)]; exact h2
  · rw [u2_row' (show 12 < 0 ∨ 0 < 12 by omega), u2_at]
  · refine h4.of ws (fun i hi => ?_)
    rw [u2_row' (show 12 < 0 ∨ 0 < 12 by omega), u2_off (by omega)]
  · by_cases e : a = 0
    · subst e
      rw [u2_off (by have := hk rfl; omega), u2_row' (by omega)]
    · rw [u2_row' (by omega), u2_row' (by omega)]
theorem tM_isOpen {a : Nat} (h : a < 1000) : sM_isOpen (J a) = some (decide (14 ≤ a)) := by
  unfold sM_isOpen
  by_cases c : a < 14
  · rw [if_pos (by rw [show (14 : Int32) = J 14 from rfl, J_lt (by omega) (by omega)]; exact c), decide_eq_false (by omega)]
  · rw [if_neg (by rw [show (14 : Int32) = J 14 from rfl, J_lt (by omega) (by omega)]; exact c), decide_eq_true (by omega)]
theorem tM_str {a : Nat} (h : a < 15) : sM_strength (J a) = some (J (wgtN a)) := co_dec (P := fun a => sM_strength (J a) = some (J (wgtN a))) (N := 15) (by decide +kernel) h
theorem tM_drops {p0 l : Nat} {cs ws : List Nat} {S : US} (H : MSt p0 cs ws S) (hb : p0 + cs.length + ws.length ≤ 1400) (hw : ws.length ≤ 900) (hl : l ≤ 6) (ha : ∀ a ∈ ws, a < 15) : Ev (sM_drops S (J l)) (fun S' => MSt p0 (drpN l cs ws).1 (drpN l cs ws).2 S' ∧ MFe p0 S S' ∧ (∀ k, k ≠ 30 → k ≠ 31 → S' 0 k = S 0 k) ∧ S' 13 = S 13) := by
  unfold sM_drops
  have key : ∀ (ws : List Nat) (cs : List Nat) (S1 : US) (fu : Nat), ws.length < fu → MSt p0 cs ws S1 → p0 + cs.length + ws.length ≤ 1400 → ws.length ≤ 900 → (∀ a ∈ ws, a < 15) → MFe p0 S S1 → (∀ k, k ≠ 30 → k ≠ 31 → S1 0 k = S 0 k) → S1 13 = S 13 → Ev (loopK (fun rc (x : US) => sM_drops_L0 (J l) rc x) fu S1) (fun S' => MSt p0 (drpN l cs ws).1 (drpN l cs ws).2 S' ∧ MFe p0 S S' ∧ (∀ k, k ≠ 30 → k ≠ 31 → S' 0 k = S 0 k) ∧ S' 13 = S 13) := fun ws => by
    induction ws with
    | nil =>
      intro cs S1 fu hfu h _ _ _ hF h0 h13
      obtain ⟨fu, rfl⟩ : ∃ f, fu = f + 1 := ⟨fu - 1, by have : 0 < fu := hfu; omega⟩
      show Ev (sM_drops_L0 (J l) _ S1) _
      unfold sM_drops_L0
      rw [h.2.2.1, if_pos (show (J ([] : List Nat).length : Int32) ≤ 0 by decide)]
      exact ⟨_, rfl, h, hF, h0, h13⟩
    | cons a ws ih =>
      intro cs S1 fu hfu h hb hw hal hF h0 h13
      have hlen : (a :: ws).length = ws.length + 1 := rfl
      rw [hlen] at hfu hb hw
      obtain ⟨fu, rfl⟩ : ∃ f, fu = f + 1 := ⟨fu - 1, by omega⟩
      obtain ⟨k1, k2, k3, k4, k5⟩ := id h
      rw [hlen] at k3
      have ha15 := hal a (List.mem_cons_self ..)
      show Ev (sM_drops_L0 (J l) (loopK (fun rc (x : US) => sM_drops_L0 (J l) rc x) fu) S1) _
      unfold sM_drops_L0
      rw [k3, if_neg (by rw [lit_0, J_le (by omega) (by omega)]; omega), lit_1, J_sub (by omega), Nat.add_sub_cancel, gd (by omega) (by omega), J_tn (by omega), k4, tM_isOpen (by omega), callK_eq, drp_cons]
      by_cases c : 14 ≤ a
      · rw [decide_eq_true c, bI_t, if_neg j10, if_pos c]
        exact ⟨_, rfl, h, hF, h0, h13⟩
      · rw [decide_eq_false c, bI_f, if_pos j00, gdn (by omega) (by omega), tM_str ha15, callK_eq, if_neg c]
        by_cases e : wgtN a < l
        · have hs6 : wgtN a ≤ 6 := by omega
          rw [if_pos (by rw [J_lt (by omega) (by omega)]; exact e), if_pos e]
          exact ⟨_, rfl, h, hF, h0, h13⟩
        · have hs6 : wgtN a ≤ 6 := co_dec (P := fun a => wgtN a ≤ 6) (N := 15) (by decide +kernel) ha15
          rw [if_neg (by rw [J_lt (by omega) (by omega)]; exact e), if_neg e, letB_eq, u2_at, gd (by omega) (by omega), J_tn (by omega), u2_row' (show 12 < 0 ∨ 0 < 12 by omega), k4]
          have h5 : MSt p0 cs ws (u2 S1 0 31 (J ws.length)) := ⟨by rw [u2_off (by omega)]; exact k1, by rw [u2_row' (show 11 < 0 ∨ 0 < 11 by omega)]; exact k2, u2_at, by rw [u2_row' (show 12 < 0 ∨ 0 < 12 by omega)]; exact k5⟩
          obtain ⟨S6, e6, m1, m2, m3⟩ := tM_puts (v := a) h5 (by omega)
          rw [e6, callK_eq]
          refine ih (cs ++ [a]) S6 fu (by omega) m1 (by rw [List.length_append]; show p0 + (cs.length + 1) + ws.length ≤ 1400; omega) (by omega) (fun b hb => hal b (List.mem_cons_of_mem _ hb)) ((hF.f (by omega)).tr m2) (fun k q1 q2 => ?_) ?_
          · rw [m3 0 (by decide) k (fun _ => q1), u2_off (by omega)]
            exact h0 k q1 q2
          · funext k
            rw [m3 13 (by decide) k (fun z => by cases z), u2_row' (show 13 < 0 ∨ 0 < 13 by omega), h13]
  exact key ws cs S FUEL (by unfold FUEL; omega) H hb hw ha MFe.rf (fun _ _ _ => rfl) rfl
