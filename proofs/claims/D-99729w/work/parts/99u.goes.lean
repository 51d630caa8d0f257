set_option maxRecDepth 100000
/-! THE PLAIN LAW, 49: the Model's tokens -/
def btN (tp : Nat → Nat) (n x : Nat) : Nat := if x < n then tp x else 0
def TpM (tp : Nat → Nat) (n : Nat) (S : US) : Prop := S 0 16 = J n ∧ n ≤ 480 ∧ ∀ i, i < n → S 5 i = J (tp i) ∧ tp i < 256
def MFg (S0 S : US) : Prop := (∀ a, a ≠ 0 → S a = S0 a) ∧ ∀ k, (k < 17 ∨ 22 < k) → S 0 k = S0 0 k
theorem MFg.rf {S : US} : MFg S S := ⟨fun _ _ => rfl, fun _ _ => rfl⟩
theorem MFg.tr {S0 S1 S2 : US} (h : MFg S0 S1) (h' : MFg S1 S2) : MFg S0 S2 := ⟨fun a ha => (h'.1 a ha).trans (h.1 a ha), fun k hk => (h'.2 k hk).trans (h.2 k hk)⟩
theorem MFg.u {S0 S : US} {k : Nat} {v : Int32} (h : MFg S0 S) (hk : 17 ≤ k ∧ k ≤ 22) : MFg S0 (u2 S 0 k v) := ⟨fun a ha => by rw [u2_row' (by omega)]; exact h.1 a ha, fun j hj => by rw [u2_off (by omega)]; exact h.2 j hj⟩
theorem TpM.of {tp : Nat → Nat} {n : Nat} {S S' : US} (h : TpM tp n S) (h1 : S' 0 16 = S 0 16) (h2 : S' 5 = S 5) : TpM tp n S' := ⟨h1.trans h.1, h.2.1, by rw [h2]; exact h.2.2⟩
theorem TpM.g {tp : Nat → Nat} {n : Nat} {S S' : US} (h : TpM tp n S) (h' : MFg S S') : TpM tp n S' := h.of (h'.2 16 (by omega)) (h'.1 5 (by decide))
/-- the Model's reader stands at x -/
def TkM (tp : Nat → Nat) (n x : Nat) (S : US) (w : Int64) : Prop := S 0 17 = J (enN tp n x) ∧ S 0 18 = J (kdN tp n x) ∧ S 0 19 = J (bgN tp n x) ∧ S 0 20 = J (enN tp n x - bgN tp n x) ∧ (kdN tp n x = 2 → S 0 21 = J (nmN tp (bgN tp n x) (min 4 (enN tp n x - bgN tp n x)))) ∧ (kdN tp n x = 3 → S 0 22 = J (tp (bgN tp n x))) ∧ (kdN tp n x = 1 → w = K64 (wvN tp (bgN tp n x) (min 7 (enN tp n x - bgN tp n x))))
theorem TkM.of {tp : Nat → Nat} {n x : Nat} {S S' : US} {w : Int64} (h : TkM tp n x S w) (h' : ∀ k, 17 ≤ k → k ≤ 22 → S' 0 k = S 0 k) : TkM tp n x S' w := by
  unfold TkM at *
  rw [h' 17 (by omega) (by omega), h' 18 (by omega) (by omega), h' 19 (by omega) (by omega), h' 20 (by omega) (by omega), h' 21 (by omega) (by omega), h' 22 (by omega) (by omega)]
  exact h
theorem tM_byteAt {tp : Nat → Nat} {n x : Nat} {S : US} (h : TpM tp n S) (hx : x ≤ n) : sM_byteAt S (J x) = some (J (btN tp n x)) := by
  obtain ⟨h1, h2, h3⟩ := h
  unfold sM_byteAt btN
  rw [h1]
  by_cases c : x < n
  · rw [if_neg (by rw [J_le (by omega) (by omega)]; omega), gd (by omega) (by omega), J_tn (by omega), (h3 x c).1, if_pos c]
  · rw [if_pos (by rw [J_le (by omega) (by omega)]; omega), if_neg c]
    rfl
theorem bt_lt {tp : Nat → Nat} {n x : Nat} {S : US} (h : TpM tp n S) : btN tp n x < 256 := by
  unfold btN
  split
  · rename_i c; exact (h.2.2 x c).2
  · omega
theorem lit_97 : (97 : Int32) = J 97 := asEq rfl
theorem lit_122 : (122 : Int32) = J 122 := asEq rfl
theorem lit_48' : (48 : Int32) = J 48 := asEq rfl
theorem lit_57 : (57 : Int32) = J 57 := asEq rfl
theorem tM_isLetter {tp : Nat → Nat} {n x : Nat} {S : US} (h : TpM tp n S) : sM_isLetter (J (btN tp n x)) = some (ltB tp n x) := by
  have hb := bt_lt (x := x) h
  unfold sM_isLetter ltB
  by_cases c : x < n
  · have e : btN tp n x = tp x := if_pos c
    rw [e] at hb ⊢
    by_cases c1 : tp x < 97
    · rw [if_pos (by rw [lit_97, J_lt (by omega) (by omega)]; exact c1), decide_eq_false (fun z => by omega)]
    · rw [if_neg (by rw [lit_97, J_lt (by omega) (by omega)]; exact c1)]
      by_cases c2 : 122 < tp x
      · rw [if_pos (by rw [lit_122, J_lt (by omega) (by omega)]; exact c2), decide_eq_false (fun z => by omega)]
      · rw [if_neg (by rw [lit_122, J_lt (by omega) (by omega)]; exact c2), decide_eq_true ⟨c, by omega, by omega⟩]
  · have e : btN tp n x = 0 := if_neg c
    rw [e, if_pos (by decide), decide_eq_false (fun z => c z.1)]
theorem tM_isDigit {tp : Nat → Nat} {n x : Nat} {S : US} (h : TpM tp n S) : sM_isDigit (J (btN tp n x)) = some (dgB tp n x) := by
  have hb := bt_lt (x := x) h
  unfold sM_isDigit dgB
  by_cases c : x < n
  · have e : btN tp n x = tp x := if_pos c
    rw [e] at hb ⊢
    by_cases c1 : tp x < 48
    · rw [if_pos (by rw [lit_48', J_lt (by omega) (by omega)]; exact c1), decide_eq_false (fun z => by omega)]
    · rw [if_neg (by rw [lit_48', J_lt (by omega) (by omega)]; exact c1)]
      by_cases c2 : 57 < tp x
      · rw [if_pos (by rw [lit_57, J_lt (by omega) (by omega)]; exact c2), decide_eq_false (fun z => by omega)]
      · rw [if_neg (by rw [lit_57, J_lt (by omega) (by omega)]; exact c2), decide_eq_true ⟨c, by omega, by omega⟩]
  · have e : btN tp n x = 0 := if_neg c
    rw [e, if_pos (by decide), decide_eq_false (fun z => c z.1)]
theorem sg_if {ρ : Type} {c : Nat} {x y : ρ} (hc : c < 256) : (if J c = (59 : Int32) then x else if J c = (40 : Int32) then x else if J c = (41 : Int32) then x else if J c = (43 : Int32) then x else if J c = (45 : Int32) then x else if J c = (42 : Int32) then x else if J c = (47 : Int32) then x else if J c = (60 : Int32) then x else if J c = (61 : Int32) then x else y) = if sgB c = true then x else y := by
  have e : ∀ k : Nat, k < 256 → (J c = J k) = (c = k) := fun k hk => J_eq (by omega) (by omega)
  rw [show (59 : Int32) = J 59 from rfl, show (40 : Int32) = J 40 from rfl, show (41 : Int32) = J 41 from rfl, show (43 : Int32) = J 43 from rfl, show (45 : Int32) = J 45 from rfl, show (42 : Int32) = J 42 from rfl, show (47 : Int32) = J 47 from rfl, show (60 : Int32) = J 60 from rfl, show (61 : Int32) = J 61 from rfl]
  simp only [e 59 (by omega), e 40 (by omega), e 41 (by omega), e 43 (by omega), e 45 (by omega), e 42 (by omega), e 47 (by omega), e 60 (by omega), e 61 (by omega)]
  unfold sgB
  by_cases h : c = 59 ∨ c = 40 ∨ c = 41 ∨ c = 43 ∨ c = 45 ∨ c = 42 ∨ c = 47 ∨ c = 60 ∨ c = 61
  · rw [decide_eq_true h, if_pos rfl]
    rcases h with h | h | h | h | h | h | h | h | h <;> (subst h; rfl)
  · rw [decide_eq_false h, if_neg Bool.false_ne_true]
    rw [if_neg (by omega), if_neg (by omega), if_neg (by omega), if_neg (by omega), if_neg (by omega), if_neg (by omega), if_neg (by omega), if_neg (by omega), if_neg (by omega)]
/-- the end of a token -/
theorem tM_fin {S0 S : US} {w : Int64} {k b e : Nat} {Q : US × Int64 → Prop} (h0 : MFg S0 S) (h1 : S 0 17 = J e) (h2 : S 0 19 = J b) (hbe : b ≤ e) (hk : ∀ S', MFg S0 S' → S' 0 17 = J e → S' 0 18 = J k → S' 0 19 = J b → S' 0 20 = J (e - b) → S' 0 21 = S 0 21 → S' 0 22 = S 0 22 → Q (S', w)) : Ev (letB (u2 S 0 18 (J k)) (fun S11 => letB (u2 S11 0 20 ((S11 0 17) - (S11 0 19))) (fun S12 => some (S12, w)))) Q := by
  rw [letB_eq, letB_eq]
  rw [u2_off (by omega), u2_off (by omega), h1, h2, J_sub hbe]
  refine ⟨_, rfl, hk _ ((h0.u (by omega)).u (by omega)) ?_ ?_ ?_ u2_at ?_ ?_⟩
  · rw [u2_off (by omega), u2_off (by omega)]; exact h1
  · rw [u2_off (by omega)]; exact u2_at
  · rw [u2_off (by omega), u2_off (by omega)]; exact h2
  · rw [u2_off (by omega), u2_off (by omega)]
  · rw [u2_off (by omega), u2_off (by omega)]
