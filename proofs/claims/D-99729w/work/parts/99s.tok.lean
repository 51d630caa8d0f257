set_option maxRecDepth 100000
/-! THE PLAIN LAW, 47: a text's tokens -/
def ruN (p : Nat → Bool) : Nat → Nat → Nat
  | 0, x => x
  | f + 1, x => if p x = true then ruN p f (x + 1) else x
def spN (p : Nat → Bool) (n x : Nat) : Nat := ruN p (n - x) x
theorem sp_f {p : Nat → Bool} {n x : Nat} (h : p x = false) : spN p n x = x := by
  unfold spN
  cases n - x with
  | zero => rfl
  | succ f => show (if p x = true then _ else x) = x; rw [h, if_neg (by decide)]
theorem sp_t {p : Nat → Bool} {n x : Nat} (hx : x < n) (h : p x = true) : spN p n x = spN p n (x + 1) := by
  unfold spN
  rw [show n - x = (n - (x + 1)) + 1 by omega]
  show (if p x = true then _ else x) = _
  rw [if_pos h]
theorem ru_ok {p : Nat → Bool} : ∀ f x, x ≤ ruN p f x ∧ ruN p f x ≤ x + f ∧ (∀ j, x ≤ j → j < ruN p f x → p j = true) ∧ (ruN p f x < x + f → p (ruN p f x) = false) := fun f => by
  induction f with
  | zero => intro x; exact ⟨Nat.le_refl _, Nat.le_refl _, fun j h1 h2 => absurd h2 (by unfold ruN; omega), fun h => absurd h (by unfold ruN; omega)⟩
  | succ f ih =>
    intro x
    show x ≤ (if p x = true then ruN p f (x + 1) else x) ∧ (if p x = true then ruN p f (x + 1) else x) ≤ x + (f + 1) ∧ (∀ j, x ≤ j → j < (if p x = true then ruN p f (x + 1) else x) → p j = true) ∧ ((if p x = true then ruN p f (x + 1) else x) < x + (f + 1) → p (if p x = true then ruN p f (x + 1) else x) = false)
    cases h : p x with
    | false =>
      rw [if_neg (by decide)]
      exact ⟨Nat.le_refl _, by omega, fun j h1 h2 => by omega, fun _ => h⟩
    | true =>
      rw [if_pos rfl]
      obtain ⟨h1, h2, h3, h4⟩ := ih (x + 1)
      refine ⟨by omega, by omega, fun j z1 z2 => ?_, fun z => h4 (by omega)⟩
      by_cases e : j = x
      · rw [e]; exact h
      · exact h3 j (by omega) z2
theorem sp_ok {p : Nat → Bool} {n x : Nat} (hp : ∀ j, n ≤ j → p j = false) : x ≤ spN p n x ∧ (x ≤ n → spN p n x ≤ n) ∧ (∀ j, x ≤ j → j < spN p n x → p j = true) ∧ p (spN p n x) = false := by
  obtain ⟨h1, h2, h3, h4⟩ := ru_ok (p := p) (n - x) x
  refine ⟨h1, fun h => by unfold spN; omega, h3, ?_⟩
  by_cases c : ruN p (n - x) x < x + (n - x)
  · exact h4 c
  · exact hp _ (by unfold spN; omega)
section TK
variable (tp : Nat → Nat) (n : Nat)
def wsB (x : Nat) : Bool := decide (x < n ∧ (tp x = 32 ∨ tp x = 10))
def ltB (x : Nat) : Bool := decide (x < n ∧ 97 ≤ tp x ∧ tp x ≤ 122)
def dgB (x : Nat) : Bool := decide (x < n ∧ 48 ≤ tp x ∧ tp x ≤ 57)
def sgB (c : Nat) : Bool := decide (c = 59 ∨ c = 40 ∨ c = 41 ∨ c = 43 ∨ c = 45 ∨ c = 42 ∨ c = 47 ∨ c = 60 ∨ c = 61)
def bgN (x : Nat) : Nat := spN (wsB tp n) n x
def kdN (x : Nat) : Nat := if n ≤ bgN tp n x then 0 else if ltB tp n (bgN tp n x) = true then 1 else if dgB tp n (bgN tp n x) = true then 2 else if sgB (tp (bgN tp n x)) = true then 3 else 4
def enN (x : Nat) : Nat := if n ≤ bgN tp n x then bgN tp n x else if ltB tp n (bgN tp n x) = true then spN (ltB tp n) n (bgN tp n x) else if dgB tp n (bgN tp n x) = true then spN (dgB tp n) n (bgN tp n x) else bgN tp n x + 1
/-- the number that begins there, of so many digits -/
def nmN (b k : Nat) : Nat := dgN (fun j => tp (b + j) - 48) k
/-- the word that begins there, its first letters -/
def wvN (b : Nat) : Nat → Nat
  | 0 => 0
  | k + 1 => wvN b k * 32 + (tp (b + k) - 96)
/-- a sign -/
def isG (x c : Nat) : Bool := decide (kdN tp n x = 3 ∧ tp (bgN tp n x) = c)
end TK
section TK2
variable {tp : Nat → Nat} {n x : Nat}
theorem bg_ok (hx : x ≤ n) : x ≤ bgN tp n x ∧ bgN tp n x ≤ n ∧ (∀ j, x ≤ j → j < bgN tp n x → wsB tp n j = true) ∧ wsB tp n (bgN tp n x) = false := by
  obtain ⟨h1, h2, h3, h4⟩ := sp_ok (p := wsB tp n) (n := n) (x := x) (fun j h => by unfold wsB; exact decide_eq_false (fun z => by omega))
  exact ⟨h1, h2 hx, h3, h4⟩
theorem lt_out : ∀ j, n ≤ j → ltB tp n j = false := fun j h => by unfold ltB; exact decide_eq_false (fun z => by omega)
theorem dg_out : ∀ j, n ≤ j → dgB tp n j = false := fun j h => by unfold dgB; exact decide_eq_false (fun z => by omega)
theorem en_ok (hx : x ≤ n) : bgN tp n x ≤ enN tp n x ∧ enN tp n x ≤ n ∧ (kdN tp n x = 0 → enN tp n x = n ∧ bgN tp n x = n) ∧ (kdN tp n x ≠ 0 → bgN tp n x < enN tp n x ∧ bgN tp n x < n) := by
  obtain ⟨b1, b2, b3, b4⟩ := bg_ok (tp := tp) hx
  unfold enN kdN
  obtain ⟨b, hb⟩ : ∃ b, b = bgN tp n x := ⟨_, rfl⟩
  rw [← hb] at b1 b2 b3 b4 ⊢
  by_cases c : n ≤ b
  · rw [if_pos c, if_pos c]
    exact ⟨Nat.le_refl _, b2, fun _ => by omega, fun z => absurd rfl z⟩
  · rw [if_neg c, if_neg c]
    cases h1 : ltB tp n b with
    | true =>
      rw [if_pos rfl, if_pos rfl]
      obtain ⟨s1, s2, s3, s4⟩ := sp_ok (p := ltB tp n) (n := n) (x := b) lt_out
      have s5 : b ≠ spN (ltB tp n) n b := fun z => by rw [← z, h1] at s4; exact absurd s4 (by decide)
      have := s2 (by omega)
      exact ⟨s1, this, fun z => absurd z (by decide), fun _ => by omega⟩
    | false =>
      rw [if_neg Bool.false_ne_true, if_neg Bool.false_ne_true]
      cases h2 : dgB tp n b with
      | true =>
        rw [if_pos rfl, if_pos rfl]
        obtain ⟨s1, s2, s3, s4⟩ := sp_ok (p := dgB tp n) (n := n) (x := b) dg_out
        have s5 : b ≠ spN (dgB tp n) n b := fun z => by rw [← z, h2] at s4; exact absurd s4 (by decide)
        have := s2 (by omega)
        exact ⟨s1, this, fun z => absurd z (by decide), fun _ => by omega⟩
      | false =>
        rw [if_neg Bool.false_ne_true, if_neg Bool.false_ne_true]
        refine ⟨by omega, by omega, fun z => ?_, fun _ => by omega⟩
        split at z <;> cases z
theorem kd_lt : kdN tp n x ≤ 4 := by
  unfold kdN
  repeat' split
  all_goals omega
end TK2
