set_option maxRecDepth 100000
/-! THE PLAIN LAW, 48: words in five bits a letter -/
abbrev K64 (n : Nat) : Int64 := Int64.ofNat n
theorem K_bv (n : Nat) : (K64 n).toBitVec = BitVec.ofNat 64 n := rfl
theorem K_step {v c : Nat} (hv : v < 1073741824) (h1 : 96 < c) (h2 : c ≤ 122) : (K64 v <<< ((5 : Int32).toInt64 &&& 63)) ||| (J c - (96 : Int32)).toInt64 = K64 (v * 32 + (c - 96)) := by
  have e0 : ((5 : Int32).toInt64 &&& 63) = K64 5 := by decide
  have e1 : (J c - (96 : Int32)).toInt64 = K64 (c - 96) := by
    rw [show (96 : Int32) = J 96 from rfl, J_sub (by omega)]
    exact co_dec (P := fun d => (J d).toInt64 = K64 d) (N := 32) (by decide +kernel) (by omega)
  have e2 : K64 v <<< K64 5 = K64 (v * 32) := by
    apply Int64.toBitVec_inj.mp
    rw [Int64.toBitVec_shiftLeft, BitVec.shiftLeft_eq', show ((K64 5).toBitVec.smod 64).toNat = 5 from by decide, K_bv, K_bv]
    apply BitVec.eq_of_toNat_eq
    simp [Nat.shiftLeft_eq, BitVec.toNat_shiftLeft]
  rw [e0, e1, e2]
  apply Int64.toBitVec_inj.mp
  rw [Int64.toBitVec_or, K_bv, K_bv, K_bv]
  apply BitVec.eq_of_toNat_eq
  have e3 : v * 32 ||| (c - 96) = v * 32 + (c - 96) := by
    have := Nat.two_pow_add_eq_or_of_lt (i := 5) (b := c - 96) (by omega) v
    rw [Nat.mul_comm v 32]
    exact this.symm
  rw [BitVec.toNat_or, BitVec.toNat_ofNat, BitVec.toNat_ofNat, BitVec.toNat_ofNat, Nat.mod_eq_of_lt (by omega), Nat.mod_eq_of_lt (by omega), Nat.mod_eq_of_lt (by omega), e3]
theorem wv_lt {tp : Nat → Nat} {b : Nat} : ∀ k, (∀ j, j < k → 97 ≤ tp (b + j) ∧ tp (b + j) ≤ 122) → wvN tp b k < 32 ^ k := fun k => by
  induction k with
  | zero => intro _; exact Nat.one_pos
  | succ k ih =>
    intro h
    have h1 := ih (fun j hj => h j (by omega))
    have h2 := h k (by omega)
    show wvN tp b k * 32 + (tp (b + k) - 96) < 32 ^ (k + 1)
    rw [Nat.pow_succ]
    omega
theorem wv_inj {tp tp' : Nat → Nat} {b b' : Nat} : ∀ k k', (∀ j, j < k → 97 ≤ tp (b + j) ∧ tp (b + j) ≤ 122) → (∀ j, j < k' → 97 ≤ tp' (b' + j) ∧ tp' (b' + j) ≤ 122) → wvN tp b k = wvN tp' b' k' → k = k' ∧ ∀ j, j < k → tp (b + j) = tp' (b' + j) := fun k => by
  induction k with
  | zero =>
    intro k' _ h' e
    cases k' with
    | zero => exact ⟨rfl, fun j hj => absurd hj (Nat.not_lt_zero j)⟩
    | succ k' =>
      have := h' k' (by omega)
      have e : 0 = wvN tp' b' k' * 32 + (tp' (b' + k') - 96) := e
      omega
  | succ k ih =>
    intro k' h h' e
    have h1 := h k (by omega)
    cases k' with
    | zero =>
      have e : wvN tp b k * 32 + (tp (b + k) - 96) = 0 := e
      omega
    | succ k' =>
      have h2 := h' k' (by omega)
      have e : wvN tp b k * 32 + (tp (b + k) - 96) = wvN tp' b' k' * 32 + (tp' (b' + k') - 96) := e
      obtain ⟨i1, i2⟩ := ih k' (fun j hj => h j (by omega)) (fun j hj => h' j (by omega)) (by omega)
      subst i1
      refine ⟨rfl, fun j hj => ?_⟩
      by_cases c : j = k
      · rw [c]; omega
      · exact i2 j (by omega)
/-- the words that are known, in the Model's order -/
def kwL : List (List Nat) := [[115, 116, 114, 97, 105, 110], [115, 101, 97, 109], [115, 116, 105, 116, 99, 104], [98, 101, 115, 105, 100, 101], [119, 111, 109, 101, 110], [100, 97, 121], [115, 116, 114, 101, 116, 99, 104], [119, 111, 109, 97, 110], [107, 110, 111, 116, 115], [119, 101, 101, 107], [102, 114, 97, 121, 115], [112, 117, 108, 108, 115], [97, 110, 100], [111, 114], [110, 111, 116]]
def kwB (k j : Nat) : Nat := (kwL.getD k []).getD j 0
def kwn (k : Nat) : Nat := (kwL.getD k []).length
theorem kw_ok {k : Nat} (h : k < 15) : kwn k ≤ 7 ∧ 2 ≤ kwn k ∧ (∀ j, j < kwn k → 97 ≤ kwB k (0 + j) ∧ kwB k (0 + j) ≤ 122) ∧ sM_letters (J k) = some (K64 (wvN (kwB k) 0 (kwn k))) := by
  have h1 := co_dec (P := fun k => kwn k ≤ 7 ∧ 2 ≤ kwn k) (N := 15) (by decide +kernel) h
  have h2 := co_dec (P := fun k => ∀ j, j < kwn k → 97 ≤ kwB k (0 + j) ∧ kwB k (0 + j) ≤ 122) (N := 15) (by decide +kernel) h
  have h3 := co_dec (P := fun k => sM_letters (J k) = some (K64 (wvN (kwB k) 0 (kwn k)))) (N := 15) (by decide +kernel) h
  exact ⟨h1.1, h1.2, h2, h3⟩
theorem kw_inj {k k' : Nat} (h : k < 15) (h' : k' < 15) (e : wvN (kwB k) 0 (kwn k) = wvN (kwB k') 0 (kwn k')) : k = k' := by
  have h1 := co_dec (P := fun k => (List.range 15).all (fun k' => k == k' || !(wvN (kwB k) 0 (kwn k) == wvN (kwB k') 0 (kwn k'))) = true) (N := 15) (by decide +kernel) h
  have h2 := List.all_eq_true.mp h1 k' (List.mem_range.mpr h')
  rw [e, beq_self_eq_true, Bool.not_true, Bool.or_false] at h2
  exact beq_iff_eq.mp h2
theorem wv_eq {tp tp' : Nat → Nat} {b b' : Nat} : ∀ k, (∀ j, j < k → tp (b + j) = tp' (b' + j)) → wvN tp b k = wvN tp' b' k := fun k => by
  induction k with
  | zero => intro _; rfl
  | succ k ih =>
    intro h
    show wvN tp b k * 32 + (tp (b + k) - 96) = wvN tp' b' k * 32 + (tp' (b' + k) - 96)
    rw [ih (fun j hj => h j (by omega)), h k (by omega)]
/-- is the word that begins there the k'th known one? -/
def isK (tp : Nat → Nat) (n x k : Nat) : Bool := decide (kdN tp n x = 1 ∧ enN tp n x - bgN tp n x = kwn k ∧ ∀ j, j < kwn k → tp (bgN tp n x + j) = kwB k j)
/-- which known word it is; 15: none -/
def kwF (tp : Nat → Nat) (n x : Nat) : Nat → Nat
  | 0 => 15
  | f + 1 => if isK tp n x (14 - f) = true then 14 - f else kwF tp n x f
def kwN (tp : Nat → Nat) (n x : Nat) : Nat := kwF tp n x 15
theorem kw_step {tp : Nat → Nat} {n x f : Nat} : kwF tp n x (f + 1) = if isK tp n x (14 - f) = true then 14 - f else kwF tp n x f := rfl
theorem kw_iff {tp : Nat → Nat} {n x k : Nat} (hk : k < 15) : kwN tp n x = k ↔ isK tp n x k = true := by
  have uniq : ∀ k k', k < 15 → k' < 15 → isK tp n x k = true → isK tp n x k' = true → k = k' := fun k k' h h' e e' => by
    unfold isK at e e'
    obtain ⟨-, a2, a3⟩ := of_decide_eq_true e
    obtain ⟨-, b2, b3⟩ := of_decide_eq_true e'
    have e1 : kwn k = kwn k' := by omega
    refine kw_inj h h' ?_
    rw [← e1]
    refine wv_eq (kwn k) (fun j hj => ?_)
    rw [Nat.zero_add, ← a3 j hj, ← b3 j (by omega)]
  have key : ∀ f, f ≤ 15 → (∀ k, k < 15 → isK tp n x k = true → 15 - f ≤ k → kwF tp n x f = k) ∧ ((∀ k, 15 - f ≤ k → k < 15 → isK tp n x k = false) → kwF tp n x f = 15) := fun f => by
    induction f with
    | zero => intro _; exact ⟨fun k h1 _ h2 => by omega, fun _ => rfl⟩
    | succ f ih =>
      intro hf
      obtain ⟨i1, i2⟩ := ih (by omega)
      rw [kw_step]
      cases e : isK tp n x (14 - f) with
      | true =>
        rw [if_pos rfl]
        exact ⟨fun k h1 h2 _ => uniq _ _ (by omega) h1 e h2, fun z => by rw [z (14 - f) (by omega) (by omega)] at e; cases e⟩
      | false =>
        rw [if_neg Bool.false_ne_true]
        refine ⟨fun k h1 h2 h3 => ?_, fun z => i2 (fun k h1 h2 => z k (by omega) h2)⟩
        by_cases c : k = 14 - f
        · rw [c, e] at h2; cases h2
        · exact i1 k h1 h2 (by omega)
  obtain ⟨k1, k2⟩ := key 15 (Nat.le_refl _)
  constructor
  · intro h
    cases e : isK tp n x k with
    | true => rfl
    | false =>
      by_cases c : ∃ k', k' < 15 ∧ isK tp n x k' = true
      · obtain ⟨k', h1, h2⟩ := c
        have := k1 k' h1 h2 (by omega)
        unfold kwN at h
        rw [h] at this
        rw [this, h2] at e
        cases e
      · have := k2 (fun k' _ h2 => by
          cases e' : isK tp n x k' with
          | false => rfl
          | true => exact absurd ⟨k', h2, e'⟩ c)
        unfold kwN at h
        omega
  · intro h
    exact k1 k hk h (by omega)
theorem kw_none {tp : Nat → Nat} {n x : Nat} : kwN tp n x ≤ 15 ∧ (kwN tp n x = 15 → ∀ k, k < 15 → isK tp n x k = false) := by
  have key : ∀ f, f ≤ 15 → kwF tp n x f ≤ 15 := fun f => by
    induction f with
    | zero => intro _; exact Nat.le_refl _
    | succ f ih =>
      intro hf
      rw [kw_step]
      split
      · omega
      · exact ih (by omega)
  refine ⟨key 15 (Nat.le_refl _), fun h k hk => ?_⟩
  cases e : isK tp n x k with
  | false => rfl
  | true =>
    have := (kw_iff hk).mpr e
    omega
