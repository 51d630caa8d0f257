set_option maxRecDepth 100000
/-! THE PLAIN LAW, 38: how many readings, 1 -/
theorem J_nti {n : Nat} (h : n < 2147483648) : (-J n).toInt = -(n : Int) := by
  rw [Int32.toInt_neg, J_ti h]
  rw [Int.bmod_eq_of_le (by omega) (by omega)]
theorem nle {a b : Nat} (ha : a < 2147483648) (hb : b < 2147483648) : (-J a ≤ -J b) = (b ≤ a) := propext (by rw [Int32.le_iff_toInt_le, J_nti ha, J_nti hb]; omega)
theorem nlt {a b : Nat} (ha : a < 2147483648) (hb : b < 2147483648) : (-J a < -J b) = (b < a) := propext (by rw [Int32.lt_iff_toInt_lt, J_nti ha, J_nti hb]; omega)
theorem J_ndiv {a b : Nat} (ha : a < 2147483648) (hb : b < 2147483648) : -J a / J b = -J (a / b) := by
  apply Int32.toInt_inj.mp
  rw [Int32.toInt_div_of_ne_left _ _ (by
    intro h
    have h1 := congrArg Int32.toInt h
    rw [J_nti ha] at h1
    have h2 : (Int32.minValue).toInt = -2147483648 := by decide
    omega), J_nti ha, J_ti hb, J_nti (Nat.lt_of_le_of_lt (Nat.div_le_self a b) ha), Int.neg_tdiv]
  rfl
theorem nmul {a b : Nat} : J a * -J b = -J (a * b) := by rw [Int32.mul_neg, J_mul]
theorem nmul' {a b : Nat} : -J a * J b = -J (a * b) := by rw [Int32.neg_mul, J_mul]
theorem nneg {a : Nat} : -(-J a) = J a := Int32.neg_neg
def ndN (p : Nat) : Nat := if p < 10 then 1 else if p < 100 then 2 else if p < 1000 then 3 else if p < 10000 then 4 else if p < 100000 then 5 else if p < 1000000 then 6 else if p < 10000000 then 7 else if p < 100000000 then 8 else 9
theorem nd_ok {p : Nat} (h : p ≤ 999999999) : 1 ≤ ndN p ∧ ndN p ≤ 9 ∧ p < 10 ^ ndN p ∧ (ndN p = 1 ∨ 10 ^ (ndN p - 1) ≤ p) := by
  unfold ndN
  repeat' split
  all_goals (refine ⟨by decide, by decide, ?_, ?_⟩ <;> simp <;> omega)
theorem tN_size {p : Nat} (h : p ≤ 999999999) : sN_stringSize (J p) = some (J (ndN p)) := by
  obtain ⟨h1, h2, h3, h4⟩ := nd_ok h
  have key : Ev (sN_stringSize (J p)) (fun o => o = J (ndN p)) := by
    unfold sN_stringSize
    rw [joinB_eq, if_neg (by rw [lit_0, J_lt (by omega) (by omega)]; omega)]
    show Ev (sN_stringSize_J11 (-J p) (J 0)) _
    unfold sN_stringSize_J11
    refine Ev.loop (fun i s => s = (-J (10 ^ (i + 1)), J (i + 1))) (ndN p - 1) ?_ ?_ rfl (by unfold FUEL; omega)
    · rintro i hi _ rfl rc hrc
      have e1 : 10 ^ (i + 1) ≤ 10 ^ (ndN p - 1) := Nat.pow_le_pow_right (by decide) (by omega)
      have e2 : 10 ^ (ndN p - 1) ≤ p := by omega
      unfold sN_stringSize_L16
      rw [if_neg (by rw [lit_10, J_le (by omega) (by omega)]; omega), if_pos (by rw [nle (by omega) (by omega)]; omega)]
      refine hrc _ ?_
      rw [lit_10, lit_1, nmul, J_add, Nat.pow_succ 10 (i + 1), Nat.mul_comm]
    · rintro _ rfl rc
      unfold sN_stringSize_L16
      rw [Nat.sub_add_cancel h1]
      have e3 : 10 ^ ndN p ≤ 10 ^ 9 := Nat.pow_le_pow_right (by decide) h2
      rw [if_neg (by rw [lit_10, J_le (by omega) (by omega)]; omega), if_neg (by rw [nle (by omega) (by omega)]; omega), J_add, Nat.add_zero]
      exact ⟨_, rfl, rfl⟩
  obtain ⟨v, e, rfl⟩ := key
  exact e
def digN (p L i : Nat) : Nat := p / 10 ^ (L - 1 - i) % 10
theorem tab4 {ct : CT} {G : GS} (B : GB ct G) {v : Nat} (h : v < 100) : ∃ (f : Nat → Int32), G.1 (ct.2.1 4) = some (false, .inl (2, 100, .inl f)) ∧ f v = J (48 + v % 10) := by
  obtain ⟨-, ⟨h0, hS, hs⟩, -⟩ := B
  obtain ⟨-, -, -, -, -, hb, -⟩ := hS
  obtain ⟨f, f1, f2⟩ := hb 4 (Or.inr (Or.inl rfl))
  exact ⟨f, hs _ _ f1, f2 v h⟩
theorem tab3 {ct : CT} {G : GS} (B : GB ct G) {v : Nat} (h : v < 100) : ∃ (f : Nat → Int32), G.1 (ct.2.1 3) = some (false, .inl (2, 100, .inl f)) ∧ f v = J (48 + v / 10) := by
  obtain ⟨-, ⟨h0, hS, hs⟩, -⟩ := B
  obtain ⟨-, -, -, -, -, hb, -⟩ := hS
  obtain ⟨f, f1, f2⟩ := hb 3 (Or.inl rfl)
  exact ⟨f, hs _ _ f1, f2 v h⟩
theorem nar_dig {d : Nat} (h : d < 58) : vp_nar .byte (J d) = J d := co_dec (P := fun d => vp_nar .byte (J d) = J d) (N := 58) (by decide +kernel) h
theorem Ev.pb {ρ : Type} {G : GS} {a t n i : Nat} {v : Int32} {f : Nat → Int32} {kp : GS → Option ρ} {Q : ρ → Prop} (h : G.1 a = some (true, .inl (t, n, .inl f))) (hi : i < n) (hn : n ≤ 2147483648) (hk : ∀ G', G'.1 a = some (true, .inl (t, n, .inl (upd f i v))) → Gr (fun x => x = a) G G' 0 0 → G'.2 = G.2 → Ev (kp G') Q) : Ev (hPutZ G a t (J i) v kp) Q := by
  rw [hPutZ_eq h hi hn]
  exact hk _ setG_at (grw_set (M := fun x => x = a) h rfl (fun z => z)) rfl
