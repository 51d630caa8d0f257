set_option maxRecDepth 100000
/-! THE PLAIN LAW, 40: how many readings, 3: is a word here? -/
theorem dg_lt {d : Nat → Nat} : ∀ k, (∀ j, j < k → d j ≤ 9) → dgN d k < 10 ^ k := fun k => by
  induction k with
  | zero => intro _; exact Nat.one_pos
  | succ k ih =>
    intro h
    have := ih (fun j hj => h j (by omega))
    have := h k (by omega)
    rw [dgN_s, Nat.pow_succ]
    omega
theorem dg_inj {x y : Nat → Nat} : ∀ k, (∀ j, j < k → x j ≤ 9) → (∀ j, j < k → y j ≤ 9) → (dgN x k = dgN y k ↔ ∀ j, j < k → x j = y j) := fun k => by
  induction k with
  | zero => intro _ _; exact ⟨fun _ j hj => absurd hj (Nat.not_lt_zero j), fun _ => rfl⟩
  | succ k ih =>
    intro hx hy
    have h := ih (fun j hj => hx j (by omega)) (fun j hj => hy j (by omega))
    have h1 := hx k (by omega)
    have h2 := hy k (by omega)
    rw [dgN_s, dgN_s]
    constructor
    · intro e j hj
      by_cases c : j = k
      · rw [c]; omega
      · exact h.mp (by omega) j (by omega)
    · intro e
      have := h.mpr (fun j hj => e j (by omega))
      have := e k (by omega)
      omega
def mtB (x y : Nat → Nat) (L k off : Nat) : Bool := decide (off + k ≤ L ∧ ∀ j, j < k → x (off + j) = y j)
theorem tS_coder {h : AH} {q : Nat} {o : Bool} {v : Nat} {x y : Value} (hq : h q = some (o, .inr (13, [.ref v, .int 0, x, y]))) : sS_coder h q = some (J 0) := by
  unfold sS_coder
  rw [if_neg (by decide), hI_eq hq rfl, if_pos (by decide)]
  rfl
theorem tS_length {h : AH} {q n : Nat} {g : Nat → Int32} (H : StrH h q n g) (hn : n < 2147483648) : sS_length h q = some (J n) := by
  obtain ⟨o, v, x, y, o2, f, h1, h2, h3⟩ := H
  unfold sS_length
  rw [hR_eq h1 rfl, onR_eq, hL_eq h2, hC_eq h1, tS_coder h1, callK_eq, J_shr hn (by decide)]
  rfl
theorem sub_ge {a b c : Nat} (ha : a < 1000) (hb : b < 1000) (hc : c < 1000) : (J a ≤ J b - J c) = (a + c ≤ b) := propext (by
  rw [Int32.le_iff_toInt_le, Int32.toInt_sub, J_ti (by omega), J_ti (by omega), J_ti (by omega), Int.bmod_eq_of_le (by omega) (by omega)]
  omega)
theorem tV_mis {h : AH} {v w L k off : Nat} {o1 o2 : Bool} {f g : Nat → Int32} {x y : Nat → Nat} (h1 : h v = some (o1, .inl (2, L, .inl f))) (h2 : h w = some (o2, .inl (2, k, .inl g))) (hf : ∀ j, j < L → f j = J (48 + x j)) (hg : ∀ j, j < k → g j = J (48 + y j)) (hx : ∀ j, j < L → x j ≤ 9) (hy : ∀ j, j < k → y j ≤ 9) (hk : k ≤ 4) (hL : L ≤ 9) (hoff : off + k ≤ L) : Ev (sV_mismatch h (some v) (J off) (some w) (J 0) (J k)) (fun o => (o = -1 ∧ ∀ j, j < k → x (off + j) = y j) ∨ ((0 : Int32) ≤ o ∧ ¬ ∀ j, j < k → x (off + j) = y j)) := by
  unfold sV_mismatch
  rw [if_pos (by rw [lit_7, J_le (by omega) (by omega)]; omega)]
  refine Ev.loop (fun i s => s = J i ∧ ∀ j, j < i → x (off + j) = y j) k ?_ ?_ ⟨rfl, fun j hj => absurd hj (Nat.not_lt_zero j)⟩ (by unfold FUEL; omega)
  · rintro i hi _ ⟨rfl, k1⟩ rc hrc
    unfold sV_mismatch_L70
    rw [if_neg (by rw [J_le (by omega) (by omega)]; omega), onR_eq, J_add, hZ_eq h1 (by omega) (by omega), onR_eq, J_add, Nat.zero_add, hZ_eq h2 hi (by omega), hf _ (by omega), hg _ hi, lit_1, J_add]
    have a1 := hx (off + i) (by omega)
    have a2 := hy i hi
    by_cases c : x (off + i) = y i
    · rw [if_pos (by rw [c])]
      exact hrc _ ⟨rfl, fun j hj => by
        by_cases e : j = i
        · rw [e]; exact c
        · exact k1 j (by omega)⟩
    · rw [if_neg (by rw [J_eq (by omega) (by omega)]; omega)]
      exact ⟨_, rfl, Or.inr ⟨by rw [lit_0, J_le (by omega) (by omega)]; omega, fun z => c (z i hi)⟩⟩
  · rintro _ ⟨rfl, k1⟩ rc
    unfold sV_mismatch_L70
    rw [if_pos (Int32.le_refl _)]
    exact ⟨_, rfl, Or.inl ⟨rfl, k1⟩⟩
theorem tS_starts {h : AH} {q b L k off : Nat} {x y : Nat → Nat} (H1 : StrH h q L (fun j => J (48 + x j))) (H2 : StrH h b k (fun j => J (48 + y j))) (hx : ∀ j, j < L → x j ≤ 9) (hy : ∀ j, j < k → y j ≤ 9) (hk : k ≤ 4) (hL : L ≤ 9) (hoff : off ≤ 9) : sS_startsWith h q (some b) (J off) = some (mtB x y L k off) := by
  have e1 := tS_length H1 (by omega)
  have e2 := tS_length H2 (by omega)
  obtain ⟨o, v, x1, y1, o2, f, h1, h2, h3⟩ := H1
  obtain ⟨o', w, x1', y1', o2', f', h1', h2', h3'⟩ := H2
  unfold sS_startsWith mtB
  rw [if_neg (by rw [lit_0, J_lt (by omega) (by omega)]; omega), hC_eq h1, e1, callK_eq, onR_eq, hC_eq h1', e2, callK_eq]
  by_cases c : off + k ≤ L
  · rw [if_pos (by rw [sub_ge (by omega) (by omega) (by omega)]; exact c), hR_eq h1 rfl, hR_eq h1' rfl, onR_eq, hL_eq h2', hC_eq h1, tS_coder h1, callK_eq, hC_eq h1', tS_coder h1', callK_eq, if_pos rfl, joinB_eq, if_neg (by decide)]
    show sS_startsWith_J63 h (some v) w (J k) (J off) = _
    unfold sS_startsWith_J63
    obtain ⟨r, hr, hr2⟩ := tV_mis h2 h2' h3 h3' hx hy hk hL c
    rw [show sV_mismatch h (some v) (J off) (some w) (0 : Int32) (J k) = some r from hr, callK_eq]
    rcases hr2 with ⟨rfl, hr2⟩ | ⟨hr1, hr2⟩
    · rw [if_neg (by decide), decide_eq_true ⟨c, hr2⟩]
    · rw [if_pos hr1, decide_eq_false (fun z => hr2 z.2)]
  · rw [if_neg (by rw [sub_ge (by omega) (by omega) (by omega)]; exact c), decide_eq_false (fun z => c z.1)]
theorem tM_isHere {S : US} {i k off L : Nat} {x y : Nat → Nat} (h3 : S 3 i = J k) (h2 : S 2 i = J (dgN y k)) (hi : i < 8) (h21 : ∀ j, j < L → S 21 j = J (x j)) (hx : ∀ j, j < L → x j ≤ 9) (hy : ∀ j, j < k → y j ≤ 9) (hk : k ≤ 4) (hL : L ≤ 9) (hoff : off ≤ 9) : sM_isHere S (J i) (J off) (J L) = some (mtB x y L k off) := by
  have key : Ev (sM_isHere S (J i) (J off) (J L)) (fun o => o = mtB x y L k off) := by
    have g2 := dg_lt k hy
    have g3 : 10 ^ k ≤ 10 ^ 4 := Nat.pow_le_pow_right (by decide) hk
    unfold sM_isHere mtB
    rw [gd hi (by omega), J_tn (by omega), h3, J_add]
    by_cases c : off + k ≤ L
    · rw [if_pos (by rw [J_le (by omega) (by omega)]; exact c)]
      refine Ev.loop (fun n s => s = (J (dgN (fun j => x (off + j)) n), J n)) k ?_ ?_ rfl (by unfold FUEL; omega)
      · rintro n hn _ rfl rc hrc
        show Ev (sM_isHere_L20 (J i) (J off) S rc (J (dgN (fun j => x (off + j)) n)) (J n)) _
        unfold sM_isHere_L20
        rw [gd hi (by omega), J_tn (by omega), h3, if_neg (by rw [J_le (by omega) (by omega)]; omega), J_add, gd (by omega) (by omega), J_tn (by omega), h21 _ (by omega), lit_10, J_mul, J_add, lit_1, J_add]
        exact hrc _ (by rw [dgN_s])
      · rintro _ rfl rc
        show Ev (sM_isHere_L20 (J i) (J off) S rc (J (dgN (fun j => x (off + j)) k)) (J k)) _
        have g1 := dg_lt (d := fun j => x (off + j)) k (fun j hj => hx _ (by omega))
        have g4 := dg_inj (x := fun j => x (off + j)) (y := y) k (fun j hj => hx _ (by omega)) hy
        unfold sM_isHere_L20
        rw [gd hi (by omega), gd hi (by omega), J_tn (by omega), h3, if_pos (Int32.le_refl _), h2]
        by_cases e : ∀ j, j < k → x (off + j) = y j
        · rw [if_pos (by rw [g4.mpr e]), decide_eq_true ⟨c, e⟩]
          exact ⟨_, rfl, rfl⟩
        · rw [if_neg (by rw [J_eq (by omega) (by omega)]; exact fun z => e (g4.mp z)), decide_eq_false (fun z => e z.2)]
          exact ⟨_, rfl, rfl⟩
    · rw [if_neg (by rw [J_le (by omega) (by omega)]; exact c), decide_eq_false (fun z => c z.1)]
      exact ⟨_, rfl, rfl⟩
  obtain ⟨v, e, rfl⟩ := key
  exact e
