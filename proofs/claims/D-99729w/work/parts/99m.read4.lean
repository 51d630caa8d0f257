set_option maxRecDepth 100000
/-! THE PLAIN LAW, 41: how many readings, 4: the plain table -/
def fwN (kl : Nat → Nat) (mt : Nat → Nat → Bool) (T : Nat → Nat × Option Nat) (i : Nat) : Nat → Nat × Option Nat
  | 0 => (0, none)
  | w + 1 => if mt w i = true then ((fwN kl mt T i w).1 + (T (i + kl w)).1, omN (fwN kl mt T i w).2 ((T (i + kl w)).2.map (fun v => 1 + v))) else fwN kl mt T i w
theorem fw_s {kl : Nat → Nat} {mt : Nat → Nat → Bool} {T : Nat → Nat × Option Nat} {i w : Nat} : fwN kl mt T i (w + 1) = if mt w i = true then ((fwN kl mt T i w).1 + (T (i + kl w)).1, omN (fwN kl mt T i w).2 ((T (i + kl w)).2.map (fun v => 1 + v))) else fwN kl mt T i w := rfl
def wyT (c L : Nat) (kl : Nat → Nat) (mt : Nat → Nat → Bool) : Nat → Nat → Nat × Option Nat
  | 0 => fun _ => (1, some 0)
  | n + 1 => fun j => if j = L - (n + 1) then fwN kl mt (wyT c L kl mt n) j c else wyT c L kl mt n j
theorem tb_s {c L n j : Nat} {kl : Nat → Nat} {mt : Nat → Nat → Bool} : wyT c L kl mt (n + 1) j = if j = L - (n + 1) then fwN kl mt (wyT c L kl mt n) j c else wyT c L kl mt n j := rfl
def OkT (L n : Nat) (T : Nat → Nat × Option Nat) : Prop := ∀ j, L - n ≤ j → j ≤ L → (T j).1 ≤ 8 ^ (L - j) ∧ ∀ v, (T j).2 = some v → v ≤ L - j
theorem om_some {a b : Option Nat} {v B : Nat} (h : omN a b = some v) (ha : ∀ v, a = some v → v ≤ B) (hb : ∀ v, b = some v → v ≤ B) : v ≤ B := by
  unfold omN at h
  cases a with
  | none => exact hb v h
  | some x =>
    cases b with
    | none => exact ha v h
    | some y =>
      have e1 := ha x rfl
      have e2 := hb y rfl
      cases h
      omega
theorem fw_ok {L n i : Nat} {kl : Nat → Nat} {mt : Nat → Nat → Bool} {T : Nat → Nat × Option Nat} {c : Nat} (hT : OkT L n T) (hi : i = L - (n + 1)) (hn : n < L) (hm : ∀ w, w < c → mt w i = true → i + kl w ≤ L ∧ 1 ≤ kl w) : ∀ w, w ≤ c → (fwN kl mt T i w).1 ≤ w * 8 ^ (L - i - 1) ∧ ∀ v, (fwN kl mt T i w).2 = some v → v ≤ L - i := fun w => by
  induction w with
  | zero => intro _; exact ⟨Nat.zero_le _, fun v h => by cases h⟩
  | succ w ih =>
    intro hw
    obtain ⟨h1, h2⟩ := ih (by omega)
    rw [fw_s]
    by_cases c1 : mt w i = true
    · obtain ⟨m1, m2⟩ := hm w (by omega) c1
      obtain ⟨t1, t2⟩ := hT (i + kl w) (by omega) m1
      have e1 : 8 ^ (L - (i + kl w)) ≤ 8 ^ (L - i - 1) := Nat.pow_le_pow_right (by decide) (by omega)
      rw [if_pos c1]
      refine ⟨?_, fun v hv => om_some hv h2 (fun v e => ?_)⟩
      · show (fwN kl mt T i w).1 + (T (i + kl w)).1 ≤ (w + 1) * 8 ^ (L - i - 1)
        rw [Nat.add_mul]
        omega
      · cases hd : (T (i + kl w)).2 with
        | none => rw [hd] at e; cases e
        | some y =>
          rw [hd] at e
          have := t2 y hd
          cases e
          show 1 + y ≤ L - i
          omega
    · rw [if_neg c1]
      refine ⟨Nat.le_trans h1 (Nat.mul_le_mul_right _ (by omega)), h2⟩
theorem tb_ok {c L : Nat} {kl : Nat → Nat} {mt : Nat → Nat → Bool} (hc : c ≤ 8) (hm : ∀ w i, w < c → mt w i = true → i + kl w ≤ L ∧ 1 ≤ kl w) : ∀ n, n ≤ L → OkT L n (wyT c L kl mt n) := fun n => by
  induction n with
  | zero =>
    intro _ j h1 h2
    exact ⟨Nat.pow_pos (n := L - j) (show 0 < 8 by decide), fun v h => by cases h; exact Nat.zero_le _⟩
  | succ n ih =>
    intro hn j h1 h2
    rw [tb_s]
    by_cases e : j = L - (n + 1)
    · rw [if_pos e]
      obtain ⟨f1, f2⟩ := fw_ok (c := c) (ih (by omega)) e (by omega) (fun w hw z => hm w j hw z) c (Nat.le_refl _)
      refine ⟨Nat.le_trans f1 ?_, f2⟩
      have : 8 ^ (L - j) = 8 ^ (L - j - 1) * 8 := by rw [← Nat.pow_succ]; congr 1; omega
      rw [this, Nat.mul_comm]
      exact Nat.mul_le_mul_left _ hc
    · rw [if_neg e]
      exact ih (by omega) j (by omega) h2
def RepT (D : Nat) (f7 f9 : Nat → Int32) (T : Nat → Nat × Option Nat) (L n : Nat) : Prop := ∀ j, L - n ≤ j → j ≤ L → f7 j = J (T j).1 ∧ f9 j = J (hvN D (T j).2)
def anR (p : Int32) (t : Nat × Option Nat) : Int32 := if p = 0 then J t.1 else (match t.2 with
  | some v => J v
  | none => -1)
theorem hv_one {D : Nat} {a d : Option Nat} (hD : 1000 ≤ D) (ha : ∀ v, a = some v → v ≤ 9) (hd : ∀ v, d = some v → v ≤ 9) : (if 1 + hvN D d < hvN D a then 1 + hvN D d else hvN D a) = hvN D (omN a (d.map (fun v => 1 + v))) ∧ (if 1 + hvN D d ≤ hvN D a then 1 + hvN D d else hvN D a) = hvN D (omN a (d.map (fun v => 1 + v))) := by
  have := hv_min (st := 1) (d := d) hD (fun v e => Nat.le_trans (ha v e) (by omega))
  rcases this with h | ⟨v, h1, h2⟩
  · rw [← h]
    constructor <;> split <;> omega
  · have := hd v h1
    omega
theorem hv_b {D : Nat} {d : Option Nat} (hD : 1000 ≤ D) (hd : ∀ v, d = some v → v ≤ 9) : hvN D d ≤ D := hvN_le (fun v e => by have := hd v e; omega)
theorem p89 {k : Nat} (h : k ≤ 9) : 8 ^ k ≤ 134217728 := Nat.le_trans (Nat.pow_le_pow_right (by decide) h) (by decide)
theorem fw_b {L n i c w : Nat} {kl : Nat → Nat} {mt : Nat → Nat → Bool} {T : Nat → Nat × Option Nat} (hT : OkT L n T) (hi : i = L - (n + 1)) (hn : n < L) (hL : L ≤ 9) (hc : c ≤ 8) (hm : ∀ w, w < c → mt w i = true → i + kl w ≤ L ∧ 1 ≤ kl w) (hw : w ≤ c) : (fwN kl mt T i w).1 ≤ 134217728 ∧ ∀ v, (fwN kl mt T i w).2 = some v → v ≤ 9 := by
  obtain ⟨h1, h2⟩ := fw_ok hT hi hn hm w hw
  have e : 8 ^ (L - i) = 8 ^ (L - i - 1) * 8 := by rw [← Nat.pow_succ]; congr 1; omega
  have e2 : w * 8 ^ (L - i - 1) ≤ 8 * 8 ^ (L - i - 1) := Nat.mul_le_mul_right _ (by omega)
  have := p89 (k := L - i) (by omega)
  exact ⟨by omega, fun v hv => by have := h2 v hv; omega⟩
theorem ok_b {L n j : Nat} {T : Nat → Nat × Option Nat} (hT : OkT L n T) (hL : L ≤ 9) (h1 : L - n ≤ j) (h2 : j ≤ L) : (T j).1 ≤ 134217728 ∧ ∀ v, (T j).2 = some v → v ≤ 9 := by
  obtain ⟨t1, t2⟩ := hT j h1 h2
  have := p89 (k := L - j) (by omega)
  exact ⟨by omega, fun v hv => by have := t2 v hv; omega⟩
