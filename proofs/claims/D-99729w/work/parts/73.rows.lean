set_option maxRecDepth 100000
/-! THE PLAIN LAW, 2: rules on rows of plain numbers; the Model's rows do them -/
abbrev FV : Type := (Nat → Int32) → Int32
def toldN (n m : Nat) (r : Nat → Nat) (s : Nat) : Nat → Int32 := fun k => match k with
  | 0 => J (r (1 + s))
  | 1 => J (r (13 + s))
  | 2 => J (r (25 + s))
  | 3 => J (besN n r s)
  | 4 => J (popN (womN r s m) 12)
  | 5 => J (r 0)
  | _ => 0
def tv (S : US) (c : Nat) : Nat → Int32 := fun k => if k < 6 then S c k else 0
theorem tv_told {S : US} {c n m s : Nat} {r : Nat → Nat} (h : ∀ k, k < 6 → S c k = toldN n m r s k) : tv S c = toldN n m r s := by
  funext k
  unfold tv
  by_cases hk : k < 6
  · rw [if_pos hk, h k hk]
  · rw [if_neg hk]
    unfold toldN
    split <;> first | rfl | omega
def clN (lo hi : Nat) (v : Int32) : Nat := if v < J lo then lo else if J hi < v then hi else v.toNatClampNeg
def clI (v : Int32) : Int32 := if v < -9 then -9 else if 9 < v then 9 else v
def pulN (n m : Nat) (fP : Option FV) (r : Nat → Nat) (s : Nat) : Int32 := if gapN r s = true then 0 else clI (match fP with
  | none => (J (besN n r s) - J (2 * r (1 + s))) / J 9
  | some F => F (toldN n m r s))
def freN (n m : Nat) (fF : Option FV) (r : Nat → Nat) (s : Nat) : Nat := if gapN r s = true then 0 else clN 0 20 (match fF with
  | none => J (r (1 + s)) / J 9 / J (r (25 + s) + 1)
  | some F => F (toldN n m r s))
def upN (r : Nat → Nat) (k v : Nat) : Nat → Nat := fun j => if j = k then v else r j
theorem upN_at {r : Nat → Nat} {k v : Nat} : upN r k v k = v := if_pos rfl
theorem upN_off {r : Nat → Nat} {k v j : Nat} (h : j < k ∨ k < j) : upN r k v j = r j := if_neg (by omega)
theorem upN_comm {r : Nat → Nat} {k v k' v' : Nat} (h : k ≠ k') : upN (upN r k v) k' v' = upN (upN r k' v') k v := by
  funext j
  unfold upN
  split <;> split <;> first | rfl | (exfalso; omega)
/-- strain goes up, at most to 99 -/
def straN (r : Nat → Nat) (s more : Nat) : Nat → Nat := upN r (1 + s) (min 99 (r (1 + s) + more))
def overN (r : Nat → Nat) (s more : Nat) : Nat → Nat := if gapN r s = true then r else straN r s more
def loosN (n : Nat) (r : Nat → Nat) (s less : Nat) : Nat → Nat :=
  if r (13 + s) - less ≠ 0 then upN r (13 + s) (r (13 + s) - less) else
    overN (overN (upN (upN r (13 + s) 0) (1 + s) 0) (befN n s) (r (1 + s) / 2)) (aftN n s) (r (1 + s) / 2)
def mendN (sk : Nat → Nat) (r : Nat → Nat) (w : Nat) : Nat → Nat :=
  if r (43 + w) = 0 then r else upN (upN r (43 + w) (r (43 + w) - 1)) (13 + r (37 + w)) (min 99 (r (13 + r (37 + w)) + 2 * sk w + 3))
def goN (n : Nat) (r : Nat → Nat) (w : Nat) : Nat → Nat := upN r (37 + w) (aftN n (r (37 + w)))
def pullAll (p : Nat → Int32) (r : Nat → Nat) : Nat → Nat → Nat
  | 0 => r
  | i + 1 => if gapN (pullAll p r i) i = true then pullAll p r i else upN (pullAll p r i) (1 + i) (clN 0 99 (J (pullAll p r i (1 + i)) + p i))
def loosAll (n m : Nat) (fF : Option FV) (r : Nat → Nat) : Nat → Nat → Nat
  | 0 => r
  | i + 1 => if gapN (loosAll n m fF r i) i = true then loosAll n m fF r i else loosN n (loosAll n m fF r i) i (freN n m fF (loosAll n m fF r i) i)
def womAll (n : Nat) (sk : Nat → Nat) (r : Nat → Nat) : Nat → Nat → Nat
  | 0 => r
  | i + 1 => goN n (mendN sk (womAll n sk r i) i) i
theorem pullAll_s {p : Nat → Int32} {r : Nat → Nat} {i : Nat} : pullAll p r (i + 1) = if gapN (pullAll p r i) i = true then pullAll p r i else upN (pullAll p r i) (1 + i) (clN 0 99 (J (pullAll p r i (1 + i)) + p i)) := rfl
theorem loosAll_s {n m i : Nat} {fF : Option FV} {r : Nat → Nat} : loosAll n m fF r (i + 1) = if gapN (loosAll n m fF r i) i = true then loosAll n m fF r i else loosN n (loosAll n m fF r i) i (freN n m fF (loosAll n m fF r i) i) := rfl
/-- the rules: how many stretches, women, the week, skills, forms -/
abbrev RU : Type := Nat × Nat × Nat × (Nat → Nat) × Option FV × Option FV
def pass2 (u : RU) (r : Nat → Nat) : Nat → Nat := loosAll u.1 u.2.1 u.2.2.2.2.1 (pullAll (pulN u.1 u.2.1 u.2.2.2.2.2 r) r u.1) u.1
def passN (u : RU) (r : Nat → Nat) : Nat → Nat :=
  let r3 := if pass2 u r 0 % u.2.2.1 = u.2.2.1 - 1 then womAll u.1 u.2.2.2.1 (pass2 u r) u.2.1 else pass2 u r
  upN r3 0 (r3 0 + 1)
/-! what stays true of rows -/
theorem clN_le {lo hi : Nat} {v : Int32} (h : lo ≤ hi) (hh : hi < 2147483648) : lo ≤ clN lo hi v ∧ clN lo hi v ≤ hi := by
  unfold clN
  by_cases h1 : v < J lo
  · rw [if_pos h1]; omega
  rw [if_neg h1]
  by_cases h2 : J hi < v
  · rw [if_pos h2]; omega
  rw [if_neg h2]
  rw [Int32.lt_iff_toInt_lt, J_ti (by omega)] at h1
  rw [Int32.lt_iff_toInt_lt, J_ti (by omega)] at h2
  have h3 : v.toNatClampNeg = v.toInt.toNat := (Int32.toNat_toInt v).symm
  omega
def RuOk (u : RU) : Prop := 3 ≤ u.1 ∧ u.1 ≤ 12 ∧ u.2.1 ≤ 6 ∧ 1 ≤ u.2.2.1 ∧ u.2.2.1 ≤ 9 ∧ ∀ w, w < 6 → u.2.2.2.1 w ≤ 9
def ROk (n m : Nat) (r : Nat → Nat) : Prop := (∀ k, k < 12 → r (1 + k) ≤ 99 ∧ r (13 + k) ≤ 99 ∧ r (25 + k) ≤ 2) ∧ (∀ w, w < 6 → r (43 + w) ≤ 99 ∧ r (37 + w) < 10000) ∧ ∀ w, w < m → r (37 + w) < n
theorem ROk.upA {n m s v : Nat} {r : Nat → Nat} (h : ROk n m r) (hs : s < 12) (hv : v ≤ 99) : ROk n m (upN r (1 + s) v) := by
  refine ⟨fun k hk => ?_, fun w hw => ?_, fun w hw => ?_⟩
  · have h1 := h.1 k hk
    unfold upN
    refine ⟨?_, ?_, ?_⟩ <;> split <;> omega
  · have h1 := h.2.1 w hw
    rw [upN_off (by omega), upN_off (by omega)]; exact h1
  · rw [upN_off (by omega)]; exact h.2.2 w hw
theorem ROk.upB {n m s v : Nat} {r : Nat → Nat} (h : ROk n m r) (hs : s < 12) (hv : v ≤ 99) : ROk n m (upN r (13 + s) v) := by
  refine ⟨fun k hk => ?_, fun w hw => ?_, fun w hw => ?_⟩
  · have h1 := h.1 k hk
    unfold upN
    refine ⟨?_, ?_, ?_⟩ <;> split <;> omega
  · have h1 := h.2.1 w hw
    rw [upN_off (by omega), upN_off (by omega)]; exact h1
  · rw [upN_off (by omega)]; exact h.2.2 w hw
theorem ROk.upC {n m s v : Nat} {r : Nat → Nat} (h : ROk n m r) (hs : s < 12) (hv : v ≤ 2) : ROk n m (upN r (25 + s) v) := by
  refine ⟨fun k hk => ?_, fun w hw => ?_, fun w hw => ?_⟩
  · have h1 := h.1 k hk
    unfold upN
    refine ⟨?_, ?_, ?_⟩ <;> split <;> omega
  · have h1 := h.2.1 w hw
    rw [upN_off (by omega), upN_off (by omega)]; exact h1
  · rw [upN_off (by omega)]; exact h.2.2 w hw
theorem ROk.upT {n m s v : Nat} {r : Nat → Nat} (h : ROk n m r) (hm : m ≤ 6) (hs : s < 6) (hv : v ≤ 99) : ROk n m (upN r (43 + s) v) := by
  refine ⟨fun k hk => ?_, fun w hw => ?_, fun w hw => ?_⟩
  · have h1 := h.1 k hk
    rw [upN_off (by omega), upN_off (by omega), upN_off (by omega)]; exact h1
  · have h1 := h.2.1 w hw
    rw [upN_off (k := 43 + s) (j := 37 + w) (by omega)]
    refine ⟨?_, h1.2⟩
    unfold upN
    split <;> omega
  · rw [upN_off (by omega)]; exact h.2.2 w hw
theorem ROk.upW {n m s v : Nat} {r : Nat → Nat} (h : ROk n m r) (hs : s < 6) (hv : v < n) (hn : n ≤ 12) : ROk n m (upN r (37 + s) v) := by
  refine ⟨fun k hk => ?_, fun w hw => ?_, fun w hw => ?_⟩
  · have h1 := h.1 k hk
    rw [upN_off (by omega), upN_off (by omega), upN_off (by omega)]; exact h1
  · have h1 := h.2.1 w hw
    rw [upN_off (k := 37 + s) (j := 43 + w) (by omega)]
    refine ⟨h1.1, ?_⟩
    unfold upN
    split <;> omega
  · have h1 := h.2.2 w hw
    unfold upN
    split <;> omega
theorem ROk.upD {n m v : Nat} {r : Nat → Nat} (h : ROk n m r) : ROk n m (upN r 0 v) := by
  refine ⟨fun k hk => ?_, fun w hw => ?_, fun w hw => ?_⟩
  · rw [upN_off (by omega), upN_off (by omega), upN_off (by omega)]; exact h.1 k hk
  · rw [upN_off (by omega), upN_off (by omega)]; exact h.2.1 w hw
  · rw [upN_off (by omega)]; exact h.2.2 w hw
theorem ROk.stra {n m s v : Nat} {r : Nat → Nat} (h : ROk n m r) (hs : s < 12) : ROk n m (straN r s v) := h.upA hs (by omega)
theorem ROk.over {n m s v : Nat} {r : Nat → Nat} (h : ROk n m r) (hs : s < 12) : ROk n m (overN r s v) := by
  unfold overN
  split
  · exact h
  · exact h.stra hs
theorem ROk.loos {n m s v : Nat} {r : Nat → Nat} (h : ROk n m r) (h0 : 0 < n) (hn : n ≤ 12) (hs : s < n) : ROk n m (loosN n r s v) := by
  unfold loosN
  have h1 := h.1 s (by omega)
  have h2 := befN_lt h0 hs
  have h3 := aftN_lt h0 hs
  split
  · exact h.upB (by omega) (by omega)
  · exact (((h.upB (by omega) (by omega)).upA (by omega) (by omega)).over (by omega)).over (by omega)
theorem ROk.mend {n m w : Nat} {sk : Nat → Nat} {r : Nat → Nat} (h : ROk n m r) (hn : n ≤ 12) (hm : m ≤ 6) (hw : w < m) : ROk n m (mendN sk r w) := by
  unfold mendN
  have h1 := h.2.1 w (by omega)
  have h2 := h.2.2 w hw
  split
  · exact h
  · exact (h.upT hm (by omega) (by omega)).upB (by omega) (by omega)
theorem ROk.goOn {n m w : Nat} {r : Nat → Nat} (h : ROk n m r) (h0 : 0 < n) (hn : n ≤ 12) (hm : m ≤ 6) (hw : w < m) : ROk n m (goN n r w) := by
  unfold goN
  exact h.upW (by omega) (aftN_lt h0 (h.2.2 w hw)) hn
theorem ROk.pullAll {n m i : Nat} {p : Nat → Int32} {r : Nat → Nat} (h : ROk n m r) (hi : i ≤ 12) : ROk n m (pullAll p r i) := by
  induction i with
  | zero => exact h
  | succ i ih =>
    have ih := ih (by omega)
    show ROk n m (if gapN _ i = true then _ else _)
    split
    · exact ih
    · exact ih.upA (by omega) (clN_le (by omega) (by omega)).2
theorem ROk.loosAll {n m i : Nat} {fF : Option FV} {r : Nat → Nat} (h : ROk n m r) (h0 : 0 < n) (hn : n ≤ 12) (hi : i ≤ n) : ROk n m (loosAll n m fF r i) := by
  induction i with
  | zero => exact h
  | succ i ih =>
    have ih := ih (by omega)
    show ROk n m (if gapN _ i = true then _ else _)
    split
    · exact ih
    · exact ih.loos h0 hn (by omega)
theorem ROk.womAll {n m i : Nat} {sk : Nat → Nat} {r : Nat → Nat} (h : ROk n m r) (h0 : 0 < n) (hn : n ≤ 12) (hm : m ≤ 6) (hi : i ≤ m) : ROk n m (womAll n sk r i) := by
  induction i with
  | zero => exact h
  | succ i ih => exact ((ih (by omega)).mend hn hm (by omega)).goOn h0 hn hm (by omega)
theorem ROk.pass2 {u : RU} {r : Nat → Nat} (hu : RuOk u) (h : ROk u.1 u.2.1 r) : ROk u.1 u.2.1 (pass2 u r) := (h.pullAll hu.2.1).loosAll (by have := hu.1; omega) hu.2.1 (Nat.le_refl _)
theorem ROk.pass {u : RU} {r : Nat → Nat} (hu : RuOk u) (h : ROk u.1 u.2.1 r) : ROk u.1 u.2.1 (passN u r) := by
  unfold passN
  have h1 := h.pass2 hu
  dsimp only
  split
  · exact (h1.womAll (by have := hu.1; omega) hu.2.1 hu.2.2.1 (Nat.le_refl _)).upD
  · exact h1.upD
/-! the day goes up by one, no act else changes it -/
theorem over_0 {r : Nat → Nat} {s v : Nat} : overN r s v 0 = r 0 := by
  unfold overN straN
  split
  · rfl
  · exact upN_off (by omega)
theorem loos_0 {n s v : Nat} {r : Nat → Nat} : loosN n r s v 0 = r 0 := by
  unfold loosN
  split
  · exact upN_off (by omega)
  · rw [over_0, over_0, upN_off (by omega), upN_off (by omega)]
theorem mend_0 {sk : Nat → Nat} {r : Nat → Nat} {w : Nat} : mendN sk r w 0 = r 0 := by
  unfold mendN
  split
  · rfl
  · rw [upN_off (by omega), upN_off (by omega)]
theorem pullAll_0 {p : Nat → Int32} {r : Nat → Nat} {i : Nat} : pullAll p r i 0 = r 0 := by
  induction i with
  | zero => rfl
  | succ i ih =>
    show (if gapN _ i = true then _ else _ : Nat → Nat) 0 = _
    split
    · exact ih
    · rw [upN_off (by omega)]; exact ih
theorem loosAll_0 {n m i : Nat} {fF : Option FV} {r : Nat → Nat} : loosAll n m fF r i 0 = r 0 := by
  induction i with
  | zero => rfl
  | succ i ih =>
    show (if gapN _ i = true then _ else _ : Nat → Nat) 0 = _
    split
    · exact ih
    · rw [loos_0]; exact ih
theorem womAll_0 {n i : Nat} {sk : Nat → Nat} {r : Nat → Nat} : womAll n sk r i 0 = r 0 := by
  induction i with
  | zero => rfl
  | succ i ih =>
    show goN n (mendN sk _ i) i 0 = _
    unfold goN
    rw [upN_off (by omega), mend_0]; exact ih
theorem pass2_0 {u : RU} {r : Nat → Nat} : pass2 u r 0 = r 0 := by unfold pass2; rw [loosAll_0, pullAll_0]
theorem pass_0 {u : RU} {r : Nat → Nat} : passN u r 0 = r 0 + 1 := by
  unfold passN
  rw [upN_at]
  split
  · rw [womAll_0, pass2_0]
  · rw [pass2_0]
