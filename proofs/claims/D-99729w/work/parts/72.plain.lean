set_option maxRecDepth 100000
/-! THE PLAIN LAW, 1: small numbers, loops -/
def J (n : Nat) : Int32 := Int32.ofNat n
/-- keeps simp from taking an equation for a definition -/
theorem asEq {α : Type} {a b : α} (h : a = b) : a = b := h
theorem J_add (a b : Nat) : J a + J b = J (a + b) := (Int32.ofNat_add a b).symm
theorem J_mul (a b : Nat) : J a * J b = J (a * b) := (Int32.ofNat_mul a b).symm
theorem J_sub {a b : Nat} (h : b ≤ a) : J a - J b = J (a - b) := (Int32.ofNat_sub a b h).symm
theorem J_tn {n : Nat} (h : n < 2147483648) : (J n).toNatClampNeg = n := Int32.toNatClampNeg_ofNat_of_lt h
theorem J_ti {n : Nat} (h : n < 2147483648) : (J n).toInt = n := Int32.toInt_ofNat_of_lt h
theorem J_le {a b : Nat} (ha : a < 2147483648) (hb : b < 2147483648) : (J a ≤ J b) = (a ≤ b) := propext (Int32.ofNat_le_iff_le ha hb)
theorem J_lt {a b : Nat} (ha : a < 2147483648) (hb : b < 2147483648) : (J a < J b) = (a < b) := propext (Int32.ofNat_lt_iff_lt ha hb)
theorem J_eq {a b : Nat} (ha : a < 2147483648) (hb : b < 2147483648) : (J a = J b) = (a = b) := by
  refine propext ⟨fun h => ?_, fun h => by rw [h]⟩
  have h1 := congrArg Int32.toNatClampNeg h
  rw [J_tn ha, J_tn hb] at h1
  exact h1
theorem J_div {a b : Nat} (ha : a < 2147483648) (hb : b < 2147483648) : J a / J b = J (a / b) := (Int32.ofNat_div ha hb).symm
theorem lit_0 : (0 : Int32) = J 0 := asEq rfl
theorem lit_1 : (1 : Int32) = J 1 := asEq rfl
theorem lit_2 : (2 : Int32) = J 2 := asEq rfl
theorem lit_3 : (3 : Int32) = J 3 := asEq rfl
theorem lit_4 : (4 : Int32) = J 4 := asEq rfl
theorem lit_5 : (5 : Int32) = J 5 := asEq rfl
theorem lit_6 : (6 : Int32) = J 6 := asEq rfl
theorem lit_7 : (7 : Int32) = J 7 := asEq rfl
theorem lit_8 : (8 : Int32) = J 8 := asEq rfl
theorem lit_9 : (9 : Int32) = J 9 := asEq rfl
theorem lit_10 : (10 : Int32) = J 10 := asEq rfl
theorem lit_11 : (11 : Int32) = J 11 := asEq rfl
theorem lit_12 : (12 : Int32) = J 12 := asEq rfl
theorem lit_13 : (13 : Int32) = J 13 := asEq rfl
theorem lit_14 : (14 : Int32) = J 14 := asEq rfl
theorem lit_15 : (15 : Int32) = J 15 := asEq rfl
theorem lit_20 : (20 : Int32) = J 20 := asEq rfl
theorem lit_24 : (24 : Int32) = J 24 := asEq rfl
theorem lit_25 : (25 : Int32) = J 25 := asEq rfl
theorem lit_37 : (37 : Int32) = J 37 := asEq rfl
theorem lit_40 : (40 : Int32) = J 40 := asEq rfl
theorem lit_43 : (43 : Int32) = J 43 := asEq rfl
theorem lit_48 : (48 : Int32) = J 48 := asEq rfl
theorem lit_49 : (49 : Int32) = J 49 := asEq rfl
theorem lit_50 : (50 : Int32) = J 50 := asEq rfl
theorem lit_60 : (60 : Int32) = J 60 := asEq rfl
theorem lit_96 : (96 : Int32) = J 96 := asEq rfl
theorem lit_98 : (98 : Int32) = J 98 := asEq rfl
theorem lit_99 : (99 : Int32) = J 99 := asEq rfl
theorem lit_100 : (100 : Int32) = J 100 := asEq rfl
theorem lit_999 : (999 : Int32) = J 999 := asEq rfl
theorem lit_62 : (62 : Int32) = J 62 := asEq rfl
theorem lit_74 : (74 : Int32) = J 74 := asEq rfl
theorem lit_86 : (86 : Int32) = J 86 := asEq rfl
theorem lit_92 : (92 : Int32) = J 92 := asEq rfl
theorem lit_99999 : (99999 : Int32) = J 99999 := asEq rfl
theorem lit_100000 : (100000 : Int32) = J 100000 := asEq rfl
theorem lit_16 : (16 : Int32) = J 16 := asEq rfl
theorem lit_32767 : (32767 : Int32) = J 32767 := asEq rfl
theorem lit_2147483639 : (2147483639 : Int32) = J 2147483639 := asEq rfl
theorem le_t {a b : Nat} (h : a ≤ b) : (a ≤ b) = True := eq_true h
theorem le_f {a b : Nat} (h : b < a) : (a ≤ b) = False := eq_false (by omega)
theorem lt_t {a b : Nat} (h : a < b) : (a < b) = True := eq_true h
theorem lt_f {a b : Nat} (h : b ≤ a) : (a < b) = False := eq_false (by omega)
theorem eq_f {a b : Nat} (h : a < b ∨ b < a) : (a = b) = False := eq_false (by omega)
theorem ofNat_J (n : Nat) : Int32.ofNat n = J n := asEq rfl
theorem J_bv (n : Nat) : (J n).toBitVec = BitVec.ofNat 32 n := rfl
theorem J_or (a b : Nat) : J a ||| J b = J (a ||| b) := by
  apply Int32.toBitVec_inj.mp
  rw [Int32.toBitVec_or, J_bv, J_bv, J_bv]
  apply BitVec.eq_of_toNat_eq
  simp [Nat.or_mod_two_pow]
theorem J_and (a b : Nat) : J a &&& J b = J (a &&& b) := by
  apply Int32.toBitVec_inj.mp
  rw [Int32.toBitVec_and, J_bv, J_bv, J_bv]
  apply BitVec.eq_of_toNat_eq
  simp [Nat.and_mod_two_pow]
theorem J_31 {k : Nat} (h : k < 32) : J k &&& 31 = J k := by
  rw [show (31 : Int32) = J 31 from rfl, J_and, Nat.and_two_pow_sub_one_eq_mod k 5, Nat.mod_eq_of_lt h]
theorem J_shl {a k : Nat} (h : k < 32) : J a <<< (J k &&& 31) = J (a <<< k) := by
  have e : ∀ k, k < 32 → ((J k).toBitVec.smod 32).toNat = k := by
    intro k hk
    exact co_dec (P := fun k => ((J k).toBitVec.smod 32).toNat = k) (N := 32) (by decide +kernel) hk
  rw [J_31 h]
  apply Int32.toBitVec_inj.mp
  rw [Int32.toBitVec_shiftLeft, BitVec.shiftLeft_eq', e k h, J_bv, J_bv]
  apply BitVec.eq_of_toNat_eq
  simp [Nat.shiftLeft_eq, BitVec.toNat_shiftLeft]
theorem gd {α : Type} {k n : Nat} {x : Option α} (h : k < n) (hn : n ≤ 2147483648) : (if J k < 0 ∨ n ≤ (J k).toNatClampNeg then none else x) = x := by
  rw [if_neg]
  rw [J_tn (by omega), lit_0, J_lt (by omega) (by omega)]
  omega
theorem callK_eq {α ρ : Type} {v : α} {k : α → Option ρ} : callK (some v) k = k v := asEq rfl
theorem letB_eq {α ρ : Type} {v : α} {k : α → Option ρ} : letB v k = k v := asEq rfl
theorem joinB_eq {σ ρ : Type} {f : σ → Option ρ} {b : (σ → Option ρ) → Option ρ} : joinB f b = b f := asEq rfl
/-- a loop that counts: n steps, then its end -/
theorem loop_up {σ ρ : Type} {body : (σ → Option ρ) → σ → Option ρ} (st : Nat → σ) (N : Nat) {res : Option ρ} (hstep : ∀ i, i < N → ∀ rc, body rc (st i) = rc (st (i + 1))) (hend : ∀ rc, body rc (st N) = res) : ∀ fuel, N < fuel → loopK body fuel (st 0) = res := by
  have key : ∀ m i, i + m = N → ∀ fuel, m < fuel → loopK body fuel (st i) = res := by
    intro m
    induction m with
    | zero =>
      intro i hi fuel hf
      have hi : i = N := by omega
      subst hi
      cases fuel with
      | zero => omega
      | succ f => exact hend _
    | succ m ih =>
      intro i hi fuel hf
      cases fuel with
      | zero => omega
      | succ f =>
        show body (loopK body f) (st i) = res
        rw [hstep i (by omega)]
        exact ih (i + 1) (by omega) f (by omega)
  intro fuel hf
  exact key N 0 (by omega) fuel hf
/-- .. of an expression that comes out of the loop -/
def Ev {α : Type} (o : Option α) (P : α → Prop) : Prop := ∃ v, o = some v ∧ P v
theorem Ev.call {α β : Type} {o : Option α} {k : α → Option β} {P : α → Prop} {Q : β → Prop} (h : Ev o P) (hk : ∀ v, P v → Ev (k v) Q) : Ev (callK o k) Q := by
  obtain ⟨v, rfl, hv⟩ := h
  exact hk v hv
theorem Ev.loop {σ ρ : Type} {body : (σ → Option ρ) → σ → Option ρ} {Q : ρ → Prop} (I : Nat → σ → Prop) (N : Nat) (hstep : ∀ i, i < N → ∀ s, I i s → ∀ rc, (∀ s', I (i + 1) s' → Ev (rc s') Q) → Ev (body rc s) Q) (hend : ∀ s, I N s → ∀ rc, Ev (body rc s) Q) {s : σ} (hs : I 0 s) {fuel : Nat} (hf : N < fuel) : Ev (loopK body fuel s) Q := by
  have key : ∀ m i, i + m = N → ∀ fuel, m < fuel → ∀ s, I i s → Ev (loopK body fuel s) Q := by
    intro m
    induction m with
    | zero =>
      intro i hi fuel hf s hs
      have hi : i = N := by omega
      subst hi
      cases fuel with
      | zero => omega
      | succ f => exact hend s hs _
    | succ m ih =>
      intro i hi fuel hf s hs
      cases fuel with
      | zero => omega
      | succ f => exact hstep i (by omega) s hs _ (fun s' hs' => ih (i + 1) (by omega) f (by omega) s' hs')
  exact key N 0 (by omega) fuel hf s hs
theorem Ev.gdb {α β : Type} {k n : Nat} {v : β} {x : β → Option α} {P : α → Prop} (h : k < n) (hn : n ≤ 2147483648) (hx : Ev (x v) P) : Ev (if J k < 0 ∨ n ≤ (J k).toNatClampNeg then none else letB v x) P := by
  rw [gd h hn]; exact hx
/-- .. of some state and a counter -/
theorem Ev.loop2 {α ρ : Type} {body : (α × Int32 → Option ρ) → α → Int32 → Option ρ} {Q : ρ → Prop} (I : Nat → α → Prop) (N : Nat) {i0 : Nat} {a0 : α} (h0 : I i0 a0) (hN : i0 ≤ N) (hstep : ∀ i, i0 ≤ i → i < N → ∀ a, I i a → ∀ rc, (∀ a', I (i + 1) a' → Ev (rc (a', J (i + 1))) Q) → Ev (body rc a (J i)) Q) (hend : ∀ a, I N a → ∀ rc, Ev (body rc a (J N)) Q) {fuel : Nat} (hf : N < fuel) : Ev (loopK (fun rc (x : α × Int32) => body rc x.1 x.2) fuel (a0, J i0)) Q := by
  have key : ∀ m i, i0 ≤ i → i + m = N → ∀ fuel, m < fuel → ∀ a, I i a → Ev (loopK (fun rc (x : α × Int32) => body rc x.1 x.2) fuel (a, J i)) Q := by
    intro m
    induction m with
    | zero =>
      intro i hi0 hi fuel hf a ha
      have hi : i = N := by omega
      subst hi
      cases fuel with
      | zero => omega
      | succ f => exact hend a ha _
    | succ m ih =>
      intro i hi0 hi fuel hf a ha
      cases fuel with
      | zero => omega
      | succ f => exact hstep i hi0 (by omega) a ha _ (fun a' ha' => ih (i + 1) (by omega) (by omega) f (by omega) a' ha')
  exact key (N - i0) i0 (Nat.le_refl _) (by omega) fuel (by omega) a0 h0
/-! rows, as plain numbers: 0 the day, 1.. strain, 13.. seam, 25.. stitch, 37.. where, 43.. thread -/
def gapN (r : Nat → Nat) (s : Nat) : Bool := decide (r (13 + s) = 0)
def befN (n s : Nat) : Nat := if s = 0 then n - 1 else s - 1
def aftN (n s : Nat) : Nat := if s + 1 = n then 0 else s + 1
theorem befN_lt {n s : Nat} (h0 : 0 < n) (h : s < n) : befN n s < n := by unfold befN; split <;> omega
theorem aftN_lt {n s : Nat} (h0 : 0 < n) (h : s < n) : aftN n s < n := by unfold aftN; split <;> omega
def besN (n : Nat) (r : Nat → Nat) (s : Nat) : Nat := r (1 + befN n s) + r (1 + aftN n s)
/-- which of the first m women stand there, as bits -/
def womN (r : Nat → Nat) (s : Nat) : Nat → Nat
  | 0 => 0
  | m + 1 => womN r s m ||| (if r (37 + m) = s then 1 <<< m else 0)
theorem womN_s (r : Nat → Nat) (s m : Nat) : womN r s (m + 1) = womN r s m ||| (if r (37 + m) = s then 1 <<< m else 0) := rfl
theorem womN_lt (r : Nat → Nat) (s m : Nat) : womN r s m < 2 ^ m := by
  induction m with
  | zero => exact Nat.one_pos
  | succ m ih =>
    rw [womN_s]
    refine Nat.or_lt_two_pow (Nat.lt_trans ih (by rw [Nat.pow_succ]; omega)) ?_
    split
    · rw [Nat.one_shiftLeft, Nat.pow_succ]; have := Nat.two_pow_pos m; omega
    · exact Nat.two_pow_pos _
/-- what holds of every row -/
def RowOk (n m : Nat) (r : Nat → Nat) : Prop := (∀ k, k < 49 → r k < 2000) ∧ (∀ k, k < 12 → r (1 + k) ≤ 99 ∧ r (13 + k) ≤ 99 ∧ r (25 + k) ≤ 2) ∧ (∀ w, w < 6 → r (43 + w) ≤ 99) ∧ ∀ w, w < m → r (37 + w) < n
/-- Model's row b, within its table -/
def MRow (S : US) (b : Nat) (r : Nat → Nat) : Prop := ∀ k, k < 49 → S 14 (b + k) = J (r k)
theorem gap_ite {α : Type} {k : Nat} {x y : α} (h : k < 2147483648) : (if J k = J 0 then x else y) = (if decide (k = 0) = true then x else y) := by
  simp only [J_eq h (show 0 < 2147483648 by decide), decide_eq_true_eq]
theorem tM_isGap {S : US} {b s : Nat} {r : Nat → Nat} (hr : MRow S b r) (hb : b ≤ 49) (hs : s < 12) (hv : r (13 + s) < 2147483648) : sM_isGap S (J b) (J s) = some (gapN r s) := by
  unfold sM_isGap gapN
  have hr := hr (13 + s) (by omega)
  simp (disch := omega) only [lit_0, lit_1, lit_2, lit_3, lit_4, lit_5, lit_6, lit_7, lit_8, lit_9, lit_10, lit_11, lit_12, lit_13, lit_14, lit_15, lit_20, lit_24, lit_25, lit_37, lit_40, lit_43, lit_48, lit_49, lit_50, lit_60, lit_96, lit_98, lit_99, lit_100, lit_999, lit_62, lit_74, lit_86, lit_92, lit_99999, lit_100000, lit_16, lit_32767, lit_2147483639, J_add, J_mul, J_sub, J_tn, J_le, J_lt, J_eq, Nat.not_lt_zero, false_or, or_false, le_t, le_f, lt_t, lt_f, eq_f, ↓reduceIte, callK_eq, letB_eq, joinB_eq, Nat.add_assoc, hr]
  by_cases h : r (13 + s) = 0 <;> simp [h]
theorem tM_ahead1 {S : US} {n s : Nat} (hn : S 0 1 = J n) (h0 : 0 < n) (hs : s < n) (hn2 : n ≤ 12) : sM_ahead1 S (J s) = some (J (befN n s)) := by
  unfold sM_ahead1 befN
  by_cases h : s = 0 <;> simp (disch := omega) only [lit_0, lit_1, lit_2, lit_3, lit_4, lit_5, lit_6, lit_7, lit_8, lit_9, lit_10, lit_11, lit_12, lit_13, lit_14, lit_15, lit_20, lit_24, lit_25, lit_37, lit_40, lit_43, lit_48, lit_49, lit_50, lit_60, lit_96, lit_98, lit_99, lit_100, lit_999, lit_62, lit_74, lit_86, lit_92, lit_99999, lit_100000, lit_16, lit_32767, lit_2147483639, J_add, J_mul, J_sub, J_tn, J_le, J_lt, J_eq, Nat.not_lt_zero, false_or, or_false, le_t, le_f, lt_t, lt_f, eq_f, ↓reduceIte, callK_eq, letB_eq, joinB_eq, Nat.add_assoc, hn, h]
theorem tM_behind1 {S : US} {n s : Nat} (hn : S 0 1 = J n) (h0 : 0 < n) (hs : s < n) (hn2 : n ≤ 12) : sM_behind1 S (J s) = some (J (aftN n s)) := by
  unfold sM_behind1 aftN
  by_cases h : s + 1 = n
  · subst h; simp (disch := omega) only [lit_0, lit_1, lit_2, lit_3, lit_4, lit_5, lit_6, lit_7, lit_8, lit_9, lit_10, lit_11, lit_12, lit_13, lit_14, lit_15, lit_20, lit_24, lit_25, lit_37, lit_40, lit_43, lit_48, lit_49, lit_50, lit_60, lit_96, lit_98, lit_99, lit_100, lit_999, lit_62, lit_74, lit_86, lit_92, lit_99999, lit_100000, lit_16, lit_32767, lit_2147483639, J_add, J_mul, J_sub, J_tn, J_le, J_lt, J_eq, Nat.not_lt_zero, false_or, or_false, le_t, le_f, lt_t, lt_f, eq_f, ↓reduceIte, callK_eq, letB_eq, joinB_eq, Nat.add_assoc, hn, Nat.add_sub_cancel]
  · simp (disch := omega) only [lit_0, lit_1, lit_2, lit_3, lit_4, lit_5, lit_6, lit_7, lit_8, lit_9, lit_10, lit_11, lit_12, lit_13, lit_14, lit_15, lit_20, lit_24, lit_25, lit_37, lit_40, lit_43, lit_48, lit_49, lit_50, lit_60, lit_96, lit_98, lit_99, lit_100, lit_999, lit_62, lit_74, lit_86, lit_92, lit_99999, lit_100000, lit_16, lit_32767, lit_2147483639, J_add, J_mul, J_sub, J_tn, J_le, J_lt, J_eq, Nat.not_lt_zero, false_or, or_false, le_t, le_f, lt_t, lt_f, eq_f, ↓reduceIte, callK_eq, letB_eq, joinB_eq, Nat.add_assoc, hn, h]
theorem tM_besideOf {S : US} {b n s : Nat} {r : Nat → Nat} (hr : MRow S b r) (hb : b ≤ 49) (hn : S 0 1 = J n) (h0 : 0 < n) (hs : s < n) (hn2 : n ≤ 12) : sM_besideOf S (J b) (J s) = some (J (besN n r s)) := by
  unfold sM_besideOf besN
  have h1 := befN_lt h0 hs
  have h2 := aftN_lt h0 hs
  have hr1 := hr (1 + befN n s) (by omega)
  have hr2 := hr (1 + aftN n s) (by omega)
  rw [tM_ahead1 hn h0 hs hn2, tM_behind1 hn h0 hs hn2]
  simp (disch := omega) only [lit_0, lit_1, lit_2, lit_3, lit_4, lit_5, lit_6, lit_7, lit_8, lit_9, lit_10, lit_11, lit_12, lit_13, lit_14, lit_15, lit_20, lit_24, lit_25, lit_37, lit_40, lit_43, lit_48, lit_49, lit_50, lit_60, lit_96, lit_98, lit_99, lit_100, lit_999, lit_62, lit_74, lit_86, lit_92, lit_99999, lit_100000, lit_16, lit_32767, lit_2147483639, J_add, J_mul, J_sub, J_tn, J_le, J_lt, J_eq, Nat.not_lt_zero, false_or, or_false, le_t, le_f, lt_t, lt_f, eq_f, ↓reduceIte, callK_eq, letB_eq, joinB_eq, Nat.add_assoc, hr1, hr2]
theorem tM_womenAt {S : US} {b s m : Nat} {r : Nat → Nat} (hr : MRow S b r) (hb : b ≤ 49) (hm : S 0 2 = J m) (hm6 : m ≤ 6) (hs : s < 2147483648) (hv : ∀ w, w < 6 → r (37 + w) < 2147483648) : sM_womenAt S (J b) (J s) = some (J (womN r s m)) := by
  unfold sM_womenAt
  refine loop_up (fun i => (J (womN r s i), J i)) m (fun i hi rc => ?_) (fun rc => ?_) FUEL (by unfold FUEL; omega)
  · unfold sM_womenAt_L5
    have hr1 := hr (37 + i) (by omega)
    have hv1 := hv i (by omega)
    simp (disch := omega) only [lit_0, lit_1, lit_2, lit_3, lit_4, lit_5, lit_6, lit_7, lit_8, lit_9, lit_10, lit_11, lit_12, lit_13, lit_14, lit_15, lit_20, lit_24, lit_25, lit_37, lit_40, lit_43, lit_48, lit_49, lit_50, lit_60, lit_96, lit_98, lit_99, lit_100, lit_999, lit_62, lit_74, lit_86, lit_92, lit_99999, lit_100000, lit_16, lit_32767, lit_2147483639, J_add, J_mul, J_sub, J_tn, J_le, J_lt, J_eq, Nat.not_lt_zero, false_or, or_false, le_t, le_f, lt_t, lt_f, eq_f, ↓reduceIte, callK_eq, letB_eq, joinB_eq, Nat.add_assoc, hm, hr1, J_shl, J_or, Nat.or_zero, womN_s]
    by_cases h : r (37 + i) = s <;> simp [h]
  · unfold sM_womenAt_L5
    simp (disch := omega) only [lit_0, lit_1, lit_2, lit_3, lit_4, lit_5, lit_6, lit_7, lit_8, lit_9, lit_10, lit_11, lit_12, lit_13, lit_14, lit_15, lit_20, lit_24, lit_25, lit_37, lit_40, lit_43, lit_48, lit_49, lit_50, lit_60, lit_96, lit_98, lit_99, lit_100, lit_999, lit_62, lit_74, lit_86, lit_92, lit_99999, lit_100000, lit_16, lit_32767, lit_2147483639, J_add, J_mul, J_sub, J_tn, J_le, J_lt, J_eq, Nat.not_lt_zero, false_or, or_false, le_t, le_f, lt_t, lt_f, eq_f, ↓reduceIte, callK_eq, letB_eq, joinB_eq, Nat.add_assoc, hm]
theorem J_shr {a k : Nat} (ha : a < 2147483648) (h : k < 32) : J a >>> (J k &&& 31) = J (a >>> k) := by
  have e : ∀ k, k < 32 → ((J k).toBitVec.smod 32).toNat = k := by
    intro k hk
    exact co_dec (P := fun k => ((J k).toBitVec.smod 32).toNat = k) (N := 32) (by decide +kernel) hk
  rw [J_31 h]
  apply Int32.toBitVec_inj.mp
  rw [Int32.toBitVec_shiftRight, BitVec.sshiftRight_eq', e k h, J_bv, J_bv, BitVec.sshiftRight_eq_of_msb_false]
  · apply BitVec.eq_of_toNat_eq
    have h1 : a % 4294967296 = a := Nat.mod_eq_of_lt (by omega)
    have h2 : a >>> k ≤ a := by rw [Nat.shiftRight_eq_div_pow]; exact Nat.div_le_self _ _
    have h3 : (a >>> k) % 4294967296 = a >>> k := Nat.mod_eq_of_lt (by omega)
    simp [h1, h3]
  · rw [BitVec.msb_eq_decide]
    simp
    omega
def popN (v : Nat) : Nat → Nat
  | 0 => 0
  | k + 1 => popN v k + (v >>> k) % 2
theorem popN_s (v k : Nat) : popN v (k + 1) = popN v k + (v >>> k) % 2 := rfl
theorem tM_bits {v : Nat} (hv : v < 2147483648) : sM_bits (J v) = some (J (popN v 12)) := by
  unfold sM_bits
  refine loop_up (fun i => (J (popN v i), J i)) 12 (fun i hi rc => ?_) (fun rc => ?_) FUEL (by unfold FUEL; omega)
  · unfold sM_bits_L4
    simp (disch := omega) only [lit_0, lit_1, lit_2, lit_3, lit_4, lit_5, lit_6, lit_7, lit_8, lit_9, lit_10, lit_11, lit_12, lit_13, lit_14, lit_15, lit_20, lit_24, lit_25, lit_37, lit_40, lit_43, lit_48, lit_49, lit_50, lit_60, lit_96, lit_98, lit_99, lit_100, lit_999, lit_62, lit_74, lit_86, lit_92, lit_99999, lit_100000, lit_16, lit_32767, lit_2147483639, J_add, J_mul, J_sub, J_tn, J_le, J_lt, J_eq, Nat.not_lt_zero, false_or, or_false, le_t, le_f, lt_t, lt_f, eq_f, ↓reduceIte, callK_eq, letB_eq, joinB_eq, Nat.add_assoc, J_shr, J_and, Nat.and_one_is_mod, popN_s]
  · unfold sM_bits_L4
    simp (disch := omega) only [lit_0, lit_1, lit_2, lit_3, lit_4, lit_5, lit_6, lit_7, lit_8, lit_9, lit_10, lit_11, lit_12, lit_13, lit_14, lit_15, lit_20, lit_24, lit_25, lit_37, lit_40, lit_43, lit_48, lit_49, lit_50, lit_60, lit_96, lit_98, lit_99, lit_100, lit_999, lit_62, lit_74, lit_86, lit_92, lit_99999, lit_100000, lit_16, lit_32767, lit_2147483639, J_add, J_mul, J_sub, J_tn, J_le, J_lt, J_eq, Nat.not_lt_zero, false_or, or_false, le_t, le_f, lt_t, lt_f, eq_f, ↓reduceIte, callK_eq, letB_eq, joinB_eq, Nat.add_assoc]
theorem popN_le (v k : Nat) : popN v k ≤ k := by
  induction k with
  | zero => exact Nat.le_refl _
  | succ k ih => rw [popN_s]; omega
theorem tN_bitCount {v : Nat} (hv : v < 4096) : sN_bitCount (J v) = some (J (popN v 12)) :=
  co_dec (P := fun v => sN_bitCount (J v) = some (J (popN v 12))) (N := 4096) (by decide +kernel) hv
