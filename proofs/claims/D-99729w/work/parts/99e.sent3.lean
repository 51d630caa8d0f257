set_option maxRecDepth 100000
/-! THE PLAIN LAW, 33: whom to which, 3 -/
def RG2 (S2 : US) (G : GS) (C Z : Nat) (s : Option (Int32 × GS)) (m : Option (Int32 × US)) : Prop := ∃ os om, s = some os ∧ m = some om ∧ os.1 = om.1 ∧ om.2 0 0 = J 0 ∧ KeepM S2 om.2 ∧ Gr (fun _ => False) G os.2 C Z
theorem RG2.mk {S2 : US} {G : GS} {C Z : Nat} {s : Option (Int32 × GS)} {m : Option (Int32 × US)} (v : Int32) (hs : Ev s (fun o => o.1 = v ∧ Gr (fun _ => False) G o.2 C Z)) (hm : Ev m (fun o => o.1 = v ∧ o.2 0 0 = J 0 ∧ KeepM S2 o.2)) : RG2 S2 G C Z s m := by
  obtain ⟨os, o1, o2, o3⟩ := hs
  obtain ⟨om, m1, m2, m3, m4⟩ := hm
  exact ⟨os, om, o1, m1, o2.trans m2.symm, m3, m4, o3⟩
theorem hv_cmp {D st v : Nat} {d : Option Nat} (hD : 1000 ≤ D) (hv : v ≤ 100) : (st + hvN D d = v) ↔ d.map (fun v => st + v) = some v := by
  cases d with
  | none =>
    constructor
    · intro h
      have h : st + D = v := h
      omega
    · intro h; cases h
  | some y =>
    constructor
    · intro h
      have h : st + y = v := h
      rw [← h]; rfl
    · intro h; cases h; rfl
def whoN (m N : Nat) (st : Nat → Nat → Nat) (g i : Nat) : Nat := (dwN (cwN m N st i g) m m).getD 0
def gnN (m N : Nat) (st : Nat → Nat → Nat) : Nat → Nat
  | 0 => 0
  | i + 1 => gnN m N st i ||| 1 <<< whoN m N st (gnN m N st i) i
theorem gnN_s {m N i : Nat} {st : Nat → Nat → Nat} : gnN m N st (i + 1) = gnN m N st i ||| 1 <<< whoN m N st (gnN m N st i) i := rfl
theorem who_ok {m N i g : Nat} {st : Nat → Nat → Nat} (hm : m < 7) (hi : i < N) (hg : g < 1 <<< m) (hp : popN g m + (N - i) ≤ m) : dwN (cwN m N st i g) m m = some (whoN m N st g i) ∧ whoN m N st g i < m ∧ cwN m N st i g (whoN m N st g i) = true := by
  obtain ⟨w, hw, hc⟩ := cw_ex (st := st) hm hi hg hp
  obtain ⟨w', hw'⟩ := dwN_ex hw hc m (Nat.le_refl _) (by omega)
  have h2 := dwN_ok (Nat.le_refl m) w' hw'
  have e : whoN m N st g i = w' := by unfold whoN; rw [hw']; rfl
  rw [e]
  exact ⟨hw', h2⟩
theorem gn_ok {m N i : Nat} {st : Nat → Nat → Nat} (hm : m < 7) (hN : N ≤ m) (hi : i ≤ N) : gnN m N st i < 1 <<< m ∧ popN (gnN m N st i) m = i := by
  have h64 := shl6' hm
  induction i with
  | zero =>
    refine ⟨by have := h64.1; show 0 < 1 <<< m; omega, ?_⟩
    show popN 0 m = 0
    have key : ∀ k, popN 0 k = 0 := fun k => by
      induction k with
      | zero => rfl
      | succ k ih => rw [popN_s, ih, Nat.zero_shiftRight]
    exact key m
  | succ i ih =>
    obtain ⟨h1, h2⟩ := ih (by omega)
    obtain ⟨-, hw, hc⟩ := who_ok (st := st) hm (show i < N by omega) h1 (by omega)
    obtain ⟨p1, p2⟩ := pop_or m (gnN m N st i) (whoN m N st (gnN m N st i) i) hm (by omega) (by omega) hw h1
    unfold cwN at hc
    rw [Bool.and_eq_true] at hc
    have hb : bitB (gnN m N st i) (whoN m N st (gnN m N st i) i) = false := by
      cases e : bitB (gnN m N st i) (whoN m N st (gnN m N st i) i) with
      | false => rfl
      | true => rw [e] at hc; exact absurd hc.1 (by decide)
    rw [gnN_s]
    exact ⟨p1, by rw [p2 hb, h2]⟩
def ansN (m N : Nat) (st : Nat → Nat → Nat) (l : List Nat) (s : Nat) : Nat → Nat → Int32
  | 0, _ => -J 1
  | k + 1, i => if l.getD i 0 = s then J (whoN m N st (gnN m N st i) i) else ansN m N st l s k (i + 1)
theorem ansN_s {m N k i s : Nat} {st : Nat → Nat → Nat} {l : List Nat} : ansN m N st l s (k + 1) i = if l.getD i 0 = s then J (whoN m N st (gnN m N st i) i) else ansN m N st l s k (i + 1) := rfl
/-- HorizonSeam's choice of one -/
theorem tH_pick {S : US} {u : RU} {r : Nat → Nat} {l : List Nat} {s N : Nat} {G : GS} {b12 z i g v : Nat} {f : Nat → Int32} {T : US} {rc19 : (Int32 × Int32) → Option (Int32 × GS)} {o15 : Option Nat × GS} (hG : o15.2 = G) (hn : S 1 2 = J u.1) (ho : RuOk u) (hr : HRow S 0 r) (hR : ROk u.1 u.2.1 r) (hN : N = l.length) (h6 : N ≤ 6) (hl : ∀ i, i < N → l.getD i 0 < u.1) (hb : G.1 b12 = some (true, .inl (0, N, .inl f))) (hf : ∀ i, i < N → f i = J (l.getD i 0)) (hT : TabH G.1 z (N + 1) (1 <<< u.2.1) T) (hTv : ∀ i, i ≤ N → ∀ g, g < 1 <<< u.2.1 → T i g = J (hvN 100000 (dpN u.2.1 N (stS u.1 r l) (N - i) g))) (hi : i < N) (hg : g < 1 <<< u.2.1) (hv : dpN u.2.1 N (stS u.1 r l) (N - i) g = some v) (hw : dwN (cwN u.2.1 N (stS u.1 r l) i g) u.2.1 u.2.1 = some (whoN u.2.1 N (stS u.1 r l) g i)) (hs : s < 12) :
    loopK (fun rc (x : (Int32 × Int32)) => s1_sent_L141 (J s) S b12 o15 z (J g) (J i) rc19 rc x.1 x.2) FUEL ((-1 : Int32), J u.2.1 - J 1) = (if l.getD i 0 = s then some (J (whoN u.2.1 N (stS u.1 r l) g i), G) else rc19 (J (g ||| 1 <<< whoN u.2.1 N (stS u.1 r l) g i), J (i + 1))) := by
  have hm6 := ho.2.2.1
  have ho12 := ho.2.1
  have h64 := shl6' (show u.2.1 < 7 by omega)
  have hst := stS_le (l := l) (N := N) ho12 hR.2.2 hl
  have hvb := dpN_le hst (by omega) _ v hv
  have hli := hl i hi
  have hwm := dwN_ok (Nat.le_refl u.2.1) _ hw
  refine loop_up (fun t => (whJ (-J 1) (dwN (cwN u.2.1 N (stS u.1 r l) i g) u.2.1 t), J (u.2.1 - t) - J 1)) u.2.1 (fun t ht rc => ?_) (fun rc => ?_) FUEL (by unfold FUEL; omega)
  · show s1_sent_L141 (J s) S b12 o15 z (J g) (J i) rc19 rc _ (J (u.2.1 - t) - J 1) = rc (_, J (u.2.1 - (t + 1)) - J 1)
    obtain ⟨w, hwd⟩ : ∃ w, w = u.2.1 - 1 - t := ⟨_, rfl⟩
    rw [show J (u.2.1 - t) - J 1 = J w by rw [J_sub (by omega), hwd]; congr 1; omega, show u.2.1 - (t + 1) = w by omega, dwN_s, ← hwd]
    unfold s1_sent_L141
    rw [if_neg (by rw [lit_0, J_lt (by omega) (by omega)]; omega), tN_isOf (by omega) (by omega), callK_eq, add_m1]
    unfold cwN
    cases hbit : bitB g w with
    | true =>
      rw [bI_t, if_neg (by decide)]
      rfl
    | false =>
      have hor := (pop_or u.2.1 g w (by omega) (by omega) (by omega) (by omega) hg).1
      have hrw := (hr.2.2 w (by omega)).1
      have hsteps : s1_steps S (J w) (J (l.getD i 0)) = some (J (stS u.1 r l i w)) := by
        unfold s1_steps
        rw [gd (by omega) (by omega), J_tn (by omega), hrw, tH_far hn ho12 (hR.2.2 w (by omega)) hli]
        rfl
      have hsl := hst i w hi (by omega)
      have hdb : hvN 100000 (dpN u.2.1 N (stS u.1 r l) (N - i - 1) (g ||| 1 <<< w)) ≤ 100000 := hvN_le (fun v e => by have := dpN_le hst (by omega) _ v e; omega)
      have e2 := hTv (i + 1) (by omega) (g ||| 1 <<< w) hor
      have e3 := hTv i (by omega) g hg
      rw [hv] at e3
      rw [show N - (i + 1) = N - i - 1 by omega] at e2
      have hcmp := hv_cmp (D := 100000) (st := stS u.1 r l i w) (v := v) (d := dpN u.2.1 N (stS u.1 r l) (N - i - 1) (g ||| 1 <<< w)) (by omega) (by omega)
      rw [bI_f, if_pos j00, hG, hZ_eq hb hi (by omega), hf i hi, hsteps, callK_eq, show (1 : Int32) = J 1 from rfl, J_add, hQ_eq hT.1 (show i + 1 < N + 1 by omega) (by omega), if_pos (show i + 1 < N + 1 by omega), onR_eq, J_shl (by omega), J_or, hZ_eq (hT.2 (i + 1) (by omega)) hor (by omega), e2, hQ_eq hT.1 (show i < N + 1 by omega) (by omega), if_pos (show i < N + 1 by omega), onR_eq, hZ_eq (hT.2 i (by omega)) hg (by omega), e3, J_add, hv]
      show (if J (stS u.1 r l i w + hvN 100000 (dpN u.2.1 N (stS u.1 r l) (N - i - 1) (g ||| 1 <<< w))) = J v then rc (J w, J w - J 1) else rc (_, J w - J 1)) = rc (whJ (-J 1) (if (!false && decide ((dpN u.2.1 N (stS u.1 r l) (N - i - 1) (g ||| 1 <<< w)).map (fun v => stS u.1 r l i w + v) = some v)) = true then some w else _), J w - J 1)
      by_cases c : (dpN u.2.1 N (stS u.1 r l) (N - i - 1) (g ||| 1 <<< w)).map (fun v => stS u.1 r l i w + v) = some v
      · rw [if_pos (by rw [J_eq (by omega) (by omega)]; exact hcmp.mpr c), decide_eq_true c]
        rfl
      · rw [if_neg (by rw [J_eq (by omega) (by omega)]; exact fun z => c (hcmp.mp z)), decide_eq_false c]
        rfl
  · show s1_sent_L141 (J s) S b12 o15 z (J g) (J i) rc19 rc _ (J (u.2.1 - u.2.1) - J 1) = _
    rw [Nat.sub_self, hw]
    unfold s1_sent_L141
    rw [if_pos (by decide), hG, hZ_eq hb hi (by omega), hf i hi]
    show (if J (l.getD i 0) = J s then some (J (whoN u.2.1 N (stS u.1 r l) g i), G) else rc19 (J g ||| 1 <<< (J (whoN u.2.1 N (stS u.1 r l) g i) &&& 31), J i + 1)) = _
    rw [show (1 : Int32) = J 1 from rfl, J_shl (by omega), J_or, J_add]
    by_cases c : l.getD i 0 = s
    · rw [if_pos (by rw [c]), if_pos c]
    · rw [if_neg (by rw [J_eq (by omega) (by omega)]; exact c), if_neg c]
/-- what the Model's search may change -/
def MFq (S S' : US) : Prop := ∀ a, a ≠ 19 → a ≠ 20 → S' a = S a
theorem MFq.rf {S : US} : MFq S S := fun _ _ _ => rfl
theorem MFq.u {S S' : US} {a k : Nat} {v : Int32} (h : MFq S S') (ha : a = 19 ∨ a = 20) : MFq S (u2 S' a k v) := fun b h1 h2 => by rw [u2_row' (by omega)]; exact h b h1 h2
theorem MFq.k {S S' : US} (h : MFq S S') : KeepM S S' := ⟨fun a ha => h a (by omega) (by omega), fun k _ => by rw [h 14 (by decide) (by decide)], fun k _ _ => by rw [h 0 (by decide) (by decide)]⟩
theorem lit_64 : (64 : Int32) = J 64 := asEq rfl
theorem tM_byW {S : US} {u : RU} {r : Nat → Nat} {l : List Nat} {i w g x : Nat} (hu : RulM S u) (ho : RuOk u) (hr : MRow S 0 r) (hR : ROk u.1 u.2.1 r) (hi : i < 6) (hl : l.getD i 0 < u.1) (hwt : S 20 i = J (l.getD i 0)) (hw : w < u.2.1) (hor : (g ||| 1 <<< w) < 64) (hx : S 19 (64 * (i + 1) + (g ||| 1 <<< w)) = J x) : sM_byWoman S (J i) (J w) (J g) = some (J (stS u.1 r l i w + x)) := by
  have hm6 := ho.2.2.1
  have v1 := mrow_0 (k := 37 + w) hr (by omega)
  have e := tM_stepsBy hu.1 ho.2.1 (hR.2.2 w hw) hl
  unfold sM_byWoman
  simp (disch := omega) only [lit_0, lit_1, lit_2, lit_3, lit_4, lit_5, lit_6, lit_7, lit_8, lit_9, lit_10, lit_11, lit_12, lit_13, lit_14, lit_15, lit_20, lit_24, lit_25, lit_37, lit_40, lit_43, lit_48, lit_49, lit_50, lit_60, lit_96, lit_98, lit_99, lit_100, lit_999, lit_62, lit_74, lit_86, lit_92, lit_99999, lit_100000, lit_16, lit_32767, lit_2147483639, J_add, J_mul, J_sub, J_tn, J_le, J_lt, J_eq, Nat.not_lt_zero, false_or, or_false, le_t, le_f, lt_t, lt_f, eq_f, ↓reduceIte, callK_eq, letB_eq, joinB_eq, Nat.add_assoc, v1, hwt, e, J_shl, J_or, hx, lit_64]
  rfl
theorem tM_lesser2 {a b : Nat} (ha : a < 2147483648) (hb : b < 2147483648) : sM_lesser (J a) (J b) = some (J (min a b)) := tM_lesser ha hb
