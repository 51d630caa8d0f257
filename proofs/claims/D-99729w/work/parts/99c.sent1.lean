set_option maxRecDepth 100000
/-! THE PLAIN LAW, 31: whom to which -/
def bitB (v k : Nat) : Bool := decide ((v >>> k) % 2 = 1)
theorem tN_isOf {v k : Nat} (hv : v < 2147483648) (hk : k < 32) : s1_isOf (J v) (J k) = some (bitB v k) := by
  unfold s1_isOf bitB
  rw [J_shr hv hk, show (1 : Int32) = J 1 from rfl, J_and, Nat.and_one_is_mod]
  by_cases h : (v >>> k) % 2 = 1
  · rw [h, if_pos rfl]; rfl
  · rw [if_neg (by rw [J_eq (by omega) (by omega)]; exact h), decide_eq_false h]
def omN (a b : Option Nat) : Option Nat := match a, b with
  | none, b => b
  | some x, none => some x
  | some x, some y => some (min x y)
def mnN (f : Nat → Option Nat) : Nat → Option Nat
  | 0 => none
  | w + 1 => omN (mnN f w) (f w)
theorem mnN_s {f : Nat → Option Nat} {w : Nat} : mnN f (w + 1) = omN (mnN f w) (f w) := rfl
theorem mnN_le {f : Nat → Option Nat} {B m : Nat} (h : ∀ w x, w < m → f w = some x → x ≤ B) : ∀ v, mnN f m = some v → v ≤ B := by
  induction m with
  | zero => intro v e; cases e
  | succ m ih =>
    intro v e
    have ih := ih (fun w x hw => h w x (by omega))
    rw [mnN_s] at e
    unfold omN at e
    split at e
    · exact h m v (by omega) e
    · rename_i x e1 e2
      cases e
      exact ih _ e1
    · rename_i x y e1 e2
      cases e
      have := ih x e1
      omega
theorem mnN_att {f : Nat → Option Nat} {m v : Nat} (e : mnN f m = some v) : ∃ w, w < m ∧ f w = some v := by
  induction m generalizing v with
  | zero => cases e
  | succ m ih =>
    rw [mnN_s] at e
    unfold omN at e
    split at e
    · exact ⟨m, by omega, e⟩
    · rename_i x e1 e2
      cases e
      obtain ⟨w, hw, hf⟩ := ih e1
      exact ⟨w, by omega, hf⟩
    · rename_i x y e1 e2
      cases e
      by_cases c : x ≤ y
      · rw [Nat.min_eq_left c]
        obtain ⟨w, hw, hf⟩ := ih e1
        exact ⟨w, by omega, hf⟩ 
      · rw [Nat.min_eq_right (by omega)]
        exact ⟨m, by omega, e2⟩
theorem mnN_some {f : Nat → Option Nat} {m w x : Nat} (hw : w < m) (hx : f w = some x) : ∃ v, mnN f m = some v := by
  induction m with
  | zero => omega
  | succ m ih =>
    rw [mnN_s]
    unfold omN
    split
    · rename_i e1
      by_cases e : w = m
      · subst e; exact ⟨x, hx⟩
      · obtain ⟨v, hv⟩ := ih (by omega)
        rw [e1] at hv; cases hv
    · exact ⟨_, rfl⟩
    · exact ⟨_, rfl⟩
/-- the fewest steps to the last k of N stretches, some women gone -/
def dpN (m N : Nat) (st : Nat → Nat → Nat) : Nat → Nat → Option Nat
  | 0, _ => some 0
  | k + 1, g => mnN (fun w => if bitB g w = true then none else (dpN m N st k (g ||| 1 <<< w)).map (fun v => st (N - 1 - k) w + v)) m
theorem dpN_s {m N k g : Nat} {st : Nat → Nat → Nat} : dpN m N st (k + 1) g = mnN (fun w => if bitB g w = true then none else (dpN m N st k (g ||| 1 <<< w)).map (fun v => st (N - 1 - k) w + v)) m := rfl
theorem dpN_le {m N k : Nat} {st : Nat → Nat → Nat} (h : ∀ i w, i < N → w < m → st i w ≤ 12) (hk : k ≤ N) : ∀ g v, dpN m N st k g = some v → v ≤ 12 * k := by
  induction k with
  | zero => intro g v e; cases e; exact Nat.zero_le _
  | succ k ih =>
    intro g v e
    rw [dpN_s] at e
    refine mnN_le (fun w x hw hx => ?_) v e
    split at hx
    · cases hx
    · cases hd : dpN m N st k (g ||| 1 <<< w) with
      | none => rw [hd] at hx; cases hx
      | some y =>
        rw [hd] at hx
        cases hx
        have := ih (by omega) _ y hd
        have := h (N - 1 - k) w (by omega) hw
        show st (N - 1 - k) w + y ≤ 12 * (k + 1)
        omega
def hvN (D : Nat) (o : Option Nat) : Nat := match o with
  | none => D
  | some v => v
theorem hv_min {D st : Nat} {a d : Option Nat} (hD : 1000 ≤ D) (ha : ∀ v, a = some v → v ≤ 1000) : min (hvN D a) (st + hvN D d) = hvN D (omN a (d.map (fun v => st + v))) ∨ (∃ v, d = some v ∧ 800 < st + v) := by
  cases a with
  | none =>
    cases d with
    | none => left; show min D (st + D) = D; omega
    | some y =>
      by_cases c : st + y ≤ 800
      · left; show min D (st + y) = st + y; omega
      · right; exact ⟨y, rfl, by omega⟩
  | some x =>
    have := ha x rfl
    cases d with
    | none => left; show min x (st + D) = x; omega
    | some y => left; rfl
theorem pop_or (m g w : Nat) (hm : m < 7) (hg : g < 64) (hw : w < 6) : w < m → g < 1 <<< m → ((g ||| 1 <<< w) < 1 <<< m ∧ (bitB g w = false → popN (g ||| 1 <<< w) m = popN g m + 1)) := by
  have key := co_dec (P := fun m => ((List.range 64).all fun g => (List.range 6).all fun w => decide (w < m → g < 1 <<< m → ((g ||| 1 <<< w) < 1 <<< m ∧ (bitB g w = false → popN (g ||| 1 <<< w) m = popN g m + 1)))) = true) (N := 7) (by decide +kernel) hm
  exact of_decide_eq_true (List.all_eq_true.mp (List.all_eq_true.mp key g (List.mem_range.mpr hg)) w (List.mem_range.mpr hw))
theorem shl6' {m : Nat} (h : m < 7) : 1 ≤ 1 <<< m ∧ 1 <<< m ≤ 64 := co_dec (P := fun w => 1 ≤ 1 <<< w ∧ 1 <<< w ≤ 64) (N := 7) (by decide +kernel) h
theorem pop_free {g m : Nat} (h : ∀ w, w < m → bitB g w = true) : popN g m = m := by
  induction m with
  | zero => rfl
  | succ m ih =>
    rw [popN_s, ih (fun w hw => h w (by omega))]
    have := of_decide_eq_true (h m (by omega))
    omega
theorem dpN_fin {m N k : Nat} {st : Nat → Nat → Nat} (hm : m < 7) : ∀ g, g < 1 <<< m → popN g m + k ≤ m → ∃ v, dpN m N st k g = some v := by
  have h64 := shl6' hm
  induction k with
  | zero => intro g _ _; exact ⟨0, rfl⟩
  | succ k ih =>
    intro g hg hp
    have hex : ∃ w, w < m ∧ bitB g w = false := by
      refine Classical.byContradiction fun z => ?_
      have : popN g m = m := pop_free (fun w hw => by
        cases e : bitB g w with
        | true => rfl
        | false => exact absurd ⟨w, hw, e⟩ z)
      omega
    obtain ⟨w, hw, hb⟩ := hex
    obtain ⟨p1, p2⟩ := pop_or m g w hm (by omega) (by omega) hw hg
    obtain ⟨v, hv⟩ := ih (g ||| 1 <<< w) p1 (by have := p2 hb; omega)
    rw [dpN_s]
    refine mnN_some (x := st (N - 1 - k) w + v) hw ?_
    rw [hb, hv]
    rfl
/-- the least of those for whom it holds, from the last on -/
def dwN (c : Nat → Bool) (m : Nat) : Nat → Option Nat
  | 0 => none
  | t + 1 => if c (m - 1 - t) = true then some (m - 1 - t) else dwN c m t
theorem dwN_s {c : Nat → Bool} {m t : Nat} : dwN c m (t + 1) = if c (m - 1 - t) = true then some (m - 1 - t) else dwN c m t := rfl
theorem dwN_ok {c : Nat → Bool} {m t : Nat} (ht : t ≤ m) : ∀ w, dwN c m t = some w → w < m ∧ c w = true := by
  induction t with
  | zero => intro w h; cases h
  | succ t ih =>
    intro w h
    rw [dwN_s] at h
    split at h
    · rename_i hc
      cases h
      exact ⟨by omega, hc⟩
    · exact ih (by omega) w h
theorem dwN_ex {c : Nat → Bool} {m w : Nat} (hw : w < m) (hc : c w = true) : ∀ t, t ≤ m → m - 1 - w < t → ∃ w', dwN c m t = some w' := by
  intro t
  induction t with
  | zero => intro _ h; omega
  | succ t ih =>
    intro h1 h2
    rw [dwN_s]
    by_cases e : m - 1 - t = w
    · rw [e, hc]; exact ⟨w, rfl⟩
    · split
      · exact ⟨_, rfl⟩
      · exact ih (by omega) (by omega)
def whJ (d : Int32) (o : Option Nat) : Int32 := match o with
  | none => d
  | some w => J w
theorem add_m1 (x : Int32) : x + (-1 : Int32) = x - J 1 := (Int32.sub_eq_add_neg x (J 1)).symm
def cwN (m N : Nat) (st : Nat → Nat → Nat) (i g w : Nat) : Bool := !bitB g w && decide ((dpN m N st (N - i - 1) (g ||| 1 <<< w)).map (fun v => st i w + v) = dpN m N st (N - i) g)
theorem cw_ex {m N i g : Nat} {st : Nat → Nat → Nat} (hm : m < 7) (hi : i < N) (hg : g < 1 <<< m) (hp : popN g m + (N - i) ≤ m) : ∃ w, w < m ∧ cwN m N st i g w = true := by
  obtain ⟨v, hv⟩ := dpN_fin (N := N) (st := st) (k := N - i) hm g hg hp
  have hv2 := hv
  rw [show N - i = (N - i - 1) + 1 by omega, dpN_s] at hv2
  obtain ⟨w, hw, hf⟩ := mnN_att hv2
  refine ⟨w, hw, ?_⟩
  unfold cwN
  cases hb : bitB g w with
  | true => rw [hb] at hf; cases hf
  | false =>
    rw [hb] at hf
    rw [hv]
    rw [show N - 1 - (N - i - 1) = i by omega] at hf
    rw [if_neg (by decide)] at hf
    rw [hf]
    simp
theorem bit_J {v k : Nat} (hv : v < 2147483648) (hk : k < 32) : ((J v >>> (J k &&& 31)) &&& (1 : Int32)) = J ((v >>> k) % 2) := by
  rw [J_shr hv hk, show (1 : Int32) = J 1 from rfl, J_and, Nat.and_one_is_mod]
theorem bit_f {v k : Nat} (h : bitB v k = false) : (v >>> k) % 2 = 0 := by
  have := of_decide_eq_false h
  omega
theorem bit_t {v k : Nat} (h : bitB v k = true) : (v >>> k) % 2 = 1 := of_decide_eq_true h
/-- the stretches that are asked for -/
theorem gl_pop {v n : Nat} : (glN (bitB v) n).length = popN v n := by
  induction n with
  | zero => rfl
  | succ n ih =>
    rw [popN_s]
    cases h : bitB v n with
    | true => rw [glN_t h, List.length_append, ih, bit_t h]; rfl
    | false => rw [glN_f h, ih, bit_f h]; rfl
theorem gl_find {p : Nat → Bool} {n s : Nat} (hs : s < n) (hp : p s = true) : ∃ i, i < (glN p n).length ∧ (glN p n).getD i 0 = s := by
  induction n with
  | zero => omega
  | succ n ih =>
    by_cases e : s = n
    · subst e
      refine ⟨(glN p s).length, ?_, ?_⟩
      · rw [glN_t hp, List.length_append]; exact Nat.lt_succ_self _
      · rw [glN_t hp, gdA2]
    · obtain ⟨i, h1, h2⟩ := ih (by omega)
      cases h : p n with
      | true =>
        refine ⟨i, ?_, ?_⟩
        · rw [glN_t h, List.length_append]; exact Nat.lt_succ_of_lt h1
        · rw [glN_t h, gdA1 h1]; exact h2
      | false => rw [glN_f h]; exact ⟨i, h1, h2⟩
theorem tH_bitsOf {ct : CT} {ad : Nat → Nat} {P : Nat → Nat → Option Nat} {G : GS} {S : US} {n v : Nat} (hb : Bd G) (hn : S 1 2 = J n) (hn2 : n ≤ 12) (hv : v < 1 <<< n) (hp : popN v 12 ≤ 6) (hv2 : v < 4096) (hpn : popN v n = popN v 12) (hm : Rm ct G 1 12) : Ev (s1_bitsOf ct ad P S G (J v)) (fun o => o.1 = some G.2.1 ∧ (∃ f, o.2.1 G.2.1 = some (true, .inl (0, (glN (bitB v) n).length, .inl f)) ∧ ∀ i, i < (glN (bitB v) n).length → f i = J ((glN (bitB v) n).getD i 0)) ∧ Gr (fun _ => False) G o.2 1 12) := by
  have hlen : (glN (bitB v) n).length = popN v 12 := gl_pop.trans hpn
  unfold s1_bitsOf
  rw [tN_bitCount hv2, callK_eq, if_neg (by rw [J_tn (by omega), lit_0, J_lt (by omega) (by omega)]; omega), J_tn (by omega), newB_eq (hm.le (by omega) (by omega))]
  have ga : Gr (fun _ => False) G (addG G (popN v 12) (.inl (0, popN v 12, .inl (fun _ => 0)))) 1 (popN v 12) := grw_add hb
  refine Ev.loop (I := fun k x => x.2.2 = J k ∧ x.2.1 = J (glN (bitB v) k).length ∧ (∃ f, x.1.1 G.2.1 = some (true, .inl (0, popN v 12, .inl f)) ∧ ∀ i, i < (glN (bitB v) k).length → f i = J ((glN (bitB v) k).getD i 0)) ∧ Gr (fun _ => False) G x.1 1 (popN v 12)) n ?_ ?_ ⟨rfl, rfl, ⟨_, addG_at, fun i hi => absurd hi (Nat.not_lt_zero i)⟩, ga⟩ (by unfold FUEL; omega)
  · rintro k hk ⟨G4, v5, v6⟩ ⟨h1, h2, ⟨f, h3, h4⟩, h5⟩ rc hrc
    simp only at h1 h2 h3 h4 h5
    subst h1
    subst h2
    have hle := glN_len (p := bitB v) (g := k)
    show Ev (s1_bitsOf_L12 (J v) S G.2.1 rc G4 (J (glN (bitB v) k).length) (J k)) _
    unfold s1_bitsOf_L12
    simp (disch := omega) only [lit_0, lit_1, lit_2, lit_3, lit_4, lit_5, lit_6, lit_7, lit_8, lit_9, lit_10, lit_11, lit_12, lit_13, lit_14, lit_15, lit_20, lit_24, lit_25, lit_37, lit_40, lit_43, lit_48, lit_49, lit_50, lit_60, lit_96, lit_98, lit_99, lit_100, lit_999, lit_62, lit_74, lit_86, lit_92, lit_99999, lit_100000, lit_16, lit_32767, lit_2147483639, J_add, J_mul, J_sub, J_tn, J_le, J_lt, J_eq, Nat.not_lt_zero, false_or, or_false, le_t, le_f, lt_t, lt_f, eq_f, ↓reduceIte, callK_eq, letB_eq, joinB_eq, Nat.add_assoc, hn, tN_isOf]
    cases hp : bitB v k with
    | false =>
      simp (disch := omega) only [lit_0, lit_1, lit_2, lit_3, lit_4, lit_5, lit_6, lit_7, lit_8, lit_9, lit_10, lit_11, lit_12, lit_13, lit_14, lit_15, lit_20, lit_24, lit_25, lit_37, lit_40, lit_43, lit_48, lit_49, lit_50, lit_60, lit_96, lit_98, lit_99, lit_100, lit_999, lit_62, lit_74, lit_86, lit_92, lit_99999, lit_100000, lit_16, lit_32767, lit_2147483639, J_add, J_mul, J_sub, J_tn, J_le, J_lt, J_eq, Nat.not_lt_zero, false_or, or_false, le_t, le_f, lt_t, lt_f, eq_f, ↓reduceIte, callK_eq, letB_eq, joinB_eq, Nat.add_assoc, bI_f]
      refine hrc _ ⟨rfl, by rw [glN_f hp], ⟨f, h3, ?_⟩, h5⟩
      rw [glN_f hp]
      exact h4
    | true =>
      have hlt : (glN (bitB v) k).length < popN v 12 := by
        have e1 : (glN (bitB v) (k + 1)).length ≤ (glN (bitB v) n).length := by
          rw [gl_pop, gl_pop]
          have key : ∀ d, popN v (k + 1) ≤ popN v (k + 1 + d) := fun d => by
            induction d with
            | zero => exact Nat.le_refl _
            | succ d ih => exact Nat.le_trans ih (Nat.le_add_right _ _)
          have := key (n - (k + 1))
          rw [show k + 1 + (n - (k + 1)) = n by omega] at this
          exact this
        rw [glN_t hp, List.length_append] at e1
        have e1 : (glN (bitB v) k).length + 1 ≤ (glN (bitB v) n).length := e1
        omega
      simp (disch := omega) only [lit_0, lit_1, lit_2, lit_3, lit_4, lit_5, lit_6, lit_7, lit_8, lit_9, lit_10, lit_11, lit_12, lit_13, lit_14, lit_15, lit_20, lit_24, lit_25, lit_37, lit_40, lit_43, lit_48, lit_49, lit_50, lit_60, lit_96, lit_98, lit_99, lit_100, lit_999, lit_62, lit_74, lit_86, lit_92, lit_99999, lit_100000, lit_16, lit_32767, lit_2147483639, J_add, J_mul, J_sub, J_tn, J_le, J_lt, J_eq, Nat.not_lt_zero, false_or, or_false, le_t, le_f, lt_t, lt_f, eq_f, ↓reduceIte, callK_eq, letB_eq, joinB_eq, Nat.add_assoc, bI_t]
      refine Ev.pz h3 hlt (by omega) (fun G5 y1 y2 _ => ?_)
      refine hrc (G5, J ((glN (bitB v) k).length + 1), J (k + 1)) ⟨rfl, by rw [glN_t hp, List.length_append]; rfl, ⟨_, y1, fun i hi => ?_⟩, (h5.fresh y2 hb (fun a ha => by rw [ha]; exact Nat.le_refl _))⟩
      rw [glN_t hp, List.length_append] at hi
      have hi : i < (glN (bitB v) k).length + 1 := hi
      rw [glN_t hp]
      by_cases e : i = (glN (bitB v) k).length
      · rw [e, gdA2, upd_at]
      · rw [gdA1 (by omega), upd_ne (by omega)]
        exact h4 i (by omega)
  · rintro ⟨G4, v5, v6⟩ ⟨h1, h2, ⟨f, h3, h4⟩, h5⟩ rc
    simp only at h1 h2 h3 h4 h5
    subst h1
    subst h2
    show Ev (s1_bitsOf_L12 (J v) S G.2.1 rc G4 (J (glN (bitB v) n).length) (J n)) _
    unfold s1_bitsOf_L12
    simp (disch := omega) only [lit_0, lit_1, lit_2, lit_3, lit_4, lit_5, lit_6, lit_7, lit_8, lit_9, lit_10, lit_11, lit_12, lit_13, lit_14, lit_15, lit_20, lit_24, lit_25, lit_37, lit_40, lit_43, lit_48, lit_49, lit_50, lit_60, lit_96, lit_98, lit_99, lit_100, lit_999, lit_62, lit_74, lit_86, lit_92, lit_99999, lit_100000, lit_16, lit_32767, lit_2147483639, J_add, J_mul, J_sub, J_tn, J_le, J_lt, J_eq, Nat.not_lt_zero, false_or, or_false, le_t, le_f, lt_t, lt_f, eq_f, ↓reduceIte, callK_eq, letB_eq, joinB_eq, Nat.add_assoc, hn]
    refine ⟨_, rfl, rfl, ⟨f, ?_, h4⟩, h5.le (by omega) (by omega)⟩
    rw [hlen]
    exact h3
