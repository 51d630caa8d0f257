set_option maxRecDepth 100000
/-! THE PLAIN LAW, 8: methods that only look, 1 -/
/-- both throw of a kind, or both answer the same; what must stay stays -/
def AgG {α : Type} (ks : List (Nat × Nat)) (S2 : US) (val : α → Int32) (K : α → Prop) (t : Option Int32) (s : Option α) (m : Option (Int32 × US)) : Prop :=
  (∃ a b, (a, b) ∈ ks ∧ t = some (J a) ∧ Ev m (fun o => o.2 0 0 = J b ∧ KeepM S2 o.2)) ∨ (t = none ∧ ∃ v, Ev s (fun o => val o = v ∧ K o) ∧ Ev m (fun o => o.1 = v ∧ o.2 0 0 = J 0 ∧ KeepM S2 o.2))
abbrev AgW (ks : List (Nat × Nat)) (S S2 : US) (t : Option Int32) (s m : Option (Int32 × US)) : Prop := AgG ks S2 (fun o : Int32 × US => o.1) (fun o => KeepH S o.2) t s m
/-- .. of a method that changes nothing at all -/
abbrev AgV (ks : List (Nat × Nat)) (S2 : US) (t : Option Int32) (s : Option Int32) (m : Option (Int32 × US)) : Prop := AgG ks S2 (fun o : Int32 => o) (fun _ => True) t s m
def Z0 (S : US) : US := u2 S 0 0 (J 0)
theorem Z0_0 {S : US} : Z0 S 0 0 = J 0 := u2_at
theorem Z0_k {S : US} : KeepM S (Z0 S) := KeepM.rf.u (Or.inl rfl)
theorem Z0_m {S : US} {k : Int32} : KeepM S (u2 (Z0 S) 0 0 k) := Z0_k.u (Or.inl rfl)
theorem ev_thr {S : US} {v : Int32} {b : Nat} : Ev (some (v, u2 (Z0 S) 0 0 (J b))) (fun o => o.2 0 0 = J b ∧ KeepM S o.2) := ⟨_, rfl, (u2_at : u2 (Z0 S) 0 0 (J b) 0 0 = J b), Z0_m⟩
theorem Core.z {ct : CT} {P : Nat → Nat → Option Nat} {h : AH} {S S2 : US} {u : RU} {r : Nat → Nat} (c : Core ct P h S S2 u r) : Core ct P h S (Z0 S2) u r := c.keep KeepH.rf Z0_k
/-- tried: so many days from now -/
theorem tH_tryOn {ct : CT} {P : Nat → Nat → Option Nat} {h : AH} {S S2 : US} {u : RU} {d : Nat} {r : Nat → Nat} (c : Core ct P h S S2 u r) (hd : d ≤ 60) : Ev (s1_tryOn S ct P h (J d)) (HR S 1 (aftrN u r d)) := by
  obtain ⟨ho, hR, h9, hH, hr, hM, hm⟩ := c
  unfold s1_tryOn
  refine Ev.call (tH_be (L := 1) HFr.rf hr (by decide)) (fun S1 h1 => ?_)
  refine Ev.call (tH_aftr (S0 := S) hH ho h1.1 hR (by omega) (by omega)) (fun S3 h3 => ⟨_, rfl, h3⟩)
theorem tM_goesTo {S S2 : US} {ct : CT} {P : Nat → Nat → Option Nat} {h : AH} {u : RU} {d : Nat} {r : Nat → Nat} (c : Core ct P h S S2 u r) (hd : d ≤ 60) : Ev (sM_goesTo S2 (J d)) (MR S2 49 (aftrN u r d)) := by
  obtain ⟨ho, hR, h9, hH, hr, hM, hm⟩ := c
  unfold sM_goesTo
  refine Ev.call (tM_tries MFr.rf hm) (fun S1 h1 => ?_)
  refine Ev.call (tM_daysGo (S0 := S2) hM ho h1 hR (by omega) (by omega)) (fun S3 h3 => ⟨_, rfl, h3⟩)
theorem mr_0 {S S' : US} {r : Nat → Nat} (h : MR S 49 r S') (h0 : S 0 0 = J 0) : S' 0 0 = J 0 := by rw [h.2.1 0 (by decide) (by decide) (by decide) (by decide)]; exact h0
theorem ev_fun {α : Type} {o : Option α} {P Q : α → Prop} (h : Ev o P) (hq : ∀ v, P v → Q v) : Ev o Q := by
  obtain ⟨v, h1, h2⟩ := h
  exact ⟨v, h1, hq v h2⟩
theorem fd_1 : t1_found (J 1) = none := asEq rfl
theorem fd_0 : t1_found (J 0) = some (J 1) := asEq rfl
theorem fe_1 : s1_found (J 1) = some () := asEq rfl
theorem fe_0 : s1_found (J 0) = none := asEq rfl
theorem ri_1 : t1_right (J 1) = none := asEq rfl
theorem ri_0 : t1_right (J 0) = some (J 2) := asEq rfl
theorem re_1 : s1_right (J 1) = some () := asEq rfl
theorem re_0 : s1_right (J 0) = none := asEq rfl
section AG
variable {α : Type} {ks : List (Nat × Nat)} {val : α → Int32} {K : α → Prop} {ct : CT} {P : Nat → Nat → Option Nat} {h : AH} {S S2 : US} {u : RU} {r : Nat → Nat} {p : Int32}
theorem Ag_z {t : Option Int32} {s : Option α} {k : US → Option (Int32 × US)} (H : AgG ks S2 val K t s (k (Z0 S2))) : AgG ks S2 val K t s (letB (u2 S2 0 0 (0 : Int32)) k) := H
theorem Ag_str (c : Core ct P h S S2 u r) (hk : (1, 1) ∈ ks) {T : Unit → Option Int32} {Sx : Unit → Option α} {Mx : Bool × US → Option (Int32 × US)} (H : ∀ s, s < u.1 → p = J s → AgG ks S2 val K (T ()) (Sx ()) (Mx (true, Z0 S2))) :
    AgG ks S2 val K (tB (t1_aStretch S ct P h p) (callK (s1_aStretch S p) T)) (callK (s1_aStretch S p) Sx) (callK (sM_isStretch (Z0 S2) p) (fun o => if bI o.1 = 0 then some (0, o.2) else Mx o)) := by
  have cz := c.z
  have a1 := tH_aStretch (ct := ct) (P := P) (h := h) (p := p) c.2.2.2.1.1 (by have := c.1.1; omega)
  rw [a1.1, a1.2, tM_isStretch (p := p) Z0_0 cz.2.2.2.2.2.1.1 (by have := c.1.1; omega) c.1.2.1]
  cases c1 : inN p 0 (u.1 - 1) with
  | false => exact Or.inl ⟨1, 1, hk, rfl, ev_thr⟩
  | true =>
    obtain ⟨s, -, hs, hp⟩ := J_of (by omega) (by have := c.1.2.1; omega) c1
    exact H s (by have := c.1.1; omega) hp
/-- .. at the end of what may throw -/
theorem Ag_strE (c : Core ct P h S S2 u r) (hk : (1, 1) ∈ ks) {Sx : Unit → Option α} {Mx : Bool × US → Option (Int32 × US)} (H : ∀ s, s < u.1 → p = J s → AgG ks S2 val K none (Sx ()) (Mx (true, Z0 S2))) :
    AgG ks S2 val K (t1_aStretch S ct P h p) (callK (s1_aStretch S p) Sx) (callK (sM_isStretch (Z0 S2) p) (fun o => if bI o.1 = 0 then some (0, o.2) else Mx o)) := by
  have cz := c.z
  have a1 := tH_aStretch (ct := ct) (P := P) (h := h) (p := p) c.2.2.2.1.1 (by have := c.1.1; omega)
  rw [a1.1, a1.2, tM_isStretch (p := p) Z0_0 cz.2.2.2.2.2.1.1 (by have := c.1.1; omega) c.1.2.1]
  cases c1 : inN p 0 (u.1 - 1) with
  | false => exact Or.inl ⟨1, 1, hk, rfl, ev_thr⟩
  | true =>
    obtain ⟨s, -, hs, hp⟩ := J_of (by omega) (by have := c.1.2.1; omega) c1
    exact H s (by have := c.1.1; omega) hp
theorem Ag_wom (c : Core ct P h S S2 u r) (hk : (1, 1) ∈ ks) {T : Unit → Option Int32} {Sx : Unit → Option α} {Mx : Bool × US → Option (Int32 × US)} (H : ∀ w, w < u.2.1 → p = J w → AgG ks S2 val K (T ()) (Sx ()) (Mx (true, Z0 S2))) :
    AgG ks S2 val K (tB (t1_aWoman S ct P h p) (callK (s1_aWoman S P h p) T)) (callK (s1_aWoman S P h p) Sx) (callK (sM_isWoman (Z0 S2) p) (fun o => if bI o.1 = 0 then some (0, o.2) else Mx o)) := by
  have cz := c.z
  have a1 := tH_aWoman (p := p) c.2.2.2.1 c.1.2.2.1
  rw [a1.1, a1.2, tM_isWoman (p := p) Z0_0 cz.2.2.2.2.2.1.2.1 c.1.2.2.1]
  cases c1 : (decide (0 < u.2.1) && inN p 0 (u.2.1 - 1)) with
  | false => exact Or.inl ⟨1, 1, hk, rfl, ev_thr⟩
  | true =>
    rw [Bool.and_eq_true, decide_eq_true_eq] at c1
    obtain ⟨s, -, hs, hp⟩ := J_of (by omega) (by have := c.1.2.2.1; omega) c1.2
    exact H s (by have := c1.1; omega) hp
theorem Ag_womE (c : Core ct P h S S2 u r) (hk : (1, 1) ∈ ks) {Sx : Unit → Option α} {Mx : Bool × US → Option (Int32 × US)} (H : ∀ w, w < u.2.1 → p = J w → AgG ks S2 val K none (Sx ()) (Mx (true, Z0 S2))) :
    AgG ks S2 val K (t1_aWoman S ct P h p) (callK (s1_aWoman S P h p) Sx) (callK (sM_isWoman (Z0 S2) p) (fun o => if bI o.1 = 0 then some (0, o.2) else Mx o)) := by
  have cz := c.z
  have a1 := tH_aWoman (p := p) c.2.2.2.1 c.1.2.2.1
  rw [a1.1, a1.2, tM_isWoman (p := p) Z0_0 cz.2.2.2.2.2.1.2.1 c.1.2.2.1]
  cases c1 : (decide (0 < u.2.1) && inN p 0 (u.2.1 - 1)) with
  | false => exact Or.inl ⟨1, 1, hk, rfl, ev_thr⟩
  | true =>
    rw [Bool.and_eq_true, decide_eq_true_eq] at c1
    obtain ⟨s, -, hs, hp⟩ := J_of (by omega) (by have := c.1.2.2.1; omega) c1.2
    exact H s (by have := c1.1; omega) hp
theorem Ag_what (b : Nat) (hb : b < 1000) (hk : (1, 1) ∈ ks) {T : Unit → Option Int32} {Sx : Unit → Option α} {Mx : Bool × US → Option (Int32 × US)} (H : ∀ w, w ≤ b → p = J w → AgG ks S2 val K (T ()) (Sx ()) (Mx (true, Z0 S2))) :
    AgG ks S2 val K (tB (t1_oneOf p (J b)) (callK (s1_oneOf p (J b)) T)) (callK (s1_oneOf p (J b)) Sx) (callK (sM_isWhat (Z0 S2) p (J b)) (fun o => if bI o.1 = 0 then some (0, o.2) else Mx o)) := by
  have a1 := tH_oneOf (p := p) (b := b)
  rw [a1.1, a1.2, tM_isWhat (p := p) Z0_0]
  cases c1 : inN p 0 b with
  | false => exact Or.inl ⟨1, 1, hk, rfl, ev_thr⟩
  | true =>
    obtain ⟨s, -, hs, hp⟩ := J_of (by omega) (by omega) c1
    exact H s hs hp
theorem Ag_whatE (b : Nat) (hb : b < 1000) (hk : (1, 1) ∈ ks) {Sx : Unit → Option α} {Mx : Bool × US → Option (Int32 × US)} (H : ∀ w, w ≤ b → p = J w → AgG ks S2 val K none (Sx ()) (Mx (true, Z0 S2))) :
    AgG ks S2 val K (t1_oneOf p (J b)) (callK (s1_oneOf p (J b)) Sx) (callK (sM_isWhat (Z0 S2) p (J b)) (fun o => if bI o.1 = 0 then some (0, o.2) else Mx o)) := by
  have a1 := tH_oneOf (p := p) (b := b)
  rw [a1.1, a1.2, tM_isWhat (p := p) Z0_0]
  cases c1 : inN p 0 b with
  | false => exact Or.inl ⟨1, 1, hk, rfl, ev_thr⟩
  | true =>
    obtain ⟨s, -, hs, hp⟩ := J_of (by omega) (by omega) c1
    exact H s hs hp
/-- bounds that throw 2 there, some kind here: the last of what may throw -/
theorem Ag_rgtE (a b k : Nat) (ha : a < 1000) (hb : b < 2147483648) (hk : (2, k) ∈ ks) (hk2 : k = 1 ∨ k = 2) {Sx : Unit → Option α} {Mx : Bool × US → Option (Int32 × US)} (H : ∀ d, a ≤ d → d ≤ b → p = J d → AgG ks S2 val K none (Sx ()) (Mx (true, Z0 S2))) :
    AgG ks S2 val K (callK (s1_in p (J a) (J b)) (fun o => t1_right (bI o))) (callK (s1_in p (J a) (J b)) (fun o => callK (s1_right (bI o)) Sx)) (callK (sM_within p (J a) (J b)) (fun o1 => callK (sM_right (Z0 S2) (bI o1) (J k)) (fun o => if bI o.1 = 0 then some (0, o.2) else Mx o))) := by
  rw [tH_in, tM_within]
  cases c1 : inN p a b with
  | false =>
    refine Or.inl ⟨2, k, hk, rfl, ?_⟩
    show Ev (callK (sM_right (Z0 S2) (bI false) (J k)) _) _
    rw [tM_right Z0_0 hk2]
    exact ev_thr
  | true =>
    obtain ⟨s, h1, hs, hp⟩ := J_of (by omega) (by omega) c1
    show AgG ks S2 val K none (Sx ()) (callK (sM_right (Z0 S2) (bI true) (J k)) _)
    rw [tM_right Z0_0 hk2]
    exact H s h1 hs hp
theorem Ag_dayE (a k : Nat) (ha : a < 1000) (hk : (2, k) ∈ ks) (hk2 : k = 1 ∨ k = 2) {Sx : Unit → Option α} {Mx : Bool × US → Option (Int32 × US)} (H : ∀ d, a ≤ d → d ≤ 60 → p = J d → AgG ks S2 val K none (Sx ()) (Mx (true, Z0 S2))) :
    AgG ks S2 val K (callK (s1_in p (J a) (J 60)) (fun o => t1_right (bI o))) (callK (s1_in p (J a) (J 60)) (fun o => callK (s1_right (bI o)) Sx)) (callK (sM_isDays (Z0 S2) p (J a) (J k)) (fun o => if bI o.1 = 0 then some (0, o.2) else Mx o)) := by
  rw [tH_in, tM_isDays Z0_0 hk2]
  cases c1 : inN p a 60 with
  | false => exact Or.inl ⟨2, k, hk, rfl, ev_thr⟩
  | true =>
    obtain ⟨s, h1, hs, hp⟩ := J_of (by omega) (by omega) c1
    exact H s h1 hs hp
theorem Ag_ok {s : Option α} {m : Option (Int32 × US)} (v : Int32) (hs : Ev s (fun o => val o = v ∧ K o)) (hm : Ev m (fun o => o.1 = v ∧ o.2 0 0 = J 0 ∧ KeepM S2 o.2)) : AgG ks S2 val K none s m := Or.inr ⟨rfl, v, hs, hm⟩
end AG
theorem mrow_at {S : US} {r : Nat → Nat} {k j : Nat} (h : MRow S 49 r) (hk : k < 49) (hj : j = 49 + k) : S 14 j = J (r k) := by subst hj; exact h k hk
theorem mrow_0 {S : US} {r : Nat → Nat} {k : Nat} (h : MRow S 0 r) (hk : k < 49) : S 14 k = J (r k) := by have := h k hk; rw [Nat.zero_add] at this; exact this
theorem mr_ev {S S' : US} {r : Nat → Nat} {v v' : Int32} (h : MR (Z0 S) 49 r S') (hv : v = v') : Ev (some (v, S')) (fun o => o.1 = v' ∧ o.2 0 0 = J 0 ∧ KeepM S o.2) := ⟨_, rfl, hv, mr_0 h Z0_0, Z0_k.tr (KeepM.of h.2)⟩
theorem hr_ev {S S' : US} {r : Nat → Nat} {v v' : Int32} (h : HR S 1 r S') (hv : v = v') : Ev (some (v, S')) (fun o => o.1 = v' ∧ KeepH S o.2) := ⟨_, rfl, hv, KeepH.of (by omega) h.2⟩
theorem L_then {ct : CT} {P : Nat → Nat → Option Nat} {h : AH} {S S2 : US} {u : RU} {r : Nat → Nat} (c : Core ct P h S S2 u r) (p1 p2 p3 : Int32) : AgW [(1, 1), (2, 2)] S S2 (t1_then S ct P h p1 p2 p3) (s1_then S ct P h p1 p2 p3) (sM_then S2 p1 p2 p3) := by
  have cz := c.z
  have ho12 := c.1.2.1
  unfold t1_then s1_then sM_then
  refine Ag_z (Ag_str c (by decide) (fun s hs e => ?_))
  subst e
  refine Ag_what 1 (by decide) (by decide) (fun w hw e => ?_)
  subst e
  refine Ag_dayE 0 2 (by decide) (by decide) (Or.inr rfl) (fun d _ hd e => ?_)
  subst e
  rcases (show w = 0 ∨ w = 1 by omega) with rfl | rfl
  · refine Ag_ok (J (aftrN u r d (1 + s))) ?_ ?_
    · simp (disch := omega) only [lit_0, lit_1, lit_2, lit_3, lit_4, lit_5, lit_6, lit_7, lit_8, lit_9, lit_10, lit_11, lit_12, lit_13, lit_14, lit_15, lit_20, lit_24, lit_25, lit_37, lit_40, lit_43, lit_48, lit_49, lit_50, lit_60, lit_96, lit_98, lit_99, lit_100, lit_999, lit_62, lit_74, lit_86, lit_92, lit_99999, lit_100000, lit_16, lit_32767, lit_2147483639, J_add, J_mul, J_sub, J_tn, J_le, J_lt, J_eq, Nat.not_lt_zero, false_or, or_false, le_t, le_f, lt_t, lt_f, eq_f, ↓reduceIte, callK_eq, letB_eq, joinB_eq, Nat.add_assoc]
      refine Ev.call (tH_tryOn cz hd) (fun S1 h1 => ?_)
      try simp (disch := omega) only [lit_0, lit_1, lit_2, lit_3, lit_4, lit_5, lit_6, lit_7, lit_8, lit_9, lit_10, lit_11, lit_12, lit_13, lit_14, lit_15, lit_20, lit_24, lit_25, lit_37, lit_40, lit_43, lit_48, lit_49, lit_50, lit_60, lit_96, lit_98, lit_99, lit_100, lit_999, lit_62, lit_74, lit_86, lit_92, lit_99999, lit_100000, lit_16, lit_32767, lit_2147483639, J_add, J_mul, J_sub, J_tn, J_le, J_lt, J_eq, Nat.not_lt_zero, false_or, or_false, le_t, le_f, lt_t, lt_f, eq_f, ↓reduceIte, callK_eq, letB_eq, joinB_eq, Nat.add_assoc]
      exact hr_ev h1 (h1.1.2.1 s (by omega)).1
    · simp (disch := omega) only [lit_0, lit_1, lit_2, lit_3, lit_4, lit_5, lit_6, lit_7, lit_8, lit_9, lit_10, lit_11, lit_12, lit_13, lit_14, lit_15, lit_20, lit_24, lit_25, lit_37, lit_40, lit_43, lit_48, lit_49, lit_50, lit_60, lit_96, lit_98, lit_99, lit_100, lit_999, lit_62, lit_74, lit_86, lit_92, lit_99999, lit_100000, lit_16, lit_32767, lit_2147483639, J_add, J_mul, J_sub, J_tn, J_le, J_lt, J_eq, Nat.not_lt_zero, false_or, or_false, le_t, le_f, lt_t, lt_f, eq_f, ↓reduceIte, callK_eq, letB_eq, joinB_eq, Nat.add_assoc]
      refine Ev.call (tM_goesTo cz hd) (fun S1 h1 => ?_)
      try simp (disch := omega) only [lit_0, lit_1, lit_2, lit_3, lit_4, lit_5, lit_6, lit_7, lit_8, lit_9, lit_10, lit_11, lit_12, lit_13, lit_14, lit_15, lit_20, lit_24, lit_25, lit_37, lit_40, lit_43, lit_48, lit_49, lit_50, lit_60, lit_96, lit_98, lit_99, lit_100, lit_999, lit_62, lit_74, lit_86, lit_92, lit_99999, lit_100000, lit_16, lit_32767, lit_2147483639, J_add, J_mul, J_sub, J_tn, J_le, J_lt, J_eq, Nat.not_lt_zero, false_or, or_false, le_t, le_f, lt_t, lt_f, eq_f, ↓reduceIte, callK_eq, letB_eq, joinB_eq, Nat.add_assoc]
      exact mr_ev h1 (h1.1 (1 + s) (by omega))
  · refine Ag_ok (J (aftrN u r d (13 + s))) ?_ ?_
    · simp (disch := omega) only [lit_0, lit_1, lit_2, lit_3, lit_4, lit_5, lit_6, lit_7, lit_8, lit_9, lit_10, lit_11, lit_12, lit_13, lit_14, lit_15, lit_20, lit_24, lit_25, lit_37, lit_40, lit_43, lit_48, lit_49, lit_50, lit_60, lit_96, lit_98, lit_99, lit_100, lit_999, lit_62, lit_74, lit_86, lit_92, lit_99999, lit_100000, lit_16, lit_32767, lit_2147483639, J_add, J_mul, J_sub, J_tn, J_le, J_lt, J_eq, Nat.not_lt_zero, false_or, or_false, le_t, le_f, lt_t, lt_f, eq_f, ↓reduceIte, callK_eq, letB_eq, joinB_eq, Nat.add_assoc]
      refine Ev.call (tH_tryOn cz hd) (fun S1 h1 => ?_)
      try simp (disch := omega) only [lit_0, lit_1, lit_2, lit_3, lit_4, lit_5, lit_6, lit_7, lit_8, lit_9, lit_10, lit_11, lit_12, lit_13, lit_14, lit_15, lit_20, lit_24, lit_25, lit_37, lit_40, lit_43, lit_48, lit_49, lit_50, lit_60, lit_96, lit_98, lit_99, lit_100, lit_999, lit_62, lit_74, lit_86, lit_92, lit_99999, lit_100000, lit_16, lit_32767, lit_2147483639, J_add, J_mul, J_sub, J_tn, J_le, J_lt, J_eq, Nat.not_lt_zero, false_or, or_false, le_t, le_f, lt_t, lt_f, eq_f, ↓reduceIte, callK_eq, letB_eq, joinB_eq, Nat.add_assoc]
      exact hr_ev h1 (h1.1.2.1 s (by omega)).2.1
    · simp (disch := omega) only [lit_0, lit_1, lit_2, lit_3, lit_4, lit_5, lit_6, lit_7, lit_8, lit_9, lit_10, lit_11, lit_12, lit_13, lit_14, lit_15, lit_20, lit_24, lit_25, lit_37, lit_40, lit_43, lit_48, lit_49, lit_50, lit_60, lit_96, lit_98, lit_99, lit_100, lit_999, lit_62, lit_74, lit_86, lit_92, lit_99999, lit_100000, lit_16, lit_32767, lit_2147483639, J_add, J_mul, J_sub, J_tn, J_le, J_lt, J_eq, Nat.not_lt_zero, false_or, or_false, le_t, le_f, lt_t, lt_f, eq_f, ↓reduceIte, callK_eq, letB_eq, joinB_eq, Nat.add_assoc]
      refine Ev.call (tM_goesTo cz hd) (fun S1 h1 => ?_)
      try simp (disch := omega) only [lit_0, lit_1, lit_2, lit_3, lit_4, lit_5, lit_6, lit_7, lit_8, lit_9, lit_10, lit_11, lit_12, lit_13, lit_14, lit_15, lit_20, lit_24, lit_25, lit_37, lit_40, lit_43, lit_48, lit_49, lit_50, lit_60, lit_96, lit_98, lit_99, lit_100, lit_999, lit_62, lit_74, lit_86, lit_92, lit_99999, lit_100000, lit_16, lit_32767, lit_2147483639, J_add, J_mul, J_sub, J_tn, J_le, J_lt, J_eq, Nat.not_lt_zero, false_or, or_false, le_t, le_f, lt_t, lt_f, eq_f, ↓reduceIte, callK_eq, letB_eq, joinB_eq, Nat.add_assoc]
      exact mr_ev h1 (h1.1 (13 + s) (by omega))
theorem L_where {ct : CT} {P : Nat → Nat → Option Nat} {h : AH} {S S2 : US} {u : RU} {r : Nat → Nat} (c : Core ct P h S S2 u r) (p1 p2 p3 : Int32) : AgW [(1, 1), (2, 2)] S S2 (t1_where S ct P h p1 p2 p3) (s1_where S ct P h p1 p2 p3) (sM_where S2 p1 p2 p3) := by
  have cz := c.z
  have ho6 := c.1.2.2.1
  unfold t1_where s1_where sM_where
  refine Ag_z (Ag_wom c (by decide) (fun s hs e => ?_))
  subst e
  refine Ag_what 1 (by decide) (by decide) (fun w hw e => ?_)
  subst e
  refine Ag_dayE 0 2 (by decide) (by decide) (Or.inr rfl) (fun d _ hd e => ?_)
  subst e
  rcases (show w = 0 ∨ w = 1 by omega) with rfl | rfl
  · refine Ag_ok (J (aftrN u r d (37 + s))) ?_ ?_
    · simp (disch := omega) only [lit_0, lit_1, lit_2, lit_3, lit_4, lit_5, lit_6, lit_7, lit_8, lit_9, lit_10, lit_11, lit_12, lit_13, lit_14, lit_15, lit_20, lit_24, lit_25, lit_37, lit_40, lit_43, lit_48, lit_49, lit_50, lit_60, lit_96, lit_98, lit_99, lit_100, lit_999, lit_62, lit_74, lit_86, lit_92, lit_99999, lit_100000, lit_16, lit_32767, lit_2147483639, J_add, J_mul, J_sub, J_tn, J_le, J_lt, J_eq, Nat.not_lt_zero, false_or, or_false, le_t, le_f, lt_t, lt_f, eq_f, ↓reduceIte, callK_eq, letB_eq, joinB_eq, Nat.add_assoc]
      refine Ev.call (tH_tryOn cz hd) (fun S1 h1 => ?_)
      try simp (disch := omega) only [lit_0, lit_1, lit_2, lit_3, lit_4, lit_5, lit_6, lit_7, lit_8, lit_9, lit_10, lit_11, lit_12, lit_13, lit_14, lit_15, lit_20, lit_24, lit_25, lit_37, lit_40, lit_43, lit_48, lit_49, lit_50, lit_60, lit_96, lit_98, lit_99, lit_100, lit_999, lit_62, lit_74, lit_86, lit_92, lit_99999, lit_100000, lit_16, lit_32767, lit_2147483639, J_add, J_mul, J_sub, J_tn, J_le, J_lt, J_eq, Nat.not_lt_zero, false_or, or_false, le_t, le_f, lt_t, lt_f, eq_f, ↓reduceIte, callK_eq, letB_eq, joinB_eq, Nat.add_assoc]
      exact hr_ev h1 (h1.1.2.2 s (by omega)).1
    · simp (disch := omega) only [lit_0, lit_1, lit_2, lit_3, lit_4, lit_5, lit_6, lit_7, lit_8, lit_9, lit_10, lit_11, lit_12, lit_13, lit_14, lit_15, lit_20, lit_24, lit_25, lit_37, lit_40, lit_43, lit_48, lit_49, lit_50, lit_60, lit_96, lit_98, lit_99, lit_100, lit_999, lit_62, lit_74, lit_86, lit_92, lit_99999, lit_100000, lit_16, lit_32767, lit_2147483639, J_add, J_mul, J_sub, J_tn, J_le, J_lt, J_eq, Nat.not_lt_zero, false_or, or_false, le_t, le_f, lt_t, lt_f, eq_f, ↓reduceIte, callK_eq, letB_eq, joinB_eq, Nat.add_assoc]
      refine Ev.call (tM_goesTo cz hd) (fun S1 h1 => ?_)
      try simp (disch := omega) only [lit_0, lit_1, lit_2, lit_3, lit_4, lit_5, lit_6, lit_7, lit_8, lit_9, lit_10, lit_11, lit_12, lit_13, lit_14, lit_15, lit_20, lit_24, lit_25, lit_37, lit_40, lit_43, lit_48, lit_49, lit_50, lit_60, lit_96, lit_98, lit_99, lit_100, lit_999, lit_62, lit_74, lit_86, lit_92, lit_99999, lit_100000, lit_16, lit_32767, lit_2147483639, J_add, J_mul, J_sub, J_tn, J_le, J_lt, J_eq, Nat.not_lt_zero, false_or, or_false, le_t, le_f, lt_t, lt_f, eq_f, ↓reduceIte, callK_eq, letB_eq, joinB_eq, Nat.add_assoc]
      exact mr_ev h1 (h1.1 (37 + s) (by omega))
  · refine Ag_ok (J (aftrN u r d (43 + s))) ?_ ?_
    · simp (disch := omega) only [lit_0, lit_1, lit_2, lit_3, lit_4, lit_5, lit_6, lit_7, lit_8, lit_9, lit_10, lit_11, lit_12, lit_13, lit_14, lit_15, lit_20, lit_24, lit_25, lit_37, lit_40, lit_43, lit_48, lit_49, lit_50, lit_60, lit_96, lit_98, lit_99, lit_100, lit_999, lit_62, lit_74, lit_86, lit_92, lit_99999, lit_100000, lit_16, lit_32767, lit_2147483639, J_add, J_mul, J_sub, J_tn, J_le, J_lt, J_eq, Nat.not_lt_zero, false_or, or_false, le_t, le_f, lt_t, lt_f, eq_f, ↓reduceIte, callK_eq, letB_eq, joinB_eq, Nat.add_assoc]
      refine Ev.call (tH_tryOn cz hd) (fun S1 h1 => ?_)
      try simp (disch := omega) only [lit_0, lit_1, lit_2, lit_3, lit_4, lit_5, lit_6, lit_7, lit_8, lit_9, lit_10, lit_11, lit_12, lit_13, lit_14, lit_15, lit_20, lit_24, lit_25, lit_37, lit_40, lit_43, lit_48, lit_49, lit_50, lit_60, lit_96, lit_98, lit_99, lit_100, lit_999, lit_62, lit_74, lit_86, lit_92, lit_99999, lit_100000, lit_16, lit_32767, lit_2147483639, J_add, J_mul, J_sub, J_tn, J_le, J_lt, J_eq, Nat.not_lt_zero, false_or, or_false, le_t, le_f, lt_t, lt_f, eq_f, ↓reduceIte, callK_eq, letB_eq, joinB_eq, Nat.add_assoc]
      exact hr_ev h1 (h1.1.2.2 s (by omega)).2
    · simp (disch := omega) only [lit_0, lit_1, lit_2, lit_3, lit_4, lit_5, lit_6, lit_7, lit_8, lit_9, lit_10, lit_11, lit_12, lit_13, lit_14, lit_15, lit_20, lit_24, lit_25, lit_37, lit_40, lit_43, lit_48, lit_49, lit_50, lit_60, lit_96, lit_98, lit_99, lit_100, lit_999, lit_62, lit_74, lit_86, lit_92, lit_99999, lit_100000, lit_16, lit_32767, lit_2147483639, J_add, J_mul, J_sub, J_tn, J_le, J_lt, J_eq, Nat.not_lt_zero, false_or, or_false, le_t, le_f, lt_t, lt_f, eq_f, ↓reduceIte, callK_eq, letB_eq, joinB_eq, Nat.add_assoc]
      refine Ev.call (tM_goesTo cz hd) (fun S1 h1 => ?_)
      try simp (disch := omega) only [lit_0, lit_1, lit_2, lit_3, lit_4, lit_5, lit_6, lit_7, lit_8, lit_9, lit_10, lit_11, lit_12, lit_13, lit_14, lit_15, lit_20, lit_24, lit_25, lit_37, lit_40, lit_43, lit_48, lit_49, lit_50, lit_60, lit_96, lit_98, lit_99, lit_100, lit_999, lit_62, lit_74, lit_86, lit_92, lit_99999, lit_100000, lit_16, lit_32767, lit_2147483639, J_add, J_mul, J_sub, J_tn, J_le, J_lt, J_eq, Nat.not_lt_zero, false_or, or_false, le_t, le_f, lt_t, lt_f, eq_f, ↓reduceIte, callK_eq, letB_eq, joinB_eq, Nat.add_assoc]
      exact mr_ev h1 (h1.1 (43 + s) (by omega))
theorem HR.rul {ct : CT} {P : Nat → Nat → Option Nat} {h : AH} {S S' : US} {u : RU} {r : Nat → Nat} {L : Nat} (H : HR S L r S') (hu : RulH ct P h S u) : RulH ct P h S' u := hu.of H.2.one
theorem MR.rul {S S' : US} {b : Nat} {u : RU} {r : Nat → Nat} (H : MR S b r S') (hu : RulM S u) : RulM S' u := H.2.rul hu
theorem L_later {ct : CT} {P : Nat → Nat → Option Nat} {h : AH} {S S2 : US} {u : RU} {r : Nat → Nat} (c : Core ct P h S S2 u r) (p1 p2 : Int32) : AgW [(1, 1), (2, 2)] S S2 (t1_later S ct P h p1 p2) (s1_later S ct P h p1 p2) (sM_later S2 p1 p2) := by
  have cz := c.z
  have ho := c.1
  have ho3 := c.1.1
  have ho12 := c.1.2.1
  have ho6 := c.1.2.2.1
  have hR := c.2.1
  have hM := cz.2.2.2.2.2.1
  unfold t1_later s1_later sM_later
  refine Ag_z (Ag_what 3 (by decide) (by decide) (fun w hw e => ?_))
  subst e
  refine Ag_dayE 0 2 (by decide) (by decide) (Or.inr rfl) (fun d _ hd e => ?_)
  subst e
  have hR1 := hR.aftr (d := d) ho
  rcases (show w = 0 ∨ w = 1 ∨ w = 2 ∨ w = 3 by omega) with rfl | rfl | rfl | rfl
  · refine Ag_ok (J (openN (aftrN u r d) u.1)) ?_ ?_
    · refine Ev.call (tH_tryOn cz hd) (fun S1 h1 => ?_)
      simp (disch := omega) only [lit_0, lit_1, lit_2, lit_3, lit_4, lit_5, lit_6, lit_7, lit_8, lit_9, lit_10, lit_11, lit_12, lit_13, lit_14, lit_15, lit_20, lit_24, lit_25, lit_37, lit_40, lit_43, lit_48, lit_49, lit_50, lit_60, lit_96, lit_98, lit_99, lit_100, lit_999, lit_62, lit_74, lit_86, lit_92, lit_99999, lit_100000, lit_16, lit_32767, lit_2147483639, J_add, J_mul, J_sub, J_tn, J_le, J_lt, J_eq, Nat.not_lt_zero, false_or, or_false, le_t, le_f, lt_t, lt_f, eq_f, ↓reduceIte, callK_eq, letB_eq, joinB_eq, Nat.add_assoc, tH_open (h1.rul c.2.2.2.1).1 ho12 h1.1 hR1]
      exact hr_ev h1 rfl
    · refine Ev.call (tM_goesTo cz hd) (fun S1 h1 => ?_)
      simp (disch := omega) only [lit_0, lit_1, lit_2, lit_3, lit_4, lit_5, lit_6, lit_7, lit_8, lit_9, lit_10, lit_11, lit_12, lit_13, lit_14, lit_15, lit_20, lit_24, lit_25, lit_37, lit_40, lit_43, lit_48, lit_49, lit_50, lit_60, lit_96, lit_98, lit_99, lit_100, lit_999, lit_62, lit_74, lit_86, lit_92, lit_99999, lit_100000, lit_16, lit_32767, lit_2147483639, J_add, J_mul, J_sub, J_tn, J_le, J_lt, J_eq, Nat.not_lt_zero, false_or, or_false, le_t, le_f, lt_t, lt_f, eq_f, ↓reduceIte, callK_eq, letB_eq, joinB_eq, Nat.add_assoc, tM_openOnes (b := 49) (h1.rul hM).1 ho12 (by decide) h1.1 hR1]
      exact mr_ev h1 rfl
  · refine Ag_ok (J (extN (aftrN u r d) true (u.1 - 1))) ?_ ?_
    · refine Ev.call (tH_tryOn cz hd) (fun S1 h1 => ?_)
      simp (disch := omega) only [lit_0, lit_1, lit_2, lit_3, lit_4, lit_5, lit_6, lit_7, lit_8, lit_9, lit_10, lit_11, lit_12, lit_13, lit_14, lit_15, lit_20, lit_24, lit_25, lit_37, lit_40, lit_43, lit_48, lit_49, lit_50, lit_60, lit_96, lit_98, lit_99, lit_100, lit_999, lit_62, lit_74, lit_86, lit_92, lit_99999, lit_100000, lit_16, lit_32767, lit_2147483639, J_add, J_mul, J_sub, J_tn, J_le, J_lt, J_eq, Nat.not_lt_zero, false_or, or_false, le_t, le_f, lt_t, lt_f, eq_f, ↓reduceIte, callK_eq, letB_eq, joinB_eq, Nat.add_assoc, tH_tightest (h1.rul c.2.2.2.1).1 (by omega) ho12 h1.1 hR1]
      exact hr_ev h1 rfl
    · refine Ev.call (tM_goesTo cz hd) (fun S1 h1 => ?_)
      have e := tM_extreme (b := 49) (most := true) (by decide) (h1.rul hM).1 (by omega) ho12 h1.1 hR1
      rw [bI_t] at e
      simp (disch := omega) only [lit_0, lit_1, lit_2, lit_3, lit_4, lit_5, lit_6, lit_7, lit_8, lit_9, lit_10, lit_11, lit_12, lit_13, lit_14, lit_15, lit_20, lit_24, lit_25, lit_37, lit_40, lit_43, lit_48, lit_49, lit_50, lit_60, lit_96, lit_98, lit_99, lit_100, lit_999, lit_62, lit_74, lit_86, lit_92, lit_99999, lit_100000, lit_16, lit_32767, lit_2147483639, J_add, J_mul, J_sub, J_tn, J_le, J_lt, J_eq, Nat.not_lt_zero, false_or, or_false, le_t, le_f, lt_t, lt_f, eq_f, ↓reduceIte, callK_eq, letB_eq, joinB_eq, Nat.add_assoc, e]
      exact mr_ev h1 rfl
  · have b1 := extN_le (aftrN u r d) true (u.1 - 1)
    have b2 := extN_le (aftrN u r d) false (u.1 - 1)
    refine Ag_ok (J (aftrN u r d (1 + extN (aftrN u r d) true (u.1 - 1))) - J (aftrN u r d (1 + extN (aftrN u r d) false (u.1 - 1)))) ?_ ?_
    · refine Ev.call (tH_tryOn cz hd) (fun S1 h1 => ?_)
      simp (disch := omega) only [callK_eq, gd, lit_0, lit_1, lit_2, J_eq, eq_f, ↓reduceIte, J_tn, J_lt, J_le, le_f, Nat.not_lt_zero, false_or, tH_tightest (h1.rul c.2.2.2.1).1 (by omega) ho12 h1.1 hR1, tH_loosest (h1.rul c.2.2.2.1).1 (by omega) ho12 h1.1 hR1, (h1.1.2.1 (extN (aftrN u r d) true (u.1 - 1)) (by omega)).1, (h1.1.2.1 (extN (aftrN u r d) false (u.1 - 1)) (by omega)).1]
      exact hr_ev h1 rfl
    · refine Ev.call (tM_goesTo cz hd) (fun S1 h1 => ?_)
      have e := tM_extreme (b := 49) (most := true) (by decide) (h1.rul hM).1 (by omega) ho12 h1.1 hR1
      have f := tM_extreme (b := 49) (most := false) (by decide) (h1.rul hM).1 (by omega) ho12 h1.1 hR1
      rw [bI_t] at e
      rw [bI_f] at f
      have q1 : S1 14 (50 + extN (aftrN u r d) true (u.1 - 1)) = _ := mrow_at h1.1 (k := 1 + extN (aftrN u r d) true (u.1 - 1)) (by omega) (by omega)
      have q2 : S1 14 (50 + extN (aftrN u r d) false (u.1 - 1)) = _ := mrow_at h1.1 (k := 1 + extN (aftrN u r d) false (u.1 - 1)) (by omega) (by omega)
      simp (disch := omega) only [callK_eq, gd, lit_0, lit_1, lit_2, lit_49, lit_50, J_add, J_eq, eq_f, ↓reduceIte, J_tn, J_lt, J_le, le_f, Nat.not_lt_zero, false_or, e, f, q1, q2]
      exact mr_ev h1 rfl
  · refine Ag_ok (J (sumN r 43 u.2.1) - J (sumN (aftrN u r d) 43 u.2.1)) ?_ ?_
    · refine Ev.call (tH_tryOn cz hd) (fun S1 h1 => ?_)
      have e1 := tH_allThread (L := 0) (S := S1) c.2.2.2.1 ho ((KeepH.of (by omega) h1.2).row c.2.2.2.2.1) hR
      have e2 := tH_allThread (L := 1) (S := S1) c.2.2.2.1 ho h1.1 hR1
      simp (disch := omega) only [callK_eq, lit_0, lit_1, lit_2, J_eq, eq_f, ↓reduceIte, e1, e2]
      exact hr_ev h1 rfl
    · refine Ev.call (tM_goesTo cz hd) (fun S1 h1 => ?_)
      have q0 : MRow S1 0 r := (KeepM.of h1.2).row cz.2.2.2.2.2.2
      have e1 := tM_sumOf (b := 0) (c := 43) (n := u.2.1) (by decide) q0 (by omega)
      have e2 := tM_sumOf (b := 49) (c := 43) (n := u.2.1) (by decide) h1.1 (by omega)
      have e3 := (h1.rul hM).2.1
      simp (disch := omega) only [callK_eq, lit_0, lit_1, lit_2, lit_43, lit_49, J_eq, eq_f, ↓reduceIte, e1, e2, e3]
      exact mr_ev h1 rfl
/-! days until it opens -/
def opnN (u : RU) (r : Nat → Nat) (s : Nat) : Option Nat := fstN (fun d => gapN (aftrN u r d) s) 60
theorem tH_opensIn {ct : CT} {P : Nat → Nat → Option Nat} {h : AH} {S S' S2 : US} {u : RU} {r : Nat → Nat} {s : Nat} (c : Core ct P h S S2 u r) (hf : HFr S 1 S') (hs : s < u.1) : Ev (s1_opensIn S' ct P h (J s)) (fun o => o.1 = (match opnN u r s with | some d => J d | none => -J 1) ∧ HFr S 1 o.2) := by
  obtain ⟨ho, hR, h9, hH, hr, hM, hm⟩ := c
  have ho12 := ho.2.1
  unfold s1_opensIn
  refine Ev.call (tH_be (S0 := S) (L := 1) hf ((KeepH.of (by omega) hf).row hr) (by decide)) (fun S1 h1 => ?_)
  refine Ev.loop2 (i0 := 0) (fun i x => HR S 1 (aftrN u r i) x ∧ ∀ j, j < i → gapN (aftrN u r j) s = false) 61 ⟨h1.1, fun j hj => absurd hj (Nat.not_lt_zero j)⟩ (by omega) ?_ ?_ (by unfold FUEL; omega)
  · rintro i - hi S3 ⟨h3, h4⟩ rc hrc
    have hR3 := hR.aftr (d := i) ho
    have hv := hR3.1 s (by omega)
    have hd : aftrN u r i 0 < 10000 := by rw [aftrN_0]; omega
    unfold s1_opensIn_L14
    rw [tH_isOpen h3.1 (by omega) (by omega)]
    cases hg : gapN (aftrN u r i) s with
    | true =>
      simp (disch := omega) only [lit_0, lit_1, lit_2, lit_3, lit_4, lit_5, lit_6, lit_7, lit_8, lit_9, lit_10, lit_11, lit_12, lit_13, lit_14, lit_15, lit_20, lit_24, lit_25, lit_37, lit_40, lit_43, lit_48, lit_49, lit_50, lit_60, lit_96, lit_98, lit_99, lit_100, lit_999, lit_62, lit_74, lit_86, lit_92, lit_99999, lit_100000, lit_16, lit_32767, lit_2147483639, J_add, J_mul, J_sub, J_tn, J_le, J_lt, J_eq, Nat.not_lt_zero, false_or, or_false, le_t, le_f, lt_t, lt_f, eq_f, ↓reduceIte, callK_eq, letB_eq, joinB_eq, Nat.add_assoc, bI_t]
      refine ⟨_, rfl, ?_, h3.2⟩
      unfold opnN
      rw [fstN_some (c := fun d => gapN (aftrN u r d) s) (i := i) (by omega) hg h4]
    | false =>
      simp (disch := omega) only [lit_0, lit_1, lit_2, lit_3, lit_4, lit_5, lit_6, lit_7, lit_8, lit_9, lit_10, lit_11, lit_12, lit_13, lit_14, lit_15, lit_20, lit_24, lit_25, lit_37, lit_40, lit_43, lit_48, lit_49, lit_50, lit_60, lit_96, lit_98, lit_99, lit_100, lit_999, lit_62, lit_74, lit_86, lit_92, lit_99999, lit_100000, lit_16, lit_32767, lit_2147483639, J_add, J_mul, J_sub, J_tn, J_le, J_lt, J_eq, Nat.not_lt_zero, false_or, or_false, le_t, le_f, lt_t, lt_f, eq_f, ↓reduceIte, callK_eq, letB_eq, joinB_eq, Nat.add_assoc, bI_f]
      refine Ev.call (tH_pass hH ho h3 hR3 hd) (fun S4 h5 => hrc _ ⟨h5, fun j hj => ?_⟩)
      by_cases e : j = i
      · subst e; exact hg
      · exact h4 j (by omega)
  · rintro S3 ⟨h3, h4⟩ rc
    unfold s1_opensIn_L14
    simp (disch := omega) only [lit_0, lit_1, lit_2, lit_3, lit_4, lit_5, lit_6, lit_7, lit_8, lit_9, lit_10, lit_11, lit_12, lit_13, lit_14, lit_15, lit_20, lit_24, lit_25, lit_37, lit_40, lit_43, lit_48, lit_49, lit_50, lit_60, lit_96, lit_98, lit_99, lit_100, lit_999, lit_62, lit_74, lit_86, lit_92, lit_99999, lit_100000, lit_16, lit_32767, lit_2147483639, J_add, J_mul, J_sub, J_tn, J_le, J_lt, J_eq, Nat.not_lt_zero, false_or, or_false, le_t, le_f, lt_t, lt_f, eq_f, ↓reduceIte, callK_eq, letB_eq, joinB_eq, Nat.add_assoc]
    refine ⟨_, rfl, ?_, h3.2⟩
    unfold opnN
    rw [fstN_none (c := fun d => gapN (aftrN u r d) s) (fun j hj => h4 j (by omega))]
theorem tM_opensIn {ct : CT} {P : Nat → Nat → Option Nat} {h : AH} {S S2 S' : US} {u : RU} {r : Nat → Nat} {s : Nat} (c : Core ct P h S S2 u r) (hf : MFr S2 49 S') (hs : s < u.1) : Ev (sM_opensIn S' (J s)) (fun o => o.1 = (match opnN u r s with | some d => J d | none => J 99999) ∧ MFr S2 49 o.2) := by
  obtain ⟨ho, hR, h9, hH, hr, hM, hm⟩ := c
  have ho12 := ho.2.1
  unfold sM_opensIn
  refine Ev.call (tM_tries (S0 := S2) hf ((KeepM.of hf).row hm)) (fun S1 h1 => ?_)
  refine Ev.loop2 (i0 := 0) (fun i x => MR S2 49 (aftrN u r i) x ∧ ∀ j, j < i → gapN (aftrN u r j) s = false) 61 ⟨h1, fun j hj => absurd hj (Nat.not_lt_zero j)⟩ (by omega) ?_ ?_ (by unfold FUEL; omega)
  · rintro i - hi S3 ⟨h3, h4⟩ rc hrc
    have hR3 := hR.aftr (d := i) ho
    have hv := hR3.1 s (by omega)
    have hd : aftrN u r i 0 < 10000 := by rw [aftrN_0]; omega
    have e := tM_isGap (b := 49) h3.1 (by omega) (show s < 12 by omega) (by omega)
    unfold sM_opensIn_L6
    cases hg : gapN (aftrN u r i) s with
    | true =>
      simp (disch := omega) only [lit_0, lit_1, lit_2, lit_3, lit_4, lit_5, lit_6, lit_7, lit_8, lit_9, lit_10, lit_11, lit_12, lit_13, lit_14, lit_15, lit_20, lit_24, lit_25, lit_37, lit_40, lit_43, lit_48, lit_49, lit_50, lit_60, lit_96, lit_98, lit_99, lit_100, lit_999, lit_62, lit_74, lit_86, lit_92, lit_99999, lit_100000, lit_16, lit_32767, lit_2147483639, J_add, J_mul, J_sub, J_tn, J_le, J_lt, J_eq, Nat.not_lt_zero, false_or, or_false, le_t, le_f, lt_t, lt_f, eq_f, ↓reduceIte, callK_eq, letB_eq, joinB_eq, Nat.add_assoc, e, hg, bI_t]
      refine ⟨_, rfl, ?_, h3.2⟩
      unfold opnN
      rw [fstN_some (c := fun d => gapN (aftrN u r d) s) (i := i) (by omega) hg h4]
    | false =>
      simp (disch := omega) only [lit_0, lit_1, lit_2, lit_3, lit_4, lit_5, lit_6, lit_7, lit_8, lit_9, lit_10, lit_11, lit_12, lit_13, lit_14, lit_15, lit_20, lit_24, lit_25, lit_37, lit_40, lit_43, lit_48, lit_49, lit_50, lit_60, lit_96, lit_98, lit_99, lit_100, lit_999, lit_62, lit_74, lit_86, lit_92, lit_99999, lit_100000, lit_16, lit_32767, lit_2147483639, J_add, J_mul, J_sub, J_tn, J_le, J_lt, J_eq, Nat.not_lt_zero, false_or, or_false, le_t, le_f, lt_t, lt_f, eq_f, ↓reduceIte, callK_eq, letB_eq, joinB_eq, Nat.add_assoc, e, hg, bI_f]
      refine Ev.call (tM_dayGoes hM ho h3 hR3 (by omega) hd) (fun S4 h5 => hrc _ ⟨h5, fun j hj => ?_⟩)
      by_cases e : j = i
      · subst e; exact hg
      · exact h4 j (by omega)
  · rintro S3 ⟨h3, h4⟩ rc
    unfold sM_opensIn_L6
    simp (disch := omega) only [lit_0, lit_1, lit_2, lit_3, lit_4, lit_5, lit_6, lit_7, lit_8, lit_9, lit_10, lit_11, lit_12, lit_13, lit_14, lit_15, lit_20, lit_24, lit_25, lit_37, lit_40, lit_43, lit_48, lit_49, lit_50, lit_60, lit_96, lit_98, lit_99, lit_100, lit_999, lit_62, lit_74, lit_86, lit_92, lit_99999, lit_100000, lit_16, lit_32767, lit_2147483639, J_add, J_mul, J_sub, J_tn, J_le, J_lt, J_eq, Nat.not_lt_zero, false_or, or_false, le_t, le_f, lt_t, lt_f, eq_f, ↓reduceIte, callK_eq, letB_eq, joinB_eq, Nat.add_assoc]
    refine ⟨_, rfl, ?_, h3.2⟩
    unfold opnN
    rw [fstN_none (c := fun d => gapN (aftrN u r d) s) (fun j hj => h4 j (by omega))]
theorem mfr_ev {S S' : US} {v v' : Int32} (h : MFr (Z0 S) 49 S') (hv : v = v') : Ev (some (v, S')) (fun o => o.1 = v' ∧ o.2 0 0 = J 0 ∧ KeepM S o.2) := ⟨_, rfl, hv, (by show S' 0 0 = J 0; rw [h.1 0 (by decide) (by decide) (by decide) (by decide)]; exact Z0_0), Z0_k.tr (KeepM.of h)⟩
theorem hfr_ev {S S' : US} {v v' : Int32} (h : HFr S 1 S') (hv : v = v') : Ev (some (v, S')) (fun o => o.1 = v' ∧ KeepH S o.2) := ⟨_, rfl, hv, KeepH.of (by omega) h⟩
theorem L_opens {ct : CT} {P : Nat → Nat → Option Nat} {h : AH} {S S2 : US} {u : RU} {r : Nat → Nat} (c : Core ct P h S S2 u r) (p1 : Int32) : AgW [(1, 1)] S S2 (t1_opens S ct P h p1) (s1_opens S ct P h p1) (sM_opens S2 p1) := by
  have cz := c.z
  unfold t1_opens s1_opens sM_opens
  refine Ag_z (Ag_strE c (by decide) (fun s hs e => ?_))
  subst e
  cases ho : opnN u r s with
  | none =>
    refine Ag_ok (-J 1) ?_ ?_
    · refine Ev.call (tH_opensIn cz HFr.rf hs) (fun o h1 => ?_)
      rw [ho] at h1
      exact hfr_ev h1.2 h1.1
    · refine Ev.call (tM_opensIn cz MFr.rf hs) (fun o h1 => ?_)
      rw [ho] at h1
      rw [h1.1]
      simp (disch := omega) only [lit_0, lit_1, lit_2, lit_3, lit_4, lit_5, lit_6, lit_7, lit_8, lit_9, lit_10, lit_11, lit_12, lit_13, lit_14, lit_15, lit_20, lit_24, lit_25, lit_37, lit_40, lit_43, lit_48, lit_49, lit_50, lit_60, lit_96, lit_98, lit_99, lit_100, lit_999, lit_62, lit_74, lit_86, lit_92, lit_99999, lit_100000, lit_16, lit_32767, lit_2147483639, J_add, J_mul, J_sub, J_tn, J_le, J_lt, J_eq, Nat.not_lt_zero, false_or, or_false, le_t, le_f, lt_t, lt_f, eq_f, ↓reduceIte, callK_eq, letB_eq, joinB_eq, Nat.add_assoc]
      exact mfr_ev h1.2 rfl
  | some d =>
    have := fstN_le ho
    refine Ag_ok (J d) ?_ ?_
    · refine Ev.call (tH_opensIn cz HFr.rf hs) (fun o h1 => ?_)
      rw [ho] at h1
      exact hfr_ev h1.2 h1.1
    · refine Ev.call (tM_opensIn cz MFr.rf hs) (fun o h1 => ?_)
      rw [ho] at h1
      rw [h1.1]
      simp (disch := omega) only [lit_0, lit_1, lit_2, lit_3, lit_4, lit_5, lit_6, lit_7, lit_8, lit_9, lit_10, lit_11, lit_12, lit_13, lit_14, lit_15, lit_20, lit_24, lit_25, lit_37, lit_40, lit_43, lit_48, lit_49, lit_50, lit_60, lit_96, lit_98, lit_99, lit_100, lit_999, lit_62, lit_74, lit_86, lit_92, lit_99999, lit_100000, lit_16, lit_32767, lit_2147483639, J_add, J_mul, J_sub, J_tn, J_le, J_lt, J_eq, Nat.not_lt_zero, false_or, or_false, le_t, le_f, lt_t, lt_f, eq_f, ↓reduceIte, callK_eq, letB_eq, joinB_eq, Nat.add_assoc]
      exact mfr_ev h1.2 rfl
