set_option maxRecDepth 100000
/-! THE PLAIN LAW, 22: acts, on both sides -/
/-! checks of arguments ahead of whatever both do -/
def AgR {α : Type} (ks : List (Nat × Nat)) (S2 : US) (R : Option α → Option (Int32 × US) → Prop) (t : Option Int32) (s : Option α) (m : Option (Int32 × US)) : Prop :=
  (∃ a b, (a, b) ∈ ks ∧ t = some (J a) ∧ Ev m (fun o => o.2 0 0 = J b ∧ KeepM S2 o.2)) ∨ (t = none ∧ R s m)
section AGR
variable {α : Type} {ks : List (Nat × Nat)} {R : Option α → Option (Int32 × US) → Prop} {ct : CT} {P : Nat → Nat → Option Nat} {h : AH} {S S2 : US} {u : RU} {r : Nat → Nat} {p : Int32}
theorem Ar_z {t : Option Int32} {s : Option α} {k : US → Option (Int32 × US)} (H : AgR ks S2 R t s (k (Z0 S2))) : AgR ks S2 R t s (letB (u2 S2 0 0 (0 : Int32)) k) := H
theorem Ar_str (c : Core ct P h S S2 u r) (hk : (1, 1) ∈ ks) {T : Unit → Option Int32} {Sx : Unit → Option α} {Mx : Bool × US → Option (Int32 × US)} (H : ∀ s, s < u.1 → p = J s → AgR ks S2 R (T ()) (Sx ()) (Mx (true, Z0 S2))) :
    AgR ks S2 R (tB (t1_aStretch S ct P h p) (callK (s1_aStretch S p) T)) (callK (s1_aStretch S p) Sx) (callK (sM_isStretch (Z0 S2) p) (fun o => if bI o.1 = 0 then some (0, o.2) else Mx o)) := by
  have cz := c.z
  have a1 := tH_aStretch (ct := ct) (P := P) (h := h) (p := p) c.2.2.2.1.1 (by have := c.1.1; omega)
  rw [a1.1, a1.2, tM_isStretch (p := p) Z0_0 cz.2.2.2.2.2.1.1 (by have := c.1.1; omega) c.1.2.1]
  cases c1 : inN p 0 (u.1 - 1) with
  | false => exact Or.inl ⟨1, 1, hk, rfl, ev_thr⟩
  | true =>
    obtain ⟨s, -, hs, hp⟩ := J_of (by omega) (by have := c.1.2.1; omega) c1
    exact H s (by have := c.1.1; omega) hp
/-- .. at the end of what may throw -/
theorem Ar_strE (c : Core ct P h S S2 u r) (hk : (1, 1) ∈ ks) {Sx : Unit → Option α} {Mx : Bool × US → Option (Int32 × US)} (H : ∀ s, s < u.1 → p = J s → AgR ks S2 R none (Sx ()) (Mx (true, Z0 S2))) :
    AgR ks S2 R (t1_aStretch S ct P h p) (callK (s1_aStretch S p) Sx) (callK (sM_isStretch (Z0 S2) p) (fun o => if bI o.1 = 0 then some (0, o.2) else Mx o)) := by
  have cz := c.z
  have a1 := tH_aStretch (ct := ct) (P := P) (h := h) (p := p) c.2.2.2.1.1 (by have := c.1.1; omega)
  rw [a1.1, a1.2, tM_isStretch (p := p) Z0_0 cz.2.2.2.2.2.1.1 (by have := c.1.1; omega) c.1.2.1]
  cases c1 : inN p 0 (u.1 - 1) with
  | false => exact Or.inl ⟨1, 1, hk, rfl, ev_thr⟩
  | true =>
    obtain ⟨s, -, hs, hp⟩ := J_of (by omega) (by have := c.1.2.1; omega) c1
    exact H s (by have := c.1.1; omega) hp
theorem Ar_wom (c : Core ct P h S S2 u r) (hk : (1, 1) ∈ ks) {T : Unit → Option Int32} {Sx : Unit → Option α} {Mx : Bool × US → Option (Int32 × US)} (H : ∀ w, w < u.2.1 → p = J w → AgR ks S2 R (T ()) (Sx ()) (Mx (true, Z0 S2))) :
    AgR ks S2 R (tB (t1_aWoman S ct P h p) (callK (s1_aWoman S P h p) T)) (callK (s1_aWoman S P h p) Sx) (callK (sM_isWoman (Z0 S2) p) (fun o => if bI o.1 = 0 then some (0, o.2) else Mx o)) := by
  have cz := c.z
  have a1 := tH_aWoman (p := p) c.2.2.2.1 c.1.2.2.1
  rw [a1.1, a1.2, tM_isWoman (p := p) Z0_0 cz.2.2.2.2.2.1.2.1 c.1.2.2.1]
  cases c1 : (decide (0 < u.2.1) && inN p 0 (u.2.1 - 1)) with
  | false => exact Or.inl ⟨1, 1, hk, rfl, ev_thr⟩
  | true =>
    rw [Bool.and_eq_true, decide_eq_true_eq] at c1
    obtain ⟨s, -, hs, hp⟩ := J_of (by omega) (by have := c.1.2.2.1; omega) c1.2
    exact H s (by have := c1.1; omega) hp
theorem Ar_womE (c : Core ct P h S S2 u r) (hk : (1, 1) ∈ ks) {Sx : Unit → Option α} {Mx : Bool × US → Option (Int32 × US)} (H : ∀ w, w < u.2.1 → p = J w → AgR ks S2 R none (Sx ()) (Mx (true, Z0 S2))) :
    AgR ks S2 R (t1_aWoman S ct P h p) (callK (s1_aWoman S P h p) Sx) (callK (sM_isWoman (Z0 S2) p) (fun o => if bI o.1 = 0 then some (0, o.2) else Mx o)) := by
  have cz := c.z
  have a1 := tH_aWoman (p := p) c.2.2.2.1 c.1.2.2.1
  rw [a1.1, a1.2, tM_isWoman (p := p) Z0_0 cz.2.2.2.2.2.1.2.1 c.1.2.2.1]
  cases c1 : (decide (0 < u.2.1) && inN p 0 (u.2.1 - 1)) with
  | false => exact Or.inl ⟨1, 1, hk, rfl, ev_thr⟩
  | true =>
    rw [Bool.and_eq_true, decide_eq_true_eq] at c1
    obtain ⟨s, -, hs, hp⟩ := J_of (by omega) (by have := c.1.2.2.1; omega) c1.2
    exact H s (by have := c1.1; omega) hp
theorem Ar_what (b : Nat) (hb : b < 1000) (hk : (1, 1) ∈ ks) {T : Unit → Option Int32} {Sx : Unit → Option α} {Mx : Bool × US → Option (Int32 × US)} (H : ∀ w, w ≤ b → p = J w → AgR ks S2 R (T ()) (Sx ()) (Mx (true, Z0 S2))) :
    AgR ks S2 R (tB (t1_oneOf p (J b)) (callK (s1_oneOf p (J b)) T)) (callK (s1_oneOf p (J b)) Sx) (callK (sM_isWhat (Z0 S2) p (J b)) (fun o => if bI o.1 = 0 then some (0, o.2) else Mx o)) := by
  have a1 := tH_oneOf (p := p) (b := b)
  rw [a1.1, a1.2, tM_isWhat (p := p) Z0_0]
  cases c1 : inN p 0 b with
  | false => exact Or.inl ⟨1, 1, hk, rfl, ev_thr⟩
  | true =>
    obtain ⟨s, -, hs, hp⟩ := J_of (by omega) (by omega) c1
    exact H s hs hp
theorem Ar_whatE (b : Nat) (hb : b < 1000) (hk : (1, 1) ∈ ks) {Sx : Unit → Option α} {Mx : Bool × US → Option (Int32 × US)} (H : ∀ w, w ≤ b → p = J w → AgR ks S2 R none (Sx ()) (Mx (true, Z0 S2))) :
    AgR ks S2 R (t1_oneOf p (J b)) (callK (s1_oneOf p (J b)) Sx) (callK (sM_isWhat (Z0 S2) p (J b)) (fun o => if bI o.1 = 0 then some (0, o.2) else Mx o)) := by
  have a1 := tH_oneOf (p := p) (b := b)
  rw [a1.1, a1.2, tM_isWhat (p := p) Z0_0]
  cases c1 : inN p 0 b with
  | false => exact Or.inl ⟨1, 1, hk, rfl, ev_thr⟩
  | true =>
    obtain ⟨s, -, hs, hp⟩ := J_of (by omega) (by omega) c1
    exact H s hs hp
/-- bounds that throw 2 there, some kind here: the last of what may throw -/
theorem Ar_rgtE (a b k : Nat) (ha : a < 1000) (hb : b < 2147483648) (hk : (2, k) ∈ ks) (hk2 : k = 1 ∨ k = 2) {Sx : Unit → Option α} {Mx : Bool × US → Option (Int32 × US)} (H : ∀ d, a ≤ d → d ≤ b → p = J d → AgR ks S2 R none (Sx ()) (Mx (true, Z0 S2))) :
    AgR ks S2 R (callK (s1_in p (J a) (J b)) (fun o => t1_right (bI o))) (callK (s1_in p (J a) (J b)) (fun o => callK (s1_right (bI o)) Sx)) (callK (sM_within p (J a) (J b)) (fun o1 => callK (sM_right (Z0 S2) (bI o1) (J k)) (fun o => if bI o.1 = 0 then some (0, o.2) else Mx o))) := by
  rw [tH_in, tM_within]
  cases c1 : inN p a b with
  | false =>
    refine Or.inl ⟨2, k, hk, rfl, ?_⟩
    show Ev (callK (sM_right (Z0 S2) (bI false) (J k)) _) _
    rw [tM_right Z0_0 hk2]
    exact ev_thr
  | true =>
    obtain ⟨s, h1, hs, hp⟩ := J_of (by omega) (by omega) c1
    show AgR ks S2 R none (Sx ()) (callK (sM_right (Z0 S2) (bI true) (J k)) _)
    rw [tM_right Z0_0 hk2]
    exact H s h1 hs hp
theorem Ar_dayE (a k : Nat) (ha : a < 1000) (hk : (2, k) ∈ ks) (hk2 : k = 1 ∨ k = 2) {Sx : Unit → Option α} {Mx : Bool × US → Option (Int32 × US)} (H : ∀ d, a ≤ d → d ≤ 60 → p = J d → AgR ks S2 R none (Sx ()) (Mx (true, Z0 S2))) :
    AgR ks S2 R (callK (s1_in p (J a) (J 60)) (fun o => t1_right (bI o))) (callK (s1_in p (J a) (J 60)) (fun o => callK (s1_right (bI o)) Sx)) (callK (sM_isDays (Z0 S2) p (J a) (J k)) (fun o => if bI o.1 = 0 then some (0, o.2) else Mx o)) := by
  rw [tH_in, tM_isDays Z0_0 hk2]
  cases c1 : inN p a 60 with
  | false => exact Or.inl ⟨2, k, hk, rfl, ev_thr⟩
  | true =>
    obtain ⟨s, h1, hs, hp⟩ := J_of (by omega) (by omega) c1
    exact H s h1 hs hp
theorem Ar_ok {s : Option α} {m : Option (Int32 × US)} (h : R s m) : AgR ks S2 R none s m := Or.inr ⟨rfl, h⟩
end AGR

/-- what an act comes to -/
def RA (ct : CT) (a0 q0 j : Nat) (P : Nat → Nat → Option Nat) (ad : Nat → Nat) (s : Option (Int32 × US × GS)) (m : Option (Int32 × US)) : Prop := ∃ os om, s = some os ∧ m = some om ∧ os.1 = om.1 ∧ om.2 0 0 = J 0 ∧ Inv ct a0 q0 j os.2.1 os.2.2 P ad om.2
theorem InvD.nx {ct : CT} {a0 q0 j : Nat} {S : US} {G : GS} {P : Nat → Nat → Option Nat} {ad : Nat → Nat} {S2 : US} {u : RU} {r : Nat → Nat} {q1 e1 c1 : Nat} {f1 : Nat → Option Nat} {R1 : Nat → Nat → Nat} {q2 e2 c2 : Nat} {f2 : Nat → Option Nat} {sn : Nat → Nat} {t : Nat} (H : InvD ct a0 q0 j S G P ad S2 u r q1 e1 c1 f1 R1 q2 e2 c2 f2 sn t) : InvD ct a0 q0 (j + 1) S G P ad S2 u r q1 e1 c1 f1 R1 q2 e2 c2 f2 sn t := H.look (c := 0) (z := 0) KeepH.rf KeepM.rf Gr.rf (by omega) (by omega) H.1.2.2.2.1
theorem tH_ref {S : US} {k : Nat} (hk : k < 3) : s1_refuse S (J k) = some (-J 1, u2 S 4 k (S 4 k + J 1)) := by
  unfold s1_refuse
  simp (disch := omega) only [lit_0, lit_1, lit_2, lit_3, lit_4, lit_5, lit_6, lit_7, lit_8, lit_9, lit_10, lit_11, lit_12, lit_13, lit_14, lit_15, lit_20, lit_24, lit_25, lit_37, lit_40, lit_43, lit_48, lit_49, lit_50, lit_60, lit_96, lit_98, lit_99, lit_100, lit_999, lit_62, lit_74, lit_86, lit_92, lit_99999, lit_100000, lit_16, lit_32767, lit_2147483639, J_add, J_mul, J_sub, J_tn, J_le, J_lt, J_eq, Nat.not_lt_zero, false_or, or_false, le_t, le_f, lt_t, lt_f, eq_f, ↓reduceIte, callK_eq, letB_eq, joinB_eq, Nat.add_assoc]
theorem tM_ref {S : US} {k : Nat} (hk : k < 3) : sM_refuses S (J k) = some (-J 1, u2 S 6 k (S 6 k + J 1)) := by
  unfold sM_refuses
  simp (disch := omega) only [lit_0, lit_1, lit_2, lit_3, lit_4, lit_5, lit_6, lit_7, lit_8, lit_9, lit_10, lit_11, lit_12, lit_13, lit_14, lit_15, lit_20, lit_24, lit_25, lit_37, lit_40, lit_43, lit_48, lit_49, lit_50, lit_60, lit_96, lit_98, lit_99, lit_100, lit_999, lit_62, lit_74, lit_86, lit_92, lit_99999, lit_100000, lit_16, lit_32767, lit_2147483639, J_add, J_mul, J_sub, J_tn, J_le, J_lt, J_eq, Nat.not_lt_zero, false_or, or_false, le_t, le_f, lt_t, lt_f, eq_f, ↓reduceIte, callK_eq, letB_eq, joinB_eq, Nat.add_assoc]
theorem RA_ref {ct : CT} {a0 q0 j k : Nat} {S : US} {G : GS} {P : Nat → Nat → Option Nat} {ad : Nat → Nat} {S2 : US} {u : RU} {r : Nat → Nat} {q1 e1 c1 : Nat} {f1 : Nat → Option Nat} {R1 : Nat → Nat → Nat} {q2 e2 c2 : Nat} {f2 : Nat → Option Nat} {sn : Nat → Nat} {t : Nat} (H : InvD ct a0 q0 j S G P ad S2 u r q1 e1 c1 f1 R1 q2 e2 c2 f2 sn t) (hk : k < 3) (h0 : S2 0 0 = J 0) : RA ct a0 q0 (j + 1) P ad (callK (s1_refuse S (J k)) (fun o => some (o.1, o.2, G))) (callK (sM_refuses S2 (J k)) (fun o => some (o.1, o.2))) := by
  rw [tH_ref hk, tM_ref hk]
  exact ⟨_, _, rfl, rfl, rfl, (by show u2 S2 6 k (S2 6 k + J 1) 0 0 = J 0; rw [u2_row' (by decide)]; exact h0), _, _, _, _, _, _, _, _, _, _, _, _, _, (H.ref hk).nx⟩
theorem RA_keep {ct : CT} {a0 q0 j : Nat} {S : US} {G : GS} {P : Nat → Nat → Option Nat} {ad : Nat → Nat} {S2 : US} {u : RU} {r : Nat → Nat} {q1 e1 c1 : Nat} {f1 : Nat → Option Nat} {R1 : Nat → Nat → Nat} {q2 e2 c2 : Nat} {f2 : Nat → Option Nat} {sn : Nat → Nat} {t : Nat} (hj : j < 24) (H : InvD ct a0 q0 j S G P ad S2 u r q1 e1 c1 f1 R1 q2 e2 c2 f2 sn t) (h0 : S2 0 0 = J 0) {ks : GS → Option (Int32 × US × GS)} {km : US → Option (Int32 × US)} (h : ∀ G' S2', Core ct P G'.1 S S2' u r → S2' 0 0 = J 0 → ∃ v r', Ev (ks G') (fun os => os.1 = v ∧ os.2.2 = G' ∧ HR S 0 r' os.2.1) ∧ Ev (km S2') (fun om => om.1 = v ∧ MR S2' 0 r' om.2) ∧ ROk u.1 u.2.1 r' ∧ r' 0 ≤ 999) : RA ct a0 q0 (j + 1) P ad (callK (s1_keep ct ad P S G) ks) (callK (sM_keeps S2) km) := by
  obtain ⟨G', S2', k1, k2, k3, e1', f1', R1', H'⟩ := H.kept hj
  have h00 : S2' 0 0 = J 0 := k3.trans h0
  obtain ⟨v, r', ⟨os, o1, o2, o3, o4⟩, ⟨om, m1, m2, m3⟩, hR, hd⟩ := h G' S2' H'.core h00
  rw [k1, k2]
  refine ⟨os, om, o1, m1, o2.trans m2.symm, ?_, ?_⟩
  · rw [m3.2.1 0 (by decide) (by decide) (by decide) (by decide)]; exact h00
  · rw [o3]
    exact ⟨_, _, _, _, _, _, _, _, _, _, _, _, _, H'.row o4 m3 hR hd⟩
theorem RA_days {ct : CT} {a0 q0 j : Nat} {S : US} {G : GS} {P : Nat → Nat → Option Nat} {ad : Nat → Nat} {S2 : US} {u : RU} {r : Nat → Nat} {q1 e1 c1 : Nat} {f1 : Nat → Option Nat} {R1 : Nat → Nat → Nat} {q2 e2 c2 : Nat} {f2 : Nat → Option Nat} {sn : Nat → Nat} {t : Nat} (hj : j < 24) (H : InvD ct a0 q0 j S G P ad S2 u r q1 e1 c1 f1 R1 q2 e2 c2 f2 sn t) (p : Int32) : RA ct a0 q0 (j + 1) P ad (s1_days ct ad P S G p) (sM_days S2 p) := by
  have Hz := H.z
  have hC := Hz.core
  have h9 := hC.2.2.1
  have hr0 : S (lc 0 0) 6 = J (r 0) := hC.2.2.2.2.1.1
  have hm0 : Z0 S2 14 0 = J (r 0) := mrow_0 hC.2.2.2.2.2.2 (by omega)
  have e1 := tH_in (p := p) (a := 1) (b := 20)
  have e2 := tM_within (p := p) (a := 1) (b := 20)
  unfold s1_days sM_days
  rw [letB_eq]
  show RA _ _ _ _ _ _ _ (callK (sM_within p 1 20) (fun o2 => if bI o2 = 0 then callK (sM_refuses (Z0 S2) 1) (fun o3 => some (o3.1, o3.2)) else if (0 : Int32) < 0 ∨ 98 ≤ (0 : Int32).toNatClampNeg then none else (if Z0 S2 14 (0 : Int32).toNatClampNeg + p ≤ 999 then callK (sM_keeps (Z0 S2)) (fun o4 => loopK (fun rc (x : (US × Int32)) => sM_days_L41 p rc x.1 x.2) FUEL (o4, (0 : Int32))) else callK (sM_refuses (Z0 S2) 1) (fun o9 => some (o9.1, o9.2)))))
  simp (disch := omega) only [lit_0, lit_1, lit_2, lit_3, lit_4, lit_5, lit_6, lit_7, lit_8, lit_9, lit_10, lit_11, lit_12, lit_13, lit_14, lit_15, lit_20, lit_24, lit_25, lit_37, lit_40, lit_43, lit_48, lit_49, lit_50, lit_60, lit_96, lit_98, lit_99, lit_100, lit_999, lit_62, lit_74, lit_86, lit_92, lit_99999, lit_100000, lit_16, lit_32767, lit_2147483639, J_add, J_mul, J_sub, J_tn, J_le, J_lt, J_eq, Nat.not_lt_zero, false_or, or_false, le_t, le_f, lt_t, lt_f, eq_f, ↓reduceIte, callK_eq, letB_eq, joinB_eq, Nat.add_assoc, e1, e2, hr0, hm0]
  cases c1 : inN p 1 20 with
  | false =>
    simp (disch := omega) only [lit_0, lit_1, lit_2, lit_3, lit_4, lit_5, lit_6, lit_7, lit_8, lit_9, lit_10, lit_11, lit_12, lit_13, lit_14, lit_15, lit_20, lit_24, lit_25, lit_37, lit_40, lit_43, lit_48, lit_49, lit_50, lit_60, lit_96, lit_98, lit_99, lit_100, lit_999, lit_62, lit_74, lit_86, lit_92, lit_99999, lit_100000, lit_16, lit_32767, lit_2147483639, J_add, J_mul, J_sub, J_tn, J_le, J_lt, J_eq, Nat.not_lt_zero, false_or, or_false, le_t, le_f, lt_t, lt_f, eq_f, ↓reduceIte, callK_eq, letB_eq, joinB_eq, Nat.add_assoc, bI_f]
    exact RA_ref Hz (by omega) Z0_0
  | true =>
    obtain ⟨d, d1, d2, rfl⟩ := J_of (by omega) (by omega) c1
    simp (disch := omega) only [lit_0, lit_1, lit_2, lit_3, lit_4, lit_5, lit_6, lit_7, lit_8, lit_9, lit_10, lit_11, lit_12, lit_13, lit_14, lit_15, lit_20, lit_24, lit_25, lit_37, lit_40, lit_43, lit_48, lit_49, lit_50, lit_60, lit_96, lit_98, lit_99, lit_100, lit_999, lit_62, lit_74, lit_86, lit_92, lit_99999, lit_100000, lit_16, lit_32767, lit_2147483639, J_add, J_mul, J_sub, J_tn, J_le, J_lt, J_eq, Nat.not_lt_zero, false_or, or_false, le_t, le_f, lt_t, lt_f, eq_f, ↓reduceIte, callK_eq, letB_eq, joinB_eq, Nat.add_assoc, bI_t]
    by_cases c2 : r 0 + d ≤ 999
    · rw [if_pos c2, if_pos c2]
      refine RA_keep hj Hz Z0_0 (fun G' S2' C' h00 => ⟨J (r 0 + d), aftrN u r d, ?_, ?_, C'.2.1.aftr C'.1, by rw [aftrN_0]; exact c2⟩)
      · refine Ev.call (tH_aftr (S0 := S) C'.2.2.2.1 C'.1 ⟨C'.2.2.2.2.1, HFr.rf⟩ C'.2.1 (by omega) (by omega)) (fun S3 h3 => ⟨_, rfl, ?_, rfl, h3⟩)
        show S3 (lc 0 0) 6 = _
        rw [h3.1.1, aftrN_0]
      · refine Ev.loop2 (i0 := 0) (fun i x => MR S2' 0 (aftrN u r i) x) d ⟨C'.2.2.2.2.2.2, MFr.rf⟩ (by omega) ?_ ?_ (by unfold FUEL; omega)
        · rintro i - hi S3 h3 rc hrc
          unfold sM_days_L41
          simp (disch := omega) only [lit_0, lit_1, lit_2, lit_3, lit_4, lit_5, lit_6, lit_7, lit_8, lit_9, lit_10, lit_11, lit_12, lit_13, lit_14, lit_15, lit_20, lit_24, lit_25, lit_37, lit_40, lit_43, lit_48, lit_49, lit_50, lit_60, lit_96, lit_98, lit_99, lit_100, lit_999, lit_62, lit_74, lit_86, lit_92, lit_99999, lit_100000, lit_16, lit_32767, lit_2147483639, J_add, J_mul, J_sub, J_tn, J_le, J_lt, J_eq, Nat.not_lt_zero, false_or, or_false, le_t, le_f, lt_t, lt_f, eq_f, ↓reduceIte, callK_eq, letB_eq, joinB_eq, Nat.add_assoc]
          exact Ev.call (tM_dayGoes C'.2.2.2.2.2.1 C'.1 h3 (C'.2.1.aftr C'.1) (by omega) (by rw [aftrN_0]; omega)) (fun S4 h4 => hrc _ h4)
        · rintro S3 h3 rc
          have h30 := mrow_0 (k := 0) h3.1 (by omega)
          rw [aftrN_0] at h30
          unfold sM_days_L41
          simp (disch := omega) only [lit_0, lit_1, lit_2, lit_3, lit_4, lit_5, lit_6, lit_7, lit_8, lit_9, lit_10, lit_11, lit_12, lit_13, lit_14, lit_15, lit_20, lit_24, lit_25, lit_37, lit_40, lit_43, lit_48, lit_49, lit_50, lit_60, lit_96, lit_98, lit_99, lit_100, lit_999, lit_62, lit_74, lit_86, lit_92, lit_99999, lit_100000, lit_16, lit_32767, lit_2147483639, J_add, J_mul, J_sub, J_tn, J_le, J_lt, J_eq, Nat.not_lt_zero, false_or, or_false, le_t, le_f, lt_t, lt_f, eq_f, ↓reduceIte, callK_eq, letB_eq, joinB_eq, Nat.add_assoc, h30]
          exact ⟨_, rfl, rfl, h3⟩
    · rw [if_neg c2, if_neg c2]
      exact RA_ref Hz (by omega) Z0_0
abbrev AgA (ct : CT) (a0 q0 j : Nat) (P : Nat → Nat → Option Nat) (ad : Nat → Nat) (S2 : US) := AgR [(1, 1)] S2 (RA ct a0 q0 (j + 1) P ad)
theorem A_mend {ct : CT} {a0 q0 j : Nat} {S : US} {G : GS} {P : Nat → Nat → Option Nat} {ad : Nat → Nat} {S2 : US} {u : RU} {r : Nat → Nat} {q1 e1 c1 : Nat} {f1 : Nat → Option Nat} {R1 : Nat → Nat → Nat} {q2 e2 c2 : Nat} {f2 : Nat → Option Nat} {sn : Nat → Nat} {t : Nat} (hj : j < 24) (H : InvD ct a0 q0 j S G P ad S2 u r q1 e1 c1 f1 R1 q2 e2 c2 f2 sn t) (p1 : Int32) : AgA ct a0 q0 j P ad S2 (t1_mend S ct P G.1 p1) (s1_mend ct ad P S G p1) (sM_mend S2 p1) := by
  have Hz := H.z
  have hC := H.core
  have hZ := Hz.core
  have ho12 := hC.1.2.1
  have ho3 := hC.1.1
  have ho6 := hC.1.2.2.1
  have h9 := hC.2.2.1
  unfold t1_mend s1_mend sM_mend
  refine Ar_z (Ar_womE hC (by decide) (fun w hw e => Ar_ok ?_))
  subst e
  have r1 := (hC.2.2.2.2.1.2.2 w (by omega)).2
  have r2 := mrow_0 (k := 43 + w) hZ.2.2.2.2.2.2 (by omega)
  have r3 := (hC.2.1.2.1 w (by omega)).1
  by_cases c0 : r (43 + w) = 0
  · simp (disch := omega) only [lit_0, lit_1, lit_2, lit_3, lit_4, lit_5, lit_6, lit_7, lit_8, lit_9, lit_10, lit_11, lit_12, lit_13, lit_14, lit_15, lit_20, lit_24, lit_25, lit_37, lit_40, lit_43, lit_48, lit_49, lit_50, lit_60, lit_96, lit_98, lit_99, lit_100, lit_999, lit_62, lit_74, lit_86, lit_92, lit_99999, lit_100000, lit_16, lit_32767, lit_2147483639, J_add, J_mul, J_sub, J_tn, J_le, J_lt, J_eq, Nat.not_lt_zero, false_or, or_false, le_t, le_f, lt_t, lt_f, eq_f, ↓reduceIte, callK_eq, letB_eq, joinB_eq, Nat.add_assoc, r1, r2, c0]
    exact RA_ref Hz (by omega) Z0_0
  · simp (disch := omega) only [lit_0, lit_1, lit_2, lit_3, lit_4, lit_5, lit_6, lit_7, lit_8, lit_9, lit_10, lit_11, lit_12, lit_13, lit_14, lit_15, lit_20, lit_24, lit_25, lit_37, lit_40, lit_43, lit_48, lit_49, lit_50, lit_60, lit_96, lit_98, lit_99, lit_100, lit_999, lit_62, lit_74, lit_86, lit_92, lit_99999, lit_100000, lit_16, lit_32767, lit_2147483639, J_add, J_mul, J_sub, J_tn, J_le, J_lt, J_eq, Nat.not_lt_zero, false_or, or_false, le_t, le_f, lt_t, lt_f, eq_f, ↓reduceIte, callK_eq, letB_eq, joinB_eq, Nat.add_assoc, r1, r2]
    refine RA_keep hj Hz Z0_0 (fun G' S2' C' h00 => ⟨J (mendN u.2.2.2.1 r w (13 + r (37 + w))), mendN u.2.2.2.1 r w, ?_, ?_, C'.2.1.mend C'.1.2.1 C'.1.2.2.1 hw, by rw [mend_0]; exact h9⟩)
    · refine Ev.call (tH_mend C'.2.2.2.1 C'.1 ⟨C'.2.2.2.2.1, HFr.rf⟩ C'.2.1 hw) (fun S3 h3 => ?_)
      have hw2 := C'.2.1.2.2 w hw
      have k1 := (h3.1.2.2 w (by omega)).1
      have k0 : mendN u.2.2.2.1 r w (37 + w) = r (37 + w) := by
        unfold mendN
        rw [if_neg c0, upN_off (by omega), upN_off (by omega)]
      rw [k0] at k1
      have k2 := (h3.1.2.1 (r (37 + w)) (by omega)).2.1
      simp (disch := omega) only [lit_0, lit_1, lit_2, lit_3, lit_4, lit_5, lit_6, lit_7, lit_8, lit_9, lit_10, lit_11, lit_12, lit_13, lit_14, lit_15, lit_20, lit_24, lit_25, lit_37, lit_40, lit_43, lit_48, lit_49, lit_50, lit_60, lit_96, lit_98, lit_99, lit_100, lit_999, lit_62, lit_74, lit_86, lit_92, lit_99999, lit_100000, lit_16, lit_32767, lit_2147483639, J_add, J_mul, J_sub, J_tn, J_le, J_lt, J_eq, Nat.not_lt_zero, false_or, or_false, le_t, le_f, lt_t, lt_f, eq_f, ↓reduceIte, callK_eq, letB_eq, joinB_eq, Nat.add_assoc, k1, k2]
      exact ⟨_, rfl, rfl, rfl, h3⟩
    · refine Ev.call (tM_mends (b := 0) (sk := u.2.2.2.1) C'.2.2.2.2.2.1.2.2.2.1 C'.1.2.2.2.2.2 C'.1.2.1 C'.1.2.2.1 ⟨C'.2.2.2.2.2.2, MFr.rf⟩ C'.2.1 (by omega) hw) (fun S3 h3 => ?_)
      have hw2 := C'.2.1.2.2 w hw
      have k1 := mrow_0 (k := 37 + w) h3.1 (by omega)
      have k0 : mendN u.2.2.2.1 r w (37 + w) = r (37 + w) := by
        unfold mendN
        rw [if_neg c0, upN_off (by omega), upN_off (by omega)]
      rw [k0] at k1
      have k2 := mrow_0 (k := 13 + r (37 + w)) h3.1 (by omega)
      simp (disch := omega) only [lit_0, lit_1, lit_2, lit_3, lit_4, lit_5, lit_6, lit_7, lit_8, lit_9, lit_10, lit_11, lit_12, lit_13, lit_14, lit_15, lit_20, lit_24, lit_25, lit_37, lit_40, lit_43, lit_48, lit_49, lit_50, lit_60, lit_96, lit_98, lit_99, lit_100, lit_999, lit_62, lit_74, lit_86, lit_92, lit_99999, lit_100000, lit_16, lit_32767, lit_2147483639, J_add, J_mul, J_sub, J_tn, J_le, J_lt, J_eq, Nat.not_lt_zero, false_or, or_false, le_t, le_f, lt_t, lt_f, eq_f, ↓reduceIte, callK_eq, letB_eq, joinB_eq, Nat.add_assoc, k1, k2]
      exact ⟨_, rfl, rfl, h3⟩
theorem A_go {ct : CT} {a0 q0 j : Nat} {S : US} {G : GS} {P : Nat → Nat → Option Nat} {ad : Nat → Nat} {S2 : US} {u : RU} {r : Nat → Nat} {q1 e1 c1 : Nat} {f1 : Nat → Option Nat} {R1 : Nat → Nat → Nat} {q2 e2 c2 : Nat} {f2 : Nat → Option Nat} {sn : Nat → Nat} {t : Nat} (hj : j < 24) (H : InvD ct a0 q0 j S G P ad S2 u r q1 e1 c1 f1 R1 q2 e2 c2 f2 sn t) (p1 p2 : Int32) : AgA ct a0 q0 j P ad S2 (t1_go S ct P G.1 p1 p2) (s1_go ct ad P S G p1 p2) (sM_go S2 p1 p2) := by
  have Hz := H.z
  have hC := H.core
  have hZ := Hz.core
  have ho12 := hC.1.2.1
  have ho3 := hC.1.1
  have ho6 := hC.1.2.2.1
  have h9 := hC.2.2.1
  unfold t1_go s1_go sM_go
  refine Ar_z (Ar_wom hC (by decide) (fun w hw e => ?_))
  subst e
  refine Ar_strE hC (by decide) (fun s hs e => Ar_ok ?_)
  subst e
  have r1 := (hC.2.2.2.2.1.2.2 w (by omega)).1
  have r2 := mrow_0 (k := 37 + w) hZ.2.2.2.2.2.2 (by omega)
  have r3 := hC.2.1.2.2 w hw
  by_cases c0 : r (37 + w) = s
  · simp (disch := omega) only [lit_0, lit_1, lit_2, lit_3, lit_4, lit_5, lit_6, lit_7, lit_8, lit_9, lit_10, lit_11, lit_12, lit_13, lit_14, lit_15, lit_20, lit_24, lit_25, lit_37, lit_40, lit_43, lit_48, lit_49, lit_50, lit_60, lit_96, lit_98, lit_99, lit_100, lit_999, lit_62, lit_74, lit_86, lit_92, lit_99999, lit_100000, lit_16, lit_32767, lit_2147483639, J_add, J_mul, J_sub, J_tn, J_le, J_lt, J_eq, Nat.not_lt_zero, false_or, or_false, le_t, le_f, lt_t, lt_f, eq_f, ↓reduceIte, callK_eq, letB_eq, joinB_eq, Nat.add_assoc, r1, r2, c0]
    exact RA_ref Hz (by omega) Z0_0
  · simp (disch := omega) only [lit_0, lit_1, lit_2, lit_3, lit_4, lit_5, lit_6, lit_7, lit_8, lit_9, lit_10, lit_11, lit_12, lit_13, lit_14, lit_15, lit_20, lit_24, lit_25, lit_37, lit_40, lit_43, lit_48, lit_49, lit_50, lit_60, lit_96, lit_98, lit_99, lit_100, lit_999, lit_62, lit_74, lit_86, lit_92, lit_99999, lit_100000, lit_16, lit_32767, lit_2147483639, J_add, J_mul, J_sub, J_tn, J_le, J_lt, J_eq, Nat.not_lt_zero, false_or, or_false, le_t, le_f, lt_t, lt_f, eq_f, ↓reduceIte, callK_eq, letB_eq, joinB_eq, Nat.add_assoc, r1, r2, c0]
    refine RA_keep hj Hz Z0_0 (fun G' S2' C' h00 => ⟨J (r (37 + w)), upN r (37 + w) s, ?_, ?_, C'.2.1.upW (by omega) hs ho12, by rw [upN_off (by omega)]; exact h9⟩)
    · exact ⟨_, rfl, rfl, rfl, HR.up4 ⟨C'.2.2.2.2.1, HFr.rf⟩ (by omega)⟩
    · have k := MR.up (b := 0) (k := 37 + w) (v := s) ⟨C'.2.2.2.2.2.2, MFr.rf⟩ (by omega)
      rw [Nat.zero_add] at k
      exact ⟨_, rfl, rfl, k⟩
theorem A_stitch {ct : CT} {a0 q0 j : Nat} {S : US} {G : GS} {P : Nat → Nat → Option Nat} {ad : Nat → Nat} {S2 : US} {u : RU} {r : Nat → Nat} {q1 e1 c1 : Nat} {f1 : Nat → Option Nat} {R1 : Nat → Nat → Nat} {q2 e2 c2 : Nat} {f2 : Nat → Option Nat} {sn : Nat → Nat} {t : Nat} (hj : j < 24) (H : InvD ct a0 q0 j S G P ad S2 u r q1 e1 c1 f1 R1 q2 e2 c2 f2 sn t) (p1 p2 : Int32) : AgA ct a0 q0 j P ad S2 (t1_stitch S ct P G.1 p1 p2) (s1_stitch ct ad P S G p1 p2) (sM_stitch S2 p1 p2) := by
  have Hz := H.z
  have hC := H.core
  have hZ := Hz.core
  have ho12 := hC.1.2.1
  have ho3 := hC.1.1
  have ho6 := hC.1.2.2.1
  have h9 := hC.2.2.1
  unfold t1_stitch s1_stitch sM_stitch
  refine Ar_z (Ar_strE hC (by decide) (fun s hs e => Ar_ok ?_))
  subst e
  have r1 := (hC.2.2.2.2.1.2.1 s (by omega)).2.2
  have r2 := mrow_0 (k := 25 + s) hZ.2.2.2.2.2.2 (by omega)
  have r3 := (hC.2.1.1 s (by omega)).2.2
  have e1 := tH_in (p := p2) (a := 0) (b := 2)
  have e2 := tM_within (p := p2) (a := 0) (b := 2)
  simp (disch := omega) only [lit_0, lit_1, lit_2, lit_3, lit_4, lit_5, lit_6, lit_7, lit_8, lit_9, lit_10, lit_11, lit_12, lit_13, lit_14, lit_15, lit_20, lit_24, lit_25, lit_37, lit_40, lit_43, lit_48, lit_49, lit_50, lit_60, lit_96, lit_98, lit_99, lit_100, lit_999, lit_62, lit_74, lit_86, lit_92, lit_99999, lit_100000, lit_16, lit_32767, lit_2147483639, J_add, J_mul, J_sub, J_tn, J_le, J_lt, J_eq, Nat.not_lt_zero, false_or, or_false, le_t, le_f, lt_t, lt_f, eq_f, ↓reduceIte, callK_eq, letB_eq, joinB_eq, Nat.add_assoc, r1, r2, e1, e2]
  cases c1 : inN p2 0 2 with
  | false =>
    simp (disch := omega) only [lit_0, lit_1, lit_2, lit_3, lit_4, lit_5, lit_6, lit_7, lit_8, lit_9, lit_10, lit_11, lit_12, lit_13, lit_14, lit_15, lit_20, lit_24, lit_25, lit_37, lit_40, lit_43, lit_48, lit_49, lit_50, lit_60, lit_96, lit_98, lit_99, lit_100, lit_999, lit_62, lit_74, lit_86, lit_92, lit_99999, lit_100000, lit_16, lit_32767, lit_2147483639, J_add, J_mul, J_sub, J_tn, J_le, J_lt, J_eq, Nat.not_lt_zero, false_or, or_false, le_t, le_f, lt_t, lt_f, eq_f, ↓reduceIte, callK_eq, letB_eq, joinB_eq, Nat.add_assoc, bI_f]
    exact RA_ref Hz (by omega) Z0_0
  | true =>
    obtain ⟨d, d1, d2, rfl⟩ := J_of (by omega) (by omega) c1
    by_cases c0 : r (25 + s) = d
    · simp (disch := omega) only [lit_0, lit_1, lit_2, lit_3, lit_4, lit_5, lit_6, lit_7, lit_8, lit_9, lit_10, lit_11, lit_12, lit_13, lit_14, lit_15, lit_20, lit_24, lit_25, lit_37, lit_40, lit_43, lit_48, lit_49, lit_50, lit_60, lit_96, lit_98, lit_99, lit_100, lit_999, lit_62, lit_74, lit_86, lit_92, lit_99999, lit_100000, lit_16, lit_32767, lit_2147483639, J_add, J_mul, J_sub, J_tn, J_le, J_lt, J_eq, Nat.not_lt_zero, false_or, or_false, le_t, le_f, lt_t, lt_f, eq_f, ↓reduceIte, callK_eq, letB_eq, joinB_eq, Nat.add_assoc, bI_t, c0]
      exact RA_ref Hz (by omega) Z0_0
    · have c0' : ¬ d = r (25 + s) := fun z => c0 z.symm
      simp (disch := omega) only [lit_0, lit_1, lit_2, lit_3, lit_4, lit_5, lit_6, lit_7, lit_8, lit_9, lit_10, lit_11, lit_12, lit_13, lit_14, lit_15, lit_20, lit_24, lit_25, lit_37, lit_40, lit_43, lit_48, lit_49, lit_50, lit_60, lit_96, lit_98, lit_99, lit_100, lit_999, lit_62, lit_74, lit_86, lit_92, lit_99999, lit_100000, lit_16, lit_32767, lit_2147483639, J_add, J_mul, J_sub, J_tn, J_le, J_lt, J_eq, Nat.not_lt_zero, false_or, or_false, le_t, le_f, lt_t, lt_f, eq_f, ↓reduceIte, callK_eq, letB_eq, joinB_eq, Nat.add_assoc, bI_t, c0, c0']
      refine RA_keep hj Hz Z0_0 (fun G' S2' C' h00 => ⟨J (r (25 + s)), upN r (25 + s) d, ?_, ?_, C'.2.1.upC (by omega) d2, by rw [upN_off (by omega)]; exact h9⟩)
      · exact ⟨_, rfl, rfl, rfl, HR.up3 ⟨C'.2.2.2.2.1, HFr.rf⟩ (by omega)⟩
      · have k := MR.up (b := 0) (k := 25 + s) (v := d) ⟨C'.2.2.2.2.2.2, MFr.rf⟩ (by omega)
        rw [Nat.zero_add] at k
        exact ⟨_, rfl, rfl, k⟩
theorem A_thread {ct : CT} {a0 q0 j : Nat} {S : US} {G : GS} {P : Nat → Nat → Option Nat} {ad : Nat → Nat} {S2 : US} {u : RU} {r : Nat → Nat} {q1 e1 c1 : Nat} {f1 : Nat → Option Nat} {R1 : Nat → Nat → Nat} {q2 e2 c2 : Nat} {f2 : Nat → Option Nat} {sn : Nat → Nat} {t : Nat} (hj : j < 24) (H : InvD ct a0 q0 j S G P ad S2 u r q1 e1 c1 f1 R1 q2 e2 c2 f2 sn t) (p1 p2 : Int32) : AgA ct a0 q0 j P ad S2 (t1_thread S ct P G.1 p1 p2) (s1_thread ct ad P S G p1 p2) (sM_thread S2 p1 p2) := by
  have Hz := H.z
  have hC := H.core
  have hZ := Hz.core
  have ho12 := hC.1.2.1
  have ho3 := hC.1.1
  have ho6 := hC.1.2.2.1
  have h9 := hC.2.2.1
  unfold t1_thread s1_thread sM_thread
  refine Ar_z (Ar_womE hC (by decide) (fun w hw e => Ar_ok ?_))
  subst e
  have r3 := (hC.2.1.2.1 w (by omega)).1
  have e1 := tH_in (p := p2) (a := 1) (b := 50)
  have e2 := tM_within (p := p2) (a := 1) (b := 50)
  simp (disch := omega) only [lit_0, lit_1, lit_2, lit_3, lit_4, lit_5, lit_6, lit_7, lit_8, lit_9, lit_10, lit_11, lit_12, lit_13, lit_14, lit_15, lit_20, lit_24, lit_25, lit_37, lit_40, lit_43, lit_48, lit_49, lit_50, lit_60, lit_96, lit_98, lit_99, lit_100, lit_999, lit_62, lit_74, lit_86, lit_92, lit_99999, lit_100000, lit_16, lit_32767, lit_2147483639, J_add, J_mul, J_sub, J_tn, J_le, J_lt, J_eq, Nat.not_lt_zero, false_or, or_false, le_t, le_f, lt_t, lt_f, eq_f, ↓reduceIte, callK_eq, letB_eq, joinB_eq, Nat.add_assoc, e1, e2]
  cases c1 : inN p2 1 50 with
  | false =>
    simp (disch := omega) only [lit_0, lit_1, lit_2, lit_3, lit_4, lit_5, lit_6, lit_7, lit_8, lit_9, lit_10, lit_11, lit_12, lit_13, lit_14, lit_15, lit_20, lit_24, lit_25, lit_37, lit_40, lit_43, lit_48, lit_49, lit_50, lit_60, lit_96, lit_98, lit_99, lit_100, lit_999, lit_62, lit_74, lit_86, lit_92, lit_99999, lit_100000, lit_16, lit_32767, lit_2147483639, J_add, J_mul, J_sub, J_tn, J_le, J_lt, J_eq, Nat.not_lt_zero, false_or, or_false, le_t, le_f, lt_t, lt_f, eq_f, ↓reduceIte, callK_eq, letB_eq, joinB_eq, Nat.add_assoc, bI_f]
    exact RA_ref Hz (by omega) Z0_0
  | true =>
    obtain ⟨d, d1, d2, rfl⟩ := J_of (by omega) (by omega) c1
    simp (disch := omega) only [lit_0, lit_1, lit_2, lit_3, lit_4, lit_5, lit_6, lit_7, lit_8, lit_9, lit_10, lit_11, lit_12, lit_13, lit_14, lit_15, lit_20, lit_24, lit_25, lit_37, lit_40, lit_43, lit_48, lit_49, lit_50, lit_60, lit_96, lit_98, lit_99, lit_100, lit_999, lit_62, lit_74, lit_86, lit_92, lit_99999, lit_100000, lit_16, lit_32767, lit_2147483639, J_add, J_mul, J_sub, J_tn, J_le, J_lt, J_eq, Nat.not_lt_zero, false_or, or_false, le_t, le_f, lt_t, lt_f, eq_f, ↓reduceIte, callK_eq, letB_eq, joinB_eq, Nat.add_assoc, bI_t]
    refine RA_keep hj Hz Z0_0 (fun G' S2' C' h00 => ⟨J (min 99 (r (43 + w) + d)), upN r (43 + w) (min 99 (r (43 + w) + d)), ?_, ?_, C'.2.1.upT ho6 (by omega) (by omega), by rw [upN_off (by omega)]; exact h9⟩)
    · have r1 := (C'.2.2.2.2.1.2.2 w (by omega)).2
      have e9 : (if r (43 + w) + d < 99 then J (r (43 + w) + d) else J 99) = J (min 99 (r (43 + w) + d)) := by
        split
        · rw [Nat.min_eq_right (by omega)]
        · rw [Nat.min_eq_left (by omega)]
      try simp (disch := omega) only [lit_0, lit_1, lit_2, lit_3, lit_4, lit_5, lit_6, lit_7, lit_8, lit_9, lit_10, lit_11, lit_12, lit_13, lit_14, lit_15, lit_20, lit_24, lit_25, lit_37, lit_40, lit_43, lit_48, lit_49, lit_50, lit_60, lit_96, lit_98, lit_99, lit_100, lit_999, lit_62, lit_74, lit_86, lit_92, lit_99999, lit_100000, lit_16, lit_32767, lit_2147483639, J_add, J_mul, J_sub, J_tn, J_le, J_lt, J_eq, Nat.not_lt_zero, false_or, or_false, le_t, le_f, lt_t, lt_f, eq_f, ↓reduceIte, callK_eq, letB_eq, joinB_eq, Nat.add_assoc, r1, e9, u2_at]
      exact ⟨_, rfl, rfl, rfl, HR.up5 ⟨C'.2.2.2.2.1, HFr.rf⟩ (by omega)⟩
    · have r2 := mrow_0 (k := 43 + w) C'.2.2.2.2.2.2 (by omega)
      have k := MR.up (b := 0) (k := 43 + w) (v := min 99 (r (43 + w) + d)) ⟨C'.2.2.2.2.2.2, MFr.rf⟩ (by omega)
      rw [Nat.zero_add] at k
      try simp (disch := omega) only [lit_0, lit_1, lit_2, lit_3, lit_4, lit_5, lit_6, lit_7, lit_8, lit_9, lit_10, lit_11, lit_12, lit_13, lit_14, lit_15, lit_20, lit_24, lit_25, lit_37, lit_40, lit_43, lit_48, lit_49, lit_50, lit_60, lit_96, lit_98, lit_99, lit_100, lit_999, lit_62, lit_74, lit_86, lit_92, lit_99999, lit_100000, lit_16, lit_32767, lit_2147483639, J_add, J_mul, J_sub, J_tn, J_le, J_lt, J_eq, Nat.not_lt_zero, false_or, or_false, le_t, le_f, lt_t, lt_f, eq_f, ↓reduceIte, callK_eq, letB_eq, joinB_eq, Nat.add_assoc, r2, tM_lesser, u2_at]
      exact ⟨_, rfl, rfl, k⟩
theorem A_tear {ct : CT} {a0 q0 j : Nat} {S : US} {G : GS} {P : Nat → Nat → Option Nat} {ad : Nat → Nat} {S2 : US} {u : RU} {r : Nat → Nat} {q1 e1 c1 : Nat} {f1 : Nat → Option Nat} {R1 : Nat → Nat → Nat} {q2 e2 c2 : Nat} {f2 : Nat → Option Nat} {sn : Nat → Nat} {t : Nat} (hj : j < 24) (H : InvD ct a0 q0 j S G P ad S2 u r q1 e1 c1 f1 R1 q2 e2 c2 f2 sn t) (p1 p2 : Int32) : AgA ct a0 q0 j P ad S2 (t1_tear S ct P G.1 p1 p2) (s1_tear ct ad P S G p1 p2) (sM_tear S2 p1 p2) := by
  have Hz := H.z
  have hC := H.core
  have hZ := Hz.core
  have ho12 := hC.1.2.1
  have ho3 := hC.1.1
  have ho6 := hC.1.2.2.1
  have h9 := hC.2.2.1
  unfold t1_tear s1_tear sM_tear
  refine Ar_z (Ar_strE hC (by decide) (fun s hs e => Ar_ok ?_))
  subst e
  have r3 := (hC.2.1.1 s (by omega)).2.1
  have e1 := tH_in (p := p2) (a := 1) (b := 50)
  have e2 := tM_within (p := p2) (a := 1) (b := 50)
  have e3 := tH_isOpen hC.2.2.2.2.1 (show s < 12 by omega) (by omega)
  have e4 := tM_isGap (b := 0) hZ.2.2.2.2.2.2 (by omega) (show s < 12 by omega) (by omega)
  simp (disch := omega) only [lit_0, lit_1, lit_2, lit_3, lit_4, lit_5, lit_6, lit_7, lit_8, lit_9, lit_10, lit_11, lit_12, lit_13, lit_14, lit_15, lit_20, lit_24, lit_25, lit_37, lit_40, lit_43, lit_48, lit_49, lit_50, lit_60, lit_96, lit_98, lit_99, lit_100, lit_999, lit_62, lit_74, lit_86, lit_92, lit_99999, lit_100000, lit_16, lit_32767, lit_2147483639, J_add, J_mul, J_sub, J_tn, J_le, J_lt, J_eq, Nat.not_lt_zero, false_or, or_false, le_t, le_f, lt_t, lt_f, eq_f, ↓reduceIte, callK_eq, letB_eq, joinB_eq, Nat.add_assoc, e1, e2, e3, e4]
  cases c1 : inN p2 1 50 with
  | false =>
    simp (disch := omega) only [lit_0, lit_1, lit_2, lit_3, lit_4, lit_5, lit_6, lit_7, lit_8, lit_9, lit_10, lit_11, lit_12, lit_13, lit_14, lit_15, lit_20, lit_24, lit_25, lit_37, lit_40, lit_43, lit_48, lit_49, lit_50, lit_60, lit_96, lit_98, lit_99, lit_100, lit_999, lit_62, lit_74, lit_86, lit_92, lit_99999, lit_100000, lit_16, lit_32767, lit_2147483639, J_add, J_mul, J_sub, J_tn, J_le, J_lt, J_eq, Nat.not_lt_zero, false_or, or_false, le_t, le_f, lt_t, lt_f, eq_f, ↓reduceIte, callK_eq, letB_eq, joinB_eq, Nat.add_assoc, bI_f]
    exact RA_ref Hz (by omega) Z0_0
  | true =>
    obtain ⟨d, d1, d2, rfl⟩ := J_of (by omega) (by omega) c1
    cases hg : gapN r s with
    | true =>
      simp (disch := omega) only [lit_0, lit_1, lit_2, lit_3, lit_4, lit_5, lit_6, lit_7, lit_8, lit_9, lit_10, lit_11, lit_12, lit_13, lit_14, lit_15, lit_20, lit_24, lit_25, lit_37, lit_40, lit_43, lit_48, lit_49, lit_50, lit_60, lit_96, lit_98, lit_99, lit_100, lit_999, lit_62, lit_74, lit_86, lit_92, lit_99999, lit_100000, lit_16, lit_32767, lit_2147483639, J_add, J_mul, J_sub, J_tn, J_le, J_lt, J_eq, Nat.not_lt_zero, false_or, or_false, le_t, le_f, lt_t, lt_f, eq_f, ↓reduceIte, callK_eq, letB_eq, joinB_eq, Nat.add_assoc, bI_t]
      exact RA_ref Hz (by omega) Z0_0
    | false =>
      simp (disch := omega) only [lit_0, lit_1, lit_2, lit_3, lit_4, lit_5, lit_6, lit_7, lit_8, lit_9, lit_10, lit_11, lit_12, lit_13, lit_14, lit_15, lit_20, lit_24, lit_25, lit_37, lit_40, lit_43, lit_48, lit_49, lit_50, lit_60, lit_96, lit_98, lit_99, lit_100, lit_999, lit_62, lit_74, lit_86, lit_92, lit_99999, lit_100000, lit_16, lit_32767, lit_2147483639, J_add, J_mul, J_sub, J_tn, J_le, J_lt, J_eq, Nat.not_lt_zero, false_or, or_false, le_t, le_f, lt_t, lt_f, eq_f, ↓reduceIte, callK_eq, letB_eq, joinB_eq, Nat.add_assoc, bI_t, bI_f]
      refine RA_keep hj Hz Z0_0 (fun G' S2' C' h00 => ⟨J (loosN u.1 r s d (13 + s)), loosN u.1 r s d, ?_, ?_, C'.2.1.loos (by omega) ho12 hs, by rw [loos_0]; exact h9⟩)
      · refine Ev.call (tH_loosen C'.2.2.2.1.1 ho3 ho12 ⟨C'.2.2.2.2.1, HFr.rf⟩ C'.2.1 hs (by omega)) (fun S3 h3 => ?_)
        have k2 := (h3.1.2.1 s (by omega)).2.1
        simp (disch := omega) only [lit_0, lit_1, lit_2, lit_3, lit_4, lit_5, lit_6, lit_7, lit_8, lit_9, lit_10, lit_11, lit_12, lit_13, lit_14, lit_15, lit_20, lit_24, lit_25, lit_37, lit_40, lit_43, lit_48, lit_49, lit_50, lit_60, lit_96, lit_98, lit_99, lit_100, lit_999, lit_62, lit_74, lit_86, lit_92, lit_99999, lit_100000, lit_16, lit_32767, lit_2147483639, J_add, J_mul, J_sub, J_tn, J_le, J_lt, J_eq, Nat.not_lt_zero, false_or, or_false, le_t, le_f, lt_t, lt_f, eq_f, ↓reduceIte, callK_eq, letB_eq, joinB_eq, Nat.add_assoc, k2]
        exact ⟨_, rfl, rfl, rfl, h3⟩
      · refine Ev.call (tM_loosens (b := 0) C'.2.2.2.2.2.1.1 ho3 ho12 ⟨C'.2.2.2.2.2.2, MFr.rf⟩ C'.2.1 (by omega) hs (by omega)) (fun S3 h3 => ?_)
        have k2 := mrow_0 (k := 13 + s) h3.1 (by omega)
        simp (disch := omega) only [lit_0, lit_1, lit_2, lit_3, lit_4, lit_5, lit_6, lit_7, lit_8, lit_9, lit_10, lit_11, lit_12, lit_13, lit_14, lit_15, lit_20, lit_24, lit_25, lit_37, lit_40, lit_43, lit_48, lit_49, lit_50, lit_60, lit_96, lit_98, lit_99, lit_100, lit_999, lit_62, lit_74, lit_86, lit_92, lit_99999, lit_100000, lit_16, lit_32767, lit_2147483639, J_add, J_mul, J_sub, J_tn, J_le, J_lt, J_eq, Nat.not_lt_zero, false_or, or_false, le_t, le_f, lt_t, lt_f, eq_f, ↓reduceIte, callK_eq, letB_eq, joinB_eq, Nat.add_assoc, k2]
        exact ⟨_, rfl, rfl, h3⟩
