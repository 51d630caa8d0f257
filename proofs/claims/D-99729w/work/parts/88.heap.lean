set_option maxRecDepth 100000
/-! THE PLAIN LAW, 17: the free heap -/
theorem hset_at {h : AH} {a : Nat} {e : AE} : hset h a e a = some e := if_pos rfl
theorem hset_ne {h : AH} {a b : Nat} {e : AE} (hb : b < a ∨ a < b) : hset h a e b = h b := if_neg (by omega)
/-- all that lies there lies below the next address -/
def Bd (G : GS) : Prop := ∀ (a : Nat) (e : AE), G.1 a = some e → a < G.2.1
/-- what may lie in a list -/
def shp (e : AE) : Bool := match e.2 with
  | .inr _ => true
  | .inl q => q.1 == 0
theorem okR_iff {h : AH} {y : Nat} : okR h (some y) = true ↔ ∃ e, h y = some e ∧ shp e = true := by
  have e0 : okR h (some y) = (match h y with
    | some e => shp e
    | none => false) := by
    show (match h y with
      | some (_, .inr _) => true
      | some (_, .inl q) => q.1 == 0
      | none => false) = _
    cases e : h y with
    | none => rfl
    | some e1 =>
      obtain ⟨o, x⟩ := e1
      cases x <;> rfl
  rw [e0]
  cases e : h y with
  | none =>
    constructor
    · intro z; cases z
    · rintro ⟨e1, z, _⟩; cases z
  | some e1 =>
    constructor
    · intro z; exact ⟨e1, rfl, z⟩
    · rintro ⟨e2, z, w⟩; cases z; exact w
theorem okR_n {h : AH} : okR h none = true := rfl
/-- but for M all stays; at most so many cells and slots more -/
def Gr (M : Nat → Prop) (G G' : GS) (c z : Nat) : Prop := (∀ (a : Nat) (e : AE), ¬ M a → G.1 a = some e → G'.1 a = some e) ∧ (G.2.1 ≤ G'.2.1 ∧ G'.2.1 ≤ G.2.1 + c) ∧ (G.2.2 ≤ G'.2.2 ∧ G'.2.2 ≤ G.2.2 + z) ∧ (Bd G → Bd G') ∧ ∀ x, okR G.1 x = true → okR G'.1 x = true
/-- there is room for so much -/
def Rm (ct : CT) (G : GS) (c z : Nat) : Prop := G.2.1 + c ≤ nmax ct ∧ G.2.2 + z ≤ zmax ct
theorem Gr.rf {M : Nat → Prop} {G : GS} : Gr M G G 0 0 := ⟨fun _ _ _ h => h, ⟨Nat.le_refl _, Nat.le_refl _⟩, ⟨Nat.le_refl _, Nat.le_refl _⟩, fun h => h, fun _ h => h⟩
theorem Gr.tr {M : Nat → Prop} {G G1 G2 : GS} {c z c' z' : Nat} (h : Gr M G G1 c z) (h' : Gr M G1 G2 c' z') : Gr M G G2 (c + c') (z + z') := by
  obtain ⟨h1, h2, h3, h4, h5⟩ := h
  obtain ⟨g1, g2, g3, g4, g5⟩ := h'
  exact ⟨fun a e hm ha => g1 a e hm (h1 a e hm ha), ⟨by omega, by omega⟩, ⟨by omega, by omega⟩, fun hb => g4 (h4 hb), fun x hx => g5 x (h5 x hx)⟩
theorem Gr.le {M : Nat → Prop} {G G1 : GS} {c z c' z' : Nat} (h : Gr M G G1 c z) (hc : c ≤ c') (hz : z ≤ z') : Gr M G G1 c' z' := ⟨h.1, ⟨h.2.1.1, by have := h.2.1.2; omega⟩, ⟨h.2.2.1.1, by have := h.2.2.1.2; omega⟩, h.2.2.2⟩
theorem Gr.mono {M N : Nat → Prop} {G G1 : GS} {c z : Nat} (h : Gr M G G1 c z) (hm : ∀ a, M a → N a) : Gr N G G1 c z := ⟨fun a e ha => h.1 a e (fun x => ha (hm a x)), h.2⟩
theorem Gr.sub {G G1 : GS} {c z : Nat} (h : Gr (fun _ => False) G G1 c z) : Sub G.1 G1.1 := fun a e ha => h.1 a e (fun x => x) ha
theorem Rm.gr {ct : CT} {M : Nat → Prop} {G G1 : GS} {c z c' z' : Nat} (h : Rm ct G (c + c') (z + z')) (hg : Gr M G G1 c z) : Rm ct G1 c' z' := by
  obtain ⟨h1, h2⟩ := h
  have a1 := hg.2.1.2
  have a2 := hg.2.2.1.2
  exact ⟨by omega, by omega⟩
theorem Rm.le {ct : CT} {G : GS} {c z c' z' : Nat} (h : Rm ct G c z) (hc : c' ≤ c) (hz : z' ≤ z) : Rm ct G c' z' := ⟨by have := h.1; omega, by have := h.2; omega⟩
/-- the state with one cell more -/
def addG (G : GS) (k : Nat) (x : AX) : GS := (hset G.1 G.2.1 (true, x), G.2.1 + 1, G.2.2 + k)
def setG (G : GS) (a : Nat) (e : AE) : GS := (hset G.1 a e, G.2)
theorem newB_eq {ρ : Type} {ct : CT} {G : GS} {k : Nat} {x : AX} {kp : Nat → GS → Option ρ} (h : Rm ct G 1 k) : newB ct G k x kp = kp G.2.1 (addG G k x) := by
  unfold newB addG
  obtain ⟨h1, h2⟩ := h
  rw [if_neg (by omega)]
theorem okR_of {G G' : GS} (h : ∀ y e, G.1 y = some e → shp e = true → ∃ e', G'.1 y = some e' ∧ shp e' = true) : ∀ x, okR G.1 x = true → okR G'.1 x = true := by
  intro x hx
  cases x with
  | none => rfl
  | some y =>
    obtain ⟨e, h1, h2⟩ := okR_iff.mp hx
    exact okR_iff.mpr (h y e h1 h2)
theorem grw_add {M : Nat → Prop} {G : GS} {k : Nat} {x : AX} (hb : Bd G) : Gr M G (addG G k x) 1 k := by
  have key : ∀ (a : Nat) (e : AE), G.1 a = some e → (addG G k x).1 a = some e := fun a e ha => by
    show hset G.1 G.2.1 (true, x) a = some e
    rw [hset_ne (Or.inl (hb a e ha))]; exact ha
  refine ⟨fun a e _ ha => key a e ha, ⟨Nat.le_succ _, Nat.le_refl _⟩, ⟨Nat.le_add_right _ _, Nat.le_refl _⟩, fun _ a e ha => ?_, okR_of (fun y e h1 h2 => ⟨e, key y e h1, h2⟩)⟩
  have ha : hset G.1 G.2.1 (true, x) a = some e := ha
  show a < G.2.1 + 1
  by_cases e2 : a = G.2.1
  · omega
  · rw [hset_ne (by omega)] at ha
    have := hb a e ha
    omega
theorem grw_set {M : Nat → Prop} {G : GS} {a : Nat} {e e0 : AE} (ha : G.1 a = some e0) (hM : M a) (hs : shp e0 = true → shp e = true) : Gr M G (setG G a e) 0 0 := by
  refine ⟨fun b e1 hb h1 => ?_, ⟨Nat.le_refl _, Nat.le_refl _⟩, ⟨Nat.le_refl _, Nat.le_refl _⟩, fun hb b e1 h1 => ?_, okR_of (fun y e1 h1 h2 => ?_)⟩
  · show hset G.1 a e b = some e1
    rw [hset_ne (by
      have : b ≠ a := fun z => hb (z ▸ hM)
      omega)]; exact h1
  · have h1 : hset G.1 a e b = some e1 := h1
    show b < G.2.1
    by_cases e2 : b = a
    · subst e2; exact hb _ _ ha
    · rw [hset_ne (by omega)] at h1
      exact hb b e1 h1
  · show ∃ e', hset G.1 a e y = some e' ∧ shp e' = true
    by_cases e2 : y = a
    · subst e2
      cases ha.symm.trans h1
      exact ⟨e, hset_at, hs h2⟩
    · exact ⟨e1, by rw [hset_ne (by omega)]; exact h1, h2⟩
theorem hPut_eq {ρ : Type} {G : GS} {a ci k : Nat} {v : Value} {fs : List Value} {kp : GS → Option ρ} (h : G.1 a = some (true, .inr (ci, fs))) (hk : k < fs.length) : hPut G a ci k v kp = kp (setG G a (true, .inr (ci, fs.set k v))) := by
  unfold hPut setG
  rw [h]
  simp [hk]
theorem hPutZ_eq {ρ : Type} {G : GS} {a t n i : Nat} {v : Int32} {f : Nat → Int32} {kp : GS → Option ρ} (h : G.1 a = some (true, .inl (t, n, .inl f))) (hi : i < n) (hn : n ≤ 2147483648) : hPutZ G a t (J i) v kp = kp (setG G a (true, .inl (t, n, .inl (upd f i v)))) := by
  unfold hPutZ setG
  rw [h]
  show (if t = t then (if J i < 0 ∨ n ≤ (J i).toNatClampNeg then none else kp (hset G.1 a (true, .inl (t, n, .inl (upd f (J i).toNatClampNeg v))), G.2)) else none) = _
  rw [if_pos rfl, gd hi hn, J_tn (by omega)]
theorem hPutQ_eq {ρ : Type} {G : GS} {a t n i : Nat} {r : Option Nat} {f : Nat → Option Nat} {kp : GS → Option ρ} (h : G.1 a = some (true, .inl (t, n, .inr (.inr (.inr (.inr f)))))) (hi : i < n) (hn : n ≤ 2147483648) : hPutQ G a t (J i) r kp = kp (setG G a (true, .inl (t, n, .inr (.inr (.inr (.inr (va_up f i r))))))) := by
  unfold hPutQ setG
  rw [h]
  show (if t = t then (if J i < 0 ∨ n ≤ (J i).toNatClampNeg then none else kp (hset G.1 a (true, .inl (t, n, .inr (.inr (.inr (.inr (va_up f (J i).toNatClampNeg r)))))), G.2)) else none) = _
  rw [if_pos rfl, gd hi hn, J_tn (by omega)]
theorem upd_at {f : Nat → Int32} {i : Nat} {v : Int32} : upd f i v i = v := by unfold upd; simp
theorem upd_ne {f : Nat → Int32} {i j : Nat} {v : Int32} (h : j < i ∨ i < j) : upd f i v j = f j := by
  unfold upd
  rw [if_neg (by omega)]
theorem vup_at {f : Nat → Option Nat} {i : Nat} {v : Option Nat} : va_up f i v i = v := by unfold va_up; simp
theorem vup_ne {f : Nat → Option Nat} {i j : Nat} {v : Option Nat} (h : j < i ∨ i < j) : va_up f i v j = f j := by
  unfold va_up
  rw [if_neg (by omega)]
theorem setG_at {G : GS} {a : Nat} {e : AE} : (setG G a e).1 a = some e := hset_at
theorem setG_ne {G : GS} {a b : Nat} {e : AE} (h : b < a ∨ a < b) : (setG G a e).1 b = G.1 b := hset_ne h
theorem addG_at {G : GS} {k : Nat} {x : AX} : (addG G k x).1 G.2.1 = some (true, x) := hset_at
theorem addG_lt {G : GS} {k b : Nat} {x : AX} (h : b < G.2.1) : (addG G k x).1 b = G.1 b := hset_ne (Or.inl h)
/-! lists -/
def MLst (ct : CT) (h : AH) (q e n : Nat) (f : Nat → Option Nat) : Prop := ∃ (md : Int32) (o : Bool) (cap : Nat) (g : Nat → Option Nat), h q = some (true, .inr (10, [.int md, .ref e, .int (J n)])) ∧ h e = some (o, .inl (4, cap, .inr (.inr (.inr (.inr g))))) ∧ n ≤ cap ∧ cap < 50000 ∧ (∀ i, i < n → g i = f i ∧ okR h (f i) = true) ∧ (o = true ∨ cap = 0)
theorem MLst.lst {ct : CT} {h : AH} {q e n : Nat} {f : Nat → Option Nat} (H : MLst ct h q e n f) : LstH h q n f := by
  obtain ⟨md, o, cap, g, h1, h2, h3, h4, h5, h6⟩ := H
  exact ⟨true, md, e, o, cap, g, h1, h2, h3, by omega, fun i hi => (h5 i hi).1⟩
theorem MLst.fn {ct : CT} {h : AH} {q e n : Nat} {f f' : Nat → Option Nat} (H : MLst ct h q e n f) (hf : ∀ i, i < n → f' i = f i) : MLst ct h q e n f' := by
  obtain ⟨md, o, cap, g, h1, h2, h3, h4, h5, h6⟩ := H
  exact ⟨md, o, cap, g, h1, h2, h3, h4, fun i hi => by rw [hf i hi]; exact h5 i hi, h6⟩
theorem MLst.gr {ct : CT} {M : Nat → Prop} {G G' : GS} {c z q e n : Nat} {f : Nat → Option Nat} (H : MLst ct G.1 q e n f) (hg : Gr M G G' c z) (hq : ¬ M q) (he : ¬ M e) : MLst ct G'.1 q e n f := by
  obtain ⟨md, o, cap, g, h1, h2, h3, h4, h5, h6⟩ := H
  exact ⟨md, o, cap, g, hg.1 _ _ hq h1, hg.1 _ _ he h2, h3, h4, fun i hi => ⟨(h5 i hi).1, hg.2.2.2.2 _ (h5 i hi).2⟩, h6⟩
theorem hK4_eq {ρ : Type} {G : GS} {a n : Nat} {o : Bool} {x : (Nat → Int32) ⊕ (Nat → Int64) ⊕ (Nat → UInt32) ⊕ (Nat → UInt64) ⊕ (Nat → Option Nat)} {k : Option ρ} (h : G.1 a = some (o, .inl (4, n, x))) : hK4 G a k = k := by
  unfold hK4; rw [h]; simp
theorem hCpyQ_eq {ρ : Type} {G : GS} {a0 a n0 n1 sp dp n : Nat} {o : Bool} {f g : Nat → Option Nat} {kp : GS → Option ρ} (h0 : G.1 a0 = some (o, .inl (4, n0, .inr (.inr (.inr (.inr f)))))) (h1 : G.1 a = some (true, .inl (4, n1, .inr (.inr (.inr (.inr g)))))) (hs : sp + n ≤ n0) (hd : dp + n ≤ n1) (h0n : n0 < 2147483648) (h1n : n1 < 2147483648) (hok : ∀ i, i < n → okR G.1 (f (sp + i)) = true) :
    hCpyQ G a0 (J sp) a (J dp) (J n) kp = kp (setG G a (true, .inl (4, n1, .inr (.inr (.inr (.inr (va_cpy f g sp dp n))))))) := by
  unfold hCpyQ setG
  rw [h0, h1]
  have e : (List.range n).all (fun i => okR G.1 (f (sp + i))) = true := by
    rw [List.all_eq_true]
    intro i hi
    exact hok i (List.mem_range.mp hi)
  show (if 4 = 4 ∧ 4 = 4 then _ else _) = _
  rw [if_pos ⟨rfl, rfl⟩]
  simp (disch := omega) only [J_tn, lit_0, J_lt, Nat.not_lt_zero, false_or]
  rw [if_neg (by omega), if_pos e]
/-- a copy of the first n of an array of references -/
theorem tY_copyOf {ct : CT} {G : GS} {b n cap : Nat} {o : Bool} {g : Nat → Option Nat} (hb : Bd G) (h : G.1 b = some (o, .inl (4, cap, .inr (.inr (.inr (.inr g)))))) (hc : cap < 50000) (hn : n < 100000) (hok : ∀ i, i < n → i < cap → okR G.1 (g i) = true) (hr : Rm ct G 1 n) :
    ∃ f, sY_copyOf ct G (some b) (J n) = some (some G.2.1, setG (addG G n (.inl (4, n, .inr (.inr (.inr (.inr (fun _ => none))))))) G.2.1 (true, .inl (4, n, .inr (.inr (.inr (.inr f)))))) ∧ ∀ i, i < n → i < cap → f i = g i := by
  have hlt := hb _ _ h
  have hb2 : (addG G n (.inl (4, n, .inr (.inr (.inr (.inr (fun _ => none))))))).1 b = some (o, .inl (4, cap, .inr (.inr (.inr (.inr g))))) := (addG_lt hlt).trans h
  have hm : (if J n < J cap then J n else J cap) = J (min n cap) := by
    by_cases c : n < cap
    · rw [if_pos (by rw [J_lt (by omega) (by omega)]; exact c), Nat.min_eq_left (by omega)]
    · rw [if_neg (by rw [J_lt (by omega) (by omega)]; exact c), Nat.min_eq_right (by omega)]
  refine ⟨va_cpy g (fun _ => none) 0 0 (min n cap), ?_, fun i h1 h2 => ?_⟩
  · unfold sY_copyOf
    rw [onR_eq, hK4_eq h]
    unfold sY_copyOf_2
    rw [if_pos rfl, if_neg (by rw [J_tn (by omega), lit_0, J_lt (by omega) (by omega)]; omega), J_tn (by omega), newB_eq hr, onR_eq, hL_eq hb2, hm]
    have e := hCpyQ_eq (ρ := Option Nat × GS) (G := addG G n (.inl (4, n, .inr (.inr (.inr (.inr (fun _ => none))))))) (a0 := b) (a := G.2.1) (sp := 0) (dp := 0) (n := min n cap) (kp := fun G5 => some (some G.2.1, G5)) hb2 addG_at (by omega) (by omega) (by omega) (by omega) (fun i hi => by
      rw [Nat.zero_add]
      exact (grw_add (M := fun _ => False) hb).2.2.2.2 _ (hok i (by omega) (by omega)))
    rw [lit_0, e]
    rfl
  · unfold va_cpy
    rw [if_pos (by omega), Nat.zero_add, Nat.sub_zero]
