set_option maxRecDepth 100000
/-! THE PLAIN LAW, 56: what a rule's text means -/
def byN (o : Nat) (x y : Int32) : Int32 := if o = 4 then (if x = 0 then 0 else if y = 0 then 0 else 1) else if o = 5 then (if x = 0 then (if y = 0 then 0 else 1) else 1) else if o = 6 then (if y ≤ x then 0 else 1) else if o = 7 then (if x = y then 1 else 0) else if o = 8 then x + y else if o = 9 then x - y else if o = 10 then x * y else if y = 0 then 0 else x / y
abbrev Fm : Type := List Nat × FV
abbrev PR : Type := Sum (Nat × Nat) (Fm × Nat)
def numF (v : Nat) : Fm := ([1, v], fun _ => J v)
def valF (k : Nat) : Fm := ([2, k], fun t => t k)
def negF (a : Fm) : Fm := (a.1 ++ [3], fun t => if a.2 t = 0 then 1 else 0)
def binF (o : Nat) (a b : Fm) : Fm := (a.1 ++ b.1 ++ [o], fun t => byN o (a.2 t) (b.2 t))
section TX
variable (tp : Nat → Nat) (n : Nat)
def mulo (x : Nat) : Nat := if isG tp n x 42 = true then 10 else if isG tp n x 47 = true then 11 else 0
def addo (x : Nat) : Nat := if isG tp n x 43 = true then 8 else if isG tp n x 45 = true then 9 else 0
def cmpo (x : Nat) : Nat := if isG tp n x 60 = true then 6 else if isG tp n x 61 = true then 7 else 0
def ando (x : Nat) : Nat := if kwN tp n x = 12 then 4 else 0
def oro (x : Nat) : Nat := if kwN tp n x = 13 then 5 else 0
def chP (opf : Nat → Nat) (pt : Nat → PR) : Nat → Fm → Nat → PR
  | 0, a, x => .inr (a, x)
  | f + 1, a, x => if opf x = 0 then .inr (a, x) else match pt (enN tp n x) with
    | .inl e => .inl e
    | .inr r => chP opf pt f (binF (opf x) a r.1) r.2
def pCh (opf : Nat → Nat) (pt : Nat → PR) (x : Nat) : PR := match pt x with
  | .inl e => .inl e
  | .inr r => chP tp n opf pt (n + 1) r.1 r.2
def pPart (E : Nat → PR) (x : Nat) : PR := if kdN tp n x = 2 then (if 4 < enN tp n x - bgN tp n x then .inl (2, bgN tp n x) else .inr (numF (nmN tp (bgN tp n x) (enN tp n x - bgN tp n x)), enN tp n x)) else if isG tp n x 40 = true then (match E (enN tp n x) with
  | .inl e => .inl e
  | .inr r => if isG tp n r.2 41 = true then .inr (r.1, enN tp n r.2) else .inl (1, bgN tp n r.2)) else if kdN tp n x = 1 then (if kwN tp n x < 6 then .inr (valF (kwN tp n x), enN tp n x) else .inl (3, bgN tp n x)) else .inl (1, bgN tp n x)
def pProd (E : Nat → PR) : Nat → PR := pCh tp n (mulo tp n) (pPart tp n E)
def pSum (E : Nat → PR) : Nat → PR := pCh tp n (addo tp n) (pProd tp n E)
def pCmp (E : Nat → PR) (x : Nat) : PR := match pSum tp n E x with
  | .inl e => .inl e
  | .inr r => if cmpo tp n r.2 = 0 then .inr r else match pSum tp n E (enN tp n r.2) with
    | .inl e => .inl e
    | .inr r2 => .inr (binF (cmpo tp n r.2) r.1 r2.1, r2.2)
def pNt (E : Nat → PR) : Nat → Nat → PR
  | 0, x => if kwN tp n x = 14 then .inl (2, bgN tp n x) else pCmp tp n E x
  | r + 1, x => if kwN tp n x = 14 then (match pNt E r (enN tp n x) with
    | .inl e => .inl e
    | .inr z => .inr (negF z.1, z.2)) else pCmp tp n E x
def pAnd (E : Nat → PR) : Nat → PR := pCh tp n (ando tp n) (pNt tp n E 6)
def pOr (E : Nat → PR) : Nat → PR := pCh tp n (oro tp n) (pAnd tp n E)
def begB (x : Nat) : Bool := decide (kdN tp n x = 2 ∨ kdN tp n x = 1 ∨ isG tp n x 40 = true)
def pExp : Nat → Nat → PR
  | 0, x => if begB tp n x = true then .inl (2, bgN tp n x) else .inl (1, bgN tp n x)
  | d + 1, x => if begB tp n x = true then pOr tp n (pExp d) x else .inl (1, bgN tp n x)
/-- a reader of a part goes on, and not beyond the end -/
def Adv (pt : Nat → PR) : Prop := ∀ x, x ≤ n → match pt x with
  | .inl e => e.1 ≤ 3 ∧ 1 ≤ e.1
  | .inr r => x < r.2 ∧ r.2 ≤ n ∧ r.1.1.length ≤ 2 * (r.2 - x)
end TX
section TY
variable {tp : Nat → Nat} {n : Nat}
theorem isG_nz {x c : Nat} (h : isG tp n x c = true) : kdN tp n x = 3 := by
  unfold isG at h
  exact (of_decide_eq_true h).1
theorem kw_nz {x : Nat} (h : kwN tp n x < 15) : kdN tp n x = 1 := by
  have := (kw_iff h).mp rfl
  unfold isK at this
  exact (of_decide_eq_true this).1
theorem en_gt {x : Nat} (hx : x ≤ n) (h : kdN tp n x ≠ 0) : x < enN tp n x ∧ enN tp n x ≤ n := by
  obtain ⟨e1, e2, e3, e4⟩ := en_ok (tp := tp) hx
  obtain ⟨b1, -⟩ := bg_ok (tp := tp) hx
  have := e4 h
  omega
theorem mul_nz {x : Nat} (h : mulo tp n x ≠ 0) : kdN tp n x ≠ 0 := by
  unfold mulo at h
  split at h
  · rename_i z; rw [isG_nz z]; decide
  · split at h
    · rename_i z; rw [isG_nz z]; decide
    · exact absurd rfl h
theorem add_nz {x : Nat} (h : addo tp n x ≠ 0) : kdN tp n x ≠ 0 := by
  unfold addo at h
  split at h
  · rename_i z; rw [isG_nz z]; decide
  · split at h
    · rename_i z; rw [isG_nz z]; decide
    · exact absurd rfl h
theorem cmp_nz {x : Nat} (h : cmpo tp n x ≠ 0) : kdN tp n x ≠ 0 := by
  unfold cmpo at h
  split at h
  · rename_i z; rw [isG_nz z]; decide
  · split at h
    · rename_i z; rw [isG_nz z]; decide
    · exact absurd rfl h
theorem and_nz {x : Nat} (h : ando tp n x ≠ 0) : kdN tp n x ≠ 0 := by
  unfold ando at h
  split at h
  · rename_i z; rw [kw_nz (by omega)]; decide
  · exact absurd rfl h
theorem or_nz {x : Nat} (h : oro tp n x ≠ 0) : kdN tp n x ≠ 0 := by
  unfold oro at h
  split at h
  · rename_i z; rw [kw_nz (by omega)]; decide
  · exact absurd rfl h
theorem chP_adv {opf : Nat → Nat} {pt : Nat → PR} (ho : ∀ x, opf x ≠ 0 → kdN tp n x ≠ 0) (hp : Adv n pt) : ∀ f a x x0, x0 < x → x ≤ n → a.1.length ≤ 2 * (x - x0) → match chP tp n opf pt f a x with
    | .inl e => e.1 ≤ 3 ∧ 1 ≤ e.1
    | .inr r => x0 < r.2 ∧ r.2 ≤ n ∧ r.1.1.length ≤ 2 * (r.2 - x0) := fun f => by
  induction f with
  | zero => intro a x x0 h1 h2 h3; exact ⟨h1, h2, h3⟩
  | succ f ih =>
    intro a x x0 h1 h2 h3
    by_cases c : opf x = 0
    · have e : chP tp n opf pt (f + 1) a x = .inr (a, x) := if_pos c
      rw [e]
      exact ⟨h1, h2, h3⟩
    · obtain ⟨g1, g2⟩ := en_gt (tp := tp) h2 (ho x c)
      have h := hp _ g2
      have e : chP tp n opf pt (f + 1) a x = match pt (enN tp n x) with
        | .inl e => .inl e
        | .inr r => chP tp n opf pt f (binF (opf x) a r.1) r.2 := if_neg c
      rw [e]
      cases hr : pt (enN tp n x) with
      | inl e => rw [hr] at h; exact h
      | inr r =>
        rw [hr] at h
        obtain ⟨k1, k2, k3⟩ := h
        refine ih _ _ x0 (by omega) k2 ?_
        show (a.1 ++ r.1.1 ++ [opf x]).length ≤ _
        rw [List.length_append, List.length_append, List.length_singleton]
        omega
theorem pCh_adv {opf : Nat → Nat} {pt : Nat → PR} (ho : ∀ x, opf x ≠ 0 → kdN tp n x ≠ 0) (hp : Adv n pt) : Adv n (pCh tp n opf pt) := fun x hx => by
  have h := hp x hx
  unfold pCh
  cases hr : pt x with
  | inl e => rw [hr] at h; exact h
  | inr r =>
    rw [hr] at h
    exact chP_adv ho hp _ _ _ x h.1 h.2.1 h.2.2
theorem pPart_adv {E : Nat → PR} (hE : Adv n E) : Adv n (pPart tp n E) := fun x hx => by
  unfold pPart
  by_cases c2 : kdN tp n x = 2
  · obtain ⟨g1, g2⟩ := en_gt (tp := tp) hx (by omega)
    rw [if_pos c2]
    by_cases c4 : 4 < enN tp n x - bgN tp n x
    · rw [if_pos c4]; exact ⟨by simp, by simp⟩
    · rw [if_neg c4]; exact ⟨g1, g2, by show 2 ≤ _; omega⟩
  · rw [if_neg c2]
    by_cases c : isG tp n x 40 = true
    · obtain ⟨g1, g2⟩ := en_gt (tp := tp) hx (by rw [isG_nz c]; decide)
      have h := hE _ g2
      rw [if_pos c]
      cases hr : E (enN tp n x) with
      | inl e => rw [hr] at h; exact h
      | inr r =>
        rw [hr] at h
        obtain ⟨k1, k2, k3⟩ := h
        dsimp only
        by_cases d : isG tp n r.2 41 = true
        · obtain ⟨l1, l2⟩ := en_gt (tp := tp) k2 (by rw [isG_nz d]; decide)
          rw [if_pos d]
          exact ⟨by show x < enN tp n r.2; omega, l2, by show r.1.1.length ≤ 2 * (enN tp n r.2 - x); omega⟩
        · rw [if_neg d]; exact ⟨by simp, by simp⟩
    · rw [if_neg c]
      by_cases c1 : kdN tp n x = 1
      · obtain ⟨g1, g2⟩ := en_gt (tp := tp) hx (by omega)
        rw [if_pos c1]
        by_cases c6 : kwN tp n x < 6
        · rw [if_pos c6]; exact ⟨g1, g2, by show 2 ≤ _; omega⟩
        · rw [if_neg c6]; exact ⟨by simp, by simp⟩
      · rw [if_neg c1]; exact ⟨by simp, by simp⟩
theorem pSum_adv {E : Nat → PR} (hE : Adv n E) : Adv n (pSum tp n E) := pCh_adv (fun _ => add_nz) (pCh_adv (fun _ => mul_nz) (pPart_adv hE))
theorem pCmp_adv {E : Nat → PR} (hE : Adv n E) : Adv n (pCmp tp n E) := fun x hx => by
  have h := pSum_adv (tp := tp) hE x hx
  unfold pCmp
  cases hr : pSum tp n E x with
  | inl e => rw [hr] at h; exact h
  | inr r =>
    rw [hr] at h
    obtain ⟨k1, k2, k3⟩ := h
    dsimp only
    by_cases c : cmpo tp n r.2 = 0
    · rw [if_pos c]; exact ⟨k1, k2, k3⟩
    · obtain ⟨g1, g2⟩ := en_gt (tp := tp) k2 (cmp_nz c)
      have h2 := pSum_adv (tp := tp) hE _ g2
      rw [if_neg c]
      cases hr2 : pSum tp n E (enN tp n r.2) with
      | inl e => rw [hr2] at h2; exact h2
      | inr r2 =>
        rw [hr2] at h2
        obtain ⟨l1, l2, l3⟩ := h2
        refine ⟨by show x < r2.2; omega, l2, ?_⟩
        show (r.1.1 ++ r2.1.1 ++ [cmpo tp n r.2]).length ≤ 2 * (r2.2 - x)
        rw [List.length_append, List.length_append, List.length_singleton]
        omega
theorem pNt_adv {E : Nat → PR} (hE : Adv n E) : ∀ r, Adv n (pNt tp n E r) := fun r => by
  induction r with
  | zero =>
    intro x hx
    unfold pNt
    by_cases c : kwN tp n x = 14
    · rw [if_pos c]; exact ⟨by simp, by simp⟩
    · rw [if_neg c]; exact pCmp_adv hE x hx
  | succ r ih =>
    intro x hx
    unfold pNt
    by_cases c : kwN tp n x = 14
    · obtain ⟨g1, g2⟩ := en_gt (tp := tp) hx (by rw [kw_nz (by omega)]; decide)
      have h := ih _ g2
      rw [if_pos c]
      cases hr : pNt tp n E r (enN tp n x) with
      | inl e => rw [hr] at h; exact h
      | inr z =>
        rw [hr] at h
        obtain ⟨k1, k2, k3⟩ := h
        refine ⟨by show x < z.2; omega, k2, ?_⟩
        show (z.1.1 ++ [3]).length ≤ 2 * (z.2 - x)
        rw [List.length_append, List.length_singleton]
        omega
    · rw [if_neg c]; exact pCmp_adv hE x hx
theorem pOr_adv {E : Nat → PR} (hE : Adv n E) : Adv n (pOr tp n E) := pCh_adv (fun _ => or_nz) (pCh_adv (fun _ => and_nz) (pNt_adv hE 6))
theorem pExp_adv : ∀ d, Adv n (pExp tp n d) := fun d => by
  induction d with
  | zero =>
    intro x hx
    unfold pExp
    by_cases c : begB tp n x = true
    · rw [if_pos c]; exact ⟨by simp, by simp⟩
    · rw [if_neg c]; exact ⟨by simp, by simp⟩
  | succ d ih =>
    intro x hx
    unfold pExp
    by_cases c : begB tp n x = true
    · rw [if_pos c]; exact pOr_adv ih x hx
    · rw [if_neg c]; exact ⟨by simp, by simp⟩
end TY
