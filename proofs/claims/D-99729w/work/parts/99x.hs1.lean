set_option maxRecDepth 100000
/-! THE PLAIN LAW, 52: HorizonSeam's reader, 1 -/
abbrev RC : Type := Nat × Nat × Nat × Nat × Nat × Nat
/-- a reader: (size, made, begun, once, names, its seam); at token begins ends number done stretches -/
def RD (c : RC) (q : Nat) (G : GS) (a k b e u d s : Int32) : Prop := G.1 q = some (true, .inr (4, [.int (J c.1), .ref c.2.1, .ref c.2.2.1, .ref c.2.2.2.1, .ref c.2.2.2.2.1, .int a, .int k, .int b, .int e, .int u, .int d, .int s, .ref c.2.2.2.2.2]))
abbrev Gq (q : Nat) (G G' : GS) : Prop := Gr (fun a => a = q) G G' 0 0
section RDS
variable {ρ : Type} {c : RC} {q : Nat} {G : GS} {a k b e u d s v : Int32} {kp : GS → Option ρ} {Q : ρ → Prop}
theorem RD.hC {x : Option ρ} (H : RD c q G a k b e u d s) : hC G.1 q 4 x = x := hC_eq H
theorem RD.i0 {kp : Int32 → Option ρ} (H : RD c q G a k b e u d s) : hI G.1 q 4 0 kp = kp (J c.1) := hI_eq H rfl
theorem RD.i5 {kp : Int32 → Option ρ} (H : RD c q G a k b e u d s) : hI G.1 q 4 5 kp = kp a := hI_eq H rfl
theorem RD.i6 {kp : Int32 → Option ρ} (H : RD c q G a k b e u d s) : hI G.1 q 4 6 kp = kp k := hI_eq H rfl
theorem RD.i7 {kp : Int32 → Option ρ} (H : RD c q G a k b e u d s) : hI G.1 q 4 7 kp = kp b := hI_eq H rfl
theorem RD.i8 {kp : Int32 → Option ρ} (H : RD c q G a k b e u d s) : hI G.1 q 4 8 kp = kp e := hI_eq H rfl
theorem RD.i9 {kp : Int32 → Option ρ} (H : RD c q G a k b e u d s) : hI G.1 q 4 9 kp = kp u := hI_eq H rfl
theorem RD.i10 {kp : Int32 → Option ρ} (H : RD c q G a k b e u d s) : hI G.1 q 4 10 kp = kp d := hI_eq H rfl
theorem RD.i11 {kp : Int32 → Option ρ} (H : RD c q G a k b e u d s) : hI G.1 q 4 11 kp = kp s := hI_eq H rfl
theorem RD.r1 {kp : Option Nat → Option ρ} (H : RD c q G a k b e u d s) : hR G.1 q 4 1 kp = kp (some c.2.1) := hR_eq H rfl
theorem RD.r2 {kp : Option Nat → Option ρ} (H : RD c q G a k b e u d s) : hR G.1 q 4 2 kp = kp (some c.2.2.1) := hR_eq H rfl
theorem RD.r3 {kp : Option Nat → Option ρ} (H : RD c q G a k b e u d s) : hR G.1 q 4 3 kp = kp (some c.2.2.2.1) := hR_eq H rfl
theorem RD.r4 {kp : Option Nat → Option ρ} (H : RD c q G a k b e u d s) : hR G.1 q 4 4 kp = kp (some c.2.2.2.2.1) := hR_eq H rfl
theorem RD.r12 {kp : Option Nat → Option ρ} (H : RD c q G a k b e u d s) : hR G.1 q 4 12 kp = kp (some c.2.2.2.2.2) := hR_eq H rfl
theorem RD.p5 (H : RD c q G a k b e u d s) (hk : ∀ G', RD c q G' v k b e u d s → Gq q G G' → Ev (kp G') Q) : Ev (hPut G q 4 5 (.int v) kp) Q := by
  rw [hPut_eq H (by simp)]
  exact hk _ setG_at (grw_set (M := fun x => x = q) H rfl (fun z => z))
theorem RD.p6 (H : RD c q G a k b e u d s) (hk : ∀ G', RD c q G' a v b e u d s → Gq q G G' → Ev (kp G') Q) : Ev (hPut G q 4 6 (.int v) kp) Q := by
  rw [hPut_eq H (by simp)]
  exact hk _ setG_at (grw_set (M := fun x => x = q) H rfl (fun z => z))
theorem RD.p7 (H : RD c q G a k b e u d s) (hk : ∀ G', RD c q G' a k v e u d s → Gq q G G' → Ev (kp G') Q) : Ev (hPut G q 4 7 (.int v) kp) Q := by
  rw [hPut_eq H (by simp)]
  exact hk _ setG_at (grw_set (M := fun x => x = q) H rfl (fun z => z))
theorem RD.p8 (H : RD c q G a k b e u d s) (hk : ∀ G', RD c q G' a k b v u d s → Gq q G G' → Ev (kp G') Q) : Ev (hPut G q 4 8 (.int v) kp) Q := by
  rw [hPut_eq H (by simp)]
  exact hk _ setG_at (grw_set (M := fun x => x = q) H rfl (fun z => z))
theorem RD.p9 (H : RD c q G a k b e u d s) (hk : ∀ G', RD c q G' a k b e v d s → Gq q G G' → Ev (kp G') Q) : Ev (hPut G q 4 9 (.int v) kp) Q := by
  rw [hPut_eq H (by simp)]
  exact hk _ setG_at (grw_set (M := fun x => x = q) H rfl (fun z => z))
theorem RD.p10 (H : RD c q G a k b e u d s) (hk : ∀ G', RD c q G' a k b e u v s → Gq q G G' → Ev (kp G') Q) : Ev (hPut G q 4 10 (.int v) kp) Q := by
  rw [hPut_eq H (by simp)]
  exact hk _ setG_at (grw_set (M := fun x => x = q) H rfl (fun z => z))
theorem RD.p11 (H : RD c q G a k b e u d s) (hk : ∀ G', RD c q G' a k b e u d v → Gq q G G' → Ev (kp G') Q) : Ev (hPut G q 4 11 (.int v) kp) Q := by
  rw [hPut_eq H (by simp)]
  exact hk _ setG_at (grw_set (M := fun x => x = q) H rfl (fun z => z))
end RDS
def TpH (tp : Nat → Nat) (n : Nat) (S : US) : Prop := n ≤ 480 ∧ ∀ i, i < n → tp i < 256 ∧ S 3 i = sbJ (tp i)
theorem sb_and {b : Nat} (h : b < 256) : sbJ b &&& (255 : Int32) = J b := co_dec (P := fun b => sbJ b &&& (255 : Int32) = J b) (N := 256) (by decide +kernel) h
def heN (tp : Nat → Nat) (n x : Nat) : Int32 := if x < n then J (tp x) else -1
section RDT
variable {ct : CT} {ad : Nat → Nat} {P : Nat → Nat → Option Nat} {S : US} {tp : Nat → Nat} {n x : Nat} {c : RC} {q : Nat} {G : GS} {k b e u d s : Int32}
theorem tH_here (hT : TpH tp n S) (hc : c.1 = n) (ha : c.2.2.2.2.2 = ad 0) (hx : x ≤ n) (H : RD c q G (J x) k b e u d s) : s5_here ct ad P S G q = some (heN tp n x, G) := by
  obtain ⟨h1, h2⟩ := hT
  unfold s5_here heN
  rw [H.i5, H.i0, hc]
  by_cases z : x < n
  · obtain ⟨g1, g2⟩ := h2 x z
    rw [if_neg (by rw [J_le (by omega) (by omega)]; omega), H.r12, if_pos (by rw [ha]), H.i5, gd (by omega) (by omega), J_tn (by omega), g2, sb_and g1, if_pos z]
  · rw [if_pos (by rw [J_le (by omega) (by omega)]; omega), if_neg z]
theorem tH_isLetter (hT : TpH tp n S) (hc : c.1 = n) (ha : c.2.2.2.2.2 = ad 0) (hx : x ≤ n) (H : RD c q G (J x) k b e u d s) : s5_isLetter ct ad P S G q = some (ltB tp n x, G) := by
  unfold s5_isLetter
  rw [H.hC, tH_here hT hc ha hx H, callK_eq, lit_97, lit_122, tH_in, callK_eq]
  congr 2
  unfold heN ltB
  by_cases z : x < n
  · obtain ⟨g1, g2⟩ := hT.2 x z
    rw [if_pos z]
    show inN (J (tp x)) 97 122 = _
    rw [inN_J (by omega) (by omega) (by omega), ← Bool.decide_and]
    exact decide_eq_decide.mpr ⟨fun w => ⟨z, w⟩, fun w => w.2⟩
  · rw [if_neg z, decide_eq_false (fun w => z w.1)]
    show inN (-1) 97 122 = false
    decide
theorem tH_isDigit (hT : TpH tp n S) (hc : c.1 = n) (ha : c.2.2.2.2.2 = ad 0) (hx : x ≤ n) (H : RD c q G (J x) k b e u d s) : s5_isDigit ct ad P S G q = some (dgB tp n x, G) := by
  unfold s5_isDigit
  rw [H.hC, tH_here hT hc ha hx H, callK_eq, show (48 : Int32) = J 48 from rfl, lit_57, tH_in, callK_eq]
  congr 2
  unfold heN dgB
  by_cases z : x < n
  · obtain ⟨g1, g2⟩ := hT.2 x z
    rw [if_pos z]
    show inN (J (tp x)) 48 57 = _
    rw [inN_J (by omega) (by omega) (by omega), ← Bool.decide_and]
    exact decide_eq_decide.mpr ⟨fun w => ⟨z, w⟩, fun w => w.2⟩
  · rw [if_neg z, decide_eq_false (fun w => z w.1)]
    show inN (-1) 48 57 = false
    decide
end RDT
