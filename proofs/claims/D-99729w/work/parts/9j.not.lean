set_option maxRecDepth 100000
/-! THE PLAIN LAW, 64: HorizonSeam's reader, 9: not, and what is less or the same -/
def ngK : Nat → Fm → Fm
  | 0, a => a
  | k + 1, a => negF (ngK k a)
theorem ng_s {k : Nat} {a : Fm} : ngK k (negF a) = ngK (k + 1) a := by
  induction k with
  | zero => rfl
  | succ k ih => show negF (ngK k (negF a)) = _; rw [ih]; rfl
def mapR (f : Fm → Fm) (r : PR) : PR := match r with
  | .inl e => .inl e
  | .inr z => .inr (f z.1, z.2)
section L5
variable {ct : CT} {ad : Nat → Nat} {P : Nat → Nat → Option Nat} {S : US} {tp : Nat → Nat} {n : Nat} {c : RC} {q : Nat} {d s : Int32}
theorem tN_85 {lo q5 dd m k : Nat} {G : GS} {a : Fm} (B : GB ct G) (hm : 1 ≤ m) (hm2 : m < 1000) (hCh : ChO ct lo G q5 dd m a.2) (hlo : lo ≤ G.2.1) (hk : k ≤ 6) (hr : Rm ct G 6 6) : Ev (s5_not_J85 ct (J k) q5 G) (fun o => ∃ b, o.1 = some b ∧ Fw ct (dd + 7) lo o.2.2.1 o.2.1 b (ngK k a).2 ∧ Gr (fun _ => False) G o.2 k k) := by
  have hcls : ∀ (ρ : Type) (x : Option ρ), hC G.1 q5 6 x = x := fun ρ x => by
    obtain ⟨ql, el, qs, bs, cap, fl, sg, l, u, Fs, op, t1, -⟩ := hCh
    exact hC_eq t1
  unfold s5_not_J85
  rw [hcls]
  refine (tC_plain B.1 hm hm2 hCh).call (fun o y => ?_)
  obtain ⟨b, y1, y2, y3⟩ := y
  rw [y1, y2, onR_eq]
  refine Ev.loop (fun i w => ∃ b', w.2.1 = some b' ∧ w.2.2 = J i ∧ Fw ct (dd + 1 + i) lo w.1.2.1 w.1.1 b' (ngK i a).2 ∧ Gr (fun _ => False) G w.1 i i) k ?_ ?_ ⟨b, rfl, rfl, y3, Gr.rf⟩ (by unfold FUEL; omega)
  · rintro i hi ⟨G1, v22, v23⟩ ⟨b', z1, z2, z3, z4⟩ rc hrc
    simp only at z1 z2 z3 z4
    subst z1
    subst z2
    show Ev (s5_not_L94 ct (J k) rc G1 (some b') (J i)) _
    unfold s5_not_L94
    have hr1 : Rm ct G1 1 1 := Rm.gr (hr.le (c' := i + 1) (z' := i + 1) (by omega) (by omega)) z4
    have B1 := B.gr z4 (fun a ha => ha.elim)
    rw [if_neg (by rw [J_le (by omega) (by omega)]; omega), newB_eq hr1]
    have ga : Gr (fun _ => False) G1 (addG G1 1 (.inr (9, [.null]))) 1 1 := grw_add B1.1
    unfold s10_init
    refine Ev.call (P := fun G' => G'.1 G1.2.1 = some (true, .inr (9, [.ref b'])) ∧ Gq G1.2.1 (addG G1 1 (.inr (9, [.null]))) G') (Ev.hp addG_at (by simp) (fun G' w1 w2 => ⟨_, rfl, w1, w2⟩)) (fun G' w => ?_)
    obtain ⟨w1, w2⟩ := w
    have g1 : Gr (fun _ => False) G1 G' (1 + 0) (1 + 0) := ga.fresh w2 B1.1 (fun a ha => by omega)
    have hle := z4.2.1.1
    have hlt : (addG G1 1 (.inr (9, [.null]))).2.1 = G1.2.1 + 1 := rfl
    have hle2 := w2.2.1.1
    rw [lit_1, J_add]
    refine hrc (_, _, _) ⟨G1.2.1, rfl, rfl, ?_, (z4.tr g1).le (by omega) (by omega)⟩
    exact Fw.neg (lo := lo) (hi := G'.2.1) w1 (by omega) (by omega) (z3.gr g1 (fun a ha => ha.elim)) (Nat.le_refl _) (by omega)
  · rintro ⟨G1, v22, v23⟩ ⟨b', z1, z2, z3, z4⟩ rc
    simp only at z1 z2 z3 z4
    subst z1
    subst z2
    show Ev (s5_not_L94 ct (J k) rc G1 (some b') (J k)) _
    unfold s5_not_L94
    rw [if_pos (Int32.le_refl _)]
    exact ⟨_, rfl, b', rfl, z3.mono (by omega) (Nat.le_refl _) (Nat.le_refl _), z4⟩
end L5
