set_option maxRecDepth 100000
/-! THE PLAIN LAW, 24: image, restore, what was seen -/
theorem p2_at {P : Nat → Nat → Option Nat} {i k : Nat} {r : Option Nat} : p2 P i k r i k = r := if_pos ⟨rfl, rfl⟩
theorem p2_off {P : Nat → Nat → Option Nat} {i k a b : Nat} {r : Option Nat} (h : a ≠ i ∨ b ≠ k) : p2 P i k r a b = P a b := if_neg (fun z => by rcases h with h | h; exact h z.1; exact h z.2)
theorem p2_row {P : Nat → Nat → Option Nat} {i k a : Nat} {r : Option Nat} (h : a ≠ i) : p2 P i k r a = P a := by
  funext b
  exact p2_off (Or.inl h)
/-- a new list -/
theorem Ev.nl {ρ : Type} {ct : CT} {G : GS} {f : Nat → Option Nat} {kp : Nat → GS → Option ρ} {Q : ρ → Prop} (B : GB ct G) (hr : Rm ct G 1 3) (h : ∀ G', OLst ct G'.1 G.2.1 (ct.2.1 0) 0 f → Gr (fun _ => False) G G' 1 3 → Ev (kp G.2.1 G') Q) : Ev (newB ct G 3 (.inr (10, [.int 0, .null, .int 0])) (fun q G1 => callK (sL_init ct G1 q) (fun o => kp q o))) Q := by
  rw [newB_eq hr]
  have ga : Gr (fun _ => False) G (addG G 3 (.inr (10, [.int 0, .null, .int 0]))) 1 3 := grw_add B.1
  refine Ev.call (tL_init (f := f) (B.gr ga (fun a h => h.elim)) addG_at B.2.2) (fun G' hG' => h G' hG'.1 ?_)
  exact ga.fresh hG'.2 B.1 (fun a ha => by rw [ha]; exact Nat.le_refl _)
/-- a new list out of another -/
theorem Ev.nc {ρ : Type} {ct : CT} {G : GS} {p n : Nat} {r : Option Nat} {f : Nat → Option Nat} {kp : Nat → GS → Option ρ} {Q : ρ → Prop} (B : GB ct G) (hp : r = some p) (src : LstC G.1 p n f) (hok : ∀ i, i < n → okR G.1 (f i) = true) (hr : Rm ct G 2 (3 + n)) (h : ∀ G' e', OLst ct G'.1 G.2.1 e' n f → (G.2.1 ≤ e' ∨ e' = ct.2.1 1) → Gr (fun _ => False) G G' 2 (3 + n) → Ev (kp G.2.1 G') Q) : Ev (newB ct G 3 (.inr (10, [.int 0, .null, .int 0])) (fun q G1 => letB r (fun r5 => callK (sL_init_2 ct G1 q r5) (fun o => kp q o)))) Q := by
  subst hp
  rw [newB_eq (hr.le (by omega) (by omega)), letB_eq]
  have ga : Gr (fun _ => False) G (addG G 3 (.inr (10, [.int 0, .null, .int 0]))) 1 3 := grw_add B.1
  refine Ev.call (tL_copy (B.gr ga (fun a h => h.elim)) addG_at B.2.2 (src.sub ga.sub) (fun i hi => ga.2.2.2.2 _ (hok i hi)) (Rm.gr (c := 1) (z := 3) hr ga)) (fun G' hG' => ?_)
  obtain ⟨e', h1, h2, h3⟩ := hG'
  refine h G' e' h1 (h2.imp (fun h => Nat.le_trans ga.2.1.1 h) id) ?_
  exact ga.fresh h3 B.1 (fun a ha => by rw [ha]; exact Nat.le_refl _)
theorem OLst.cut {ct : CT} {M : List Nat} {h : AH} {q e n : Nat} {f : Nat → Option Nat} (H : OLst ct h q e n f) (hq : q ∉ M) (he : e ∉ M ∨ e < ct.2.2.1) : LstC (cutM ct M h) q n f := by
  obtain ⟨⟨md, o, cap, g, h1, h2, h3, h4, h5, h6⟩, -⟩ := H
  refine ⟨true, md, e, o, cap, g, (cutM_out hq).trans h1, ?_, h3, h4, fun i hi => (h5 i hi).1⟩
  rcases he with he | he
  · exact (cutM_out he).trans h2
  · refine Eq.trans (if_neg (fun z => ?_)) h2
    have := z.2
    omega
theorem LnF.cut {ct : CT} {M : List Nat} {h : AH} {b : Nat} {d : Int32} {o : Value} {f : US} (H : LnF h b d o f) (hM : ∀ a, b ≤ a → a ≤ b + 6 → a ∉ M) : LnF (cutM ct M h) b d o f := H.mp (fun a e h1 h2 h3 => (cutM_out (hM a h1 h2)).trans h3)
theorem tM_image {S : US} : Ev (sM_image S) (fun S' => (S' 0 0 = J 0 ∧ S' 0 57 = J 1 ∧ S' 0 58 = S 0 42 ∧ S' 0 59 = S 0 51) ∧ ((∀ i, i < 49 → S' 28 i = S 14 i) ∧ (∀ k, k < 1960 → S' 29 k = S 15 k) ∧ ∀ k, k < 24 → S' 30 k = S 24 k) ∧ (∀ k, k ≠ 0 → k ≠ 57 → k ≠ 58 → k ≠ 59 → S' 0 k = S 0 k) ∧ ∀ a, a ≠ 0 → a ≠ 28 → a ≠ 29 → a ≠ 30 → S' a = S a) := by
  unfold sM_image
  simp (disch := omega) only [lit_0, lit_1, lit_2, lit_3, lit_4, lit_5, lit_6, lit_7, lit_8, lit_9, lit_10, lit_11, lit_12, lit_13, lit_14, lit_15, lit_20, lit_24, lit_25, lit_37, lit_40, lit_43, lit_48, lit_49, lit_50, lit_60, lit_96, lit_98, lit_99, lit_100, lit_999, lit_62, lit_74, lit_86, lit_92, lit_99999, lit_100000, lit_16, lit_32767, lit_2147483639, J_add, J_mul, J_sub, J_tn, J_le, J_lt, J_eq, Nat.not_lt_zero, false_or, or_false, le_t, le_f, lt_t, lt_f, eq_f, ↓reduceIte, callK_eq, letB_eq, joinB_eq, Nat.add_assoc]
  refine Ev.loop2 (i0 := 0) (fun i x => (x 0 0 = J 0 ∧ x 0 57 = J 1 ∧ x 0 58 = S 0 42 ∧ x 0 59 = S 0 51) ∧ (∀ k, k < i → x 28 k = S 14 k) ∧ (∀ k, k ≠ 0 → k ≠ 57 → k ≠ 58 → k ≠ 59 → x 0 k = S 0 k) ∧ ∀ a, a ≠ 0 → a ≠ 28 → x a = S a) 49 ⟨⟨?_, ?_, ?_, ?_⟩, fun k hk => absurd hk (Nat.not_lt_zero k), fun k k1 k2 k3 k4 => ?_, fun a h1 h2 => ?_⟩ (by omega) ?_ ?_ (by unfold FUEL; omega)
  · rw [u2_off (by omega), u2_off (by omega), u2_off (by omega), u2_at]
  · rw [u2_off (by omega), u2_off (by omega), u2_at]
  · rw [u2_off (by omega), u2_at, u2_off (by omega), u2_off (by omega)]
  · rw [u2_at, u2_off (by omega), u2_off (by omega), u2_off (by omega)]
  · rw [u2_off (by omega), u2_off (by omega), u2_off (by omega), u2_off (by omega)]
  · rw [u2_row _ _ _ _ h1, u2_row _ _ _ _ h1, u2_row _ _ _ _ h1, u2_row _ _ _ _ h1]
  · rintro i - hi S1 ⟨h1, h2, h3, h4⟩ rc hrc
    have h6 : S1 14 i = S 14 i := by rw [h4 14 (by decide) (by decide)]
    unfold sM_image_L28
    simp (disch := omega) only [lit_0, lit_1, lit_2, lit_3, lit_4, lit_5, lit_6, lit_7, lit_8, lit_9, lit_10, lit_11, lit_12, lit_13, lit_14, lit_15, lit_20, lit_24, lit_25, lit_37, lit_40, lit_43, lit_48, lit_49, lit_50, lit_60, lit_96, lit_98, lit_99, lit_100, lit_999, lit_62, lit_74, lit_86, lit_92, lit_99999, lit_100000, lit_16, lit_32767, lit_2147483639, J_add, J_mul, J_sub, J_tn, J_le, J_lt, J_eq, Nat.not_lt_zero, false_or, or_false, le_t, le_f, lt_t, lt_f, eq_f, ↓reduceIte, callK_eq, letB_eq, joinB_eq, Nat.add_assoc, h6]
    refine hrc _ ⟨?_, fun k hk => ?_, fun k k1 k2 k3 k4 => ?_, fun a ha hb => ?_⟩
    · rw [u2_row' (by omega)]; exact h1
    · by_cases e : k = i
      · subst e; rw [u2_at]
      · rw [u2_off (by omega)]; exact h2 k (by omega)
    · rw [u2_row' (by omega)]; exact h3 k k1 k2 k3 k4
    · rw [u2_row _ _ _ _ hb]; exact h4 a ha hb
  · rintro S1 ⟨h1, h2, h3, h4⟩ rc
    unfold sM_image_L28
    simp (disch := omega) only [lit_0, lit_1, lit_2, lit_3, lit_4, lit_5, lit_6, lit_7, lit_8, lit_9, lit_10, lit_11, lit_12, lit_13, lit_14, lit_15, lit_20, lit_24, lit_25, lit_37, lit_40, lit_43, lit_48, lit_49, lit_50, lit_60, lit_96, lit_98, lit_99, lit_100, lit_999, lit_62, lit_74, lit_86, lit_92, lit_99999, lit_100000, lit_16, lit_32767, lit_2147483639, J_add, J_mul, J_sub, J_tn, J_le, J_lt, J_eq, Nat.not_lt_zero, false_or, or_false, le_t, le_f, lt_t, lt_f, eq_f, ↓reduceIte, callK_eq, letB_eq, joinB_eq, Nat.add_assoc]
    refine Ev.call (tM_copies (i1 := 15) (i2 := 29) (by decide) (by decide)) (fun S3 h5 => ?_)
    refine Ev.call (tM_copies (i1 := 24) (i2 := 30) (by decide) (by decide)) (fun S4 h6 => ⟨_, rfl, ?_, ⟨fun i hi => ?_, fun k hk => ?_, fun k hk => ?_⟩, fun k k1 k2 k3 k4 => ?_, fun a a1 a2 a3 a4 => ?_⟩)
    · rw [h6.2 0 (by decide), h5.2 0 (by decide)]; exact h1
    · rw [h6.2 28 (by decide), h5.2 28 (by decide)]; exact h2 i hi
    · rw [h6.2 29 (by decide), h5.1 k hk, h4 15 (by decide) (by decide)]
    · rw [h6.1 k hk, h5.2 24 (by decide), h4 24 (by decide) (by decide)]
    · rw [h6.2 0 (by decide), h5.2 0 (by decide)]; exact h3 k k1 k2 k3 k4
    · rw [h6.2 a a4, h5.2 a a3]; exact h4 a a1 a2
theorem tM_restore {S : US} (h57 : S 0 57 = J 1) : Ev (sM_restore S) (fun o => o.1 = true ∧ (o.2 0 0 = J 0 ∧ o.2 0 42 = S 0 58 ∧ o.2 0 51 = S 0 59) ∧ ((∀ i, i < 49 → o.2 14 i = S 28 i) ∧ (∀ k, k < 1960 → o.2 15 k = S 29 k) ∧ ∀ k, k < 24 → o.2 24 k = S 30 k) ∧ (∀ k, k ≠ 0 → k ≠ 42 → k ≠ 51 → o.2 0 k = S 0 k) ∧ ∀ a, a ≠ 0 → a ≠ 14 → a ≠ 15 → a ≠ 24 → o.2 a = S a) := by
  unfold sM_restore
  simp (disch := omega) only [lit_0, lit_1, lit_2, lit_3, lit_4, lit_5, lit_6, lit_7, lit_8, lit_9, lit_10, lit_11, lit_12, lit_13, lit_14, lit_15, lit_20, lit_24, lit_25, lit_37, lit_40, lit_43, lit_48, lit_49, lit_50, lit_60, lit_96, lit_98, lit_99, lit_100, lit_999, lit_62, lit_74, lit_86, lit_92, lit_99999, lit_100000, lit_16, lit_32767, lit_2147483639, J_add, J_mul, J_sub, J_tn, J_le, J_lt, J_eq, Nat.not_lt_zero, false_or, or_false, le_t, le_f, lt_t, lt_f, eq_f, ↓reduceIte, callK_eq, letB_eq, joinB_eq, Nat.add_assoc, u2_off, h57]
  refine Ev.loop2 (i0 := 0) (fun i x => (x 0 0 = J 0 ∧ x 0 42 = S 0 58 ∧ x 0 51 = S 0 59) ∧ (∀ k, k < i → x 14 k = S 28 k) ∧ (∀ k, k ≠ 0 → k ≠ 42 → k ≠ 51 → x 0 k = S 0 k) ∧ ∀ a, a ≠ 0 → a ≠ 14 → x a = S a) 49 ⟨⟨?_, ?_, ?_⟩, fun k hk => absurd hk (Nat.not_lt_zero k), fun k k1 k2 k3 => ?_, fun a h1 h2 => ?_⟩ (by omega) ?_ ?_ (by unfold FUEL; omega)
  · rw [u2_off (by omega), u2_off (by omega), u2_at]
  · rw [u2_off (by omega), u2_at]
  · rw [u2_at]
  · rw [u2_off (by omega), u2_off (by omega), u2_off (by omega)]
  · rw [u2_row _ _ _ _ h1, u2_row _ _ _ _ h1, u2_row _ _ _ _ h1]
  · rintro i - hi S1 ⟨h1, h2, h3, h4⟩ rc hrc
    have h6 : S1 28 i = S 28 i := by rw [h4 28 (by decide) (by decide)]
    unfold sM_restore_L32
    simp (disch := omega) only [lit_0, lit_1, lit_2, lit_3, lit_4, lit_5, lit_6, lit_7, lit_8, lit_9, lit_10, lit_11, lit_12, lit_13, lit_14, lit_15, lit_20, lit_24, lit_25, lit_37, lit_40, lit_43, lit_48, lit_49, lit_50, lit_60, lit_96, lit_98, lit_99, lit_100, lit_999, lit_62, lit_74, lit_86, lit_92, lit_99999, lit_100000, lit_16, lit_32767, lit_2147483639, J_add, J_mul, J_sub, J_tn, J_le, J_lt, J_eq, Nat.not_lt_zero, false_or, or_false, le_t, le_f, lt_t, lt_f, eq_f, ↓reduceIte, callK_eq, letB_eq, joinB_eq, Nat.add_assoc, h6]
    refine hrc _ ⟨?_, fun k hk => ?_, fun k k1 k2 k3 => ?_, fun a ha hb => ?_⟩
    · rw [u2_row' (by omega)]; exact h1
    · by_cases e : k = i
      · subst e; rw [u2_at]
      · rw [u2_off (by omega)]; exact h2 k (by omega)
    · rw [u2_row' (by omega)]; exact h3 k k1 k2 k3
    · rw [u2_row _ _ _ _ hb]; exact h4 a ha hb
  · rintro S1 ⟨h1, h2, h3, h4⟩ rc
    unfold sM_restore_L32
    simp (disch := omega) only [lit_0, lit_1, lit_2, lit_3, lit_4, lit_5, lit_6, lit_7, lit_8, lit_9, lit_10, lit_11, lit_12, lit_13, lit_14, lit_15, lit_20, lit_24, lit_25, lit_37, lit_40, lit_43, lit_48, lit_49, lit_50, lit_60, lit_96, lit_98, lit_99, lit_100, lit_999, lit_62, lit_74, lit_86, lit_92, lit_99999, lit_100000, lit_16, lit_32767, lit_2147483639, J_add, J_mul, J_sub, J_tn, J_le, J_lt, J_eq, Nat.not_lt_zero, false_or, or_false, le_t, le_f, lt_t, lt_f, eq_f, ↓reduceIte, callK_eq, letB_eq, joinB_eq, Nat.add_assoc]
    refine Ev.call (tM_copies (i1 := 29) (i2 := 15) (by decide) (by decide)) (fun S3 h5 => ?_)
    refine Ev.call (tM_copies (i1 := 30) (i2 := 24) (by decide) (by decide)) (fun S4 h6 => ⟨_, rfl, rfl, ?_, ⟨fun i hi => ?_, fun k hk => ?_, fun k hk => ?_⟩, fun k k1 k2 k3 => ?_, fun a a1 a2 a3 a4 => ?_⟩)
    · show S4 0 0 = J 0 ∧ S4 0 42 = S 0 58 ∧ S4 0 51 = S 0 59; rw [h6.2 0 (by decide), h5.2 0 (by decide)]; exact h1
    · show S4 14 i = _; rw [h6.2 14 (by decide), h5.2 14 (by decide)]; exact h2 i hi
    · show S4 15 k = _; rw [h6.2 15 (by decide), h5.1 k hk, h4 29 (by decide) (by decide)]
    · show S4 24 k = _; rw [h6.1 k hk, h5.2 30 (by decide), h4 30 (by decide) (by decide)]
    · show S4 0 k = _; rw [h6.2 0 (by decide), h5.2 0 (by decide)]; exact h3 k k1 k2 k3
    · show S4 a = _; rw [h6.2 a a4, h5.2 a a3]; exact h4 a a1 a2
theorem R_forget {ct : CT} {a0 q0 j : Nat} {S : US} {G : GS} {P : Nat → Nat → Option Nat} {ad : Nat → Nat} {S2 : US} {u : RU} {r : Nat → Nat} {q1 e1 c1 : Nat} {f1 : Nat → Option Nat} {R1 : Nat → Nat → Nat} {q2 e2 c2 : Nat} {f2 : Nat → Option Nat} {sn : Nat → Nat} {t : Nat} (hj : j < 24) (H : InvD ct a0 q0 j S G P ad S2 u r q1 e1 c1 f1 R1 q2 e2 c2 f2 sn t) : ∃ os om, s1_forget ct ad P S G = some os ∧ sM_forget S2 = some om ∧ Inv ct a0 q0 (j + 1) S os.1 os.2 ad om := by
  obtain ⟨⟨h1, h2, h3, h4, h5, h6⟩, hC, hA, hI, hT, hF, hW, hIm⟩ := H
  obtain ⟨s1, ⟨s2, s3, s4, s5⟩, s6, s7, s8, s9⟩ := id h5
  have hb := h2.1
  have hrm : Rm ct G 49000 228000 := h3.rm h2 hj (by omega) (by omega)
  have key : Ev (s1_forget ct ad P S G) (fun os => OLst ct os.1.1 G.2.1 (ct.2.1 0) 0 f2 ∧ Gr (fun _ => False) G os.1 1 3 ∧ os.2 = p2 P 0 10 (some G.2.1)) := by
    unfold s1_forget
    refine Ev.nl (f := f2) h2 (hrm.le (by omega) (by omega)) (fun G' k1 k2 => ?_)
    rw [letB_eq]
    exact ⟨_, rfl, k1, k2, rfl⟩
  obtain ⟨os, o1, o2, o3, o4⟩ := key
  obtain ⟨g0, h4'⟩ := h4
  have l1 := hA.2.1.lt hb
  have l0 := hb _ _ h4'
  have hoa := h2.oa (i := 0) (by decide)
  have hk : Sub (cutI ct q0 q1 e1 q2 e2 G.1) (cutI ct q0 q1 e1 G.2.1 (ct.2.1 0) os.1.1) := cutM_gr hb o3 (fun a h => h.elim) (fun a ha hab => by
    simp only [List.mem_cons, List.not_mem_nil, or_false] at ha ⊢
    omega)
  refine ⟨os, u2 (Z0 S2) 0 51 (J 0), o1, rfl, u, r, q1, e1, c1, f1, R1, G.2.1, ct.2.1 0, 0, f2, sn, t, ⟨h1, h2.gr o3 (fun a h => h.elim), h3.gr o3 (by omega) (by omega), ⟨g0, o3.1 _ _ (fun z => z) h4'⟩, ⟨s1, ⟨s2, s3, by omega, by omega⟩, by omega, ?_, by omega, fun h => by omega⟩, by omega⟩, ?_, hA.keep hk o3 (fun z => z) (fun z => z) (by rw [o4]; exact p2_off (by omega)) ?_ ?_ (by omega), ⟨by rw [o4]; exact p2_at, o2, fun i hi => absurd hi (Nat.not_lt_zero i), by omega, u2_at, fun i hi => absurd hi (by omega)⟩, hT.keep rfl ?_ rfl ?_, hF.keep rfl ?_ rfl ?_, hW.keep hk (by rw [o4]; exact p2_off (by omega)) ?_ ?_ ?_, hIm.keep hk (by rw [o4]; exact p2_off (by omega)) (by rw [o4]; exact p2_off (by omega)) (by rw [o4]; exact p2_off (by omega)) ?_ ?_ ?_ ?_ ?_ ?_ (by omega)⟩
  · intro z
    have := hA.2.1.2.1
    omega
  · refine ⟨hC.1, hC.2.1, hC.2.2.1, (hC.2.2.2.1.sub hk).ofP rfl (by rw [o4]; exact p2_row (by decide)), hC.2.2.2.2.1, hC.2.2.2.2.2.1.of2 (fun k hk1 hk7 => ?_) ?_ ?_, hC.2.2.2.2.2.2.of ?_⟩
    · rw [u2_off (by omega)]; unfold Z0; rw [u2_off (by omega)]
    · rw [u2_row' (by omega)]; exact u2_row' (by omega)
    · rw [u2_row' (by omega)]; exact u2_row' (by omega)
    · rw [u2_row' (by omega)]; exact u2_row' (by omega)
  all_goals first
    | (rw [u2_off (by omega)]; unfold Z0; rw [u2_off (by omega)])
    | (rw [u2_row' (by omega)]; exact u2_row' (by omega))
theorem R_image {ct : CT} {a0 q0 j : Nat} {S : US} {G : GS} {P : Nat → Nat → Option Nat} {ad : Nat → Nat} {S2 : US} {u : RU} {r : Nat → Nat} {q1 e1 c1 : Nat} {f1 : Nat → Option Nat} {R1 : Nat → Nat → Nat} {q2 e2 c2 : Nat} {f2 : Nat → Option Nat} {sn : Nat → Nat} {t : Nat} (hj : j < 24) (H : InvD ct a0 q0 j S G P ad S2 u r q1 e1 c1 f1 R1 q2 e2 c2 f2 sn t) : ∃ os om, s1_image ct ad P S G = some os ∧ sM_image S2 = some om ∧ Inv ct a0 q0 (j + 1) S os.1 os.2 ad om := by
  obtain ⟨⟨h1, h2, h3, h4, h5, h6⟩, hC, hA, hI, hT, hF, hW, hIm⟩ := H
  obtain ⟨s1, ⟨s2, s3, s4, s5⟩, s6, s7, s8, s9⟩ := id h5
  obtain ⟨a1, a2, a3, a4, a5, a6⟩ := id hA
  obtain ⟨i1, i2, i3, i4, i5, i6⟩ := id hI
  have hb := h2.1
  have hrm : Rm ct G 49000 228000 := h3.rm h2 hj (by omega) (by omega)
  have key : Ev (s1_image ct ad P S G) (fun os => Gr (fun _ => False) G os.1 11 (68 + (3 + c1) + (3 + c2)) ∧ ∃ b f qa ea qs es, os.2 = p2 (p2 (p2 P 0 11 (some b)) 0 12 (some qa)) 0 13 (some qs) ∧ G.2.1 ≤ b ∧ LnF os.1.1 b (J (r 0)) (.ref (ad 0)) f ∧ RowF f r ∧ OLst ct os.1.1 qa ea c1 f1 ∧ G.2.1 ≤ qa ∧ (G.2.1 ≤ ea ∨ ea = ct.2.1 1) ∧ OLst ct os.1.1 qs es c2 f2 ∧ G.2.1 ≤ qs ∧ (G.2.1 ≤ es ∨ es = ct.2.1 1)) := by
    unfold s1_image
    refine Ev.call (tLn_copyN (ct := ct) (ad := ad) (P := P) hb hC.2.2.2.2.1 (hrm.le (by omega) (by omega))) (fun o1 n => ?_)
    obtain ⟨n2, ⟨fl, n3, n4⟩, n5, n6⟩ := n
    have B1 := h2.gr n5 (fun a h => h.elim)
    rw [letB_eq, n2]
    refine Ev.nc B1 (p := q1) (by rw [p2_off (by omega)]; exact a1) (a2.1.lc.sub n5.sub) (fun i hi => n5.2.2.2.2 _ (a3.ok cutM_sub i hi)) (Rm.gr (c := 7) (z := 68) (hrm.le (by omega) (by omega)) n5) (fun G2 ea k1 k2 k3 => ?_)
    have g2 := n5.tr k3
    have B2 := h2.gr g2 (fun a h => h.elim)
    rw [letB_eq]
    refine Ev.nc B2 (p := q2) (by rw [p2_off (by omega), p2_off (by omega)]; exact i1) (i2.1.lc.sub g2.sub) (fun i hi => g2.2.2.2.2 _ (i3.ok cutM_sub i hi)) (Rm.gr (c := 7 + 2) (z := 68 + (3 + c1)) (hrm.le (by omega) (by omega)) g2) (fun G3 es l1 l2 l3 => ?_)
    rw [letB_eq]
    have y1 := n5.2.1.1
    have y2 := g2.2.1.1
    exact ⟨_, rfl, g2.tr l3, G.2.1, fl, o1.2.2.1, ea, G2.2.1, es, rfl, Nat.le_refl _, n3.mp (fun a e _ _ z => l3.1 a e (fun z => z) (k3.1 a e (fun z => z) z)), n4, k1.gr l3 (fun z => z) (fun z => z), y1, k2.imp (fun h => Nat.le_trans y1 h) id, l1, y2, l2.imp (fun h => Nat.le_trans y2 h) id⟩
  obtain ⟨os, o1, o2, b, fl, qa, ea, qs, es, o3, o4, o5, o6, o7, o8, o9, o10, o11, o12⟩ := key
  obtain ⟨om, m1, ⟨m2, m3, m4, m5⟩, ⟨m6, m7, m8⟩, m9, m10⟩ := tM_image (S := S2)
  obtain ⟨g0, h4'⟩ := h4
  have l1 := a2.lt hb
  have l2 := i2.lt hb
  have l0 := hb _ _ h4'
  have hoa := h2.oa (i := 1) (by decide)
  have hk : Sub (cutI ct q0 q1 e1 q2 e2 G.1) (cutI ct q0 q1 e1 q2 e2 os.1.1) := cutM_gr hb o2 (fun a h => h.elim) (fun a h _ => Or.inl h)
  have nM : ∀ a, G.2.1 ≤ a → a ∉ [q0, q1, e1, q2, e2] := fun a ha hm => by
    simp only [List.mem_cons, List.not_mem_nil, or_false] at hm
    omega
  rw [h1] at o5
  refine ⟨os, om, o1, m1, u, r, q1, e1, c1, f1, R1, q2, e2, c2, f2, sn, t, ⟨h1, h2.gr o2 (fun a h => h.elim), h3.gr o2 (by omega) (by omega), ⟨g0, o2.1 _ _ (fun z => z) h4'⟩, h5, by omega⟩, ?_, hA.keep hk o2 (fun z => z) (fun z => z) (by rw [o3, p2_off (by omega), p2_off (by omega), p2_off (by omega)]) (m9 42 (by decide) (by decide) (by decide) (by decide)) (m10 15 (by decide) (by decide) (by decide) (by decide)) (by omega), hI.keep hk o2 (fun z => z) (fun z => z) (by rw [o3, p2_off (by omega), p2_off (by omega), p2_off (by omega)]) (m9 51 (by decide) (by decide) (by decide) (by decide)) (m10 24 (by decide) (by decide) (by decide) (by decide)), hT.keep rfl (m9 12 (by decide) (by decide) (by decide) (by decide)) rfl (m10 5 (by decide) (by decide) (by decide) (by decide)), hF.keep rfl (m9 14 (by decide) (by decide) (by decide) (by decide)) rfl (m10 6 (by decide) (by decide) (by decide) (by decide)), hW.keep hk (by rw [o3, p2_off (by omega), p2_off (by omega), p2_off (by omega)]) (m9 3 (by decide) (by decide) (by decide) (by decide)) (m10 2 (by decide) (by decide) (by decide) (by decide)) (m10 3 (by decide) (by decide) (by decide) (by decide)), Or.inr ⟨m3, b, r, qa, c1, f1, R1, qs, c2, f2, sn, ⟨?_, (o5.cut (fun a z1 z2 => nM a (by omega))).ln o6, hC.2.1, hC.2.2.1⟩, ⟨?_, o7.cut (nM qa o8) (o9.imp (nM ea) (fun z => by rw [z]; exact hoa.2)), by omega, a3.sub hk⟩, ⟨?_, o10.cut (nM qs o11) (o12.imp (nM es) (fun z => by rw [z]; exact hoa.2)), i4, i3.sub hk⟩, m4.trans a5, m5.trans i5, fun i hi => (m6 i hi).trans (mrow_0 hC.2.2.2.2.2.2 hi), fun i hi k hk => (m7 (49 * i + k) (by omega)).trans (a6 i hi k hk), fun i hi => (m8 i (by omega)).trans (i6 i hi)⟩⟩
  · refine ⟨hC.1, hC.2.1, hC.2.2.1, (hC.2.2.2.1.sub hk).ofP rfl (by rw [o3, p2_row (by decide), p2_row (by decide), p2_row (by decide)]), hC.2.2.2.2.1, hC.2.2.2.2.2.1.of2 (fun k hk1 hk7 => m9 k (by omega) (by omega) (by omega) (by omega)) (m10 1 (by decide) (by decide) (by decide) (by decide)) (m10 4 (by decide) (by decide) (by decide) (by decide)), hC.2.2.2.2.2.2.of (m10 14 (by decide) (by decide) (by decide) (by decide))⟩
  · rw [o3, p2_off (by omega), p2_off (by omega), p2_at]
  · rw [o3, p2_off (by omega), p2_at]
  · rw [o3, p2_at]
theorem R_restore {ct : CT} {a0 q0 j : Nat} {S : US} {G : GS} {P : Nat → Nat → Option Nat} {ad : Nat → Nat} {S2 : US} {u : RU} {r : Nat → Nat} {q1 e1 c1 : Nat} {f1 : Nat → Option Nat} {R1 : Nat → Nat → Nat} {q2 e2 c2 : Nat} {f2 : Nat → Option Nat} {sn : Nat → Nat} {t : Nat} (hj : j < 24) (H : InvD ct a0 q0 j S G P ad S2 u r q1 e1 c1 f1 R1 q2 e2 c2 f2 sn t) : ∃ os om, s1_restore ct ad P S G = some os ∧ sM_restore S2 = some om ∧ bI os.1 = bI om.1 ∧ os.2.2.2.2 0 = a0 ∧ Inv ct a0 q0 (j + 1) os.2.1 os.2.2.1 os.2.2.2.1 os.2.2.2.2 om.2 := by
  have H0 := H
  obtain ⟨⟨h1, h2, h3, h4, h5, h6⟩, hC, hA, hI, hT, hF, hW, hIm⟩ := H
  obtain ⟨s1, ⟨s2, s3, s4, s5⟩, s6, s7, s8, s9⟩ := id h5
  have hb := h2.1
  have hrm : Rm ct G 49000 228000 := h3.rm h2 hj (by omega) (by omega)
  rcases id hIm with ⟨x1, x2⟩ | ⟨x0, b, ri, qa, ca, fa, Ra, qs, cs, fs, sm, ⟨x1, x2, x3, x4⟩, ⟨y1, y2, y3, y4⟩, ⟨z1, z2, z3, z4⟩, w1, w2, w3, w4, w5⟩
  · refine ⟨(false, S, G, P, ad), (false, Z0 S2), ?_, ?_, rfl, h1, _, _, _, _, _, _, _, _, _, _, _, _, _, H0.z.nx⟩
    · unfold s1_restore
      rw [letB_eq, x1]
      rfl
    · have e : Z0 S2 0 57 = J 0 := by unfold Z0; rw [u2_off (by omega)]; exact x2
      unfold sM_restore
      rw [letB_eq]
      show (if Z0 S2 0 57 = 0 then some (false, Z0 S2) else _) = _
      rw [e, if_pos (show J 0 = (0 : Int32) from rfl)]
  · obtain ⟨om, m1, m2, ⟨m3, m4, m5⟩, ⟨m6, m7, m8⟩, m9, m10⟩ := tM_restore x0
    have key : Ev (s1_restore ct ad P S G) (fun os => os.1 = true ∧ os.2.2.2.2 0 = a0 ∧ HRow os.2.1 0 ri ∧ (∀ i, i < 5 → os.2.1 i = S i) ∧ Gr (fun _ => False) G os.2.2.1 11 (68 + (3 + ca) + (3 + cs)) ∧ ∃ P' qa' ea qs' es, os.2.2.2.1 = p2 (p2 P' 0 9 (some qa')) 0 10 (some qs') ∧ (∀ i, i < 5 → P' i = P i) ∧ OLst ct os.2.2.1.1 qa' ea ca fa ∧ G.2.1 ≤ qa' ∧ (G.2.1 ≤ ea ∨ ea = ct.2.1 1) ∧ OLst ct os.2.2.1.1 qs' es cs fs ∧ qa' < qs' ∧ (qs' ≤ es ∨ es = ct.2.1 1) ∧ ea ≠ qs' ∧ (ea = es → ea < ct.2.2.1)) := by
      obtain ⟨v0, v1, v2, v3, v4, v5, vf, vq, -⟩ := x2.sub (cutM_sub (ct := ct) (M := [q0, q1, e1, q2, e2]) (h := G.1))
      unfold s1_restore
      rw [letB_eq, x1, caseR_s, letB_eq, onR_eq, hC_eq vq]
      refine Ev.call (tLn_copyF (ct := ct) hb (x2.sub cutM_sub) (hrm.le (by omega) (by omega))) (fun o1 n => ?_)
      obtain ⟨n2, ⟨fl, n3, n4⟩, n5, n6⟩ := n
      rw [n2, onR_eq]
      obtain ⟨S', G', P', ad', r1, r2, r3, r4, r5, r6, r7, r8⟩ := tRel (ρ := Bool × US × GS × (Nat → Nat → Option Nat) × (Nat → Nat)) (ad := ad) (P := P) (S := S) (kp := fun S7 G8 P9 d10 => newB ct G8 3 (.inr (10, [.int 0, .null, .int 0])) (fun q11 G12 => letB (P9 (0) 12) (fun r13 => callK (sL_init_2 ct G12 q11 r13) (fun o14 => letB (p2 P9 0 9 (some q11)) (fun P15 => newB ct o14 3 (.inr (10, [.int 0, .null, .int 0])) (fun q16 G17 => letB (P15 (0) 13) (fun r18 => callK (sL_init_2 ct G17 q16 r18) (fun o19 => letB (p2 P15 0 10 (some q16)) (fun P20 => some (true, S7, o19, P20, d10)))))))))) n3 n4 h1
      rw [r1]
      have g1 : Gr (fun _ => False) G G' 7 68 := n5.rm hb (Nat.le_refl _) r6 r7 r8
      have B1 := h2.gr g1 (fun a h => h.elim)
      refine Ev.nc B1 (p := qa) (by rw [r5 0 (by omega)]; exact y1) (y2.sub (cutM_sub.tr g1.sub)) (fun i hi => g1.2.2.2.2 _ (y4.ok cutM_sub i hi)) (Rm.gr (c := 7) (z := 68) (hrm.le (by omega) (by omega)) g1) (fun G2 ea k1 k2 k3 => ?_)
      have g2 := g1.tr k3
      have B2 := h2.gr g2 (fun a h => h.elim)
      rw [letB_eq]
      refine Ev.nc B2 (p := qs) (by rw [p2_off (by omega), r5 0 (by omega)]; exact z1) (z2.sub (cutM_sub.tr g2.sub)) (fun i hi => g2.2.2.2.2 _ (z4.ok cutM_sub i hi)) (Rm.gr (c := 7 + 2) (z := 68 + (3 + ca)) (hrm.le (by omega) (by omega)) g2) (fun G3 es l1 l2 l3 => ?_)
      rw [letB_eq]
      have t1 := g1.2.1.1
      have t2 := g2.2.1.1
      have t3 := k1.lt B2.1
      have hoa := h2.oa (i := 1) (by decide)
      have hB := h2.2.2
      refine ⟨_, rfl, rfl, r2, r3, r4, g2.tr l3, P', G'.2.1, ea, G2.2.1, es, rfl, r5, k1.gr l3 (fun z => z) (fun z => z), t1, k2.imp (fun h => Nat.le_trans t1 h) id, l1, t3.1, l2, by omega, fun h => ?_⟩
      rcases k2 with k | k
      · rcases l2 with l | l
        · omega
        · omega
      · omega
    obtain ⟨os, o1, o2, o3, o4, o5, o6, P', qa', ea, qs', es, p1, p3, p4, p5, p6, p7, p8, p9, p10, p11⟩ := key
    obtain ⟨g0, h4'⟩ := h4
    have l0 := hb _ _ h4'
    have hoa := h2.oa (i := 1) (by decide)
    have hB := h2.2.2
    have hk : Sub (cutI ct q0 q1 e1 q2 e2 G.1) (cutI ct q0 qa' ea qs' es os.2.2.1.1) := cutM_gr hb o6 (fun a h => h.elim) (fun a ha hab => by
      simp only [List.mem_cons, List.not_mem_nil, or_false] at ha ⊢
      rcases ha with h | h | h | h | h
      · exact Or.inl (Or.inl h)
      · right; omega
      · rcases p6 with k | k
        · right; omega
        · omega
      · right; omega
      · rcases p9 with k | k
        · right; omega
        · omega)
    refine ⟨os, om, o1, m1, by rw [o2, m2], o3, u, ri, qa', ea, ca, fa, Ra, qs', es, cs, fs, sm, t, ⟨o3, h2.gr o6 (fun a h => h.elim), h3.gr o6 (by omega) (by omega), ⟨g0, o6.1 _ _ (fun z => z) h4'⟩, ⟨s1, ⟨by omega, by rcases p6 with k | k <;> omega, by omega, by rcases p9 with k | k <;> omega⟩, by omega, by rcases p9 with k | k <;> omega, fun z => p10 z.symm, p11⟩, by omega⟩, ?_, ⟨?_, p4, y4.sub hk, by omega, m4.trans w1, fun i hi k hk => (m7 (49 * i + k) (by omega)).trans (w4 i hi k hk)⟩, ⟨?_, p7, z4.sub hk, z3, m5.trans w2, fun i hi => (m8 i (by omega)).trans (w5 i hi)⟩, hT.keep (by rw [o5 0 (by omega)]) (m9 12 (by decide) (by decide) (by decide)) (o5 3 (by omega)) (m10 5 (by decide) (by decide) (by decide) (by decide)), hF.keep (by rw [o5 0 (by omega)]) (m9 14 (by decide) (by decide) (by decide)) (o5 4 (by omega)) (m10 6 (by decide) (by decide) (by decide) (by decide)), hW.keep hk (by rw [p1, p2_off (by omega), p2_off (by omega), p3 1 (by omega)]) (m9 3 (by decide) (by decide) (by decide)) (m10 2 (by decide) (by decide) (by decide) (by decide)) (m10 3 (by decide) (by decide) (by decide) (by decide)), hIm.keep hk (by rw [p1, p2_off (by omega), p2_off (by omega), p3 0 (by omega)]) (by rw [p1, p2_off (by omega), p2_off (by omega), p3 0 (by omega)]) (by rw [p1, p2_off (by omega), p2_off (by omega), p3 0 (by omega)]) (m9 57 (by decide) (by decide) (by decide)) (m9 58 (by decide) (by decide) (by decide)) (m9 59 (by decide) (by decide) (by decide)) (m10 28 (by decide) (by decide) (by decide) (by decide)) (m10 29 (by decide) (by decide) (by decide) (by decide)) (m10 30 (by decide) (by decide) (by decide) (by decide)) (by omega)⟩
    · refine ⟨hC.1, x3, x4, (hC.2.2.2.1.sub hk).ofP (o5 1 (by omega)) (by rw [p1, p2_row (by decide), p2_row (by decide), p3 1 (by omega)]), o4, hC.2.2.2.2.2.1.of2 (fun k hk1 hk7 => m9 k (by omega) (by omega) (by omega)) (m10 1 (by decide) (by decide) (by decide) (by decide)) (m10 4 (by decide) (by decide) (by decide) (by decide)), fun k hk => by rw [Nat.zero_add]; exact (m6 k hk).trans (w3 k hk)⟩
    · rw [p1, p2_off (by omega), p2_at]
    · rw [p1, p2_at]
