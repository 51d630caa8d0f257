set_option maxRecDepth 100000
/-! THE PLAIN LAW, 21: acts -/
theorem m_call {α β : Type} {o : Option α} {v : α} {k : α → Option β} (h : o = some v) : callK o k = k v := by rw [h]; rfl
theorem OLst.lt {ct : CT} {G : GS} {q e n : Nat} {f : Nat → Option Nat} (hb : Bd G) (H : OLst ct G.1 q e n f) : q < G.2.1 ∧ e < G.2.1 := by
  obtain ⟨⟨md, o, cap, g, h1, h2, -⟩, -⟩ := H
  exact ⟨hb _ _ h1, hb _ _ h2⟩
theorem LnF.mp {h h' : AH} {b : Nat} {d : Int32} {o : Value} {f : US} (H : LnF h b d o f) (he : ∀ a e, b ≤ a → a ≤ b + 6 → h a = some e → h' a = some e) : LnF h' b d o f := by
  obtain ⟨h1, k0, k1, k2, k3, k4, k5⟩ := H
  exact ⟨he _ _ (by omega) (by omega) h1, he _ _ (by omega) (by omega) k0, he _ _ (by omega) (by omega) k1, he _ _ (by omega) (by omega) k2, he _ _ (by omega) (by omega) k3, he _ _ (by omega) (by omega) k4, he _ _ (by omega) (by omega) k5⟩
theorem tM_keeps {S : US} {c : Nat} {r : Nat → Nat} (hr : MRow S 0 r) (hc : S 0 42 = J c) (h40 : c < 40) : Ev (sM_keeps S) (fun S' => S' 0 42 = J (c + 1) ∧ (∀ i, i < 49 → S' 15 (49 * c + i) = J (r i)) ∧ (∀ k, k < 49 * c → S' 15 k = S 15 k) ∧ (∀ k, k ≠ 42 → S' 0 k = S 0 k) ∧ ∀ a, a ≠ 0 → a ≠ 15 → S' a = S a) := by
  unfold sM_keeps
  simp (disch := omega) only [lit_0, lit_1, lit_2, lit_3, lit_4, lit_5, lit_6, lit_7, lit_8, lit_9, lit_10, lit_11, lit_12, lit_13, lit_14, lit_15, lit_20, lit_24, lit_25, lit_37, lit_40, lit_43, lit_48, lit_49, lit_50, lit_60, lit_96, lit_98, lit_99, lit_100, lit_999, lit_62, lit_74, lit_86, lit_92, lit_99999, lit_100000, lit_16, lit_32767, lit_2147483639, J_add, J_mul, J_sub, J_tn, J_le, J_lt, J_eq, Nat.not_lt_zero, false_or, or_false, le_t, le_f, lt_t, lt_f, eq_f, ↓reduceIte, callK_eq, letB_eq, joinB_eq, Nat.add_assoc, hc]
  unfold sM_keeps_J50
  refine Ev.loop2 (i0 := 0) (fun i x => x 0 = S 0 ∧ (∀ k, k < i → x 15 (49 * c + k) = J (r k)) ∧ (∀ k, k < 49 * c → x 15 k = S 15 k) ∧ ∀ a, a ≠ 15 → x a = S a) 49 ⟨rfl, fun k hk => absurd hk (Nat.not_lt_zero k), fun _ _ => rfl, fun _ _ => rfl⟩ (by omega) ?_ ?_ (by unfold FUEL; omega)
  · rintro i - hi S1 ⟨h1, h2, h3, h4⟩ rc hrc
    have h5 : S1 0 42 = J c := by rw [h1]; exact hc
    have h6 : S1 14 i = J (r i) := by
      rw [h4 14 (by decide)]
      have := hr i hi
      rw [Nat.zero_add] at this
      exact this
    unfold sM_keeps_L52
    simp (disch := omega) only [lit_0, lit_1, lit_2, lit_3, lit_4, lit_5, lit_6, lit_7, lit_8, lit_9, lit_10, lit_11, lit_12, lit_13, lit_14, lit_15, lit_20, lit_24, lit_25, lit_37, lit_40, lit_43, lit_48, lit_49, lit_50, lit_60, lit_96, lit_98, lit_99, lit_100, lit_999, lit_62, lit_74, lit_86, lit_92, lit_99999, lit_100000, lit_16, lit_32767, lit_2147483639, J_add, J_mul, J_sub, J_tn, J_le, J_lt, J_eq, Nat.not_lt_zero, false_or, or_false, le_t, le_f, lt_t, lt_f, eq_f, ↓reduceIte, callK_eq, letB_eq, joinB_eq, Nat.add_assoc, h5, h6]
    refine hrc _ ⟨?_, fun k hk => ?_, fun k hk => ?_, fun a ha => ?_⟩
    · rw [u2_row' (by omega)]; exact h1
    · by_cases e : k = i
      · subst e; rw [u2_at]
      · rw [u2_off (by omega)]; exact h2 k (by omega)
    · rw [u2_off (by omega)]; exact h3 k hk
    · rw [u2_row _ _ _ _ ha]; exact h4 a ha
  · rintro S1 ⟨h1, h2, h3, h4⟩ rc
    have h5 : S1 0 42 = J c := by rw [h1]; exact hc
    unfold sM_keeps_L52
    simp (disch := omega) only [lit_0, lit_1, lit_2, lit_3, lit_4, lit_5, lit_6, lit_7, lit_8, lit_9, lit_10, lit_11, lit_12, lit_13, lit_14, lit_15, lit_20, lit_24, lit_25, lit_37, lit_40, lit_43, lit_48, lit_49, lit_50, lit_60, lit_96, lit_98, lit_99, lit_100, lit_999, lit_62, lit_74, lit_86, lit_92, lit_99999, lit_100000, lit_16, lit_32767, lit_2147483639, J_add, J_mul, J_sub, J_tn, J_le, J_lt, J_eq, Nat.not_lt_zero, false_or, or_false, le_t, le_f, lt_t, lt_f, eq_f, ↓reduceIte, callK_eq, letB_eq, joinB_eq, Nat.add_assoc, h5]
    refine ⟨_, rfl, u2_at, fun i hi => ?_, fun k hk => ?_, fun k hk => ?_, fun a ha hb => ?_⟩
    · rw [u2_row' (by omega)]; exact h2 i hi
    · rw [u2_row' (by omega)]; exact h3 k hk
    · rw [u2_off (by omega), h1]
    · rw [u2_row _ _ _ _ ha]; exact h4 a hb
/-- a line is kept on both sides -/
theorem InvD.kept {ct : CT} {a0 q0 j : Nat} {S : US} {G : GS} {P : Nat → Nat → Option Nat} {ad : Nat → Nat} {S2 : US} {u : RU} {r : Nat → Nat} {q1 e1 c1 : Nat} {f1 : Nat → Option Nat} {R1 : Nat → Nat → Nat} {q2 e2 c2 : Nat} {f2 : Nat → Option Nat} {sn : Nat → Nat} {t : Nat} (hj : j < 24) (H : InvD ct a0 q0 j S G P ad S2 u r q1 e1 c1 f1 R1 q2 e2 c2 f2 sn t) : ∃ G' S2', s1_keep ct ad P S G = some G' ∧ sM_keeps S2 = some S2' ∧ S2' 0 0 = S2 0 0 ∧ ∃ e1' f1' R1', InvD ct a0 q0 (j + 1) S G' P ad S2' u r q1 e1' (c1 + 1) f1' R1' q2 e2 c2 f2 sn t := by
  obtain ⟨⟨h1, h2, h3, h4, h5, h6⟩, hC, hA, hI, hT, hF, hW, hIm⟩ := H
  obtain ⟨s1, ⟨s2, s3, s4, s5⟩, s6, s7, s8, s9⟩ := id h5
  obtain ⟨a1, a2, a3, a4, a5, a6⟩ := id hA
  have hrm : Rm ct G 49000 228000 := h3.rm h2 hj (by omega) (by omega)
  obtain ⟨S2', m1, m2, m3, m4, m5, m6⟩ := tM_keeps hC.2.2.2.2.2.2 a5 (by omega)
  obtain ⟨o2, n1, n2, ⟨fl, n3, n4⟩, n5, n6⟩ := tLn_copyN (ct := ct) (ad := ad) (P := P) h2.1 hC.2.2.2.2.1 (hrm.le (by omega) (by omega))
  have B2 : GB ct o2.2 := h2.gr n5 (fun a h => h.elim)
  have hok : okR o2.2.1 o2.1 = true := by rw [n2]; exact okR_iff.mpr ⟨_, n3.1, rfl⟩
  obtain ⟨o4, p1, p2, e1', p3, p4, p5⟩ := tL_add (x := o2.1) B2 (a2.gr n5 (fun z => z) (fun z => z)) (by omega) hok ((hrm.le (c' := 7 + 1) (z' := 68 + (2 * c1 + 12)) (by omega) (by omega)).gr n5)
  have hg : Gr (lm ct q1 e1) G o4.2 (7 + 1) (68 + (2 * c1 + 12)) := (n5.mono (fun _ h => h.elim)).tr p5
  have hb := h2.1
  have l1 := a2.lt hb
  have l2 := hI.2.1.lt hb
  obtain ⟨g0, h4'⟩ := h4
  have l0 := hb _ _ h4'
  have hk : Sub (cutI ct q0 q1 e1 q2 e2 G.1) (cutI ct q0 q1 e1' q2 e2 o4.2.1) := cutM_gr hb hg (fun a ha => ⟨by rcases ha.1 with h | h <;> simp [h], ha.2⟩) (fun a ha _ => by
    simp only [List.mem_cons, List.not_mem_nil, or_false] at ha ⊢
    have := n5.2.1.1
    rcases p4 with h | h <;> omega)
  have nl : ¬ lm ct q1 e1 q0 := fun z => by rcases z.1 with h | h <;> omega
  have nl2 : ¬ lm ct q1 e1 q2 := fun z => by rcases z.1 with h | h <;> omega
  have nl3 : ¬ lm ct q1 e1 e2 := fun z => by
    have := z.2
    rcases z.1 with h | h
    · omega
    · have := s9 h.symm
      omega
  have hln : LnH (cutI ct q0 q1 e1' q2 e2 o4.2.1) a0 G.2.1 r := by
    rw [h1] at n3
    refine (n3.mp (fun a e z1 z2 z3 => ?_)).ln n4
    have z4 : a ∉ [q0, q1, e1', q2, e2] := by
      simp only [List.mem_cons, List.not_mem_nil, or_false]
      rw [n6] at p4
      rcases p4 with h | h
      · omega
      · have : G.2.1 + 7 ≤ e1' := h
        omega
    show cutM ct _ _ a = _
    rw [cutM_out z4]
    exact p5.1 a e (fun z => by rcases z.1 with h | h <;> omega) z3
  refine ⟨o4.2, S2', ?_, m1, m5 0 (by decide), e1', _, fun i => if i = c1 then r else R1 i, ⟨h1, h2.gr hg (fun a ha => ha.2), h3.gr hg (by omega) (by omega), ⟨g0, hg.1 _ _ nl h4'⟩, ⟨s1, ⟨s2, ?_, s4, s5⟩, s6, s7, ?_, ?_⟩, by omega⟩, ?_, ⟨a1, p3, fun i hi => ?_, by omega, m2, fun i hi k hk => ?_⟩, hI.keep hk hg nl2 nl3 rfl (m5 51 (by decide)) (m6 24 (by decide) (by decide)), hT.keep rfl (m5 12 (by decide)) rfl (m6 5 (by decide) (by decide)), hF.keep rfl (m5 14 (by decide)) rfl (m6 6 (by decide) (by decide)), hW.keep hk rfl (m5 3 (by decide)) (m6 2 (by decide) (by decide)) (m6 3 (by decide) (by decide)), hIm.keep hk rfl rfl rfl (m5 57 (by decide)) (m5 58 (by decide)) (m5 59 (by decide)) (m6 28 (by decide) (by decide)) (m6 29 (by decide) (by decide)) (m6 30 (by decide) (by decide)) (by omega)⟩
  · unfold s1_keep
    rw [letB_eq, a1, m_call n1, onR_eq, tL_cls (a2.gr n5 (fun z => z) (fun z => z)).1.lst, m_call p1, letB_eq, onR_eq, tL_cls p3.1.lst, m_call (tL_size p3.1.lst)]
    simp (disch := omega) only [lit_0, lit_1, lit_2, lit_3, lit_4, lit_5, lit_6, lit_7, lit_8, lit_9, lit_10, lit_11, lit_12, lit_13, lit_14, lit_15, lit_20, lit_24, lit_25, lit_37, lit_40, lit_43, lit_48, lit_49, lit_50, lit_60, lit_96, lit_98, lit_99, lit_100, lit_999, lit_62, lit_74, lit_86, lit_92, lit_99999, lit_100000, lit_16, lit_32767, lit_2147483639, J_add, J_mul, J_sub, J_tn, J_le, J_lt, J_eq, Nat.not_lt_zero, false_or, or_false, le_t, le_f, lt_t, lt_f, eq_f, ↓reduceIte, callK_eq, letB_eq, joinB_eq, Nat.add_assoc]
  · rcases p4 with h | h
    · omega
    · have := n5.2.1.1; omega
  · rcases p4 with h | h
    · omega
    · have := n5.2.1.1; omega
  · intro h
    rcases p4 with h' | h'
    · rw [h'] at h ⊢; exact s9 h
    · have := n5.2.1.1; omega
  · refine ⟨hC.1, hC.2.1, hC.2.2.1, hC.2.2.2.1.sub hk, hC.2.2.2.2.1, hC.2.2.2.2.2.1.of (fun k hk => m5 k (by omega)) (m6 1 (by decide) (by decide)) (m6 4 (by decide) (by decide)), hC.2.2.2.2.2.2.of (m6 14 (by decide) (by decide))⟩
  · by_cases e : i = c1
    · subst e
      refine ⟨⟨G.2.1, by dsimp only; rw [if_pos rfl]; exact n2, ?_⟩, ?_⟩
      · dsimp only; rw [if_pos rfl]; exact hln
      · dsimp only; rw [if_pos rfl]; exact ⟨hC.2.1, hC.2.2.1⟩
    · have := a3 i (by omega)
      refine ⟨?_, ?_⟩
      · obtain ⟨b, w1, w2⟩ := this.1
        exact ⟨b, by dsimp only; rw [if_neg e]; exact w1, by dsimp only; rw [if_neg e]; exact w2.sub hk⟩
      · dsimp only; rw [if_neg e]; exact this.2
  · by_cases e : i = c1
    · subst e
      dsimp only; rw [if_pos rfl]; exact m3 k hk
    · dsimp only; rw [if_neg e, m4 (49 * i + k) (by omega)]
      exact a6 i (by omega) k hk
