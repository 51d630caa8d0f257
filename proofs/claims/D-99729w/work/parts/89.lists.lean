set_option maxRecDepth 100000
/-! THE PLAIN LAW, 18: lists that grow and shrink -/
/-- the heap holds the start's, and lies in bounds -/
def GB (ct : CT) (G : GS) : Prop := Bd G ∧ (∃ h0, Start ct h0 ∧ Sub h0 G.1) ∧ ct.2.2.1 ≤ G.2.1
theorem GB.gr {ct : CT} {M : Nat → Prop} {G G' : GS} {c z : Nat} (B : GB ct G) (hg : Gr M G G' c z) (hM : ∀ a, M a → ct.2.2.1 ≤ a) : GB ct G' := by
  obtain ⟨h1, ⟨h0, h2, h3⟩, h4⟩ := B
  refine ⟨hg.2.2.2.1 h1, ⟨h0, h2, fun a e ha => ?_⟩, by have := hg.2.1.1; omega⟩
  have := (h2.1 a e ha).2
  exact hg.1 a e (fun z => by have := hM a z; omega) (h3 a e ha)
theorem GB.oa {ct : CT} {G : GS} (B : GB ct G) {i : Nat} (hi : i < 2) : G.1 (ct.2.1 i) = some oldOA ∧ ct.2.1 i < ct.2.2.1 := by
  obtain ⟨h1, ⟨h0, h2, h3⟩, h4⟩ := B
  have := h2.2.1 i hi
  exact ⟨h3 _ _ this, (h2.1 _ _ this).2⟩
theorem GB.ne {ct : CT} {G : GS} (B : GB ct G) : ct.2.1 0 ≠ ct.2.1 1 := by
  obtain ⟨h1, ⟨h0, h2, h3⟩, h4⟩ := B
  exact h2.2.2.1
/-- what a list's own methods may change -/
def lm (ct : CT) (q e : Nat) : Nat → Prop := fun a => (a = q ∨ a = e) ∧ ct.2.2.1 ≤ a
theorem lm_base {ct : CT} {q e a : Nat} (h : lm ct q e a) : ct.2.2.1 ≤ a := h.2
/-- a list that is ours -/
def OLst (ct : CT) (h : AH) (q e n : Nat) (f : Nat → Option Nat) : Prop := MLst ct h q e n f ∧ ct.2.2.1 ≤ q ∧ (ct.2.2.1 ≤ e ∨ e = ct.2.1 0 ∨ e = ct.2.1 1)
theorem tL_init {ct : CT} {G : GS} {q : Nat} {f : Nat → Option Nat} (B : GB ct G) (hq : G.1 q = some (true, .inr (10, [.int 0, .null, .int 0]))) (hq0 : ct.2.2.1 ≤ q) : Ev (sL_init ct G q) (fun G' => OLst ct G'.1 q (ct.2.1 0) 0 f ∧ Gr (fun a => a = q) G G' 0 0) := by
  have ho := B.oa (i := 0) (by decide)
  unfold sL_init sK_init sJ_init
  rw [callK_eq, hPut_eq hq (by decide), callK_eq]
  have g1 : Gr (fun a => a = q) G (setG G q (true, .inr (10, [.int 0, .null, .int 0]))) 0 0 := grw_set hq rfl (fun _ => rfl)
  have k1 : (setG G q (true, .inr (10, [.int 0, .null, .int 0]))).1 q = some (true, .inr (10, [.int 0, .null, .int 0])) := setG_at
  show Ev (hPut (setG G q (true, .inr (10, [.int 0, .null, .int 0]))) q 10 1 (.ref (ct.2.1 0)) (fun G2 => some G2)) _
  rw [hPut_eq k1 (by decide)]
  refine ⟨_, rfl, ⟨⟨0, false, 0, fun _ => none, setG_at, ?_, Nat.le_refl _, by decide, fun i hi => absurd hi (Nat.not_lt_zero i), Or.inr rfl⟩, hq0, Or.inr (Or.inl rfl)⟩, ?_⟩
  · rw [setG_ne (by omega), setG_ne (by omega)]; exact ho.1
  · exact g1.tr (grw_set k1 rfl (fun _ => rfl))
theorem tV_newLength {n : Nat} (hn : n < 100000) : sV_newLength (J n) (J 1) (J n >>> (J 1 &&& 31)) = some (J (n + max 1 (n >>> 1))) := by
  have h2 : n >>> 1 ≤ n := by rw [Nat.shiftRight_eq_div_pow]; exact Nat.div_le_self _ _
  have e : (if J 1 < J (n >>> 1) then J (n >>> 1) else J 1) = J (max 1 (n >>> 1)) := by
    by_cases c : 1 < n >>> 1
    · rw [if_pos (by rw [J_lt (by omega) (by omega)]; exact c), Nat.max_eq_right (by omega)]
    · rw [if_neg (by rw [J_lt (by omega) (by omega)]; exact c), Nat.max_eq_left (by omega)]
  unfold sV_newLength
  rw [J_shr (by omega) (by omega), e]
  simp (disch := omega) only [lit_0, lit_1, lit_2, lit_3, lit_4, lit_5, lit_6, lit_7, lit_8, lit_9, lit_10, lit_11, lit_12, lit_13, lit_14, lit_15, lit_20, lit_24, lit_25, lit_37, lit_40, lit_43, lit_48, lit_49, lit_50, lit_60, lit_96, lit_98, lit_99, lit_100, lit_999, lit_62, lit_74, lit_86, lit_92, lit_99999, lit_100000, lit_16, lit_32767, lit_2147483639, J_add, J_mul, J_sub, J_tn, J_le, J_lt, J_eq, Nat.not_lt_zero, false_or, or_false, le_t, le_f, lt_t, lt_f, eq_f, ↓reduceIte, callK_eq, letB_eq, joinB_eq, Nat.add_assoc]
theorem tL_grow {ct : CT} {G : GS} {q e n : Nat} {md : Int32} {o : Bool} {g : Nat → Option Nat} (B : GB ct G) (h1 : G.1 q = some (true, .inr (10, [.int md, .ref e, .int (J n)]))) (h2 : G.1 e = some (o, .inl (4, n, .inr (.inr (.inr (.inr g)))))) (hn : n < 20000) (hq0 : ct.2.2.1 ≤ q) (hok : ∀ i, i < n → okR G.1 (g i) = true) (hr : Rm ct G 1 (2 * n + 12)) :
    Ev (sL_grow ct G q) (fun r => ∃ cap' g', r.1 = some G.2.1 ∧ n < cap' ∧ cap' < 50000 ∧ r.2.1 q = some (true, .inr (10, [.int md, .ref G.2.1, .int (J n)])) ∧ r.2.1 G.2.1 = some (true, .inl (4, cap', .inr (.inr (.inr (.inr g'))))) ∧ (∀ i, i < n → g' i = g i) ∧ Gr (fun a => a = q) G r.2 1 (2 * n + 12)) := by
  have hlt := B.1 _ _ h1
  unfold sL_grow
  rw [hI_eq h1 rfl, hC_eq h1]
  unfold sL_grow_2
  rw [hR_eq h1 rfl, onR_eq, hL_eq h2, joinB_eq]
  have hJ : Ev (sL_grow_2_J20 q (J n + 1) G ct (J n)) (fun r => ∃ cap' g', r.1 = some G.2.1 ∧ n < cap' ∧ cap' < 50000 ∧ r.2.1 q = some (true, .inr (10, [.int md, .ref G.2.1, .int (J n)])) ∧ r.2.1 G.2.1 = some (true, .inl (4, cap', .inr (.inr (.inr (.inr g'))))) ∧ (∀ i, i < n → g' i = g i) ∧ Gr (fun a => a = q) G r.2 1 (2 * n + 12)) := by
    have hs : n >>> 1 ≤ n := by rw [Nat.shiftRight_eq_div_pow]; exact Nat.div_le_self _ _
    have hs2 : n >>> 1 ≤ n := hs
    generalize hN : n + max 1 (n >>> 1) = N
    have hN1 : n < N := by omega
    have hN2 : N ≤ 2 * n + 1 := by omega
    obtain ⟨f, e1, e2⟩ := tY_copyOf (n := N) B.1 h2 (by omega) (by omega) (fun i _ hi => hok i hi) (hr.le (Nat.le_refl _) (by omega))
    have e3 : sV_newLength (J n) (J n + 1 - J n) (J n >>> ((1 : Int32) &&& 31)) = some (J N) := by
      rw [← hN, ← tV_newLength (by omega), lit_1, J_add, J_sub (by omega), show n + 1 - n = 1 by omega]
    unfold sL_grow_2_J20
    rw [e3, callK_eq, hR_eq h1 rfl, e1, callK_eq]
    have ga : Gr (fun a => a = q) G (addG G N (.inl (4, N, .inr (.inr (.inr (.inr (fun _ => none))))))) 1 N := grw_add B.1
    have ga2 : (addG G N (.inl (4, N, .inr (.inr (.inr (.inr (fun _ => none))))))).1 G.2.1 = some (true, .inl (4, N, .inr (.inr (.inr (.inr (fun _ => none)))))) := addG_at
    have ga3 : (addG G N (.inl (4, N, .inr (.inr (.inr (.inr (fun _ => none))))))).1 q = some (true, .inr (10, [.int md, .ref e, .int (J n)])) := (addG_lt hlt).trans h1
    generalize addG G N (.inl (4, N, .inr (.inr (.inr (.inr (fun _ => none)))))) = G1 at ga ga2 ga3 ⊢
    have kq : (setG G1 G.2.1 (true, .inl (4, N, .inr (.inr (.inr (.inr f)))))).1 q = some (true, .inr (10, [.int md, .ref e, .int (J n)])) := (setG_ne (by omega)).trans ga3
    have gs : Gr (fun a => a = q) G (setG G1 G.2.1 (true, .inl (4, N, .inr (.inr (.inr (.inr f)))))) 1 N := by
      refine ⟨fun a e0 hm ha => ?_, ga.2.1, ga.2.2.1, fun hb a e0 ha => ?_, okR_of (fun y e0 hy1 hy2 => ?_)⟩
      · have := B.1 a e0 ha
        rw [setG_ne (by omega)]; exact ga.1 a e0 hm ha
      · by_cases ea : a = G.2.1
        · have := ga.2.2.2.1 hb _ _ ga2
          rw [ea]; exact this
        · rw [setG_ne (by omega)] at ha
          exact ga.2.2.2.1 hb a e0 ha
      · have hy := B.1 y e0 hy1
        obtain ⟨e9, hy3, hy4⟩ := okR_iff.mp (ga.2.2.2.2 (some y) (okR_iff.mpr ⟨e0, hy1, hy2⟩))
        exact ⟨e9, (setG_ne (by omega)).trans hy3, hy4⟩
    have kg : (setG G1 G.2.1 (true, .inl (4, N, .inr (.inr (.inr (.inr f)))))).1 G.2.1 = some (true, .inl (4, N, .inr (.inr (.inr (.inr f))))) := setG_at
    generalize setG G1 G.2.1 (true, .inl (4, N, .inr (.inr (.inr (.inr f))))) = G2 at kq gs kg ⊢
    show Ev (hPut G2 q 10 1 (va_rf (some G.2.1)) _) _
    rw [hPut_eq kq (Nat.le_of_ble_eq_true rfl)]
    exact ⟨_, rfl, N, f, rfl, hN1, by omega, setG_at, (setG_ne (by omega)).trans kg, fun i hi => e2 i (by omega) hi, (gs.tr (grw_set kq rfl (fun _ => rfl))).le (by omega) (by omega)⟩
  by_cases c0 : 0 < n
  · rw [if_pos (by rw [lit_0, J_lt (by omega) (by omega)]; exact c0)]
    refine Ev.call hJ (fun r hr2 => ⟨_, rfl, hr2⟩)
  · rw [if_neg (by rw [lit_0, J_lt (by omega) (by omega)]; exact c0), hR_eq h1 rfl]
    by_cases c1 : e = ct.2.1 0
    · have hn0 : n = 0 := by omega
      subst hn0
      have em : (if (10 : Int32) < J 0 + 1 then J 0 + 1 else (10 : Int32)) = J 10 := by decide
      rw [if_pos (by rw [c1]), em, if_neg (by decide), J_tn (by decide), newB_eq (hr.le (Nat.le_refl _) (by omega))]
      have ga3 : (addG G 10 (.inl (4, 10, .inr (.inr (.inr (.inr (fun _ => none))))))).1 q = some (true, .inr (10, [.int md, .ref e, .int (J 0)])) := (addG_lt hlt).trans h1
      have ga : Gr (fun a => a = q) G (addG G 10 (.inl (4, 10, .inr (.inr (.inr (.inr (fun _ => none))))))) 1 10 := grw_add B.1
      have ga2 : (addG G 10 (.inl (4, 10, .inr (.inr (.inr (.inr (fun _ => none))))))).1 G.2.1 = some (true, .inl (4, 10, .inr (.inr (.inr (.inr (fun _ => none)))))) := addG_at
      generalize addG G 10 (.inl (4, 10, .inr (.inr (.inr (.inr (fun _ => none)))))) = G1 at ga ga2 ga3 ⊢
      rw [hPut_eq ga3 (Nat.le_of_ble_eq_true rfl)]
      exact ⟨_, rfl, 10, fun _ => none, rfl, by omega, by omega, setG_at, (setG_ne (by omega)).trans ga2, fun i hi => absurd hi (Nat.not_lt_zero i), (ga.tr (grw_set ga3 rfl (fun _ => rfl))).le (by omega) (by omega)⟩
    · rw [if_neg (fun z => c1 (Option.some.inj z))]
      refine Ev.call hJ (fun r hr2 => ⟨_, rfl, hr2⟩)
theorem tL_add {ct : CT} {G : GS} {q e n : Nat} {f : Nat → Option Nat} {x : Option Nat} (B : GB ct G) (H : OLst ct G.1 q e n f) (hn : n < 20000) (hx : okR G.1 x = true) (hr : Rm ct G 1 (2 * n + 12)) :
    Ev (sL_add ct G q x) (fun r => r.1 = true ∧ ∃ e', OLst ct r.2.1 q e' (n + 1) (fun i => if i = n then x else f i) ∧ (e' = e ∨ G.2.1 ≤ e') ∧ Gr (lm ct q e) G r.2 1 (2 * n + 12)) := by
  obtain ⟨⟨md, o, cap, g, h1, h2, h3, h4, h5, h6⟩, hq0, he0⟩ := H
  have hqe : q ≠ e := fun z => by
    rw [z] at h1
    cases h1.symm.trans h2
  unfold sL_add
  rw [hI_eq h1 rfl, hPut_eq h1 (Nat.le_of_ble_eq_true rfl)]
  have g1 : Gr (lm ct q e) G (setG G q (true, .inr (10, [.int (md + 1), .ref e, .int (J n)]))) 0 0 := grw_set h1 ⟨Or.inl rfl, hq0⟩ (fun _ => rfl)
  have k1 : (setG G q (true, .inr (10, [.int (md + 1), .ref e, .int (J n)]))).1 q = some (true, .inr (10, [.int (md + 1), .ref e, .int (J n)])) := setG_at
  have k2 : (setG G q (true, .inr (10, [.int (md + 1), .ref e, .int (J n)]))).1 e = some (o, .inl (4, cap, .inr (.inr (.inr (.inr g))))) := (setG_ne (by omega)).trans h2
  rw [show ([.int md, .ref e, .int (J n)] : List Value).set 0 (.int (md + 1)) = [.int (md + 1), .ref e, .int (J n)] from rfl]
  generalize hG1 : setG G q (true, .inr (10, [.int (md + 1), .ref e, .int (J n)])) = G1 at g1 k1 k2 ⊢
  have hG1n : G1.2 = G.2 := by rw [← hG1]; rfl
  have B1 : GB ct G1 := B.gr g1 (fun a ha => ha.2)
  have hok1 : ∀ i, i < n → okR G1.1 (g i) = true := fun i hi => by rw [(h5 i hi).1]; exact g1.2.2.2.2 _ (h5 i hi).2
  have hx1 := g1.2.2.2.2 _ hx
  rw [hR_eq k1 rfl, hI_eq k1 rfl, hC_eq k1]
  unfold sL_add_2
  rw [onR_eq, hL_eq k2]
  have hfin : ∀ (G2 : GS) (e' cap' : Nat) (g' : Nat → Option Nat), (e' = e ∧ ct.2.2.1 ≤ e ∨ G.2.1 ≤ e') → n < cap' → cap' < 50000 → G2.1 q = some (true, .inr (10, [.int (md + 1), .ref e', .int (J n)])) → G2.1 e' = some (true, .inl (4, cap', .inr (.inr (.inr (.inr g'))))) → (∀ i, i < n → g' i = g i) → Gr (lm ct q e) G1 G2 1 (2 * n + 12) →
      Ev (callK (if okR G2.1 x = true then hPutQ G2 e' 4 (J n) x (fun G7 => hPut G7 q 10 2 (.int (J n + 1)) (fun G8 => some G8)) else none) (fun o5 => some (true, o5))) (fun r => r.1 = true ∧ ∃ e', OLst ct r.2.1 q e' (n + 1) (fun i => if i = n then x else f i) ∧ (e' = e ∨ G.2.1 ≤ e') ∧ Gr (lm ct q e) G r.2 1 (2 * n + 12)) := by
    intro G2 e' cap' g' he' hc1 hc2 p1 p2 p3 g2
    have hq' : q ≠ e' := fun z => by
      rw [z] at p1
      cases p1.symm.trans p2
    have hM : ∀ a, a = e' → ct.2.2.1 ≤ a := fun a ha => by
      have := B.2.2
      rcases he' with h | h <;> omega
    rw [if_pos (g2.2.2.2.2 _ hx1), hPutQ_eq p2 hc1 (by omega)]
    have s1 : Gr (fun a => a = e') G2 (setG G2 e' (true, .inl (4, cap', .inr (.inr (.inr (.inr (va_up g' n x))))))) 0 0 := grw_set p2 rfl (fun z => by cases z)
    have t1 : (setG G2 e' (true, .inl (4, cap', .inr (.inr (.inr (.inr (va_up g' n x))))))).1 q = some (true, .inr (10, [.int (md + 1), .ref e', .int (J n)])) := (setG_ne (by omega)).trans p1
    have t2 : (setG G2 e' (true, .inl (4, cap', .inr (.inr (.inr (.inr (va_up g' n x))))))).1 e' = some (true, .inl (4, cap', .inr (.inr (.inr (.inr (va_up g' n x)))))) := setG_at
    generalize setG G2 e' (true, .inl (4, cap', .inr (.inr (.inr (.inr (va_up g' n x)))))) = G3 at s1 t1 t2 ⊢
    rw [hPut_eq t1 (Nat.le_of_ble_eq_true rfl), lit_1, J_add]
    have s2 : Gr (fun a => a = q) G3 (setG G3 q (true, .inr (10, [.int (md + 1), .ref e', .int (J (n + 1))]))) 0 0 := grw_set t1 rfl (fun _ => rfl)
    refine ⟨_, rfl, rfl, e', ⟨⟨md + 1, true, cap', va_up g' n x, setG_at, (setG_ne (by omega)).trans t2, by omega, hc2, fun i hi => ⟨?_, ?_⟩, Or.inl rfl⟩, hq0, Or.inl (hM e' rfl)⟩, ?_, ?_⟩
    · show va_up g' n x i = if i = n then x else f i
      by_cases ei : i = n
      · subst ei; rw [vup_at, if_pos rfl]
      · rw [vup_ne (by omega), if_neg ei, p3 i (by omega), (h5 i (by omega)).1]
    · show okR (setG G3 q (true, .inr (10, [.int (md + 1), .ref e', .int (J (n + 1))]))).1 (if i = n then x else f i) = true
      refine s2.2.2.2.2 _ (s1.2.2.2.2 _ (g2.2.2.2.2 _ ?_))
      by_cases ei : i = n
      · rw [if_pos ei]; exact hx1
      · rw [if_neg ei]; exact g1.2.2.2.2 _ (h5 i (by omega)).2
    · rcases he' with h | h
      · exact Or.inl h.1
      · exact Or.inr h
    · have w1 : Gr (lm ct q e) G G2 1 (2 * n + 12) := (g1.tr g2).le (by omega) (by omega)
      refine ⟨fun a e0 hm ha => ?_, ?_, ?_, fun hb => s2.2.2.2.1 (s1.2.2.2.1 (w1.2.2.2.1 hb)), fun y hy => s2.2.2.2.2 _ (s1.2.2.2.2 _ (w1.2.2.2.2 _ hy))⟩
      · have ha2 := w1.1 a e0 hm ha
        have hlt := B.1 a e0 ha
        refine s2.1 a e0 (fun z => hm ⟨Or.inl z, by rw [z]; exact hq0⟩) (s1.1 a e0 (fun z => ?_) ha2)
        rcases he' with h | h
        · exact hm ⟨Or.inr (z.trans h.1), by rw [z, h.1]; exact h.2⟩
        · omega
      · have b1 := w1.2.1
        have b2 := s1.2.1
        have b3 := s2.2.1
        exact ⟨Nat.le_trans (Nat.le_trans b1.1 b2.1) b3.1, Nat.le_trans b3.2 (Nat.le_trans b2.2 b1.2)⟩
      · have b1 := w1.2.2.1
        have b2 := s1.2.2.1
        have b3 := s2.2.2.1
        exact ⟨Nat.le_trans (Nat.le_trans b1.1 b2.1) b3.1, Nat.le_trans b3.2 (Nat.le_trans b2.2 b1.2)⟩
  by_cases hc : n = cap
  · subst hc
    rw [if_pos rfl, hC_eq k1]
    have hr1 : Rm ct G1 1 (2 * n + 12) := by unfold Rm; rw [hG1n]; exact hr
    have hgr := tL_grow B1 k1 k2 hn hq0 hok1 hr1
    obtain ⟨r, e1, cap', g', e2, e3, e4, e5, e6, e7, e8⟩ := hgr
    rw [e1, callK_eq, e2, onR_eq]
    refine hfin r.2 G1.2.1 cap' g' (Or.inr (by rw [hG1n]; exact Nat.le_refl _)) e3 e4 e5 e6 e7 (e8.mono (fun a ha => ⟨Or.inl ha, by rw [ha]; exact hq0⟩))
  · rw [if_neg (by rw [J_eq (by omega) (by omega)]; exact hc)]
    have ho : o = true := by
      rcases h6 with h | h
      · exact h
      · omega
    subst ho
    have he1 : ct.2.2.1 ≤ e := by
      rcases he0 with h | h | h
      · exact h
      · have := (B.oa (i := 0) (by decide)).1
        rw [← h, h2] at this
        cases this
      · have := (B.oa (i := 1) (by decide)).1
        rw [← h, h2] at this
        cases this
    refine hfin G1 e cap g (Or.inl ⟨rfl, he1⟩) (by omega) h4 k1 k2 (fun _ _ => rfl) (Gr.rf.le (by omega) (by omega))
theorem OLst.own {ct : CT} {G : GS} {q e n : Nat} {f : Nat → Option Nat} (B : GB ct G) (H : OLst ct G.1 q e n f) (hn : 0 < n) : ct.2.2.1 ≤ e := by
  obtain ⟨⟨md, o, cap, g, h1, h2, h3, h4, h5, h6⟩, hq0, he0⟩ := H
  have ho : o = true := by
    rcases h6 with h | h
    · exact h
    · omega
  subst ho
  rcases he0 with h | h | h
  · exact h
  · have := (B.oa (i := 0) (by decide)).1
    rw [← h, h2] at this
    cases this
  · have := (B.oa (i := 1) (by decide)).1
    rw [← h, h2] at this
    cases this
def delN (f : Nat → Option Nat) (i : Nat) : Nat → Option Nat := fun j => if j < i then f j else f (j + 1)
theorem tL_fast {ct : CT} {G : GS} {q e n i : Nat} {f : Nat → Option Nat} (B : GB ct G) (H : OLst ct G.1 q e n f) (hi : i < n) : Ev (sL_fastRemove ct G q (some e) (J i)) (fun G' => OLst ct G'.1 q e (n - 1) (delN f i) ∧ Gr (lm ct q e) G G' 0 0) := by
  have he1 := H.own B (by omega)
  obtain ⟨⟨md, o, cap, g, h1, h2, h3, h4, h5, h6⟩, hq0, he0⟩ := H
  have ho : o = true := by
    rcases h6 with h | h
    · exact h
    · omega
  subst ho
  have hqe : q ≠ e := fun z => by
    rw [z] at h1
    cases h1.symm.trans h2
  unfold sL_fastRemove
  rw [hI_eq h1 rfl, hPut_eq h1 (Nat.le_of_ble_eq_true rfl)]
  have g1 : Gr (lm ct q e) G (setG G q (true, .inr (10, [.int (md + 1), .ref e, .int (J n)]))) 0 0 := grw_set h1 ⟨Or.inl rfl, hq0⟩ (fun _ => rfl)
  have k1 : (setG G q (true, .inr (10, [.int (md + 1), .ref e, .int (J n)]))).1 q = some (true, .inr (10, [.int (md + 1), .ref e, .int (J n)])) := setG_at
  have k2 : (setG G q (true, .inr (10, [.int (md + 1), .ref e, .int (J n)]))).1 e = some (true, .inl (4, cap, .inr (.inr (.inr (.inr g))))) := (setG_ne (by omega)).trans h2
  rw [show ([.int md, .ref e, .int (J n)] : List Value).set 0 (.int (md + 1)) = [.int (md + 1), .ref e, .int (J n)] from rfl]
  generalize setG G q (true, .inr (10, [.int (md + 1), .ref e, .int (J n)])) = G1 at g1 k1 k2 ⊢
  rw [hI_eq k1 rfl, lit_1, J_sub (by omega)]
  have hend : ∀ (G2 : GS) (g' : Nat → Option Nat), G2.1 q = some (true, .inr (10, [.int (md + 1), .ref e, .int (J (n - 1))])) → G2.1 e = some (true, .inl (4, cap, .inr (.inr (.inr (.inr g'))))) → (∀ j, j < n - 1 → g' j = delN f i j) → Gr (lm ct q e) G G2 0 0 → Ev (if okR G2.1 none = true then hPutQ G2 e 4 (J (n - 1)) none (fun G6 => some G6) else none) (fun G' => OLst ct G'.1 q e (n - 1) (delN f i) ∧ Gr (lm ct q e) G G' 0 0) := by
    intro G2 g' p1 p2 p3 g2
    rw [if_pos (show okR G2.1 none = true from rfl), hPutQ_eq p2 (by omega) (by omega)]
    have s1 : Gr (lm ct q e) G2 (setG G2 e (true, .inl (4, cap, .inr (.inr (.inr (.inr (va_up g' (n - 1) none))))))) 0 0 := grw_set p2 ⟨Or.inr rfl, he1⟩ (fun z => by cases z)
    refine ⟨_, rfl, ⟨⟨md + 1, true, cap, va_up g' (n - 1) none, (setG_ne (by omega)).trans p1, setG_at, by omega, h4, fun j hj => ⟨?_, ?_⟩, Or.inl rfl⟩, hq0, Or.inl he1⟩, g2.tr s1⟩
    · rw [vup_ne (by omega)]; exact p3 j hj
    · refine s1.2.2.2.2 _ (g2.2.2.2.2 _ ?_)
      unfold delN
      split
      · exact (h5 j (by omega)).2
      · exact (h5 (j + 1) (by omega)).2
  by_cases hl : n - 1 ≤ i
  · rw [if_pos (by rw [J_le (by omega) (by omega)]; exact hl), hPut_eq k1 (Nat.le_of_ble_eq_true rfl), onR_eq]
    refine hend _ g setG_at ((setG_ne (by omega)).trans k2) (fun j hj => ?_) (g1.tr (grw_set k1 ⟨Or.inl rfl, hq0⟩ (fun _ => rfl)))
    unfold delN
    rw [if_pos (by omega)]
    exact (h5 j (by omega)).1
  · rw [if_neg (by rw [J_le (by omega) (by omega)]; exact hl), onR_eq, J_add, J_sub (by omega)]
    have hok1 : ∀ j, j < n → okR G1.1 (g j) = true := fun j hj => by rw [(h5 j hj).1]; exact g1.2.2.2.2 _ (h5 j hj).2
    rw [hCpyQ_eq k2 k2 (by omega) (by omega) (by omega) (by omega) (fun j hj => hok1 _ (by omega))]
    have s1 : Gr (lm ct q e) G1 (setG G1 e (true, .inl (4, cap, .inr (.inr (.inr (.inr (va_cpy g g (i + 1) i (n - 1 - i)))))))) 0 0 := grw_set k2 ⟨Or.inr rfl, he1⟩ (fun z => by cases z)
    have t1 : (setG G1 e (true, .inl (4, cap, .inr (.inr (.inr (.inr (va_cpy g g (i + 1) i (n - 1 - i)))))))).1 q = some (true, .inr (10, [.int (md + 1), .ref e, .int (J n)])) := (setG_ne (by omega)).trans k1
    have t2 : (setG G1 e (true, .inl (4, cap, .inr (.inr (.inr (.inr (va_cpy g g (i + 1) i (n - 1 - i)))))))).1 e = some (true, .inl (4, cap, .inr (.inr (.inr (.inr (va_cpy g g (i + 1) i (n - 1 - i))))))) := setG_at
    generalize setG G1 e (true, .inl (4, cap, .inr (.inr (.inr (.inr (va_cpy g g (i + 1) i (n - 1 - i))))))) = G2 at s1 t1 t2 ⊢
    rw [hPut_eq t1 (Nat.le_of_ble_eq_true rfl)]
    refine hend _ _ setG_at ((setG_ne (by omega)).trans t2) (fun j hj => ?_) ((g1.tr s1).tr (grw_set t1 ⟨Or.inl rfl, hq0⟩ (fun _ => rfl)))
    unfold va_cpy delN
    by_cases c : j < i
    · rw [if_neg (by omega), if_pos c]
      exact (h5 j (by omega)).1
    · rw [if_pos (by omega), if_neg c, show i + 1 + (j - i) = j + 1 by omega]
      exact (h5 (j + 1) (by omega)).1
theorem tL_remove {ct : CT} {G : GS} {q e n i : Nat} {f : Nat → Option Nat} (B : GB ct G) (H : OLst ct G.1 q e n f) (hi : i < n) : Ev (sL_remove ct G q (J i)) (fun r => r.1 = f i ∧ OLst ct r.2.1 q e (n - 1) (delN f i) ∧ Gr (lm ct q e) G r.2 0 0) := by
  have hf := tL_fast B H hi
  obtain ⟨⟨md, o, cap, g, h1, h2, h3, h4, h5, h6⟩, hq0, he0⟩ := H
  unfold sL_remove sO_checkIndex
  rw [hI_eq h1 rfl, tP_check hi (by omega)]
  rw [callK_eq, callK_eq, hR_eq h1 rfl, onR_eq, hQ_eq h2 (by omega) (by omega), hC_eq h1]
  refine Ev.call hf (fun G' hG' => ⟨_, rfl, (h5 i hi).1, hG'⟩)
theorem tL_empty {h : AH} {q n : Nat} {f : Nat → Option Nat} (H : LstH h q n f) : sL_isEmpty h q = some (decide (n = 0)) := by
  obtain ⟨o, md, e, o2, cap, g, h1, h2, h3, h4, h5⟩ := H
  unfold sL_isEmpty
  rw [hI_eq h1 rfl]
  by_cases c : n = 0
  · subst c; rfl
  · rw [if_neg (by rw [lit_0, J_eq (by omega) (by omega)]; exact c), decide_eq_false c]
