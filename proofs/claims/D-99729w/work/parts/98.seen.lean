set_option maxRecDepth 100000
/-! THE PLAIN LAW, 27: lists, by what they hold; what is seen -/
def OLstC (ct : CT) (h : AH) (q e n cap : Nat) (f : Nat → Option Nat) : Prop := (∃ (md : Int32) (o : Bool) (g : Nat → Option Nat), h q = some (true, .inr (10, [.int md, .ref e, .int (J n)])) ∧ h e = some (o, .inl (4, cap, .inr (.inr (.inr (.inr g))))) ∧ n ≤ cap ∧ cap < 50000 ∧ (∀ i, i < n → g i = f i ∧ okR h (f i) = true) ∧ (o = true ∨ cap = 0)) ∧ ct.2.2.1 ≤ q ∧ (ct.2.2.1 ≤ e ∨ e = ct.2.1 0 ∨ e = ct.2.1 1)
theorem OLstC.ol {ct : CT} {h : AH} {q e n cap : Nat} {f : Nat → Option Nat} (H : OLstC ct h q e n cap f) : OLst ct h q e n f := by
  obtain ⟨⟨md, o, g, h1⟩, h2⟩ := H
  exact ⟨⟨md, o, cap, g, h1⟩, h2⟩
theorem OLst.olc {ct : CT} {h : AH} {q e n : Nat} {f : Nat → Option Nat} (H : OLst ct h q e n f) : ∃ cap, OLstC ct h q e n cap f := by
  obtain ⟨⟨md, o, cap, g, h1⟩, h2⟩ := H
  exact ⟨cap, ⟨md, o, g, h1⟩, h2⟩
theorem tL_growP {ct : CT} {G : GS} {q e n : Nat} {md : Int32} {o : Bool} {g : Nat → Option Nat} (B : GB ct G) (h1 : G.1 q = some (true, .inr (10, [.int md, .ref e, .int (J n)]))) (h2 : G.1 e = some (o, .inl (4, n, .inr (.inr (.inr (.inr g)))))) (hn : n < 20000) (hq0 : ct.2.2.1 ≤ q) (hok : ∀ i, i < n → okR G.1 (g i) = true) (hr : Rm ct G 1 (2 * n + 12)) :
    Ev (sL_grow ct G q) (fun r => ∃ cap' g', r.1 = some G.2.1 ∧ n < cap' ∧ cap' < 50000 ∧ r.2.1 q = some (true, .inr (10, [.int md, .ref G.2.1, .int (J n)])) ∧ r.2.1 G.2.1 = some (true, .inl (4, cap', .inr (.inr (.inr (.inr g'))))) ∧ (∀ i, i < n → g' i = g i) ∧ Gr (fun a => a = q) G r.2 1 cap' ∧ 4 * n ≤ 3 * cap' ∧ cap' ≤ 2 * n + 10) := by
  have hlt := B.1 _ _ h1
  unfold sL_grow
  rw [hI_eq h1 rfl, hC_eq h1]
  unfold sL_grow_2
  rw [hR_eq h1 rfl, onR_eq, hL_eq h2, joinB_eq]
  have hJ : Ev (sL_grow_2_J20 q (J n + 1) G ct (J n)) (fun r => ∃ cap' g', r.1 = some G.2.1 ∧ n < cap' ∧ cap' < 50000 ∧ r.2.1 q = some (true, .inr (10, [.int md, .ref G.2.1, .int (J n)])) ∧ r.2.1 G.2.1 = some (true, .inl (4, cap', .inr (.inr (.inr (.inr g'))))) ∧ (∀ i, i < n → g' i = g i) ∧ Gr (fun a => a = q) G r.2 1 cap' ∧ 4 * n ≤ 3 * cap' ∧ cap' ≤ 2 * n + 10) := by
    have hs : n >>> 1 ≤ n := by rw [Nat.shiftRight_eq_div_pow]; exact Nat.div_le_self _ _
    have hs2 : n >>> 1 ≤ n := hs
    generalize hN : n + max 1 (n >>> 1) = N
    have hN1 : n < N := by omega
    have hN2 : N ≤ 2 * n + 1 := by omega
    obtain ⟨f, e1, e2⟩ := tY_copyOf (n := N) B.1 h2 (by omega) (by omega) (fun i _ hi => hok i hi) (hr.le (Nat.le_refl _) (by omega))
    have e3 : sV_newLength (J n) (J n + 1 - J n) (J n >>> ((1 : Int32) &&& 31)) = some (J N) := by
      rw [← hN, ← tV_newLength (by omega), lit_1, J_add, J_sub (by omega), show n + 1 - n = 1 by omega]
    unfold sL_grow_2_J20
    rw [e3, callK_eq, hR_eq h1 rfl, e1, callK_eq]
    have ga : Gr (fun a => a = q) G (addG G N (.inl (4, N, .inr (.inr (.inr (.inr (fun _ => none))))))) 1 N := grw_add B.1
    have ga2 : (addG G N (.inl (4, N, .inr (.inr (.inr (.inr (fun _ => none))))))).1 G.2.1 = some (true, .inl (4, N, .inr (.inr (.inr (.inr (fun _ => none)))))) := addG_at
    have ga3 : (addG G N (.inl (4, N, .inr (.inr (.inr (.inr (fun _ => none))))))).1 q = some (true, .inr (10, [.int md, .ref e, .int (J n)])) := (addG_lt hlt).trans h1
    generalize addG G N (.inl (4, N, .inr (.inr (.inr (.inr (fun _ => none)))))) = G1 at ga ga2 ga3 ⊢
    have kq : (setG G1 G.2.1 (true, .inl (4, N, .inr (.inr (.inr (.inr f)))))).1 q = some (true, .inr (10, [.int md, .ref e, .int (J n)])) := (setG_ne (by omega)).trans ga3
    have gs : Gr (fun a => a = q) G (setG G1 G.2.1 (true, .inl (4, N, .inr (.inr (.inr (.inr f)))))) 1 N := by
      refine ⟨fun a e0 hm ha => ?_, ga.2.1, ga.2.2.1, fun hb a e0 ha => ?_, okR_of (fun y e0 hy1 hy2 => ?_)⟩
      · have := B.1 a e0 ha
        rw [setG_ne (by omega)]; exact ga.1 a e0 hm ha
      · by_cases ea : a = G.2.1
        · have := ga.2.2.2.1 hb _ _ ga2
          rw [ea]; exact this
        · rw [setG_ne (by omega)] at ha
          exact ga.2.2.2.1 hb a e0 ha
      · have hy := B.1 y e0 hy1
        obtain ⟨e9, hy3, hy4⟩ := okR_iff.mp (ga.2.2.2.2 (some y) (okR_iff.mpr ⟨e0, hy1, hy2⟩))
        exact ⟨e9, (setG_ne (by omega)).trans hy3, hy4⟩
    have kg : (setG G1 G.2.1 (true, .inl (4, N, .inr (.inr (.inr (.inr f)))))).1 G.2.1 = some (true, .inl (4, N, .inr (.inr (.inr (.inr f))))) := setG_at
    generalize setG G1 G.2.1 (true, .inl (4, N, .inr (.inr (.inr (.inr f))))) = G2 at kq gs kg ⊢
    show Ev (hPut G2 q 10 1 (va_rf (some G.2.1)) _) _
    rw [hPut_eq kq (Nat.le_of_ble_eq_true rfl)]
    exact ⟨_, rfl, N, f, rfl, hN1, by omega, setG_at, (setG_ne (by omega)).trans kg, fun i hi => e2 i (by omega) hi, (gs.tr (grw_set kq rfl (fun _ => rfl))).le (by omega) (by omega), by rw [Nat.shiftRight_eq_div_pow] at hN; omega, by omega⟩
  by_cases c0 : 0 < n
  · rw [if_pos (by rw [lit_0, J_lt (by omega) (by omega)]; exact c0)]
    refine Ev.call hJ (fun r hr2 => ⟨_, rfl, hr2⟩)
  · rw [if_neg (by rw [lit_0, J_lt (by omega) (by omega)]; exact c0), hR_eq h1 rfl]
    by_cases c1 : e = ct.2.1 0
    · have hn0 : n = 0 := by omega
      subst hn0
      have em : (if (10 : Int32) < J 0 + 1 then J 0 + 1 else (10 : Int32)) = J 10 := by decide
      rw [if_pos (by rw [c1]), em, if_neg (by decide), J_tn (by decide), newB_eq (hr.le (Nat.le_refl _) (by omega))]
      have ga3 : (addG G 10 (.inl (4, 10, .inr (.inr (.inr (.inr (fun _ => none))))))).1 q = some (true, .inr (10, [.int md, .ref e, .int (J 0)])) := (addG_lt hlt).trans h1
      have ga : Gr (fun a => a = q) G (addG G 10 (.inl (4, 10, .inr (.inr (.inr (.inr (fun _ => none))))))) 1 10 := grw_add B.1
      have ga2 : (addG G 10 (.inl (4, 10, .inr (.inr (.inr (.inr (fun _ => none))))))).1 G.2.1 = some (true, .inl (4, 10, .inr (.inr (.inr (.inr (fun _ => none)))))) := addG_at
      generalize addG G 10 (.inl (4, 10, .inr (.inr (.inr (.inr (fun _ => none)))))) = G1 at ga ga2 ga3 ⊢
      rw [hPut_eq ga3 (Nat.le_of_ble_eq_true rfl)]
      exact ⟨_, rfl, 10, fun _ => none, rfl, by omega, by omega, setG_at, (setG_ne (by omega)).trans ga2, fun i hi => absurd hi (Nat.not_lt_zero i), (ga.tr (grw_set ga3 rfl (fun _ => rfl))).le (by omega) (by omega), by omega, by omega⟩
    · rw [if_neg (fun z => c1 (Option.some.inj z))]
      refine Ev.call hJ (fun r hr2 => ⟨_, rfl, hr2⟩)
theorem tL_addP {ct : CT} {G : GS} {q e n cap : Nat} {f : Nat → Option Nat} {x : Option Nat} (B : GB ct G) (H : OLstC ct G.1 q e n cap f) (hn : n < 20000) (hx : okR G.1 x = true) (hr : Rm ct G 1 (2 * n + 12)) :
    Ev (sL_add ct G q x) (fun r => r.1 = true ∧ ∃ e' cap' z, OLstC ct r.2.1 q e' (n + 1) cap' (fun i => if i = n then x else f i) ∧ (e' = e ∨ G.2.1 ≤ e') ∧ Gr (lm ct q e) G r.2 1 z ∧ ((cap' = cap ∧ z = 0) ∨ (z = cap' ∧ 4 * cap ≤ 3 * cap' ∧ cap' ≤ 2 * n + 10))) := by
  obtain ⟨⟨md, o, g, h1, h2, h3, h4, h5, h6⟩, hq0, he0⟩ := H
  have hqe : q ≠ e := fun z => by
    rw [z] at h1
    cases h1.symm.trans h2
  unfold sL_add
  rw [hI_eq h1 rfl, hPut_eq h1 (Nat.le_of_ble_eq_true rfl)]
  have g1 : Gr (lm ct q e) G (setG G q (true, .inr (10, [.int (md + 1), .ref e, .int (J n)]))) 0 0 := grw_set h1 ⟨Or.inl rfl, hq0⟩ (fun _ => rfl)
  have k1 : (setG G q (true, .inr (10, [.int (md + 1), .ref e, .int (J n)]))).1 q = some (true, .inr (10, [.int (md + 1), .ref e, .int (J n)])) := setG_at
  have k2 : (setG G q (true, .inr (10, [.int (md + 1), .ref e, .int (J n)]))).1 e = some (o, .inl (4, cap, .inr (.inr (.inr (.inr g))))) := (setG_ne (by omega)).trans h2
  rw [show ([.int md, .ref e, .int (J n)] : List Value).set 0 (.int (md + 1)) = [.int (md + 1), .ref e, .int (J n)] from rfl]
  generalize hG1 : setG G q (true, .inr (10, [.int (md + 1), .ref e, .int (J n)])) = G1 at g1 k1 k2 ⊢
  have hG1n : G1.2 = G.2 := by rw [← hG1]; rfl
  have B1 : GB ct G1 := B.gr g1 (fun a ha => ha.2)
  have hok1 : ∀ i, i < n → okR G1.1 (g i) = true := fun i hi => by rw [(h5 i hi).1]; exact g1.2.2.2.2 _ (h5 i hi).2
  have hx1 := g1.2.2.2.2 _ hx
  rw [hR_eq k1 rfl, hI_eq k1 rfl, hC_eq k1]
  unfold sL_add_2
  rw [onR_eq, hL_eq k2]
  have hfin : ∀ (G2 : GS) (e' cap' z0 : Nat) (g' : Nat → Option Nat), ((cap' = cap ∧ z0 = 0) ∨ (z0 = cap' ∧ 4 * cap ≤ 3 * cap' ∧ cap' ≤ 2 * n + 10)) → (e' = e ∧ ct.2.2.1 ≤ e ∨ G.2.1 ≤ e') → n < cap' → cap' < 50000 → G2.1 q = some (true, .inr (10, [.int (md + 1), .ref e', .int (J n)])) → G2.1 e' = some (true, .inl (4, cap', .inr (.inr (.inr (.inr g'))))) → (∀ i, i < n → g' i = g i) → Gr (lm ct q e) G1 G2 1 z0 →
      Ev (callK (if okR G2.1 x = true then hPutQ G2 e' 4 (J n) x (fun G7 => hPut G7 q 10 2 (.int (J n + 1)) (fun G8 => some G8)) else none) (fun o5 => some (true, o5))) (fun r => r.1 = true ∧ ∃ e' cap' z, OLstC ct r.2.1 q e' (n + 1) cap' (fun i => if i = n then x else f i) ∧ (e' = e ∨ G.2.1 ≤ e') ∧ Gr (lm ct q e) G r.2 1 z ∧ ((cap' = cap ∧ z = 0) ∨ (z = cap' ∧ 4 * cap ≤ 3 * cap' ∧ cap' ≤ 2 * n + 10))) := by
    intro G2 e' cap' z0 g' hz0 he' hc1 hc2 p1 p2 p3 g2
    have hq' : q ≠ e' := fun z => by
      rw [z] at p1
      cases p1.symm.trans p2
    have hM : ∀ a, a = e' → ct.2.2.1 ≤ a := fun a ha => by
      have := B.2.2
      rcases he' with h | h <;> omega
    rw [if_pos (g2.2.2.2.2 _ hx1), hPutQ_eq p2 hc1 (by omega)]
    have s1 : Gr (fun a => a = e') G2 (setG G2 e' (true, .inl (4, cap', .inr (.inr (.inr (.inr (va_up g' n x))))))) 0 0 := grw_set p2 rfl (fun z => by cases z)
    have t1 : (setG G2 e' (true, .inl (4, cap', .inr (.inr (.inr (.inr (va_up g' n x))))))).1 q = some (true, .inr (10, [.int (md + 1), .ref e', .int (J n)])) := (setG_ne (by omega)).trans p1
    have t2 : (setG G2 e' (true, .inl (4, cap', .inr (.inr (.inr (.inr (va_up g' n x))))))).1 e' = some (true, .inl (4, cap', .inr (.inr (.inr (.inr (va_up g' n x)))))) := setG_at
    generalize setG G2 e' (true, .inl (4, cap', .inr (.inr (.inr (.inr (va_up g' n x)))))) = G3 at s1 t1 t2 ⊢
    rw [hPut_eq t1 (Nat.le_of_ble_eq_true rfl), lit_1, J_add]
    have s2 : Gr (fun a => a = q) G3 (setG G3 q (true, .inr (10, [.int (md + 1), .ref e', .int (J (n + 1))]))) 0 0 := grw_set t1 rfl (fun _ => rfl)
    refine ⟨_, rfl, rfl, e', cap', z0, ⟨⟨md + 1, true, va_up g' n x, setG_at, (setG_ne (by omega)).trans t2, by omega, hc2, fun i hi => ⟨?_, ?_⟩, Or.inl rfl⟩, hq0, Or.inl (hM e' rfl)⟩, ?_, ?_, hz0⟩
    · show va_up g' n x i = if i = n then x else f i
      by_cases ei : i = n
      · subst ei; rw [vup_at, if_pos rfl]
      · rw [vup_ne (by omega), if_neg ei, p3 i (by omega), (h5 i (by omega)).1]
    · show okR (setG G3 q (true, .inr (10, [.int (md + 1), .ref e', .int (J (n + 1))]))).1 (if i = n then x else f i) = true
      refine s2.2.2.2.2 _ (s1.2.2.2.2 _ (g2.2.2.2.2 _ ?_))
      by_cases ei : i = n
      · rw [if_pos ei]; exact hx1
      · rw [if_neg ei]; exact g1.2.2.2.2 _ (h5 i (by omega)).2
    · rcases he' with h | h
      · exact Or.inl h.1
      · exact Or.inr h
    · have w1 : Gr (lm ct q e) G G2 1 z0 := (g1.tr g2).le (by omega) (by omega)
      refine ⟨fun a e0 hm ha => ?_, ?_, ?_, fun hb => s2.2.2.2.1 (s1.2.2.2.1 (w1.2.2.2.1 hb)), fun y hy => s2.2.2.2.2 _ (s1.2.2.2.2 _ (w1.2.2.2.2 _ hy))⟩
      · have ha2 := w1.1 a e0 hm ha
        have hlt := B.1 a e0 ha
        refine s2.1 a e0 (fun z => hm ⟨Or.inl z, by rw [z]; exact hq0⟩) (s1.1 a e0 (fun z => ?_) ha2)
        rcases he' with h | h
        · exact hm ⟨Or.inr (z.trans h.1), by rw [z, h.1]; exact h.2⟩
        · omega
      · have b1 := w1.2.1
        have b2 := s1.2.1
        have b3 := s2.2.1
        exact ⟨Nat.le_trans (Nat.le_trans b1.1 b2.1) b3.1, Nat.le_trans b3.2 (Nat.le_trans b2.2 b1.2)⟩
      · have b1 := w1.2.2.1
        have b2 := s1.2.2.1
        have b3 := s2.2.2.1
        exact ⟨Nat.le_trans (Nat.le_trans b1.1 b2.1) b3.1, Nat.le_trans b3.2 (Nat.le_trans b2.2 b1.2)⟩
  by_cases hc : n = cap
  · subst hc
    rw [if_pos rfl, hC_eq k1]
    have hr1 : Rm ct G1 1 (2 * n + 12) := by unfold Rm; rw [hG1n]; exact hr
    have hgr := tL_growP B1 k1 k2 hn hq0 hok1 hr1
    obtain ⟨r, e1, cap', g', e2, e3, e4, e5, e6, e7, e8, e9, e10⟩ := hgr
    rw [e1, callK_eq, e2, onR_eq]
    refine hfin r.2 G1.2.1 cap' cap' g' (Or.inr ⟨rfl, e9, e10⟩) (Or.inr (by rw [hG1n]; exact Nat.le_refl _)) e3 e4 e5 e6 e7 (e8.mono (fun a ha => ⟨Or.inl ha, by rw [ha]; exact hq0⟩))
  · rw [if_neg (by rw [J_eq (by omega) (by omega)]; exact hc)]
    have ho : o = true := by
      rcases h6 with h | h
      · exact h
      · omega
    subst ho
    have he1 : ct.2.2.1 ≤ e := by
      rcases he0 with h | h | h
      · exact h
      · have := (B.oa (i := 0) (by decide)).1
        rw [← h, h2] at this
        cases this
      · have := (B.oa (i := 1) (by decide)).1
        rw [← h, h2] at this
        cases this
    refine hfin G1 e cap 0 g (Or.inl ⟨rfl, rfl⟩) (Or.inl ⟨rfl, he1⟩) (by omega) h4 k1 k2 (fun _ _ => rfl) (Gr.rf.le (by omega) (by omega))
/-! what is seen -/
def allN (f : Nat → Bool) : Nat → Bool
  | 0 => true
  | n + 1 => allN f n && f n
theorem allN_iff {f : Nat → Bool} {n : Nat} : allN f n = true ↔ ∀ i, i < n → f i = true := by
  induction n with
  | zero => exact ⟨fun _ i hi => absurd hi (Nat.not_lt_zero i), fun _ => rfl⟩
  | succ n ih =>
    show (allN f n && f n) = true ↔ _
    rw [Bool.and_eq_true, ih]
    constructor
    · rintro ⟨h1, h2⟩ i hi
      by_cases e : i = n
      · rw [e]; exact h2
      · exact h1 i (by omega)
    · intro h
      exact ⟨fun i hi => h i (by omega), h n (by omega)⟩
def seO (r : Nat → Nat) (sn : Nat → Nat) (n i : Nat) : Bool := decide (sn (3 * i + 1) = n → r (13 + sn (3 * i)) = sn (3 * i + 2))
def soN (u : RU) (r : Nat → Nat) (c : Nat) (sn : Nat → Nat) : Bool := allN (fun n => allN (seO (aftrN u r n) sn n) c) 21
theorem soN_f {u : RU} {r : Nat → Nat} {c n i : Nat} {sn : Nat → Nat} (hn : n < 21) (hi : i < c) (h : seO (aftrN u r n) sn n i = false) : soN u r c sn = false := by
  cases e : soN u r c sn with
  | false => rfl
  | true =>
    have h1 := allN_iff.mp (allN_iff.mp e n hn) i hi
    rw [h] at h1
    cases h1
def maxN (sn : Nat → Nat) : Nat → Nat
  | 0 => 0
  | k + 1 => max (maxN sn k) (sn (3 * k + 1))
theorem maxN_s {sn : Nat → Nat} {k : Nat} : maxN sn (k + 1) = max (maxN sn k) (sn (3 * k + 1)) := rfl
theorem maxN_ge {sn : Nat → Nat} {c i : Nat} (hi : i < c) : sn (3 * i + 1) ≤ maxN sn c := by
  induction c with
  | zero => omega
  | succ c ih =>
    rw [maxN_s]
    by_cases e : i = c
    · subst e; omega
    · have := ih (by omega); omega
theorem maxN_le {sn : Nat → Nat} {c B : Nat} (h : ∀ i, i < c → sn (3 * i + 1) ≤ B) : maxN sn c ≤ B := by
  induction c with
  | zero => exact Nat.zero_le _
  | succ c ih =>
    have := ih (fun i hi => h i (by omega))
    have := h c (by omega)
    rw [maxN_s]; omega
theorem tH_isSo {ct : CT} {P : Nat → Nat → Option Nat} {h : AH} {S0 S : US} {u : RU} {r : Nat → Nat} {q c : Nat} {f : Nat → Option Nat} {sn : Nat → Nat} (hu : RulH ct P h S0 u) (ho : RuOk u) (H : HR S0 1 r S) (hR : ROk u.1 u.2.1 r) (hd : r 0 ≤ 999) (hP : P 0 10 = some q) (hl : LstH h q c f) (hs : SeeH h u.1 f c sn) (h8 : c ≤ 8) : Ev (s1_isSo S ct P h) (fun o => o.1 = soN u r c sn ∧ HFr S0 1 o.2) := by
  have hmx : maxN sn c ≤ 20 := maxN_le (fun i hi => (hs i hi).2.2.1)
  have ho12 := ho.2.1
  unfold s1_isSo
  refine Ev.loop (I := fun k x => x = (J (maxN sn k), J k)) c ?_ ?_ rfl (by unfold FUEL; omega)
  · rintro k hk x rfl rc hrc
    obtain ⟨⟨b, o, g, w1, w2, w3, w4, w5⟩, w6, w7, w8⟩ := hs k hk
    have hm : maxN sn k ≤ 20 := maxN_le (fun i hi => (hs i (by omega)).2.2.1)
    have e9 : (if maxN sn k < sn (3 * k + 1) then J (sn (3 * k + 1)) else J (maxN sn k)) = J (maxN sn (k + 1)) := by
      rw [maxN_s]
      split
      · rw [Nat.max_eq_right (by omega)]
      · rw [Nat.max_eq_left (by omega)]
    show Ev (s1_isSo_L4 S P h ct rc (J (maxN sn k)) (J k)) _
    unfold s1_isSo_L4
    rw [letB_eq, hP, onR_eq, tL_cls hl, m_call (tL_size hl), letB_eq, onR_eq, tL_cls hl, m_call (tL_get hl hk), w1, onR_eq, hT_eq w2]
    rw [show (1 : Int32) = J 1 from rfl, hZ_eq w2 (by omega) (by omega), w4]
    simp (disch := omega) only [lit_0, lit_1, lit_2, lit_3, lit_4, lit_5, lit_6, lit_7, lit_8, lit_9, lit_10, lit_11, lit_12, lit_13, lit_14, lit_15, lit_20, lit_24, lit_25, lit_37, lit_40, lit_43, lit_48, lit_49, lit_50, lit_60, lit_96, lit_98, lit_99, lit_100, lit_999, lit_62, lit_74, lit_86, lit_92, lit_99999, lit_100000, lit_16, lit_32767, lit_2147483639, J_add, J_mul, J_sub, J_tn, J_le, J_lt, J_eq, Nat.not_lt_zero, false_or, or_false, le_t, le_f, lt_t, lt_f, eq_f, ↓reduceIte, callK_eq, letB_eq, joinB_eq, Nat.add_assoc, e9]
    exact hrc _ rfl
  · rintro x rfl rc
    show Ev (s1_isSo_L4 S P h ct rc (J (maxN sn c)) (J c)) _
    unfold s1_isSo_L4
    rw [letB_eq, hP, onR_eq, tL_cls hl, m_call (tL_size hl)]
    simp (disch := omega) only [lit_0, lit_1, lit_2, lit_3, lit_4, lit_5, lit_6, lit_7, lit_8, lit_9, lit_10, lit_11, lit_12, lit_13, lit_14, lit_15, lit_20, lit_24, lit_25, lit_37, lit_40, lit_43, lit_48, lit_49, lit_50, lit_60, lit_96, lit_98, lit_99, lit_100, lit_999, lit_62, lit_74, lit_86, lit_92, lit_99999, lit_100000, lit_16, lit_32767, lit_2147483639, J_add, J_mul, J_sub, J_tn, J_le, J_lt, J_eq, Nat.not_lt_zero, false_or, or_false, le_t, le_f, lt_t, lt_f, eq_f, ↓reduceIte, callK_eq, letB_eq, joinB_eq, Nat.add_assoc]
    refine Ev.loop2 (i0 := 0) (fun n x => HR S0 1 (aftrN u r n) x ∧ ∀ n', n' < n → allN (seO (aftrN u r n') sn n') c = true) (maxN sn c + 1) ⟨H, fun n' hn => absurd hn (Nat.not_lt_zero n')⟩ (by omega) ?_ ?_ (by unfold FUEL; omega)
    · rintro n - hn S1 ⟨h1, h2⟩ rc hrc
      have hR1 := hR.aftr (d := n) ho
      unfold s1_isSo_L45
      simp (disch := omega) only [lit_0, lit_1, lit_2, lit_3, lit_4, lit_5, lit_6, lit_7, lit_8, lit_9, lit_10, lit_11, lit_12, lit_13, lit_14, lit_15, lit_20, lit_24, lit_25, lit_37, lit_40, lit_43, lit_48, lit_49, lit_50, lit_60, lit_96, lit_98, lit_99, lit_100, lit_999, lit_62, lit_74, lit_86, lit_92, lit_99999, lit_100000, lit_16, lit_32767, lit_2147483639, J_add, J_mul, J_sub, J_tn, J_le, J_lt, J_eq, Nat.not_lt_zero, false_or, or_false, le_t, le_f, lt_t, lt_f, eq_f, ↓reduceIte, callK_eq, letB_eq, joinB_eq, Nat.add_assoc]
      refine Ev.loop (I := fun k x => x = J k ∧ ∀ i, i < k → seO (aftrN u r n) sn n i = true) c ?_ ?_ ⟨rfl, fun i hi => absurd hi (Nat.not_lt_zero i)⟩ (by unfold FUEL; omega)
      · rintro k hk x ⟨rfl, h3⟩ rc2 hrc2
        obtain ⟨⟨b, o, g, w1, w2, w3, w4, w5⟩, w6, w7, w8⟩ := hs k hk
        have v1 := (h1.1.2.1 (sn (3 * k)) (by omega)).2.1
        have v2 := (hR1.1 (sn (3 * k)) (by omega)).2.1
        unfold s1_isSo_L52
        rw [letB_eq, hP, onR_eq, tL_cls hl, m_call (tL_size hl), letB_eq, onR_eq, tL_cls hl, m_call (tL_get hl hk), w1, onR_eq, hT_eq w2]
        simp only [show (0 : Int32) = J 0 from rfl, show (1 : Int32) = J 1 from rfl, show (2 : Int32) = J 2 from rfl]
        rw [hZ_eq w2 (by omega) (by omega), w4, hZ_eq w2 (by omega) (by omega), w3, hZ_eq w2 (by omega) (by omega), w5]
        simp (disch := omega) only [lit_0, lit_1, lit_2, lit_3, lit_4, lit_5, lit_6, lit_7, lit_8, lit_9, lit_10, lit_11, lit_12, lit_13, lit_14, lit_15, lit_20, lit_24, lit_25, lit_37, lit_40, lit_43, lit_48, lit_49, lit_50, lit_60, lit_96, lit_98, lit_99, lit_100, lit_999, lit_62, lit_74, lit_86, lit_92, lit_99999, lit_100000, lit_16, lit_32767, lit_2147483639, J_add, J_mul, J_sub, J_tn, J_le, J_lt, J_eq, Nat.not_lt_zero, false_or, or_false, le_t, le_f, lt_t, lt_f, eq_f, ↓reduceIte, callK_eq, letB_eq, joinB_eq, Nat.add_assoc, v1]
        by_cases c1 : sn (3 * k + 1) = n
        · by_cases c2 : aftrN u r n (13 + sn (3 * k)) = sn (3 * k + 2)
          · simp only [c1, c2, ↓reduceIte]
            refine hrc2 _ ⟨rfl, fun i hi => ?_⟩
            by_cases e : i = k
            · rw [e]; exact decide_eq_true (fun _ => c2)
            · exact h3 i (by omega)
          · simp only [c1, c2, ↓reduceIte]
            refine ⟨_, rfl, ?_, h1.2⟩
            refine (soN_f (n := n) (by omega) hk (decide_eq_false (fun z => c2 (z c1)))).symm
        · simp only [c1, ↓reduceIte]
          refine hrc2 _ ⟨rfl, fun i hi => ?_⟩
          by_cases e : i = k
          · rw [e]; exact decide_eq_true (fun z => absurd z c1)
          · exact h3 i (by omega)
      · rintro x ⟨rfl, h3⟩ rc2
        unfold s1_isSo_L52
        rw [letB_eq, hP, onR_eq, tL_cls hl, m_call (tL_size hl)]
        simp (disch := omega) only [lit_0, lit_1, lit_2, lit_3, lit_4, lit_5, lit_6, lit_7, lit_8, lit_9, lit_10, lit_11, lit_12, lit_13, lit_14, lit_15, lit_20, lit_24, lit_25, lit_37, lit_40, lit_43, lit_48, lit_49, lit_50, lit_60, lit_96, lit_98, lit_99, lit_100, lit_999, lit_62, lit_74, lit_86, lit_92, lit_99999, lit_100000, lit_16, lit_32767, lit_2147483639, J_add, J_mul, J_sub, J_tn, J_le, J_lt, J_eq, Nat.not_lt_zero, false_or, or_false, le_t, le_f, lt_t, lt_f, eq_f, ↓reduceIte, callK_eq, letB_eq, joinB_eq, Nat.add_assoc]
        refine Ev.call (tH_pass hu ho h1 hR1 (by rw [aftrN_0]; omega)) (fun S2 h4 => hrc _ ⟨h4, fun n' hn' => ?_⟩)
        by_cases e : n' = n
        · rw [e]; exact allN_iff.mpr h3
        · exact h2 n' (by omega)
    · rintro S1 ⟨h1, h2⟩ rc
      unfold s1_isSo_L45
      simp (disch := omega) only [lit_0, lit_1, lit_2, lit_3, lit_4, lit_5, lit_6, lit_7, lit_8, lit_9, lit_10, lit_11, lit_12, lit_13, lit_14, lit_15, lit_20, lit_24, lit_25, lit_37, lit_40, lit_43, lit_48, lit_49, lit_50, lit_60, lit_96, lit_98, lit_99, lit_100, lit_999, lit_62, lit_74, lit_86, lit_92, lit_99999, lit_100000, lit_16, lit_32767, lit_2147483639, J_add, J_mul, J_sub, J_tn, J_le, J_lt, J_eq, Nat.not_lt_zero, false_or, or_false, le_t, le_f, lt_t, lt_f, eq_f, ↓reduceIte, callK_eq, letB_eq, joinB_eq, Nat.add_assoc]
      refine ⟨_, rfl, ?_, h1.2⟩
      refine (allN_iff.mpr (fun n hn => ?_)).symm
      by_cases e : n < maxN sn c + 1
      · exact h2 n e
      · refine allN_iff.mpr (fun i hi => decide_eq_true (fun z => ?_))
        have := maxN_ge (sn := sn) hi
        omega
def MFs (S S' : US) : Prop := (∀ a, a ≠ 14 → a ≠ 16 → a ≠ 17 → a ≠ 18 → a ≠ 25 → a ≠ 26 → S' a = S a) ∧ ∀ k, k < 49 → S' 14 k = S 14 k
theorem MFs.rf {S : US} : MFs S S := ⟨fun _ _ _ _ _ _ _ => rfl, fun _ _ => rfl⟩
theorem MFs.tr {S S1 S2 : US} (h : MFs S S1) (h' : MFs S1 S2) : MFs S S2 := ⟨fun a h1 h2 h3 h4 h5 h6 => (h'.1 a h1 h2 h3 h4 h5 h6).trans (h.1 a h1 h2 h3 h4 h5 h6), fun k hk => (h'.2 k hk).trans (h.2 k hk)⟩
theorem MFs.of {S S' : US} (h : MFr S 49 S') : MFs S S' := ⟨fun a h1 h2 h3 h4 _ _ => h.1 a h1 h2 h3 h4, fun k hk => h.2 k (Or.inl hk)⟩
theorem MFs.k {S S' : US} (h : MFs S S') : KeepM S S' := ⟨fun a ha => h.1 a (by omega) (by omega) (by omega) (by omega) (by omega) (by omega), h.2, fun k _ _ => by rw [h.1 0 (by decide) (by decide) (by decide) (by decide) (by decide) (by decide)]⟩
theorem MFs.u {S S' : US} {a k : Nat} {v : Int32} (h : MFs S S') (ha : a = 25 ∨ a = 26) : MFs S (u2 S' a k v) := ⟨fun b h1 h2 h3 h4 h5 h6 => by rw [u2_row' (by omega)]; exact h.1 b h1 h2 h3 h4 h5 h6, fun j hj => by rw [u2_row' (by omega)]; exact h.2 j hj⟩
theorem tM_isSeen {S0 S : US} {u : RU} {r : Nat → Nat} {c : Nat} {sn : Nat → Nat} (hu : RulM S0 u) (ho : RuOk u) (hr : MRow S 49 r) (hF : MFs S0 S) (hR : ROk u.1 u.2.1 r) (hd : r 0 ≤ 999) (hc : S0 0 51 = J c) (h8 : c ≤ 8) (hs : ∀ i, i < c → sn (3 * i) < u.1 ∧ sn (3 * i + 1) ≤ 20 ∧ sn (3 * i + 2) ≤ 99) (hm : SeeM S0 24 c sn) : Ev (sM_isSeen S) (fun o => o.1 = soN u r c sn ∧ MFs S0 o.2 ∧ (o.1 = true → ∀ s, s < u.1 → o.2 25 s = J (aftrN u r 5 (13 + s))) ∧ o.2 26 = S 26) := by
  have ho12 := ho.2.1
  unfold sM_isSeen
  refine Ev.loop2 (i0 := 0) (fun n x => MRow x 49 (aftrN u r n) ∧ MFs S0 x ∧ (∀ n', n' < n → allN (seO (aftrN u r n') sn n') c = true) ∧ (5 < n → ∀ s, s < u.1 → x 25 s = J (aftrN u r 5 (13 + s))) ∧ x 26 = S 26) 21 ⟨hr, hF, fun n' hn => absurd hn (Nat.not_lt_zero n'), fun h => absurd h (by omega), rfl⟩ (by omega) ?_ ?_ (by unfold FUEL; omega)
  · rintro n - hn S1 ⟨h1, h2, h3, h4, h26⟩ rc hrc
    have hR1 := hR.aftr (d := n) ho
    have u1 := h2.k.rul hu
    have c1 : S1 0 51 = J c := (h2.k.2.2 51 (by decide) (by decide)).trans hc
    have m1 : S1 24 = S0 24 := h2.k.1 24 (by decide)
    unfold sM_isSeen_L2
    simp (disch := omega) only [lit_0, lit_1, lit_2, lit_3, lit_4, lit_5, lit_6, lit_7, lit_8, lit_9, lit_10, lit_11, lit_12, lit_13, lit_14, lit_15, lit_20, lit_24, lit_25, lit_37, lit_40, lit_43, lit_48, lit_49, lit_50, lit_60, lit_96, lit_98, lit_99, lit_100, lit_999, lit_62, lit_74, lit_86, lit_92, lit_99999, lit_100000, lit_16, lit_32767, lit_2147483639, J_add, J_mul, J_sub, J_tn, J_le, J_lt, J_eq, Nat.not_lt_zero, false_or, or_false, le_t, le_f, lt_t, lt_f, eq_f, ↓reduceIte, callK_eq, letB_eq, joinB_eq, Nat.add_assoc]
    refine Ev.loop (I := fun k x => x = J k ∧ ∀ i, i < k → seO (aftrN u r n) sn n i = true) c ?_ ?_ ⟨rfl, fun i hi => absurd hi (Nat.not_lt_zero i)⟩ (by unfold FUEL; omega)
    · rintro k hk x ⟨rfl, h5⟩ rc2 hrc2
      obtain ⟨w6, w7, w8⟩ := hs k hk
      have y0 : S1 24 (3 * k) = J (sn (3 * k)) := by rw [m1]; exact hm _ (by omega)
      have y1 : S1 24 (3 * k + 1) = J (sn (3 * k + 1)) := by rw [m1]; exact hm _ (by omega)
      have y2 : S1 24 (3 * k + 2) = J (sn (3 * k + 2)) := by rw [m1]; exact hm _ (by omega)
      have v1 := h1 (13 + sn (3 * k)) (by omega)
      have v1 : S1 14 (62 + sn (3 * k)) = _ := (congrArg (S1 14) (by omega)).trans v1
      have v2 := (hR1.1 (sn (3 * k)) (by omega)).2.1
      unfold sM_isSeen_L10
      simp (disch := omega) only [lit_0, lit_1, lit_2, lit_3, lit_4, lit_5, lit_6, lit_7, lit_8, lit_9, lit_10, lit_11, lit_12, lit_13, lit_14, lit_15, lit_20, lit_24, lit_25, lit_37, lit_40, lit_43, lit_48, lit_49, lit_50, lit_60, lit_96, lit_98, lit_99, lit_100, lit_999, lit_62, lit_74, lit_86, lit_92, lit_99999, lit_100000, lit_16, lit_32767, lit_2147483639, J_add, J_mul, J_sub, J_tn, J_le, J_lt, J_eq, Nat.not_lt_zero, false_or, or_false, le_t, le_f, lt_t, lt_f, eq_f, ↓reduceIte, callK_eq, letB_eq, joinB_eq, Nat.add_assoc, c1, y0, y1, y2, v1]
      by_cases z1 : sn (3 * k + 1) = n
      · by_cases z2 : aftrN u r n (13 + sn (3 * k)) = sn (3 * k + 2)
        · simp only [z1, z2, ↓reduceIte]
          refine hrc2 _ ⟨rfl, fun i hi => ?_⟩
          by_cases e : i = k
          · rw [e]; exact decide_eq_true (fun _ => z2)
          · exact h5 i (by omega)
        · simp only [z1, z2, ↓reduceIte]
          refine ⟨_, rfl, (soN_f (n := n) (by omega) hk (decide_eq_false (fun z => z2 (z z1)))).symm, h2, (fun z => by cases z), h26⟩
      · simp only [z1, ↓reduceIte]
        refine hrc2 _ ⟨rfl, fun i hi => ?_⟩
        by_cases e : i = k
        · rw [e]; exact decide_eq_true (fun z => absurd z z1)
        · exact h5 i (by omega)
    · rintro x ⟨rfl, h5⟩ rc2
      have key : ∀ S3, MRow S3 49 (aftrN u r n) → MFs S0 S3 → S3 26 = S 26 → (5 ≤ n → ∀ s, s < u.1 → S3 25 s = J (aftrN u r 5 (13 + s))) → Ev (callK (sM_dayGoes S3 (J 49)) (fun o6 => rc (o6, J (n + 1)))) (fun o => o.1 = soN u r c sn ∧ MFs S0 o.2 ∧ (o.1 = true → ∀ s, s < u.1 → o.2 25 s = J (aftrN u r 5 (13 + s))) ∧ o.2 26 = S 26) := by
        intro S3 k1 k2 k26 k3
        refine Ev.call (tM_dayGoes (b := 49) (S0 := S3) (k2.k.rul hu) ho ⟨k1, MFr.rf⟩ hR1 (by omega) (by rw [aftrN_0]; omega)) (fun S4 k4 => hrc _ ⟨k4.1, k2.tr (MFs.of k4.2), fun n' hn' => ?_, fun z s hs' => ?_, (k4.2.1 26 (by decide) (by decide) (by decide) (by decide)).trans k26⟩)
        · by_cases e : n' = n
          · rw [e]; exact allN_iff.mpr h5
          · exact h3 n' (by omega)
        · rw [k4.2.1 25 (by decide) (by decide) (by decide) (by decide)]
          exact k3 (by omega) s hs'
      unfold sM_isSeen_L10
      by_cases z5 : n = 5
      · subst z5
        simp (disch := omega) only [lit_0, lit_1, lit_2, lit_3, lit_4, lit_5, lit_6, lit_7, lit_8, lit_9, lit_10, lit_11, lit_12, lit_13, lit_14, lit_15, lit_20, lit_24, lit_25, lit_37, lit_40, lit_43, lit_48, lit_49, lit_50, lit_60, lit_96, lit_98, lit_99, lit_100, lit_999, lit_62, lit_74, lit_86, lit_92, lit_99999, lit_100000, lit_16, lit_32767, lit_2147483639, J_add, J_mul, J_sub, J_tn, J_le, J_lt, J_eq, Nat.not_lt_zero, false_or, or_false, le_t, le_f, lt_t, lt_f, eq_f, ↓reduceIte, callK_eq, letB_eq, joinB_eq, Nat.add_assoc, c1]
        refine Ev.loop2 (i0 := 0) (fun k x => MRow x 49 (aftrN u r 5) ∧ MFs S0 x ∧ x 26 = S 26 ∧ ∀ s, s < k → x 25 s = J (aftrN u r 5 (13 + s))) u.1 ⟨h1, h2, h26, fun s hs' => absurd hs' (Nat.not_lt_zero s)⟩ (by omega) ?_ ?_ (by unfold FUEL; omega)
        · rintro k - hk S3 ⟨k1, k2, k26, k3⟩ rc3 hrc3
          have u3 := k2.k.rul hu
          have v1 := k1 (13 + k) (by omega)
          have v1 : S3 14 (62 + k) = _ := (congrArg (S3 14) (by omega)).trans v1
          unfold sM_isSeen_L76
          simp (disch := omega) only [lit_0, lit_1, lit_2, lit_3, lit_4, lit_5, lit_6, lit_7, lit_8, lit_9, lit_10, lit_11, lit_12, lit_13, lit_14, lit_15, lit_20, lit_24, lit_25, lit_37, lit_40, lit_43, lit_48, lit_49, lit_50, lit_60, lit_96, lit_98, lit_99, lit_100, lit_999, lit_62, lit_74, lit_86, lit_92, lit_99999, lit_100000, lit_16, lit_32767, lit_2147483639, J_add, J_mul, J_sub, J_tn, J_le, J_lt, J_eq, Nat.not_lt_zero, false_or, or_false, le_t, le_f, lt_t, lt_f, eq_f, ↓reduceIte, callK_eq, letB_eq, joinB_eq, Nat.add_assoc, u3.1, v1]
          refine hrc3 _ ⟨k1.of (u2_row' (by omega)), k2.u (Or.inl rfl), (u2_row' (by omega)).trans k26, fun s hs' => ?_⟩
          by_cases e : s = k
          · rw [e, u2_at]
          · rw [u2_off (by omega)]; exact k3 s (by omega)
        · rintro S3 ⟨k1, k2, k26, k3⟩ rc3
          have u3 := k2.k.rul hu
          unfold sM_isSeen_L76
          simp (disch := omega) only [lit_0, lit_1, lit_2, lit_3, lit_4, lit_5, lit_6, lit_7, lit_8, lit_9, lit_10, lit_11, lit_12, lit_13, lit_14, lit_15, lit_20, lit_24, lit_25, lit_37, lit_40, lit_43, lit_48, lit_49, lit_50, lit_60, lit_96, lit_98, lit_99, lit_100, lit_999, lit_62, lit_74, lit_86, lit_92, lit_99999, lit_100000, lit_16, lit_32767, lit_2147483639, J_add, J_mul, J_sub, J_tn, J_le, J_lt, J_eq, Nat.not_lt_zero, false_or, or_false, le_t, le_f, lt_t, lt_f, eq_f, ↓reduceIte, callK_eq, letB_eq, joinB_eq, Nat.add_assoc, u3.1]
          exact key S3 k1 k2 k26 (fun _ => k3)
      · simp (disch := omega) only [lit_0, lit_1, lit_2, lit_3, lit_4, lit_5, lit_6, lit_7, lit_8, lit_9, lit_10, lit_11, lit_12, lit_13, lit_14, lit_15, lit_20, lit_24, lit_25, lit_37, lit_40, lit_43, lit_48, lit_49, lit_50, lit_60, lit_96, lit_98, lit_99, lit_100, lit_999, lit_62, lit_74, lit_86, lit_92, lit_99999, lit_100000, lit_16, lit_32767, lit_2147483639, J_add, J_mul, J_sub, J_tn, J_le, J_lt, J_eq, Nat.not_lt_zero, false_or, or_false, le_t, le_f, lt_t, lt_f, eq_f, ↓reduceIte, callK_eq, letB_eq, joinB_eq, Nat.add_assoc, c1, z5]
        exact key S1 h1 h2 h26 (fun z => h4 (by omega))
  · rintro S1 ⟨h1, h2, h3, h4, h26⟩ rc
    unfold sM_isSeen_L2
    simp (disch := omega) only [lit_0, lit_1, lit_2, lit_3, lit_4, lit_5, lit_6, lit_7, lit_8, lit_9, lit_10, lit_11, lit_12, lit_13, lit_14, lit_15, lit_20, lit_24, lit_25, lit_37, lit_40, lit_43, lit_48, lit_49, lit_50, lit_60, lit_96, lit_98, lit_99, lit_100, lit_999, lit_62, lit_74, lit_86, lit_92, lit_99999, lit_100000, lit_16, lit_32767, lit_2147483639, J_add, J_mul, J_sub, J_tn, J_le, J_lt, J_eq, Nat.not_lt_zero, false_or, or_false, le_t, le_f, lt_t, lt_f, eq_f, ↓reduceIte, callK_eq, letB_eq, joinB_eq, Nat.add_assoc]
    exact ⟨_, rfl, (allN_iff.mpr h3).symm, h2, fun _ => h4 (by omega), h26⟩
