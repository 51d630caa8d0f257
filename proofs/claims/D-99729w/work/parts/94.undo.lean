set_option maxRecDepth 100000
/-! THE PLAIN LAW, 23: undo, image, restore, what was seen -/
theorem MLst.lc {ct : CT} {h : AH} {q e n : Nat} {f : Nat → Option Nat} (H : MLst ct h q e n f) : LstC h q n f := by
  obtain ⟨md, o, cap, g, h1, h2, h3, h4, h5, h6⟩ := H
  exact ⟨true, md, e, o, cap, g, h1, h2, h3, h4, fun i hi => (h5 i hi).1⟩
/-- a list is made out of another -/
theorem tL_copy {ct : CT} {G : GS} {q p n : Nat} {f : Nat → Option Nat} (B : GB ct G) (hq : G.1 q = some (true, .inr (10, [.int 0, .null, .int 0]))) (hq0 : ct.2.2.1 ≤ q) (src : LstC G.1 p n f) (hok : ∀ i, i < n → okR G.1 (f i) = true) (hr : Rm ct G 1 n) : Ev (sL_init_2 ct G q (some p)) (fun G' => ∃ e', OLst ct G'.1 q e' n f ∧ (G.2.1 ≤ e' ∨ e' = ct.2.1 1) ∧ Gr (fun a => a = q) G G' 1 n) := by
  obtain ⟨o, md, e, o2, cap, g, h1, h2, h3, h4, h5⟩ := src
  have hpq : p ≠ q := fun z => by
    rw [z] at h1
    cases h1.symm.trans hq
  have heq : e ≠ q := fun z => by
    rw [z] at h2
    cases h2.symm.trans hq
  unfold sL_init_2 sK_init sJ_init
  rw [callK_eq, hPut_eq hq (Nat.le_of_ble_eq_true rfl), callK_eq, onR_eq, show ([.int 0, .null, .int 0] : List Value).set 0 (.int 0) = [.int 0, .null, .int 0] from rfl]
  have g1 : Gr (fun a => a = q) G (setG G q (true, .inr (10, [.int 0, .null, .int 0]))) 0 0 := grw_set hq rfl (fun _ => rfl)
  have k1 : (setG G q (true, .inr (10, [.int 0, .null, .int 0]))).1 q = some (true, .inr (10, [.int 0, .null, .int 0])) := setG_at
  have hp1 : (setG G q (true, .inr (10, [.int 0, .null, .int 0]))).1 p = _ := (setG_ne (by omega)).trans h1
  have he1 : (setG G q (true, .inr (10, [.int 0, .null, .int 0]))).1 e = _ := (setG_ne (by omega)).trans h2
  have hn1 : (setG G q (true, .inr (10, [.int 0, .null, .int 0]))).2 = G.2 := rfl
  show Ev (hC (setG G q (true, .inr (10, [.int 0, .null, .int 0]))).1 p 10 _) _
  generalize setG G q (true, .inr (10, [.int 0, .null, .int 0])) = G1 at g1 k1 hp1 he1 hn1 ⊢
  rw [hC_eq hp1]
  have hr1 : Rm ct G1 1 n := by unfold Rm; rw [hn1]; exact hr
  obtain ⟨fc, c1, c2⟩ := tY_copyOf (n := n) (g1.2.2.2.1 B.1) he1 h4 (by omega) (fun i hi _ => by rw [h5 i hi]; exact g1.2.2.2.2 _ (hok i hi)) hr1
  have ga : Gr (fun a => a = q) G1 (addG G1 n (.inl (4, n, .inr (.inr (.inr (.inr (fun _ => none))))))) 1 n := grw_add (g1.2.2.2.1 B.1)
  have hlq := g1.2.2.2.1 B.1 _ _ k1
  have kq : (setG (addG G1 n (.inl (4, n, .inr (.inr (.inr (.inr (fun _ => none))))))) G1.2.1 (true, .inl (4, n, .inr (.inr (.inr (.inr fc)))))).1 q = some (true, .inr (10, [.int 0, .null, .int 0])) := (setG_ne (by omega)).trans ((addG_lt hlq).trans k1)
  have ke : (setG (addG G1 n (.inl (4, n, .inr (.inr (.inr (.inr (fun _ => none))))))) G1.2.1 (true, .inl (4, n, .inr (.inr (.inr (.inr fc)))))).1 G1.2.1 = some (true, .inl (4, n, .inr (.inr (.inr (.inr fc))))) := setG_at
  have kp : (setG (addG G1 n (.inl (4, n, .inr (.inr (.inr (.inr (fun _ => none))))))) G1.2.1 (true, .inl (4, n, .inr (.inr (.inr (.inr fc)))))).1 p = _ := (setG_ne (by have := g1.2.2.2.1 B.1 _ _ hp1; omega)).trans ((addG_lt (g1.2.2.2.1 B.1 _ _ hp1)).trans hp1)
  have gb : Gr (fun a => a = q) G (setG (addG G1 n (.inl (4, n, .inr (.inr (.inr (.inr (fun _ => none))))))) G1.2.1 (true, .inl (4, n, .inr (.inr (.inr (.inr fc)))))) 1 n := by
    have gs : Gr (fun a => a = q ∨ a = G.2.1) G (setG (addG G1 n (.inl (4, n, .inr (.inr (.inr (.inr (fun _ => none))))))) G1.2.1 (true, .inl (4, n, .inr (.inr (.inr (.inr fc)))))) (0 + 1 + 0) (0 + n + 0) := ((g1.tr ga).mono (fun a h => Or.inl h)).tr (grw_set addG_at (Or.inr (by rw [hn1])) (fun z => by cases z))
    refine ⟨fun a e0 hm ha => gs.1 a e0 (fun z => ?_) ha, ?_, ?_, gs.2.2.2.1, gs.2.2.2.2⟩
    · rcases z with z | z
      · exact hm z
      · have := B.1 a e0 ha
        omega
    · have := gs.2.1; exact ⟨this.1, by omega⟩
    · have := gs.2.2.1; exact ⟨this.1, by omega⟩
  unfold sL_toArray
  rw [hR_eq hp1 rfl, hI_eq hp1 rfl]
  rw [c1]
  simp only [callK_eq, onR_eq]
  rw [hL_eq ke, hPut_eq kq (Nat.le_of_ble_eq_true rfl), show ([.int 0, .null, .int 0] : List Value).set 2 (.int (J n)) = [.int 0, .null, .int (J n)] from rfl]
  have g2 : Gr (fun a => a = q) (setG (addG G1 n (.inl (4, n, .inr (.inr (.inr (.inr (fun _ => none))))))) G1.2.1 (true, .inl (4, n, .inr (.inr (.inr (.inr fc)))))) (setG (setG (addG G1 n (.inl (4, n, .inr (.inr (.inr (.inr (fun _ => none))))))) G1.2.1 (true, .inl (4, n, .inr (.inr (.inr (.inr fc)))))) q (true, .inr (10, [.int 0, .null, .int (J n)]))) 0 0 := grw_set kq rfl (fun _ => rfl)
  generalize hG2 : setG (addG G1 n (.inl (4, n, .inr (.inr (.inr (.inr (fun _ => none))))))) G1.2.1 (true, .inl (4, n, .inr (.inr (.inr (.inr fc))))) = G2 at kq ke kp gb g2 ⊢
  have k3 : (setG G2 q (true, .inr (10, [.int 0, .null, .int (J n)]))).1 q = some (true, .inr (10, [.int 0, .null, .int (J n)])) := setG_at
  have ke3 : (setG G2 q (true, .inr (10, [.int 0, .null, .int (J n)]))).1 G1.2.1 = some (true, .inl (4, n, .inr (.inr (.inr (.inr fc))))) := (setG_ne (by omega)).trans ke
  have kp3 : (setG G2 q (true, .inr (10, [.int 0, .null, .int (J n)]))).1 p = _ := (setG_ne (by omega)).trans kp
  have gc : Gr (fun a => a = q) G (setG G2 q (true, .inr (10, [.int 0, .null, .int (J n)]))) 1 n := gb.tr g2
  show Ev (if J n = 0 then hPut (setG G2 q (true, .inr (10, [.int 0, .null, .int (J n)]))) q 10 1 (.ref (ct.2.1 1)) (fun G7 => some G7) else hC (setG G2 q (true, .inr (10, [.int 0, .null, .int (J n)]))).1 p 10 _) _
  generalize setG G2 q (true, .inr (10, [.int 0, .null, .int (J n)])) = G3 at k3 ke3 kp3 gc ⊢
  have hoa := B.oa (i := 1) (by decide)
  by_cases c0 : n = 0
  · subst c0
    rw [if_pos (show J 0 = (0 : Int32) from rfl), hPut_eq k3 (Nat.le_of_ble_eq_true rfl)]
    refine ⟨_, rfl, ct.2.1 1, ⟨⟨0, false, 0, fun _ => none, setG_at, (setG_ne (by omega)).trans (gc.1 _ _ (by omega) hoa.1), Nat.le_refl _, by decide, fun i hi => absurd hi (Nat.not_lt_zero i), Or.inr rfl⟩, hq0, Or.inr (Or.inr rfl)⟩, Or.inr rfl, gc.tr (grw_set k3 rfl (fun _ => rfl))⟩
  · rw [if_neg (by rw [lit_0, J_eq (by omega) (by omega)]; exact c0), hC_eq kp3, if_pos trivial, hPut_eq k3 (Nat.le_of_ble_eq_true rfl)]
    have gd2 : Gr (fun a => a = q) G (setG G3 q (true, .inr (10, [.int 0, .ref G1.2.1, .int (J n)]))) 1 n := gc.tr (grw_set k3 rfl (fun _ => rfl))
    refine ⟨_, rfl, G1.2.1, ⟨⟨0, true, n, fc, setG_at, (setG_ne (by omega)).trans ke3, Nat.le_refl _, by omega, fun i hi => ?_, Or.inl rfl⟩, hq0, Or.inl (by rw [hn1]; exact B.2.2)⟩, Or.inl (by rw [hn1]; exact Nat.le_refl _), gd2⟩
    rw [c2 i hi (by omega), h5 i hi]
    exact ⟨rfl, gd2.2.2.2.2 _ (hok i hi)⟩
theorem Gr.rm {M : Nat → Prop} {G0 G G' : GS} {c z n : Nat} (h : Gr M G0 G c z) (hb : Bd G0) (hn : G0.2.1 ≤ n) (h2 : G'.2 = G.2) (h3 : ∀ a, a < n ∨ n + 6 < a → G'.1 a = G.1 a) (h4 : ∀ a e, G'.1 a = some e → G.1 a = some e) : Gr M G0 G' c z := by
  obtain ⟨g1, g2, g3, g4, g5⟩ := h
  refine ⟨fun a e hm ha => ?_, by rw [h2]; exact g2, by rw [h2]; exact g3, fun hb a e ha => ?_, fun x hx => ?_⟩
  · have := hb a e ha
    rw [h3 a (by omega)]
    exact g1 a e hm ha
  · rw [h2]
    exact g4 hb a e (h4 a e ha)
  · cases x with
    | none => rfl
    | some y =>
      obtain ⟨e, k1, k2⟩ := okR_iff.mp hx
      have := hb y e k1
      obtain ⟨e', k3, k4⟩ := okR_iff.mp (g5 _ hx)
      exact okR_iff.mpr ⟨e', by rw [h3 y (by omega)]; exact k3, k4⟩
/-- the numbered line becomes another -/
theorem tRel {ρ : Type} {G : GS} {n o : Nat} {f : US} {r : Nat → Nat} {ad : Nat → Nat} {P : Nat → Nat → Option Nat} {S : US} {kp : US → GS → (Nat → Nat → Option Nat) → (Nat → Nat) → Option ρ} (H : LnF G.1 n (J (r 0)) (.ref o) f) (hf : RowF f r) (ho : ad 0 = o) : ∃ S' G' P' ad', rel iL (nwL G n) G ad P S kp = kp S' G' P' ad' ∧ ad' 0 = o ∧ HRow S' 0 r ∧ (∀ i, i < 5 → S' i = S i) ∧ (∀ i, i < 5 → P' i = P i) ∧ G'.2 = G.2 ∧ (∀ a, a < n ∨ n + 6 < a → G'.1 a = G.1 a) ∧ ∀ a e, G'.1 a = some e → G.1 a = some e := by
  obtain ⟨h1, k0, k1, k2, k3, k4, k5⟩ := H
  have w5 : nwL G n 5 = n := rfl
  have w6 : nwL G n 6 = n + 1 := by unfold nwL; rw [h1]; rfl
  have w7 : nwL G n 7 = n + 2 := by unfold nwL; rw [h1]; rfl
  have w8 : nwL G n 8 = n + 3 := by unfold nwL; rw [h1]; rfl
  have w9 : nwL G n 9 = n + 4 := by unfold nwL; rw [h1]; rfl
  have w10 : nwL G n 10 = n + 5 := by unfold nwL; rw [h1]; rfl
  have w11 : nwL G n 11 = n + 6 := by unfold nwL; rw [h1]; rfl
  have hiL : ∀ i, i ∈ iL → i = 5 ∨ i = 6 ∨ i = 7 ∨ i = 8 ∨ i = 9 ∨ i = 10 ∨ i = 11 := fun i hi => by simpa [iL] using hi
  have hnw : ∀ i, i ∈ iL → nwL G n i = n + (i - 5) ∧ 5 ≤ i ∧ i ≤ 11 := fun i hi => by
    rcases hiL i hi with rfl | rfl | rfl | rfl | rfl | rfl | rfl
    · exact ⟨w5, by omega, by omega⟩
    · exact ⟨w6, by omega, by omega⟩
    · exact ⟨w7, by omega, by omega⟩
    · exact ⟨w8, by omega, by omega⟩
    · exact ⟨w9, by omega, by omega⟩
    · exact ⟨w10, by omega, by omega⟩
    · exact ⟨w11, by omega, by omega⟩
  have a0 : rAd iL (nwL G n) ad 0 = o := by unfold rAd; rw [if_neg (by decide)]; exact ho
  have a6 : rAd iL (nwL G n) ad 6 = n + 1 := by unfold rAd; rw [if_pos (by decide)]; exact w6
  have a7 : rAd iL (nwL G n) ad 7 = n + 2 := by unfold rAd; rw [if_pos (by decide)]; exact w7
  have a8 : rAd iL (nwL G n) ad 8 = n + 3 := by unfold rAd; rw [if_pos (by decide)]; exact w8
  have a9 : rAd iL (nwL G n) ad 9 = n + 4 := by unfold rAd; rw [if_pos (by decide)]; exact w9
  have a10 : rAd iL (nwL G n) ad 10 = n + 5 := by unfold rAd; rw [if_pos (by decide)]; exact w10
  have a11 : rAd iL (nwL G n) ad 11 = n + 6 := by unfold rAd; rw [if_pos (by decide)]; exact w11
  have hok : rOk G iL (nwL G n) ad = true := by
    unfold rOk
    rw [Bool.and_eq_true, List.all_eq_true, List.all_eq_true]
    refine ⟨fun i hi => ?_, fun i hi => ?_⟩
    · rcases hiL i hi with rfl | rfl | rfl | rfl | rfl | rfl | rfl
      · rw [w5, h1]
        show (3 == 3 && decide (([.ref (n + 1), .ref (n + 2), .ref (n + 3), .ref (n + 4), .ref (n + 5), .ref (n + 6), .int (J (r 0)), .ref o] : List Value) = [.ref (rAd iL (nwL G n) ad 6), .ref (rAd iL (nwL G n) ad 7), .ref (rAd iL (nwL G n) ad 8), .ref (rAd iL (nwL G n) ad 9), .ref (rAd iL (nwL G n) ad 10), .ref (rAd iL (nwL G n) ad 11), .int (J (r 0)), .ref (rAd iL (nwL G n) ad 0)])) = true
        rw [Bool.and_eq_true]
        exact ⟨rfl, decide_eq_true (by rw [a0, a6, a7, a8, a9, a10, a11])⟩
      · rw [w6, k0]; rfl
      · rw [w7, k1]; rfl
      · rw [w8, k2]; rfl
      · rw [w9, k3]; rfl
      · rw [w10, k4]; rfl
      · rw [w11, k5]; rfl
    · rw [List.all_eq_true]
      intro j hj
      obtain ⟨b1, b2, b3⟩ := hnw i hi
      obtain ⟨c1, c2, c3⟩ := hnw j hj
      rw [b1, c1]
      by_cases e : i = j
      · subst e; simp
      · rw [decide_eq_false e, decide_eq_false (by omega)]; rfl
  have s5 : rS G iL (nwL G n) S 5 6 = J (r 0) := by
    unfold rS
    rw [if_pos (by decide), w5, h1]
    rfl
  have s6 : rS G iL (nwL G n) S 6 = f 0 := by unfold rS; rw [if_pos (by decide), w6, k0]; rfl
  have s7 : rS G iL (nwL G n) S 7 = f 1 := by unfold rS; rw [if_pos (by decide), w7, k1]; rfl
  have s8 : rS G iL (nwL G n) S 8 = f 2 := by unfold rS; rw [if_pos (by decide), w8, k2]; rfl
  have s9 : rS G iL (nwL G n) S 9 = f 3 := by unfold rS; rw [if_pos (by decide), w9, k3]; rfl
  have s10 : rS G iL (nwL G n) S 10 = f 4 := by unfold rS; rw [if_pos (by decide), w10, k4]; rfl
  have hout : ∀ i, i < 5 → i ∉ iL := fun i hi hm => by have := hnw i hm; omega
  refine ⟨rS G iL (nwL G n) S, rG G iL (nwL G n), rP G iL (nwL G n) P, rAd iL (nwL G n) ad, ?_, a0, ⟨s5, fun k hk => ⟨?_, ?_, ?_⟩, fun k hk => ⟨?_, ?_⟩⟩, fun i hi => if_neg (hout i hi), fun i hi => if_neg (hout i hi), rfl, fun a ha => ?_, fun a e ha => ?_⟩
  · unfold rel
    rw [if_pos hok]
  · show rS G iL (nwL G n) S 6 k = _; rw [s6]; exact (hf.1 k hk).1
  · show rS G iL (nwL G n) S 7 k = _; rw [s7]; exact (hf.1 k hk).2.1
  · show rS G iL (nwL G n) S 8 k = _; rw [s8]; exact (hf.1 k hk).2.2
  · show rS G iL (nwL G n) S 9 k = _; rw [s9]; exact (hf.2 k hk).1
  · show rS G iL (nwL G n) S 10 k = _; rw [s10]; exact (hf.2 k hk).2
  · show (if ∃ i ∈ iL, a = nwL G n i then none else G.1 a) = G.1 a
    rw [if_neg]
    rintro ⟨i, hi, e⟩
    have := hnw i hi
    omega
  · have ha : (if ∃ i ∈ iL, a = nwL G n i then none else G.1 a) = some e := ha
    split at ha
    · cases ha
    · exact ha
theorem RulH.ofP {ct : CT} {P P' : Nat → Nat → Option Nat} {h : AH} {S S' : US} {u : RU} (H : RulH ct P h S u) (h1 : S' 1 = S 1) (h2 : P' 1 = P 1) : RulH ct P' h S' u := by
  unfold RulH HForm at *
  rw [h1, h2]
  exact H
theorem ActH.ok {k h : AH} {o n m c : Nat} {f : Nat → Option Nat} {R : Nat → Nat → Nat} (H : ActH k o n m f c R) (hs : Sub k h) : ∀ i, i < c → okR h (f i) = true := fun i hi => by
  obtain ⟨⟨b, h1, a0, a1, a2, a3, a4, a5, fs, h2, -⟩, -⟩ := H i hi
  rw [h1]
  exact okR_iff.mpr ⟨_, hs _ _ h2, rfl⟩
theorem SeeH.ok {k h : AH} {n c : Nat} {f : Nat → Option Nat} {sn : Nat → Nat} (H : SeeH k n f c sn) (hs : Sub k h) : ∀ i, i < c → okR h (f i) = true := fun i hi => by
  obtain ⟨⟨b, o, g, h1, h2, -⟩, -⟩ := H i hi
  rw [h1]
  exact okR_iff.mpr ⟨_, hs _ _ h2, rfl⟩
theorem tM_copies {S : US} {i1 i2 n : Nat} (hi : i1 ≠ i2) (hn : n < 5000) : Ev (sM_copies S i1 n i2 n) (fun S' => (∀ k, k < n → S' i2 k = S i1 k) ∧ ∀ a, a ≠ i2 → S' a = S a) := by
  unfold sM_copies
  refine Ev.loop2 (i0 := 0) (fun i x => (∀ k, k < i → x i2 k = S i1 k) ∧ ∀ a, a ≠ i2 → x a = S a) n ⟨fun k hk => absurd hk (Nat.not_lt_zero k), fun _ _ => rfl⟩ (by omega) ?_ ?_ (by unfold FUEL; omega)
  · rintro i - hk S1 ⟨h1, h2⟩ rc hrc
    unfold sM_copies_L2
    simp (disch := omega) only [lit_0, lit_1, lit_2, lit_3, lit_4, lit_5, lit_6, lit_7, lit_8, lit_9, lit_10, lit_11, lit_12, lit_13, lit_14, lit_15, lit_20, lit_24, lit_25, lit_37, lit_40, lit_43, lit_48, lit_49, lit_50, lit_60, lit_96, lit_98, lit_99, lit_100, lit_999, lit_62, lit_74, lit_86, lit_92, lit_99999, lit_100000, lit_16, lit_32767, lit_2147483639, J_add, J_mul, J_sub, J_tn, J_le, J_lt, J_eq, Nat.not_lt_zero, false_or, or_false, le_t, le_f, lt_t, lt_f, eq_f, ↓reduceIte, callK_eq, letB_eq, joinB_eq, Nat.add_assoc, ofNat_J]
    refine hrc _ ⟨fun k hk => ?_, fun a ha => ?_⟩
    · by_cases e : k = i
      · subst e; rw [u2_at, h2 _ hi]
      · rw [u2_off (by omega)]; exact h1 k (by omega)
    · rw [u2_row _ _ _ _ ha]; exact h2 a ha
  · rintro S1 h rc
    unfold sM_copies_L2
    simp (disch := omega) only [lit_0, lit_1, lit_2, lit_3, lit_4, lit_5, lit_6, lit_7, lit_8, lit_9, lit_10, lit_11, lit_12, lit_13, lit_14, lit_15, lit_20, lit_24, lit_25, lit_37, lit_40, lit_43, lit_48, lit_49, lit_50, lit_60, lit_96, lit_98, lit_99, lit_100, lit_999, lit_62, lit_74, lit_86, lit_92, lit_99999, lit_100000, lit_16, lit_32767, lit_2147483639, J_add, J_mul, J_sub, J_tn, J_le, J_lt, J_eq, Nat.not_lt_zero, false_or, or_false, le_t, le_f, lt_t, lt_f, eq_f, ↓reduceIte, callK_eq, letB_eq, joinB_eq, Nat.add_assoc, ofNat_J]
    exact ⟨_, rfl, h⟩
theorem tM_undo {S : US} {c : Nat} {r : Nat → Nat} (hc : S 0 42 = J (c + 1)) (h40 : c < 40) (hr : ∀ k, k < 49 → S 15 (49 * c + k) = J (r k)) : Ev (sM_undo S) (fun o => o.1 = J c ∧ o.2 0 0 = J 0 ∧ o.2 0 42 = J c ∧ (∀ k, k < 49 → o.2 14 k = J (r k)) ∧ (∀ k, k ≠ 0 → k ≠ 42 → o.2 0 k = S 0 k) ∧ ∀ a, a ≠ 0 → a ≠ 14 → o.2 a = S a) := by
  unfold sM_undo
  simp (disch := omega) only [lit_0, lit_1, lit_2, lit_3, lit_4, lit_5, lit_6, lit_7, lit_8, lit_9, lit_10, lit_11, lit_12, lit_13, lit_14, lit_15, lit_20, lit_24, lit_25, lit_37, lit_40, lit_43, lit_48, lit_49, lit_50, lit_60, lit_96, lit_98, lit_99, lit_100, lit_999, lit_62, lit_74, lit_86, lit_92, lit_99999, lit_100000, lit_16, lit_32767, lit_2147483639, J_add, J_mul, J_sub, J_tn, J_le, J_lt, J_eq, Nat.not_lt_zero, false_or, or_false, le_t, le_f, lt_t, lt_f, eq_f, ↓reduceIte, callK_eq, letB_eq, joinB_eq, Nat.add_assoc, u2_off, hc, Nat.add_sub_cancel]
  refine Ev.loop2 (i0 := 0) (fun i x => x 0 = u2 (u2 S 0 0 (J 0)) 0 42 (J c) 0 ∧ (∀ k, k < i → x 14 k = J (r k)) ∧ ∀ a, a ≠ 0 → a ≠ 14 → x a = S a) 49 ⟨rfl, fun k hk => absurd hk (Nat.not_lt_zero k), fun a h1 h2 => by rw [u2_row _ _ _ _ h1, u2_row _ _ _ _ h1]⟩ (by omega) ?_ ?_ (by unfold FUEL; omega)
  · rintro i - hi S1 ⟨h1, h2, h3⟩ rc hrc
    have h5 : S1 0 42 = J c := by rw [h1, u2_at]
    have h6 : S1 15 (49 * c + i) = J (r i) := by rw [h3 15 (by decide) (by decide)]; exact hr i hi
    unfold sM_undo_L26
    simp (disch := omega) only [lit_0, lit_1, lit_2, lit_3, lit_4, lit_5, lit_6, lit_7, lit_8, lit_9, lit_10, lit_11, lit_12, lit_13, lit_14, lit_15, lit_20, lit_24, lit_25, lit_37, lit_40, lit_43, lit_48, lit_49, lit_50, lit_60, lit_96, lit_98, lit_99, lit_100, lit_999, lit_62, lit_74, lit_86, lit_92, lit_99999, lit_100000, lit_16, lit_32767, lit_2147483639, J_add, J_mul, J_sub, J_tn, J_le, J_lt, J_eq, Nat.not_lt_zero, false_or, or_false, le_t, le_f, lt_t, lt_f, eq_f, ↓reduceIte, callK_eq, letB_eq, joinB_eq, Nat.add_assoc, h5, h6]
    refine hrc _ ⟨?_, fun k hk => ?_, fun a ha hb => ?_⟩
    · rw [u2_row' (by omega)]; exact h1
    · by_cases e : k = i
      · subst e; rw [u2_at]
      · rw [u2_off (by omega)]; exact h2 k (by omega)
    · rw [u2_row _ _ _ _ hb]; exact h3 a ha hb
  · rintro S1 ⟨h1, h2, h3⟩ rc
    have h5 : S1 0 42 = J c := by rw [h1, u2_at]
    unfold sM_undo_L26
    simp (disch := omega) only [lit_0, lit_1, lit_2, lit_3, lit_4, lit_5, lit_6, lit_7, lit_8, lit_9, lit_10, lit_11, lit_12, lit_13, lit_14, lit_15, lit_20, lit_24, lit_25, lit_37, lit_40, lit_43, lit_48, lit_49, lit_50, lit_60, lit_96, lit_98, lit_99, lit_100, lit_999, lit_62, lit_74, lit_86, lit_92, lit_99999, lit_100000, lit_16, lit_32767, lit_2147483639, J_add, J_mul, J_sub, J_tn, J_le, J_lt, J_eq, Nat.not_lt_zero, false_or, or_false, le_t, le_f, lt_t, lt_f, eq_f, ↓reduceIte, callK_eq, letB_eq, joinB_eq, Nat.add_assoc, h5]
    refine ⟨_, rfl, rfl, ?_, h5, h2, fun k hk hk2 => ?_, h3⟩
    · show S1 0 0 = J 0; rw [h1, u2_off (by omega), u2_at]
    · show S1 0 k = _; rw [h1, u2_off (by omega), u2_off (by omega)]
/-- undo -/
theorem R_undo {ct : CT} {a0 q0 j : Nat} {S : US} {G : GS} {P : Nat → Nat → Option Nat} {ad : Nat → Nat} {S2 : US} {u : RU} {r : Nat → Nat} {q1 e1 c1 : Nat} {f1 : Nat → Option Nat} {R1 : Nat → Nat → Nat} {q2 e2 c2 : Nat} {f2 : Nat → Option Nat} {sn : Nat → Nat} {t : Nat} (hj : j < 24) (H : InvD ct a0 q0 j S G P ad S2 u r q1 e1 c1 f1 R1 q2 e2 c2 f2 sn t) : ∃ os om, s1_undo ct ad P S G = some os ∧ sM_undo S2 = some om ∧ os.1 = om.1 ∧ os.2.2.2.2 0 = a0 ∧ Inv ct a0 q0 (j + 1) os.2.1 os.2.2.1 os.2.2.2.1 os.2.2.2.2 om.2 := by
  have H0 := H
  obtain ⟨⟨h1, h2, h3, h4, h5, h6⟩, hCo, hA, hI, hT, hF, hW, hIm⟩ := H
  obtain ⟨a1, a2, a3, a4, a5, a6⟩ := id hA
  by_cases hc0 : c1 = 0
  · subst hc0
    refine ⟨(-J 1, S, G, P, ad), (-J 1, Z0 S2), ?_, ?_, rfl, h1, _, _, _, _, _, _, _, _, _, _, _, _, _, H0.z.nx⟩
    · unfold s1_undo
      rw [letB_eq, a1, onR_eq, tL_cls a2.1.lst, m_call (tL_empty a2.1.lst)]
      rfl
    · have e : Z0 S2 0 42 = J 0 := by unfold Z0; rw [u2_off (by omega)]; exact a5
      unfold sM_undo
      rw [letB_eq]
      show (if Z0 S2 0 42 = 0 then some (-1, Z0 S2) else _) = _
      rw [e, if_pos (show J 0 = (0 : Int32) from rfl)]
      rfl
  · obtain ⟨c, rfl⟩ : ∃ c, c1 = c + 1 := ⟨c1 - 1, by omega⟩
    obtain ⟨⟨b, b1, b2⟩, b3, b4⟩ := a3 c (by omega)
    obtain ⟨om, m1, m2, m3, m4, m5, m6, m7⟩ := tM_undo (r := R1 c) a5 (by omega) (a6 c (by omega))
    have hb := h2.1
    have hrm : Rm ct G 49000 228000 := h3.rm h2 hj (by omega) (by omega)
    obtain ⟨s1, ⟨s2, s3, s4, s5⟩, s6, s7, s8, s9⟩ := id h5
    obtain ⟨o9, n1, n2, n3, n4⟩ := tL_remove h2 a2 (show c < c + 1 by omega)
    rw [b1] at n2
    rw [Nat.add_sub_cancel] at n3
    have B9 : GB ct o9.2 := h2.gr n4 (fun a h => h.2)
    have nl : ¬ lm ct q1 e1 q0 := fun z => by rcases z.1 with h | h <;> omega
    have nl2 : ¬ lm ct q1 e1 q2 := fun z => by rcases z.1 with h | h <;> omega
    have nl3 : ¬ lm ct q1 e1 e2 := fun z => by
      have := z.2
      rcases z.1 with h | h
      · omega
      · have := s9 h.symm
        omega
    have hM : ∀ a, lm ct q1 e1 a → a ∈ [q0, q1, e1, q2, e2] ∧ ct.2.2.1 ≤ a := fun a ha => ⟨by rcases ha.1 with h | h <;> simp [h], ha.2⟩
    have hk9 : Sub (cutI ct q0 q1 e1 q2 e2 G.1) (cutI ct q0 q1 e1 q2 e2 o9.2.1) := cutM_gr hb n4 hM (fun a h _ => Or.inl h)
    obtain ⟨o11, p1, p2, ⟨fl, p3, p4⟩, p5, p6⟩ := tLn_copyF (ct := ct) B9.1 (b2.sub (hk9.tr cutM_sub)) ((hrm.le (c' := 0 + 7) (z' := 0 + 68) (by omega) (by omega)).gr n4)
    have g11 : Gr (lm ct q1 e1) G o11.2 7 68 := n4.tr (p5.mono (fun _ h => h.elim)) |>.le (by omega) (by omega)
    have hn : o9.2.2.1 = G.2.1 := by have := n4.2.1; omega
    obtain ⟨S', G', P', ad', r1, r2, r3, r4, r5, r6, r7, r8⟩ := tRel (ρ := Int32 × US × GS × (Nat → Nat → Option Nat) × (Nat → Nat)) (ad := ad) (P := P) (S := S) (kp := fun S13 G14 P15 d16 => letB (P15 (0) 9) (fun r17 => onR r17 (fun b18 => hC G14.1 b18 10 (callK (sL_size G14.1 b18) (fun o19 => some (o19, S13, G14, P15, d16)))))) p3 p4 h1
    have gE : Gr (lm ct q1 e1) G G' 7 68 := g11.rm hb (by rw [hn]; exact Nat.le_refl _) r6 r7 r8
    have gE9 : Gr (fun _ => False) o9.2 G' 7 68 := p5.rm B9.1 (Nat.le_refl _) r6 r7 r8
    have hk : Sub (cutI ct q0 q1 e1 q2 e2 G.1) (cutI ct q0 q1 e1 q2 e2 G'.1) := cutM_gr hb gE hM (fun a h _ => Or.inl h)
    have hOL := n3.gr gE9 (fun z => z) (fun z => z)
    have hP9 : P' 0 9 = some q1 := by rw [r5 0 (by omega)]; exact a1
    obtain ⟨g0, h4'⟩ := h4
    refine ⟨(J c, S', G', P', ad'), om, ?_, m1, m2.symm, r2, u, R1 c, q1, e1, c, delN f1 c, R1, q2, e2, c2, f2, sn, t, ⟨r2, h2.gr gE (fun a h => h.2), h3.gr gE (by omega) (by omega), ⟨g0, gE.1 _ _ nl h4'⟩, h5, by omega⟩, ⟨hCo.1, b3, b4, (hCo.2.2.2.1.sub hk).ofP (r4 1 (by omega)) (r5 1 (by omega)), r3, hCo.2.2.2.2.2.1.of2 (fun k hk hk7 => m6 k (by omega) (by omega)) (m7 1 (by decide) (by decide)) (m7 4 (by decide) (by decide)), fun k hk => by rw [Nat.zero_add]; exact m5 k hk⟩, ⟨hP9, hOL, fun i hi => ?_, by omega, m4, fun i hi k hk => ?_⟩, hI.keep hk gE nl2 nl3 (congrFun (r5 0 (by omega)) 10) (m6 51 (by decide) (by decide)) (m7 24 (by decide) (by decide)), hT.keep (congrFun (r4 0 (by omega)) 6) (m6 12 (by decide) (by decide)) (r4 3 (by omega)) (m7 5 (by decide) (by decide)), hF.keep (congrFun (r4 0 (by omega)) 7) (m6 14 (by decide) (by decide)) (r4 4 (by omega)) (m7 6 (by decide) (by decide)), hW.keep hk (congrFun (r5 1 (by omega)) 1) (m6 3 (by decide) (by decide)) (m7 2 (by decide) (by decide)) (m7 3 (by decide) (by decide)), hIm.keep hk (congrFun (r5 0 (by omega)) 11) (congrFun (r5 0 (by omega)) 12) (congrFun (r5 0 (by omega)) 13) (m6 57 (by decide) (by decide)) (m6 58 (by decide) (by decide)) (m6 59 (by decide) (by decide)) (m7 28 (by decide) (by decide)) (m7 29 (by decide) (by decide)) (m7 30 (by decide) (by decide)) (by omega)⟩
    · have eS : (J (c + 1) : Int32) - (1 : Int32) = J c := by
        rw [lit_1, J_sub (by omega), Nat.add_sub_cancel]
      have eB : bI (decide (c + 1 = 0)) = 0 := rfl
      have hq9 := b2.sub (hk9.tr cutM_sub)
      obtain ⟨w0, w1, w2, w3, w4, w5, wf, wq, -⟩ := hq9
      unfold s1_undo
      rw [letB_eq, a1, onR_eq, tL_cls a2.1.lst, m_call (tL_empty a2.1.lst), eB, if_pos rfl, letB_eq, letB_eq, onR_eq, tL_cls a2.1.lst, m_call (tL_size a2.1.lst), onR_eq, tL_cls a2.1.lst, eS, m_call n1, n2, onR_eq, hC_eq wq, hC_eq wq, m_call p1, p2, onR_eq, r1, letB_eq, hP9, onR_eq, tL_cls hOL.1.lst, m_call (tL_size hOL.1.lst)]
    · have := a3 i (by omega)
      refine ⟨?_, this.2⟩
      obtain ⟨x, w1, w2⟩ := this.1
      exact ⟨x, by unfold delN; rw [if_pos (by omega)]; exact w1, w2.sub hk⟩
    · rw [m7 15 (by decide) (by decide)]
      exact a6 i (by omega) k hk
