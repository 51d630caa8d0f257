set_option maxRecDepth 100000
/-! THE PLAIN LAW, 58: texts that grow -/
theorem Gr.drop2 {M N : Nat → Prop} {G G' : GS} {c z : Nat} (h : Gr M G G' c z) (hb : Bd G) (hM : ∀ a, M a → N a ∨ G.2.1 ≤ a) : Gr N G G' c z := ⟨fun a e hn ha => h.1 a e (fun m => by
  rcases hM a m with w | w
  · exact hn w
  · have := hb a e ha; omega) ha, h.2⟩
/-- a text that grows: its cell, its bytes, its length -/
def SbO (h : AH) (q b cap m : Nat) (sg : Nat → Nat) : Prop := ∃ (v2 : Int32) (f : Nat → Int32), h q = some (true, .inr (11, [.ref b, .int 0, .int v2, .int (J m)])) ∧ h b = some (true, .inl (2, cap, .inl f)) ∧ 16 ≤ cap ∧ m ≤ cap ∧ cap < 5000 ∧ (∀ i, i < m → f i = J (sg i) ∧ sg i < 128) ∧ ∀ i, i < cap → ∃ k, k < 128 ∧ f i = J k
theorem fits_chr {k : Nat} (h : k < 128) : fits .byte (.int (J k)) = true := co_dec (P := fun k => fits .byte (.int (J k)) = true) (N := 128) (by decide +kernel) h
theorem nar_chr {k : Nat} (h : k < 128) : vp_nar .byte (J k).toInt8.toInt32 = J k := co_dec (P := fun k => vp_nar .byte (J k).toInt8.toInt32 = J k) (N := 128) (by decide +kernel) h
theorem hCpyB_eq {ρ : Type} {G : GS} {a0 a n0 n1 n : Nat} {o : Bool} {f g : Nat → Int32} {kp : GS → Option ρ} (h0 : G.1 a0 = some (o, .inl (2, n0, .inl f))) (h1 : G.1 a = some (true, .inl (2, n1, .inl g))) (hs : n ≤ n0) (hd : n ≤ n1) (h0n : n0 < 2147483648) (h1n : n1 < 2147483648) (hok : ∀ i, i < n → ∃ k, k < 128 ∧ f i = J k) : hCpyB G a0 (0 : Int32) a (0 : Int32) (J n) kp = kp (setG G a (true, .inl (2, n1, .inl (va_cpy f g 0 0 n)))) := by
  unfold hCpyB setG
  rw [h0, h1]
  have e : (List.range n).all (fun i => fits .byte (.int (f (0 + i)))) = true := by
    rw [List.all_eq_true]
    intro i hi
    obtain ⟨k, k1, k2⟩ := hok i (List.mem_range.mp hi)
    rw [Nat.zero_add, k2]
    exact fits_chr k1
  show (if 2 = 2 ∧ 2 = 2 then _ else _) = _
  rw [if_pos ⟨rfl, rfl⟩, show (0 : Int32) = J 0 from rfl]
  simp (disch := omega) only [J_tn, lit_0, J_lt, Nat.not_lt_zero, false_or]
  rw [if_neg (by omega), if_pos e]
theorem tA_init {ct : CT} {G : GS} {q : Nat} {x v2 : Value} {v : Int32} (B : GB ct G) (hq : G.1 q = some (true, .inr (11, [x, .int v, .int 0, .int 0]))) (hq0 : ct.2.2.1 ≤ q) (hr : Rm ct G 1 16) : Ev (sB_init ct G q) (fun G' => SbO G'.1 q G.2.1 16 0 (fun _ => 0) ∧ Gr (fun a => a = q) G G' 1 16) := by
  have hlt := B.1 _ _ hq
  unfold sB_init sA_init
  rw [if_neg (by decide), show (16 : Int32) = J 16 from rfl, if_neg (big_no (by omega)), J_tn (by omega), newB_eq hr]
  have h1 : (addG G 16 (.inl (2, 16, .inl (fun _ => 0)))).1 q = some (true, .inr (11, [x, .int v, .int 0, .int 0])) := (addG_lt hlt).trans hq
  rw [hPut_eq h1 (by simp), hPut_eq setG_at (by simp), callK_eq]
  have g1 : Gr (fun a => a = q) G (addG G 16 (.inl (2, 16, .inl (fun _ => 0)))) 1 16 := grw_add B.1
  have g2 : Gr (fun a => a = q) (addG G 16 (.inl (2, 16, .inl (fun _ => 0)))) (setG (addG G 16 (.inl (2, 16, .inl (fun _ => 0)))) q (true, .inr (11, [.ref G.2.1, .int v, .int 0, .int 0]))) 0 0 := grw_set (M := fun a => a = q) h1 rfl (fun z => z)
  have g3 : Gr (fun a => a = q) (setG (addG G 16 (.inl (2, 16, .inl (fun _ => 0)))) q (true, .inr (11, [.ref G.2.1, .int v, .int 0, .int 0]))) (setG (setG (addG G 16 (.inl (2, 16, .inl (fun _ => 0)))) q (true, .inr (11, [.ref G.2.1, .int v, .int 0, .int 0]))) q (true, .inr (11, [.ref G.2.1, .int 0, .int 0, .int 0]))) 0 0 := grw_set (M := fun a => a = q) setG_at rfl (fun z => z)
  refine ⟨_, rfl, ⟨0, fun _ => 0, setG_at, ?_, Nat.le_refl _, by omega, by omega, fun i hi => absurd hi (Nat.not_lt_zero i), fun i _ => ⟨0, by omega, rfl⟩⟩, (g1.tr g2).tr g3⟩
  rw [setG_ne (by omega), setG_ne (by omega)]
  exact addG_at
theorem tA_room {ct : CT} {G : GS} {q b cap m : Nat} {sg : Nat → Nat} (B : GB ct G) (H : SbO G.1 q b cap m sg) (hq0 : ct.2.2.1 ≤ q) (hm : m < 1000) (hr : Rm ct G 1 2100) : Ev (sA_ensureCapacityInternal ct G q (J (m + 1))) (fun G' => ∃ b' cap', SbO G'.1 q b' cap' m sg ∧ m < cap' ∧ (b' = b ∨ G.2.1 ≤ b') ∧ Gr (fun a => a = q) G G' 1 2100) := by
  obtain ⟨v2, f, h1, h2, h3, h4, h5, h6, h7⟩ := H
  have hlt := B.1 _ _ h1
  have hltb := B.1 _ _ h2
  have e0 : ∀ k : Nat, k < 10000 → J k >>> ((0 : Int32) &&& 31) = J k := fun k hk => (J_shr (a := k) (k := 0) (by omega) (by omega)).trans (by rw [Nat.shiftRight_zero])
  have el : ∀ k : Nat, J k <<< ((0 : Int32) &&& 31) = J k := fun k => (J_shl (a := k) (k := 0) (by omega)).trans (by rw [Nat.shiftLeft_zero])
  have esub : ∀ a c : Nat, a < 10000 → c < 10000 → ((J a - J c ≤ (0 : Int32)) = (a ≤ c)) := fun a c ha hc => propext (by
    rw [Int32.le_iff_toInt_le, Int32.toInt_sub, J_ti (by omega), J_ti (by omega), Int.bmod_eq_of_le (by omega) (by omega), show (0 : Int32).toInt = 0 from rfl]
    omega)
  unfold sA_ensureCapacityInternal
  rw [hR_eq h1 rfl, onR_eq, hL_eq h2, hI_eq h1 rfl, e0 cap (by omega)]
  by_cases c : m + 1 ≤ cap
  · rw [if_pos (by rw [esub _ _ (by omega) (by omega)]; exact c)]
    exact ⟨_, rfl, b, cap, ⟨v2, f, h1, h2, h3, h4, h5, h6, h7⟩, c, Or.inl rfl, Gr.rf.le (by omega) (by omega)⟩
  · have hcm : cap = m := by omega
    rw [if_neg (by rw [esub _ _ (by omega) (by omega)]; exact c), hR_eq h1 rfl, hC_eq h1]
    unfold sA_newCapacity sV_newLength
    rw [hR_eq h1 rfl, onR_eq, hL_eq h2, hI_eq h1 rfl, hI_eq h1 rfl, el, J_sub (by omega), show ((2 : Int32) <<< ((0 : Int32) &&& 31)) = J 2 from (el 2), J_add, if_pos (show J (m + 1 - cap) < J (cap + 2) by rw [J_lt (by omega) (by omega)]; omega), J_add, if_neg (by rw [lit_0, J_le (by omega) (by omega)]; omega), if_neg (by rw [show (2147483639 : Int32) = J 2147483639 from rfl, J_lt (by omega) (by omega)]; omega), callK_eq, if_neg (by rw [show (2147483647 : Int32) = J 2147483647 from rfl, J_eq (by omega) (by omega)]; omega), hI_eq h1 rfl, e0 _ (by omega), callK_eq, hI_eq h1 rfl, el]
    unfold sY_copyOf_3
    have hr1 : Rm ct G 1 (cap + (cap + 2)) := hr.le (by omega) (by omega)
    rw [onR_eq, hL_eq h2, if_neg (by rw [J_eq (by omega) (by omega)]; omega), if_neg (big_no (by omega)), J_tn (by omega), newB_eq hr1]
    have k2 : (addG G (cap + (cap + 2)) (.inl (2, cap + (cap + 2), .inl (fun _ => 0)))).1 b = some (true, .inl (2, cap, .inl f)) := (addG_lt hltb).trans h2
    have k1 : (addG G (cap + (cap + 2)) (.inl (2, cap + (cap + 2), .inl (fun _ => 0)))).1 q = _ := (addG_lt hlt).trans h1
    rw [hL_eq k2, if_neg (by rw [J_lt (by omega) (by omega)]; omega), hCpyB_eq k2 addG_at (Nat.le_refl _) (by omega) (by omega) (by omega) h7, callK_eq]
    have k1' : (setG (addG G (cap + (cap + 2)) (.inl (2, cap + (cap + 2), .inl (fun _ => 0)))) G.2.1 (true, .inl (2, cap + (cap + 2), .inl (va_cpy f (fun _ => 0) 0 0 cap)))).1 q = _ := (setG_ne (Or.inl hlt)).trans k1
    rw [hPut_eq k1' (by simp)]
    have g1 : Gr (fun a => a = q) G (addG G (cap + (cap + 2)) (.inl (2, cap + (cap + 2), .inl (fun _ => 0)))) 1 (cap + (cap + 2)) := grw_add B.1
    have g2 : Gr (fun a => a = q ∨ a = G.2.1) (addG G (cap + (cap + 2)) (.inl (2, cap + (cap + 2), .inl (fun _ => 0)))) (setG (addG G (cap + (cap + 2)) (.inl (2, cap + (cap + 2), .inl (fun _ => 0)))) G.2.1 (true, .inl (2, cap + (cap + 2), .inl (va_cpy f (fun _ => 0) 0 0 cap)))) 0 0 := grw_set (M := fun a => a = q ∨ a = G.2.1) addG_at (Or.inr rfl) (fun z => z)
    have g3 : Gr (fun a => a = q) (setG (addG G (cap + (cap + 2)) (.inl (2, cap + (cap + 2), .inl (fun _ => 0)))) G.2.1 (true, .inl (2, cap + (cap + 2), .inl (va_cpy f (fun _ => 0) 0 0 cap)))) (setG (setG (addG G (cap + (cap + 2)) (.inl (2, cap + (cap + 2), .inl (fun _ => 0)))) G.2.1 (true, .inl (2, cap + (cap + 2), .inl (va_cpy f (fun _ => 0) 0 0 cap)))) q (true, .inr (11, [.ref G.2.1, .int 0, .int v2, .int (J m)]))) 0 0 := grw_set (M := fun a => a = q) k1' rfl (fun z => z)
    have g4 : Gr (fun a => a = q) G (setG (setG (addG G (cap + (cap + 2)) (.inl (2, cap + (cap + 2), .inl (fun _ => 0)))) G.2.1 (true, .inl (2, cap + (cap + 2), .inl (va_cpy f (fun _ => 0) 0 0 cap)))) q (true, .inr (11, [.ref G.2.1, .int 0, .int v2, .int (J m)]))) (1 + 0 + 0) (cap + (cap + 2) + 0 + 0) := (((g1.mono (fun a z => Or.inl z)).tr g2).tr (g3.mono (fun a z => Or.inl z))).drop2 B.1 (fun a z => z.imp id (fun w => by rw [w]; exact Nat.le_refl _))
    refine ⟨_, rfl, G.2.1, cap + (cap + 2), ⟨v2, _, setG_at, (setG_ne (Or.inr hlt)).trans setG_at, by omega, by omega, by omega, fun i hi => ?_, fun i hi => ?_⟩, by omega, Or.inr (Nat.le_refl _), g4.le (by omega) (by omega)⟩
    · unfold va_cpy
      rw [if_pos (by omega), show 0 + (i - 0) = i by omega]
      exact h6 i hi
    · unfold va_cpy
      by_cases z : i < cap
      · rw [if_pos (by omega), show 0 + (i - 0) = i by omega]
        exact h7 i z
      · rw [if_neg (by omega)]
        exact ⟨0, by omega, rfl⟩
theorem tB_append {ct : CT} {G : GS} {q b cap m ch : Nat} {sg : Nat → Nat} (B : GB ct G) (H : SbO G.1 q b cap m sg) (hq0 : ct.2.2.1 ≤ q) (hb0 : ct.2.2.1 ≤ b) (hm : m < 1000) (hch : ch < 128) (hr : Rm ct G 1 2100) : Ev (sB_append ct G q (J ch)) (fun o => o.1 = some q ∧ ∃ b' cap', SbO o.2.1 q b' cap' (m + 1) (fun i => if i = m then ch else sg i) ∧ (b' = b ∨ G.2.1 ≤ b') ∧ Gr (fun a => a = q ∨ a = b) G o.2 1 2100) := by
  obtain ⟨v2, f, h1, h2, h3, h4, h5, h6, h7⟩ := id H
  unfold sB_append sA_append
  rw [hC_eq h1, hI_eq h1 rfl, hC_eq h1, lit_1, J_add]
  refine Ev.call (P := fun o => ∃ b' cap', SbO o.2.1 q b' cap' (m + 1) (fun i => if i = m then ch else sg i) ∧ (b' = b ∨ G.2.1 ≤ b') ∧ Gr (fun a => a = q ∨ a = b) G o.2 1 2100) ?_ (fun o k => ⟨_, rfl, rfl, k⟩)
  refine (tA_room B H hq0 hm hr).call (fun G2 k => ?_)
  obtain ⟨b', cap', ⟨w2, f', y1, y2, y3, y4, y5, y6, y7⟩, k2, k3, k4⟩ := k
  have hl2 : sA_isLatin1 G2.1 q = some true := by
    unfold sA_isLatin1
    rw [if_neg (by decide), hI_eq y1 rfl, if_pos rfl]
  have hne : q ≠ b' := fun z => by rw [← z, y1] at y2; cases y2
  rw [hC_eq y1, hl2, callK_eq, joinB_eq, bI_t, if_neg (by decide)]
  unfold sT_canEncode_2
  rw [if_neg (by rw [show (255 : Int32) = J 255 from rfl, J_lt (by omega) (by omega)]; omega), callK_eq, bI_t, if_neg (by decide), hR_eq y1 rfl, hI_eq y1 rfl, J_add, hPut_eq y1 (by simp), onR_eq, nar_chr hch]
  have y2' : (setG G2 q (true, .inr (11, [.ref b', .int 0, .int w2, .int (J (m + 1))]))).1 b' = some (true, .inl (2, cap', .inl f')) := (setG_ne (by omega)).trans y2
  have g1 : Gr (fun a => a = q) G2 (setG G2 q (true, .inr (11, [.ref b', .int 0, .int w2, .int (J (m + 1))]))) 0 0 := grw_set (M := fun a => a = q) y1 rfl (fun z => z)
  refine Ev.pb y2' k2 (by omega) (fun G10 a1 a2 a3 => ⟨_, rfl, b', cap', ⟨w2, _, ?_, a1, y3, by omega, y5, fun i hi => ?_, fun i hi => ?_⟩, k3, ?_⟩)
  · exact a2.1 _ _ (fun z => hne z) setG_at
  · by_cases z : i = m
    · dsimp only
      rw [z, upd_at, if_pos rfl]
      exact ⟨rfl, hch⟩
    · dsimp only
      rw [upd_ne (by omega), if_neg z]
      exact y6 i (by omega)
  · by_cases z : i = m
    · rw [z, upd_at]
      exact ⟨ch, hch, rfl⟩
    · rw [upd_ne (by omega)]
      exact y7 i hi
  · have g5 : Gr (fun a => a = q ∨ a = b') G G10 (1 + 0 + 0) (2100 + 0 + 0) := ((k4.tr g1).mono (fun a z => Or.inl z)).tr (a2.mono (fun a z => Or.inr z))
    refine Gr.le (Gr.drop2 g5 B.1 (fun a z => ?_)) (by omega) (by omega)
    rcases z with z | z
    · exact Or.inl (Or.inl z)
    · rcases k3 with k3 | k3
      · exact Or.inl (Or.inr (z.trans k3))
      · exact Or.inr (by omega)
