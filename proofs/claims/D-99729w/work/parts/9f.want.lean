set_option maxRecDepth 100000
/-! THE PLAIN LAW, 60: HorizonSeam's reader, 5: what is wanted, numbers -/
/-- what is thrown, of that kind -/
def WrO (G : GS) (w k : Nat) : Prop := ∃ (o : Bool) (fs : List Value), G.1 w = some (o, .inr (5, fs)) ∧ fs[6]? = some (.int (J k))
section WN
variable {ct : CT} {ad : Nat → Nat} {P : Nat → Nat → Option Nat} {S : US} {tp : Nat → Nat} {n x : Nat} {c : RC} {q : Nat} {G : GS} {d s : Int32}
theorem tW_no {k : Nat} (B : GB ct G) (hr : Rm ct G 1 7) : Ev (u5_want ct ad P S G q (J 0) (J k)) (fun o => WrO o.2 o.1 k ∧ Gr (fun _ => False) G o.2 1 7) := by
  unfold u5_want
  rw [if_pos j00, newB_eq hr]
  have g0 : Gr (fun _ => False) G (addG G 7 (.inr (5, [.null, .null, .null, .null, .null, .int 0, .int 0]))) 1 7 := grw_add B.1
  unfold s6_init sE_init_2 sX_init_2
  refine Ev.call (P := fun G' => (∃ fs, G'.1 G.2.1 = some (true, .inr (5, fs)) ∧ fs[6]? = some (.int (J k))) ∧ Gr (fun _ => False) G G' 1 7) ?_ (fun G' h => ?_)
  · refine Ev.call (P := fun G' => (∃ fs, G'.1 G.2.1 = some (true, .inr (5, fs)) ∧ 6 < fs.length) ∧ Gr (fun _ => False) G G' 1 7) ?_ (fun G1 h => ?_)
    · refine Ev.call (P := fun G' => (∃ fs, G'.1 G.2.1 = some (true, .inr (5, fs)) ∧ 6 < fs.length) ∧ Gr (fun _ => False) G G' 1 7) ?_ (fun G1 h => ⟨_, rfl, h⟩)
      have fr : ∀ {G1 : GS}, Gq G.2.1 (addG G 7 (.inr (5, [.null, .null, .null, .null, .null, .int 0, .int 0]))) G1 → Gr (fun _ => False) G G1 1 7 := fun h => g0.fresh h B.1 (fun a ha => by rw [ha]; exact Nat.le_refl _)
      refine Ev.hp addG_at (by simp) (fun G1 a1 b1 => ?_)
      refine Ev.hp a1 (by simp) (fun G2 a2 b2 => ?_)
      refine Ev.hp a2 (by simp) (fun G3 a3 b3 => ?_)
      rw [joinB_eq, if_pos (by decide)]
      refine Ev.hp a3 (by simp) (fun G4 a4 b4 => ?_)
      unfold sX_init_2_J41
      refine Ev.hp a4 (by simp) (fun G5 a5 b5 => ?_)
      refine Ev.hp a5 (by simp) (fun G6 a6 b6 => ?_)
      rw [if_pos (by decide)]
      refine Ev.hp a6 (by simp) (fun G7 a7 b7 => ?_)
      exact ⟨_, rfl, ⟨_, a7, by simp⟩, fr ((((((b1.tr b2).tr b3).tr b4).tr b5).tr b6).tr b7)⟩
    · obtain ⟨⟨fs, h1, h2⟩, h3⟩ := h
      refine Ev.hp h1 h2 (fun G2 a1 b1 => ⟨_, rfl, ⟨_, a1, ?_⟩, h3.fresh b1 B.1 (fun a ha => by rw [ha]; exact Nat.le_refl _)⟩)
      rw [List.getElem?_set_self h2]
  · obtain ⟨⟨fs, h1, h2⟩, h3⟩ := h
    unfold hW5
    rw [h1]
    exact ⟨_, rfl, ⟨true, fs, h1, h2⟩, h3⟩
theorem tW_uo {k : Int32} : u5_want ct ad P S G q (J 1) k = none := if_neg (by decide)
theorem tW_so {k : Int32} : s5_want ct ad P S G q (J 1) k = some G := if_neg (by decide)
end WN
/-- a number that is wanted -/
def pNum (tp : Nat → Nat) (n lo hi x : Nat) : Sum (Nat × Nat) Nat := if kdN tp n x = 2 then (if 4 < enN tp n x - bgN tp n x then .inl (2, bgN tp n x) else if nmN tp (bgN tp n x) (enN tp n x - bgN tp n x) < lo ∨ hi < nmN tp (bgN tp n x) (enN tp n x - bgN tp n x) then .inl (2, bgN tp n x) else .inr (nmN tp (bgN tp n x) (enN tp n x - bgN tp n x))) else .inl (1, bgN tp n x)
theorem kd_dig {tp : Nat → Nat} {n x : Nat} (h : kdN tp n x = 2) : ∀ j, j < enN tp n x - bgN tp n x → 48 ≤ tp (bgN tp n x + j) ∧ tp (bgN tp n x + j) ≤ 57 := fun j hj => by
  obtain ⟨b, hb⟩ : ∃ b, b = bgN tp n x := ⟨_, rfl⟩
  unfold kdN at h
  unfold enN at hj
  rw [← hb] at h hj ⊢
  by_cases c : n ≤ b
  · rw [if_pos c] at h; cases h
  · rw [if_neg c] at h hj
    by_cases c1 : ltB tp n b = true
    · rw [if_pos c1] at h; cases h
    · rw [if_neg c1] at h hj
      by_cases c2 : dgB tp n b = true
      · rw [if_pos c2] at hj
        obtain ⟨s1, s2, s3, s4⟩ := sp_ok (p := dgB tp n) (n := n) (x := b) dg_out
        have := s3 (b + j) (by omega) (by omega)
        unfold dgB at this
        exact (of_decide_eq_true this).2
      · rw [if_neg c2] at h
        split at h <;> cases h
theorem kd_nm {tp : Nat → Nat} {n x : Nat} (h : kdN tp n x = 2) (h4 : ¬ 4 < enN tp n x - bgN tp n x) : hnN tp (bgN tp n x) (enN tp n x - bgN tp n x) = nmN tp (bgN tp n x) (enN tp n x - bgN tp n x) ∧ nmN tp (bgN tp n x) (enN tp n x - bgN tp n x) ≤ 9999 := by
  have hd := kd_dig h
  refine ⟨hn_nm _ (by omega) hd, ?_⟩
  have e2 := dg_lt (d := fun j => tp (bgN tp n x + j) - 48) (enN tp n x - bgN tp n x) (fun j hj => by have := hd j hj; omega)
  have e3 : 10 ^ (enN tp n x - bgN tp n x) ≤ 10 ^ 4 := Nat.pow_le_pow_right (by decide) (by omega)
  show dgN _ _ ≤ 9999
  omega
section WN2
variable {ct : CT} {ad : Nat → Nat} {P : Nat → Nat → Option Nat} {S : US} {tp : Nat → Nat} {n x : Nat} {c : RC} {q : Nat} {G : GS} {d s : Int32}
theorem tH_numNow {lo hi : Nat} (B : GB ct G) (hn : n ≤ 480) (hx : x ≤ n) (H : TkH tp n x c q G d s) (hlo : lo < 100000) (hhi : hi < 100000) (hr : Rm ct G 1 7) : match pNum tp n lo hi x with
    | .inl e => Ev (u5_numberNow ct ad P S G q (J lo) (J hi)) (fun o => WrO o.2 o.1 e.1 ∧ Gr (fun _ => False) G o.2 1 7) ∧ e.2 = bgN tp n x
    | .inr v => u5_numberNow ct ad P S G q (J lo) (J hi) = none ∧ s5_numberNow ct ad P S G q (J lo) (J hi) = some (J v, G) := by
  obtain ⟨u, hR, hu, hv⟩ := H
  obtain ⟨e1, e2, e3, e4⟩ := en_ok (tp := tp) hx
  have hkl := kd_lt (tp := tp) (n := n) (x := x)
  unfold pNum u5_numberNow s5_numberNow
  rw [hR.i6, hR.i6]
  by_cases c2 : kdN tp n x = 2
  · have cz : J (kdN tp n x) = (2 : Int32) := by rw [c2]; rfl
    rw [if_pos c2, joinB_eq, joinB_eq, if_pos cz, if_pos cz]
    have uJ : u5_numberNow_J14 q (J lo) (J hi) S P ad G ct (J 1) = (if (4 : Int32) < J (enN tp n x - bgN tp n x) then u5_want ct ad P S G q (J 0) (J 2) else if J u < J lo then u5_want ct ad P S G q (J 0) (J 2) else if J hi < J u then u5_want ct ad P S G q (J 0) (J 2) else none) := by
      unfold u5_numberNow_J14
      rw [hR.hC, tW_uo, tB_n, hR.hC, tW_so, callK_eq, hR.i8, hR.i7, J_sub e1, hR.hC, hR.i9, hR.i9, hR.hC, show u5_want ct ad P S G q (1 : Int32) (2 : Int32) = none from tW_uo]
      rfl
    have sJ : s5_numberNow_J14 q (J lo) (J hi) S P ad G ct (J 1) = (if (4 : Int32) < J (enN tp n x - bgN tp n x) then hC G.1 q 4 (callK (s5_want ct ad P S G q (0 : Int32) (2 : Int32)) (fun o7 => hI o7.1 q 4 9 (fun v8 => some (v8, o7)))) else if J u < J lo then hC G.1 q 4 (callK (s5_want ct ad P S G q (0 : Int32) (2 : Int32)) (fun o7 => hI o7.1 q 4 9 (fun v8 => some (v8, o7)))) else if J hi < J u then hC G.1 q 4 (callK (s5_want ct ad P S G q (0 : Int32) (2 : Int32)) (fun o7 => hI o7.1 q 4 9 (fun v8 => some (v8, o7)))) else some (J u, G)) := by
      unfold s5_numberNow_J14
      rw [hR.hC, tW_so, callK_eq, hR.i8, hR.i7, J_sub e1, hR.i9, hR.i9]
      have e9 : hC G.1 q 4 (callK (s5_want ct ad P S G q (1 : Int32) (2 : Int32)) (fun o15 => hI o15.1 q 4 9 (fun v16 => some (v16, o15)))) = some (J u, G) := by
        rw [hR.hC, show s5_want ct ad P S G q (1 : Int32) (2 : Int32) = some G from tW_so, callK_eq, hR.i9]
      rw [e9]
    show match (if 4 < enN tp n x - bgN tp n x then Sum.inl (2, bgN tp n x) else _ : Sum (Nat × Nat) Nat) with
      | .inl e => Ev (u5_numberNow_J14 q (J lo) (J hi) S P ad G ct (J 1)) (fun o => WrO o.2 o.1 e.1 ∧ Gr (fun _ => False) G o.2 1 7) ∧ e.2 = bgN tp n x
      | .inr v => u5_numberNow_J14 q (J lo) (J hi) S P ad G ct (J 1) = none ∧ s5_numberNow_J14 q (J lo) (J hi) S P ad G ct (J 1) = some (J v, G)
    rw [uJ, sJ]
    by_cases c4 : 4 < enN tp n x - bgN tp n x
    · have c4' : (4 : Int32) < J (enN tp n x - bgN tp n x) := by rw [lit_4, J_lt (by omega) (by omega)]; exact c4
      rw [if_pos c4, if_pos c4']
      exact ⟨tW_no (k := 2) B hr, rfl⟩
    · obtain ⟨w1, w2⟩ := kd_nm c2 c4
      have hv := (hv c2).trans w1
      have c4' : ¬ (4 : Int32) < J (enN tp n x - bgN tp n x) := by rw [lit_4, J_lt (by omega) (by omega)]; exact c4
      rw [if_neg c4, ← hv, if_neg c4', if_neg c4']
      by_cases cl : u < lo
      · have cl' : J u < J lo := by rw [J_lt (by omega) (by omega)]; exact cl
        rw [if_pos (Or.inl cl), if_pos cl']
        exact ⟨tW_no (k := 2) B hr, rfl⟩
      · have cl' : ¬ J u < J lo := by rw [J_lt (by omega) (by omega)]; exact cl
        rw [if_neg cl', if_neg cl']
        by_cases ch : hi < u
        · have ch' : J hi < J u := by rw [J_lt (by omega) (by omega)]; exact ch
          rw [if_pos (Or.inr ch), if_pos ch']
          exact ⟨tW_no (k := 2) B hr, rfl⟩
        · have ch' : ¬ J hi < J u := by rw [J_lt (by omega) (by omega)]; exact ch
          rw [if_neg (show ¬ (u < lo ∨ hi < u) by omega), if_neg ch', if_neg ch']
          exact ⟨rfl, rfl⟩
  · have cz : ¬ J (kdN tp n x) = (2 : Int32) := by rw [show (2 : Int32) = J 2 from rfl, J_eq (by omega) (by omega)]; exact c2
    rw [if_neg c2, joinB_eq, joinB_eq, if_neg cz, if_neg cz]
    dsimp only
    refine ⟨?_, rfl⟩
    show Ev (u5_numberNow_J14 q (J lo) (J hi) S P ad G ct (J 0)) _
    unfold u5_numberNow_J14
    rw [hR.hC]
    obtain ⟨w, e, hw⟩ := tW_no (ct := ct) (ad := ad) (P := P) (S := S) (q := q) (k := 1) B hr
    rw [show u5_want ct ad P S G q (J 0) (1 : Int32) = some w from e, tB_s]
    exact ⟨_, rfl, hw⟩
theorem tH_number {lo hi : Nat} (B : GB ct G) (hq : ct.2.2.1 ≤ q) (hT : TpH tp n S) (hc : c.1 = n) (ha : c.2.2.2.2.2 = ad 0) (hx : x ≤ n) (H : TkH tp n x c q G d s) (hlo : lo < 100000) (hhi : hi < 100000) (hr : Rm ct G 1 7) : match pNum tp n lo hi x with
    | .inl e => Ev (u5_number ct ad P S G q (J lo) (J hi)) (fun o => WrO o.2 o.1 e.1 ∧ Gr (fun _ => False) G o.2 1 7) ∧ e.2 = bgN tp n x
    | .inr v => u5_number ct ad P S G q (J lo) (J hi) = none ∧ Ev (s5_number ct ad P S G q (J lo) (J hi)) (fun o => o.1 = J v ∧ TkH tp n (enN tp n x) c q o.2 d s ∧ Gq q G o.2) := by
  have h := tH_numNow (ad := ad) (P := P) (S := S) B hT.1 hx H hlo hhi hr
  unfold u5_number s5_number
  rw [H.hC, H.hC]
  cases hp : pNum tp n lo hi x with
  | inl e => rw [hp] at h; exact h
  | inr v =>
    rw [hp] at h
    obtain ⟨h1, h2⟩ := h
    refine ⟨h1, ?_⟩
    rw [h2, callK_eq, H.hC]
    exact (H.nx B hq hT hc ha hx).call (fun G' k => ⟨_, rfl, rfl, k.1, k.2⟩)
end WN2
