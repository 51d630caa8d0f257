set_option maxRecDepth 100000
/-! THE PLAIN LAW, 57: forms in a window of the heap; texts that grow -/
def winH (ct : CT) (lo hi : Nat) (h : AH) : AH := fun a => if a < ct.2.2.1 ∨ (lo ≤ a ∧ a < hi) then h a else none
theorem win_in {ct : CT} {lo hi a : Nat} {h : AH} (ha : a < ct.2.2.1 ∨ (lo ≤ a ∧ a < hi)) : winH ct lo hi h a = h a := if_pos ha
theorem win_mono {ct : CT} {lo hi lo' hi' : Nat} {h : AH} (h1 : lo' ≤ lo) (h2 : hi ≤ hi') : Sub (winH ct lo hi h) (winH ct lo' hi' h) := fun a e z => by
  unfold winH at z ⊢
  split at z
  · rw [if_pos (by omega)]; exact z
  · cases z
theorem win_sub {ct : CT} {lo hi : Nat} {h : AH} : Sub (winH ct lo hi h) h := fun a e z => by
  unfold winH at z
  split at z
  · exact z
  · cases z
theorem win_gr {ct : CT} {M : Nat → Prop} {G G' : GS} {lo hi c z : Nat} (hg : Gr M G G' c z) (hM : ∀ a, M a → ct.2.2.1 ≤ a ∧ ¬ (lo ≤ a ∧ a < hi)) : Sub (winH ct lo hi G.1) (winH ct lo hi G'.1) := fun a e h => by
  unfold winH at h ⊢
  split at h
  · rename_i w
    rw [if_pos w]
    exact hg.1 a e (fun m => by have := hM a m; omega) h
  · cases h
/-- a form, of so many steps, whose cells lie in the window -/
def Fw (ct : CT) (dd lo hi : Nat) (h : AH) (b : Nat) (F : FV) : Prop := (∃ (ci : Nat) (fs : List Value), h b = some (true, .inr (ci, fs)) ∧ (ci = 6 ∨ ci = 7 ∨ ci = 8 ∨ ci = 9) ∧ lo ≤ b ∧ b < hi) ∧ ∀ h', Sub (winH ct lo hi h) h' → ∀ fuel, dd ≤ fuel → ∀ S, sF_of fuel S ct h' b = some (F (tv S 2))
theorem Fw.mono {ct : CT} {dd lo hi dd' lo' hi' b : Nat} {h : AH} {F : FV} (H : Fw ct dd lo hi h b F) (h1 : dd ≤ dd') (h2 : lo' ≤ lo) (h3 : hi ≤ hi') : Fw ct dd' lo' hi' h b F := by
  obtain ⟨⟨ci, fs, e1, e2, e3, e4⟩, hf⟩ := H
  exact ⟨⟨ci, fs, e1, e2, by omega, by omega⟩, fun h' hs fuel hd S => hf h' ((win_mono h2 h3).tr hs) fuel (by omega) S⟩
theorem Fw.gr {ct : CT} {dd lo hi b c z : Nat} {M : Nat → Prop} {G G' : GS} {F : FV} (H : Fw ct dd lo hi G.1 b F) (hg : Gr M G G' c z) (hM : ∀ a, M a → ct.2.2.1 ≤ a ∧ ¬ (lo ≤ a ∧ a < hi)) : Fw ct dd lo hi G'.1 b F := by
  obtain ⟨⟨ci, fs, e1, e2, e3, e4⟩, hf⟩ := H
  exact ⟨⟨ci, fs, hg.1 _ _ (fun m => by have := hM b m; omega) e1, e2, e3, e4⟩, fun h' hs => hf h' ((win_gr hg hM).tr hs)⟩
theorem Fw.cls {ρ : Type} {ct : CT} {dd lo hi b : Nat} {h : AH} {F : FV} {k : Option ρ} (H : Fw ct dd lo hi h b F) : hF h b k = k := by
  obtain ⟨⟨ci, fs, e1, e2, -⟩, -⟩ := H
  unfold hF
  rw [e1]
  exact if_pos e2
theorem Fw.num {ct : CT} {lo hi q v : Nat} {h : AH} (hq : h q = some (true, .inr (7, [.int (J v)]))) (h1 : lo ≤ q) (h2 : q < hi) : Fw ct 1 lo hi h q (fun _ => J v) := by
  refine ⟨⟨7, _, hq, by omega, h1, h2⟩, fun h' hs fuel hd S => ?_⟩
  have e := hs q _ ((win_in (Or.inr ⟨h1, h2⟩)).trans hq)
  obtain ⟨f, rfl⟩ : ∃ f, fuel = f + 1 := ⟨fuel - 1, by omega⟩
  unfold sF_of
  rw [e]
  show s8_of S ct h' (sF_of f S ct h') q = _
  unfold s8_of
  rw [hI_eq e rfl]
theorem Fw.val {ct : CT} {lo hi q k : Nat} {h : AH} (hq : h q = some (true, .inr (8, [.int (J k)]))) (hk : k < 6) (h1 : lo ≤ q) (h2 : q < hi) : Fw ct 1 lo hi h q (fun t => t k) := by
  refine ⟨⟨8, _, hq, by omega, h1, h2⟩, fun h' hs fuel hd S => ?_⟩
  have e := hs q _ ((win_in (Or.inr ⟨h1, h2⟩)).trans hq)
  obtain ⟨f, rfl⟩ : ∃ f, fuel = f + 1 := ⟨fuel - 1, by omega⟩
  unfold sF_of
  rw [e]
  show s9_of S ct h' (sF_of f S ct h') q = _
  unfold s9_of tv
  rw [hI_eq e rfl, gd hk (by omega), J_tn (by omega)]
  dsimp only
  rw [if_pos hk]
theorem Fw.neg {ct : CT} {dd lo hi lo1 hi1 q b : Nat} {h : AH} {F : FV} (hq : h q = some (true, .inr (9, [.ref b]))) (h1 : lo ≤ q) (h2 : q < hi) (H : Fw ct dd lo1 hi1 h b F) (h3 : lo ≤ lo1) (h4 : hi1 ≤ hi) : Fw ct (dd + 1) lo hi h q (fun t => if F t = 0 then 1 else 0) := by
  refine ⟨⟨9, _, hq, by omega, h1, h2⟩, fun h' hs fuel hd S => ?_⟩
  have e := hs q _ ((win_in (Or.inr ⟨h1, h2⟩)).trans hq)
  obtain ⟨f, rfl⟩ : ∃ f, fuel = f + 1 := ⟨fuel - 1, by omega⟩
  have hb := H.2 h' ((win_mono h3 h4).tr hs) f (by omega) S
  unfold sF_of
  rw [e]
  show s10_of S ct h' (sF_of f S ct h') q = _
  unfold s10_of
  rw [hR_eq e rfl, onR_eq, hb, callK_eq]
  dsimp only
  by_cases c : F (tv S 2) = 0
  · rw [if_pos c, if_pos c]
  · rw [if_neg c, if_neg c]
theorem bop_ok {o ch : Nat} (h : (o = 4 ∧ ch = 38) ∨ (o = 5 ∧ ch = 124) ∨ (o = 6 ∧ ch = 60) ∨ (o = 7 ∧ ch = 61) ∨ (o = 8 ∧ ch = 43) ∨ (o = 9 ∧ ch = 45) ∨ (o = 10 ∧ ch = 42) ∨ (o = 11 ∧ ch = 47)) (x y : Int32) : s7_by (J ch) x y = some (byN o x y) ∧ sM_works (J o) x y = some (byN o x y) := by
  rcases h with ⟨rfl, rfl⟩ | ⟨rfl, rfl⟩ | ⟨rfl, rfl⟩ | ⟨rfl, rfl⟩ | ⟨rfl, rfl⟩ | ⟨rfl, rfl⟩ | ⟨rfl, rfl⟩ | ⟨rfl, rfl⟩
  · have e1 : s7_by (J 38) x y = (if x = 0 then some 0 else if y = 0 then some 0 else some 1) := rfl
    have e2 : sM_works (J 4) x y = (if x = 0 then some 0 else if y = 0 then some 0 else some 1) := rfl
    have e3 : byN 4 x y = (if x = 0 then 0 else if y = 0 then 0 else 1) := rfl
    rw [e1, e2, e3]
    by_cases c : x = 0
    · rw [if_pos c, if_pos c]; exact ⟨rfl, rfl⟩
    · rw [if_neg c, if_neg c]
      by_cases d : y = 0
      · rw [if_pos d, if_pos d]; exact ⟨rfl, rfl⟩
      · rw [if_neg d, if_neg d]; exact ⟨rfl, rfl⟩
  · have e1 : s7_by (J 124) x y = (if x = 0 then (if y = 0 then some 0 else some 1) else some 1) := rfl
    have e2 : sM_works (J 5) x y = (if x = 0 then (if y = 0 then some 0 else some 1) else some 1) := rfl
    have e3 : byN 5 x y = (if x = 0 then (if y = 0 then 0 else 1) else 1) := rfl
    rw [e1, e2, e3]
    by_cases c : x = 0
    · rw [if_pos c, if_pos c]
      by_cases d : y = 0
      · rw [if_pos d, if_pos d]; exact ⟨rfl, rfl⟩
      · rw [if_neg d, if_neg d]; exact ⟨rfl, rfl⟩
    · rw [if_neg c, if_neg c]; exact ⟨rfl, rfl⟩
  · have e1 : s7_by (J 60) x y = (if y ≤ x then some 0 else some 1) := rfl
    have e2 : sM_works (J 6) x y = (if y ≤ x then some 0 else some 1) := rfl
    have e3 : byN 6 x y = (if y ≤ x then 0 else 1) := rfl
    rw [e1, e2, e3]
    by_cases c : y ≤ x
    · rw [if_pos c, if_pos c]; exact ⟨rfl, rfl⟩
    · rw [if_neg c, if_neg c]; exact ⟨rfl, rfl⟩
  · have e1 : s7_by (J 61) x y = (if x = y then some 1 else some 0) := rfl
    have e2 : sM_works (J 7) x y = (if x = y then some 1 else some 0) := rfl
    have e3 : byN 7 x y = (if x = y then 1 else 0) := rfl
    rw [e1, e2, e3]
    by_cases c : x = y
    · rw [if_pos c, if_pos c]; exact ⟨rfl, rfl⟩
    · rw [if_neg c, if_neg c]; exact ⟨rfl, rfl⟩
  · have e1 : s7_by (J 43) x y = (some (x + y)) := rfl
    have e2 : sM_works (J 8) x y = (some (x + y)) := rfl
    have e3 : byN 8 x y = (x + y) := rfl
    rw [e1, e2, e3]
    exact ⟨rfl, rfl⟩
  · have e1 : s7_by (J 45) x y = (some (x - y)) := rfl
    have e2 : sM_works (J 9) x y = (some (x - y)) := rfl
    have e3 : byN 9 x y = (x - y) := rfl
    rw [e1, e2, e3]
    exact ⟨rfl, rfl⟩
  · have e1 : s7_by (J 42) x y = (some (x * y)) := rfl
    have e2 : sM_works (J 10) x y = (some (x * y)) := rfl
    have e3 : byN 10 x y = (x * y) := rfl
    rw [e1, e2, e3]
    exact ⟨rfl, rfl⟩
  · have e1 : s7_by (J 47) x y = (if y = 0 then some 0 else if y = 0 then none else some (x / y)) := rfl
    have e2 : sM_works (J 11) x y = (if y = 0 then some 0 else if y = 0 then none else some (x / y)) := rfl
    have e3 : byN 11 x y = (if y = 0 then 0 else x / y) := rfl
    rw [e1, e2, e3]
    by_cases c : y = 0
    · rw [if_pos c, if_pos c]; exact ⟨rfl, rfl⟩
    · rw [if_neg c, if_neg c, if_neg c]; exact ⟨rfl, rfl⟩
