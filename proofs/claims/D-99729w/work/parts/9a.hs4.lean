set_option maxRecDepth 100000
/-! THE PLAIN LAW, 55: HorizonSeam's reader, 4: what the token is -/
/-- HorizonSeam's words in the Model's order -/
def mpK (i : Nat) : Nat := [8, 9, 10, 11, 0, 1, 2, 3, 4, 5, 15, 14, 12, 13, 6, 7].getD i 15
theorem mp_ok {i : Nat} (hi : i < 16) (h10 : i ≠ 10) : stN i = kwn (mpK i) ∧ mpK i < 15 ∧ ∀ j, j < stN i → cB i j = J (kwB (mpK i) j) := by
  have h1 := co_dec (P := fun i => i = 10 ∨ (stN i = kwn (mpK i) ∧ mpK i < 15)) (N := 16) (by decide +kernel) hi
  have h2 := co_dec (P := fun i => i = 10 ∨ (∀ j, j < stN i → cB i j = J (kwB (mpK i) j))) (N := 16) (by decide +kernel) hi
  rcases h1 with h1 | h1
  · exact absurd h1 h10
  · rcases h2 with h2 | h2
    · exact absurd h2 h10
    · exact ⟨h1.1, h1.2, h2⟩
theorem chr_ok {d : Nat} (h : d < 128) : ((J d &&& (255 : Int32)).toUInt32 % 65536).toInt32 = J d ∧ vp_nar .char (J d) = J d := by
  have h1 := co_dec (P := fun d => ((J d &&& (255 : Int32)).toUInt32 % 65536).toInt32 = J d) (N := 128) (by decide +kernel) h
  have h2 := co_dec (P := fun d => vp_nar .char (J d) = J d) (N := 128) (by decide +kernel) h
  exact ⟨h1, h2⟩
theorem tS_charAt {ct : CT} {h : AH} {q L j d : Nat} {g : Nat → Int32} (H : StrH h q L g) (hj : j < L) (hL : L < 1000) (hg : g j = J d) (hd : d < 128) : sS_charAt ct h q (J j) = some (J d) := by
  obtain ⟨o, v, x, y, o2, f, h1, h2, h3⟩ := H
  obtain ⟨c1, c2⟩ := chr_ok hd
  unfold sS_charAt
  rw [hC_eq h1, tS_latin h1, callK_eq, bI_t, if_neg (by decide), hR_eq h1 rfl]
  unfold sT_charAt sS_checkIndex
  rw [onR_eq, hL_eq h2, tP_check hj (by omega), callK_eq, callK_eq, hZ_eq h2 hj (by omega), h3 j hj, hg, c1, if_pos c2, callK_eq, if_pos c2]
section RDI
variable {ct : CT} {ad : Nat → Nat} {P : Nat → Nat → Option Nat} {S : US} {tp : Nat → Nat} {n x : Nat} {c : RC} {q : Nat} {G : GS} {d s : Int32}
theorem tH_is {i : Nat} (B : GB ct G) (hT : TpH tp n S) (ha : c.2.2.2.2.2 = ad 0) (hx : x ≤ n) (H : TkH tp n x c q G d s) (hi : i < 16) (h10 : i ≠ 10) : s5_is ct ad P S G q (some (ct.2.1 (40 + i))) = some (isK tp n x (mpK i), G) := by
  obtain ⟨u, hR, -, -⟩ := H
  have hn := hT.1
  have hkl := kd_lt (tp := tp) (n := n) (x := x)
  obtain ⟨e1, e2, e3, e4⟩ := en_ok (tp := tp) hx
  obtain ⟨m1, m2, m3⟩ := mp_ok hi h10
  obtain ⟨k1, k2, k3, -⟩ := kw_ok m2
  have hst := B.str hi
  have key : Ev (s5_is ct ad P S G q (some (ct.2.1 (40 + i)))) (fun o => o = (isK tp n x (mpK i), G)) := by
    have hl := tS_length hst (by omega)
    obtain ⟨ob, v, x1, y1, o2, f, t1, t2, t3⟩ := id hst
    unfold s5_is isK
    rw [hR.i6]
    by_cases c1 : kdN tp n x = 1
    · rw [if_pos (by rw [c1]; rfl), onR_eq, hC_eq t1, hl, callK_eq, hR.i8, hR.i7, J_sub e1]
      have e4 := e4 (by omega)
      by_cases c2 : stN i = enN tp n x - bgN tp n x
      · rw [if_pos (by rw [c2])]
        refine Ev.loop (fun j s => s = J j ∧ ∀ j', j' < j → tp (bgN tp n x + j') = kwB (mpK i) j') (stN i) ?_ ?_ ⟨rfl, fun j hj => absurd hj (Nat.not_lt_zero j)⟩ (by unfold FUEL; omega)
        · rintro j hj _ ⟨rfl, z1⟩ rc hrc
          obtain ⟨g1, g2⟩ := hT.2 (bgN tp n x + j) (by omega)
          have k3 := k3 j (by omega)
          rw [Nat.zero_add] at k3
          unfold s5_is_L28
          rw [hC_eq t1, hl, callK_eq, if_neg (by rw [J_le (by omega) (by omega)]; omega), hC_eq t1, tS_charAt (d := kwB (mpK i) j) hst hj (by omega) (m3 j hj) (by omega), callK_eq, hR.r12, if_pos (by rw [ha]), hR.i7, J_add, gd (by omega) (by omega), J_tn (by omega), g2, sb_and g1]
          by_cases z : tp (bgN tp n x + j) = kwB (mpK i) j
          · rw [if_pos (by rw [z]), lit_1, J_add]
            refine hrc _ ⟨rfl, fun j' hj' => ?_⟩
            by_cases w : j' = j
            · rw [w]; exact z
            · exact z1 j' (by omega)
          · rw [if_neg (by rw [J_eq (by omega) (by omega)]; omega)]
            refine ⟨_, rfl, ?_⟩
            rw [decide_eq_false (fun w => z (w.2.2 j (by omega)))]
        · rintro _ ⟨rfl, z1⟩ rc
          unfold s5_is_L28
          rw [hC_eq t1, hl, callK_eq, if_pos (Int32.le_refl _)]
          refine ⟨_, rfl, ?_⟩
          rw [decide_eq_true ⟨c1, by omega, fun j hj => z1 j (by omega)⟩]
      · rw [if_neg (by rw [J_eq (by omega) (by omega)]; exact c2)]
        refine ⟨_, rfl, ?_⟩
        rw [decide_eq_false (fun w => c2 (by omega))]
    · rw [if_neg (by rw [lit_1, J_eq (by omega) (by omega)]; exact c1)]
      refine ⟨_, rfl, ?_⟩
      rw [decide_eq_false (fun w => c1 w.1)]
  obtain ⟨r, e, rfl⟩ := key
  exact e
theorem sb_eq {b k : Nat} (hb : b < 256) (hk : k < 128) : (sbJ b = J k) = (b = k) := by
  refine propext ⟨fun h => ?_, fun h => ?_⟩
  · have h1 := sb_and hb
    rw [h] at h1
    have h2 : J k &&& (255 : Int32) = J k := co_dec (P := fun k => J k &&& (255 : Int32) = J k) (N := 128) (by decide +kernel) hk
    rw [h2, J_eq (by omega) (by omega)] at h1
    exact h1.symm
  · rw [h]
    exact co_dec (P := fun k => sbJ k = J k) (N := 128) (by decide +kernel) hk
theorem tH_isSign {k : Nat} (hT : TpH tp n S) (ha : c.2.2.2.2.2 = ad 0) (hx : x ≤ n) (H : TkH tp n x c q G d s) (hk : k < 128) : s5_isSign ct ad P S G q (J k) = some (isG tp n x k, G) := by
  obtain ⟨u, hR, -, -⟩ := H
  have hn := hT.1
  have hkl := kd_lt (tp := tp) (n := n) (x := x)
  obtain ⟨e1, e2, e3, e4⟩ := en_ok (tp := tp) hx
  unfold s5_isSign isG
  rw [hR.i6]
  by_cases c1 : kdN tp n x = 3
  · have e4 := e4 (by omega)
    obtain ⟨g1, g2⟩ := hT.2 (bgN tp n x) e4.2
    rw [if_pos (by rw [c1]; rfl), hR.r12, if_pos (by rw [ha]), hR.i7, gd (by omega) (by omega), J_tn (by omega), g2]
    by_cases z : tp (bgN tp n x) = k
    · rw [if_pos (by rw [sb_eq g1 hk]; exact z), decide_eq_true ⟨c1, z⟩]
    · rw [if_neg (by rw [sb_eq g1 hk]; exact z), decide_eq_false (fun w => z w.2)]
  · rw [if_neg (by rw [show (3 : Int32) = J 3 from rfl, J_eq (by omega) (by omega)]; exact c1), decide_eq_false (fun w => c1 w.1)]
theorem TkH.nx (B : GB ct G) (hq : ct.2.2.1 ≤ q) (hT : TpH tp n S) (hc : c.1 = n) (ha : c.2.2.2.2.2 = ad 0) (hx : x ≤ n) (H : TkH tp n x c q G d s) : Ev (s5_next ct ad P S G q) (fun G' => TkH tp n (enN tp n x) c q G' d s ∧ Gq q G G') := by
  obtain ⟨u, hR, h1, -⟩ := H
  exact tH_next B hq hT hc ha (en_ok hx).2.1 hR h1
theorem TkH.hC {ρ : Type} {k : Option ρ} (H : TkH tp n x c q G d s) : hC G.1 q 4 k = k := by
  obtain ⟨u, hR, -, -⟩ := H
  exact hR.hC
theorem TkH.gr {N : Nat → Prop} {G' : GS} {cc z : Nat} (H : TkH tp n x c q G d s) (hg : Gr N G G' cc z) (hN : ¬ N q) : TkH tp n x c q G' d s := by
  obtain ⟨u, hR, h1⟩ := H
  exact ⟨u, hg.1 _ _ hN hR, h1⟩
theorem tH_passes {i : Nat} (B : GB ct G) (hq : ct.2.2.1 ≤ q) (hT : TpH tp n S) (hc : c.1 = n) (ha : c.2.2.2.2.2 = ad 0) (hx : x ≤ n) (H : TkH tp n x c q G d s) (hi : i < 16) (h10 : i ≠ 10) : Ev (s5_passes ct ad P S G q (some (ct.2.1 (40 + i)))) (fun o => o.1 = isK tp n x (mpK i) ∧ (if isK tp n x (mpK i) = true then TkH tp n (enN tp n x) c q o.2 d s else o.2 = G) ∧ Gq q G o.2) := by
  unfold s5_passes
  rw [H.hC, tH_is B hT ha hx H hi h10, callK_eq]
  cases z : isK tp n x (mpK i) with
  | false =>
    rw [bI_f, if_pos j00]
    exact ⟨_, rfl, rfl, by rw [if_neg Bool.false_ne_true], Gr.rf⟩
  | true =>
    rw [bI_t, if_neg (by decide), H.hC]
    refine (H.nx B hq hT hc ha hx).call (fun G' h => ⟨_, rfl, rfl, ?_, h.2⟩)
    rw [if_pos rfl]
    exact h.1
end RDI
