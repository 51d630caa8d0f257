set_option maxRecDepth 100000
/-! THE PLAIN LAW, 53: HorizonSeam's reader, 2 -/
def cB (i j : Nat) : Int32 := (stB.getD i []).getD j 0
theorem GB.str {ct : CT} {G : GS} (B : GB ct G) {i : Nat} (hi : i < 16) : StrH G.1 (ct.2.1 (40 + i)) (stN i) (cB i) := by
  obtain ⟨-, ⟨h0, hS, hs⟩, -⟩ := B
  obtain ⟨-, -, -, -, h4, h5, -⟩ := hS
  obtain ⟨x, y, e⟩ := h4 i hi
  obtain ⟨f, f1, f2⟩ := h5 (60 + i) (Or.inr (Or.inr ⟨by omega, by omega⟩))
  have el : lenB (60 + i) = stN i := by unfold lenB; rw [if_neg (by omega)]; congr 1; omega
  rw [el] at f1 f2
  refine ⟨false, _, x, y, false, f, hs _ _ e, hs _ _ f1, fun j hj => ?_⟩
  rw [f2 j hj]
  unfold bytB cB
  rw [if_neg (by omega), if_neg (by omega)]
  congr 2
  congr 1
  omega
theorem sg_any {c : Nat} (h : c < 256) : (List.range 9).any (fun i => cB 10 i == sbJ c) = sgB c := co_dec (P := fun c => (List.range 9).any (fun i => cB 10 i == sbJ c) = sgB c) (N := 256) (by decide +kernel) h
theorem tS_latin {h : AH} {q : Nat} {o : Bool} {v : Nat} {x y : Value} (hq : h q = some (o, .inr (13, [.ref v, .int 0, x, y]))) : sS_isLatin1 h q = some true := by
  unfold sS_isLatin1
  rw [if_neg (by decide), hI_eq hq rfl, if_pos rfl]
theorem tS_index {ct : CT} {G : GS} {c : Nat} (B : GB ct G) (hc : c < 256) : Ev (sS_indexOf G.1 (ct.2.1 50) (J c)) (fun o => (o < 0) = (sgB c = false)) := by
  obtain ⟨o, v, x, y, o2, f, h1, h2, h3⟩ := B.str (show 10 < 16 by decide)
  have hl := tS_length (h := G.1) (q := ct.2.1 (40 + 10)) (n := stN 10) ⟨o, v, x, y, o2, f, h1, h2, h3⟩ (by decide)
  have hsg := sg_any hc
  have e9 : stN 10 = 9 := rfl
  rw [e9] at hl h2 h3
  unfold sS_indexOf sS_indexOf_2
  rw [show ct.2.1 50 = ct.2.1 (40 + 10) from rfl, hC_eq h1, hC_eq h1, tS_latin h1, callK_eq, bI_t, if_neg (by decide), hR_eq h1 rfl, hC_eq h1, hl, callK_eq]
  unfold sT_indexOf sT_canEncode
  rw [if_neg (by rw [lit_0, J_lt (by omega) (by omega)]; omega), if_neg (by rw [show (255 : Int32) = J 255 from rfl, J_lt (by omega) (by omega)]; omega), callK_eq, bI_t, if_neg (by decide), onR_eq, hL_eq h2, if_pos (by decide)]
  unfold sT_indexOfChar
  have key : Ev (loopK (fun rc (x : Int32) => sT_indexOfChar_L7 (some v) (J c) (if J 9 < J 9 then J 9 else J 9) G.1 rc x) FUEL (if (0 : Int32) < 0 then 0 else 0)) (fun o => (o < 0) = (sgB c = false)) := by
    rw [if_neg (by decide), if_neg (by decide)]
    refine Ev.loop (fun i s => s = J i ∧ ∀ j, j < i → ¬ cB 10 j = sbJ c) 9 ?_ ?_ ⟨rfl, fun j hj => absurd hj (Nat.not_lt_zero j)⟩ (by unfold FUEL; omega)
    · rintro i hi _ ⟨rfl, k1⟩ rc hrc
      unfold sT_indexOfChar_L7
      rw [if_neg (by rw [J_le (by omega) (by omega)]; omega), onR_eq, hZ_eq h2 hi (by omega), h3 i hi]
      by_cases z : cB 10 i = sbJ c
      · rw [if_pos (show cB 10 i = (J c).toInt8.toInt32 from z)]
        have : sgB c = true := by
          rw [← hsg]
          exact List.any_eq_true.mpr ⟨i, List.mem_range.mpr hi, beq_iff_eq.mpr z⟩
        refine ⟨_, rfl, ?_⟩
        show (J i < (0 : Int32)) = (sgB c = false)
        rw [this, lit_0, J_lt (by omega) (by omega)]
        simp
      · rw [if_neg (show ¬ cB 10 i = (J c).toInt8.toInt32 from z), lit_1, J_add]
        refine hrc _ ⟨rfl, fun j hj => ?_⟩
        by_cases w : j = i
        · rw [w]; exact z
        · exact k1 j (by omega)
    · rintro _ ⟨rfl, k1⟩ rc
      unfold sT_indexOfChar_L7
      rw [if_pos (Int32.le_refl _)]
      have : sgB c = false := by
        rw [← hsg]
        refine List.any_eq_false.mpr (fun i hi z => k1 i (List.mem_range.mp hi) (beq_iff_eq.mp z))
      refine ⟨_, rfl, ?_⟩
      show ((-1 : Int32) < 0) = (sgB c = false)
      rw [this]
      exact propext ⟨fun _ => rfl, fun _ => by decide⟩
  obtain ⟨r, e, hr⟩ := key
  rw [show loopK (fun rc (x : Int32) => sT_indexOfChar_L7 (some v) (J c) (if J 9 < J 9 then J 9 else J 9) G.1 rc x) FUEL (if (0 : Int32) < 0 then 0 else 0) = some r from e]
  exact ⟨_, rfl, hr⟩
def hnN (tp : Nat → Nat) (b : Nat) : Nat → Nat
  | 0 => 0
  | k + 1 => min 100000 (10 * hnN tp b k + (tp (b + k) - 48))
theorem hn_le {tp : Nat → Nat} {b k : Nat} : hnN tp b k ≤ 100000 := by
  cases k with
  | zero => exact Nat.zero_le _
  | succ k => exact Nat.min_le_left _ _
theorem hn_nm {tp : Nat → Nat} {b : Nat} : ∀ k, k ≤ 4 → (∀ j, j < k → 48 ≤ tp (b + j) ∧ tp (b + j) ≤ 57) → hnN tp b k = nmN tp b k := fun k => by
  induction k with
  | zero => intro _ _; rfl
  | succ k ih =>
    intro hk h
    have e1 := ih (by omega) (fun j hj => h j (by omega))
    have e2 := dg_lt (d := fun j => tp (b + j) - 48) k (fun j hj => by have := h j (by omega); omega)
    have e3 : 10 ^ k ≤ 10 ^ 3 := Nat.pow_le_pow_right (by decide) (by omega)
    have e4 := h k (by omega)
    have e5 : nmN tp b k = dgN (fun j => tp (b + j) - 48) k := rfl
    show min 100000 (10 * hnN tp b k + (tp (b + k) - 48)) = 10 * nmN tp b k + (tp (b + k) - 48)
    rw [e1]
    omega
/-- the reader stands at x -/
def TkH (tp : Nat → Nat) (n x : Nat) (c : RC) (q : Nat) (G : GS) (d s : Int32) : Prop := ∃ u, RD c q G (J (enN tp n x)) (J (kdN tp n x)) (J (bgN tp n x)) (J (enN tp n x)) (J u) d s ∧ u ≤ 100000 ∧ (kdN tp n x = 2 → u = hnN tp (bgN tp n x) (enN tp n x - bgN tp n x))
section RDT
variable {ct : CT} {ad : Nat → Nat} {P : Nat → Nat → Option Nat} {S : US} {tp : Nat → Nat} {n : Nat} {c : RC} {q : Nat} {d s : Int32} {Q : GS → Prop}
theorem tH_word {G0 G : GS} {b : Nat} {k e u : Int32} (hT : TpH tp n S) (hc : c.1 = n) (ha : c.2.2.2.2.2 = ad 0) (hb : b ≤ n) (hg : Gq q G0 G) (H : RD c q G (J b) k (J b) e u d s) (hk : ∀ G', Gq q G0 G' → RD c q G' (J (spN (ltB tp n) n b)) (J 1) (J b) (J (spN (ltB tp n) n b)) u d s → Q G') : Ev (loopK (fun rc (x : GS) => s5_next_L62 q S P ad ct rc x) FUEL G) Q := by
  obtain ⟨s1, s2, s3, s4⟩ := sp_ok (p := ltB tp n) (n := n) (x := b) lt_out
  have s2 := s2 hb
  have hn := hT.1
  obtain ⟨e', he⟩ : ∃ e', e' = spN (ltB tp n) n b := ⟨_, rfl⟩
  rw [← he] at s1 s2 s3 s4 hk
  refine Ev.loop (fun i g => Gq q G0 g ∧ RD c q g (J (b + i)) k (J b) e u d s) (e' - b) ?_ ?_ ⟨hg, H⟩ (by unfold FUEL; omega)
  · rintro i hi g ⟨k0, k1⟩ rc hrc
    unfold s5_next_L62
    rw [k1.hC, tH_isLetter hT hc ha (by omega) k1, callK_eq, s3 (b + i) (by omega) (by omega), bI_t, if_neg (by decide), k1.i5, lit_1, J_add]
    exact k1.p5 (fun G' a1 a2 => hrc _ ⟨k0.tr a2, a1⟩)
  · rintro g ⟨k0, k1⟩ rc
    rw [show b + (e' - b) = e' by omega] at k1
    unfold s5_next_L62
    rw [k1.hC, tH_isLetter hT hc ha s2 k1, callK_eq, s4, bI_f, if_pos j00]
    refine k1.p6 (fun G1 a1 a2 => ?_)
    rw [a1.i5]
    refine a1.p8 (fun G2 b1 b2 => ⟨_, rfl, hk _ ((k0.tr a2).tr b2) b1⟩)
theorem tH_num {G0 G : GS} {b : Nat} {k e : Int32} (hT : TpH tp n S) (hc : c.1 = n) (ha : c.2.2.2.2.2 = ad 0) (hb : b ≤ n) (hg : Gq q G0 G) (H : RD c q G (J b) k (J b) e (J 0) d s) (hk : ∀ G', Gq q G0 G' → RD c q G' (J (spN (dgB tp n) n b)) (J 2) (J b) (J (spN (dgB tp n) n b)) (J (hnN tp b (spN (dgB tp n) n b - b))) d s → Q G') : Ev (loopK (fun rc (x : GS) => s5_next_L102 q S P ad ct rc x) FUEL G) Q := by
  obtain ⟨s1, s2, s3, s4⟩ := sp_ok (p := dgB tp n) (n := n) (x := b) dg_out
  have s2 := s2 hb
  have hn := hT.1
  obtain ⟨e', he⟩ : ∃ e', e' = spN (dgB tp n) n b := ⟨_, rfl⟩
  rw [← he] at s1 s2 s3 s4 hk
  refine Ev.loop (fun i g => Gq q G0 g ∧ RD c q g (J (b + i)) k (J b) e (J (hnN tp b i)) d s) (e' - b) ?_ ?_ ⟨hg, H⟩ (by unfold FUEL; omega)
  · rintro i hi g ⟨k0, k1⟩ rc hrc
    have hd := s3 (b + i) (by omega) (by omega)
    unfold s5_next_L102
    rw [k1.hC, tH_isDigit hT hc ha (by omega) k1, callK_eq, hd, bI_t, if_neg (by decide), k1.i9, k1.hC, tH_here hT hc ha (by omega) k1, callK_eq]
    unfold dgB at hd
    obtain ⟨d1, d2, d3⟩ := of_decide_eq_true hd
    have hle := hn_le (tp := tp) (b := b) (k := i)
    have e1 : (if ((10 : Int32) * J (hnN tp b i) + heN tp n (b + i) - (48 : Int32)) < (100000 : Int32) then ((10 : Int32) * J (hnN tp b i) + heN tp n (b + i) - (48 : Int32)) else (100000 : Int32)) = J (hnN tp b (i + 1)) := by
      unfold heN
      rw [if_pos d1, lit_10, J_mul, J_add, show (48 : Int32) = J 48 from rfl, J_sub (by omega), lit_hm]
      show _ = J (min 100000 (10 * hnN tp b i + (tp (b + i) - 48)))
      by_cases z : 10 * hnN tp b i + tp (b + i) - 48 < 100000
      · rw [if_pos (by rw [J_lt (by omega) (by omega)]; exact z)]
        congr 1
        omega
      · rw [if_neg (by rw [J_lt (by omega) (by omega)]; exact z)]
        congr 1
        omega
    rw [e1]
    refine k1.p9 (fun G1 a1 a2 => ?_)
    rw [a1.i5, lit_1, J_add]
    exact a1.p5 (fun G2 b1 b2 => hrc _ ⟨(k0.tr a2).tr b2, b1⟩)
  · rintro g ⟨k0, k1⟩ rc
    rw [show b + (e' - b) = e' by omega] at k1
    unfold s5_next_L102
    rw [k1.hC, tH_isDigit hT hc ha s2 k1, callK_eq, s4, bI_f, if_pos j00]
    refine k1.p6 (fun G1 a1 a2 => ?_)
    rw [a1.i5]
    refine a1.p8 (fun G2 b1 b2 => ⟨_, rfl, hk _ ((k0.tr a2).tr b2) b1⟩)
theorem he_m1 {x : Nat} (hT : TpH tp n S) : (heN tp n x = (-1 : Int32)) = (n ≤ x) := by
  unfold heN
  refine propext ⟨fun h => ?_, fun h => if_neg (by omega)⟩
  by_cases z : x < n
  · rw [if_pos z] at h
    obtain ⟨g1, -⟩ := hT.2 x z
    have h2 := congrArg Int32.toInt h
    rw [J_ti (by omega), show (-1 : Int32).toInt = -1 from by decide] at h2
    omega
  · omega
theorem he_c {x k : Nat} (hT : TpH tp n S) (hk : k < 256) : (heN tp n x = J k) = (x < n ∧ tp x = k) := by
  unfold heN
  refine propext ⟨fun h => ?_, fun h => by rw [if_pos h.1, h.2]⟩
  by_cases z : x < n
  · rw [if_pos z] at h
    obtain ⟨g1, -⟩ := hT.2 x z
    rw [J_eq (by omega) (by omega)] at h
    exact ⟨z, h⟩
  · rw [if_neg z] at h
    have h2 := congrArg Int32.toInt h
    rw [J_ti (by omega), show (-1 : Int32).toInt = -1 from by decide] at h2
    omega
end RDT
