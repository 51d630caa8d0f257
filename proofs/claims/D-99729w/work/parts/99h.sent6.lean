set_option maxRecDepth 100000
/-! THE PLAIN LAW, 36: whom to which, 6 -/
theorem st_eT {ct : CT} {P : Nat → Nat → Option Nat} {S : US} {h : AH} {n : Nat} {p1 p2 : Int32} (hn : (S 1 2 : Int32) = J n) (hb : n ≤ 12) (e1 : s1_in p1 (J 0) (J (1 <<< n - 1)) = some (inN p1 0 (1 <<< n - 1))) (h64 : 1 ≤ 1 <<< n) (h65 : 1 <<< n ≤ 4096) : t1_sent S ct P h p1 p2 = callK (some (inN p1 0 (1 <<< n - 1))) (fun o1 => (if (bI o1) = 0 then t1_sent_J33 p1 p2 S (J 0) else callK (sN_bitCount p1) (fun o9 => (if (6 : Int32) < o9 then t1_sent_J33 p1 p2 S (J 0) else t1_sent_J33 p1 p2 S (J 1))))) := by
  unfold t1_sent
  rw [hn, lit_1, J_shl (by omega), J_sub (by omega), lit_0, e1]
  unfold joinB
  rfl
theorem st_eS {ct : CT} {ad : Nat → Nat} {P : Nat → Nat → Option Nat} {S : US} {G0 : GS} {n : Nat} {p1 p2 : Int32} (hn : (S 1 2 : Int32) = J n) (hb : n ≤ 12) (e1 : s1_in p1 (J 0) (J (1 <<< n - 1)) = some (inN p1 0 (1 <<< n - 1))) (h64 : 1 ≤ 1 <<< n) (h65 : 1 <<< n ≤ 4096) : s1_sent ct ad P S G0 p1 p2 = callK (some (inN p1 0 (1 <<< n - 1))) (fun o1 => (if (bI o1) = 0 then s1_sent_J33 p1 p2 S P ad G0 ct (J 0) else callK (sN_bitCount p1) (fun o9 => (if (6 : Int32) < o9 then s1_sent_J33 p1 p2 S P ad G0 ct (J 0) else s1_sent_J33 p1 p2 S P ad G0 ct (J 1))))) := by
  unfold s1_sent
  rw [hn, lit_1, J_shl (by omega), J_sub (by omega), lit_0, e1]
  unfold joinB
  rfl
theorem st_eM {S2 : US} {n : Nat} {p1 p2 : Int32} (hn2 : (Z0 S2 0 1 : Int32) = J n) (hb : n ≤ 12) : sM_sent S2 p1 p2 = (if p1 < J 0 then sM_sent_J34 p1 p2 (Z0 S2) (J 0) else (if J (1 <<< n) ≤ p1 then sM_sent_J34 p1 p2 (Z0 S2) (J 0) else callK (sM_bits p1) (fun o37 => (if (6 : Int32) < o37 then sM_sent_J34 p1 p2 (Z0 S2) (J 0) else sM_sent_J34 p1 p2 (Z0 S2) (J 1))))) := by
  have e : sM_sent S2 p1 p2 = (if p1 < 0 then sM_sent_J34 p1 p2 (Z0 S2) 0 else (if (1 : Int32) <<< ((Z0 S2 0 1) &&& 31) ≤ p1 then sM_sent_J34 p1 p2 (Z0 S2) 0 else callK (sM_bits p1) (fun o37 => (if (6 : Int32) < o37 then sM_sent_J34 p1 p2 (Z0 S2) 0 else sM_sent_J34 p1 p2 (Z0 S2) 1)))) := rfl
  rw [e, hn2, lit_1, J_shl (by omega), lit_0]
theorem st_u1 {S : US} {n : Nat} {p1 p2 : Int32} (hn : (S 1 2 : Int32) = J n) (h1 : 1 ≤ n) (e2 : s1_in p2 (J 0) (J (n - 1)) = some (inN p2 0 (n - 1))) : t1_sent_J33 p1 p2 S (J 1) = (if p2 = (-1 : Int32) then t1_found (J 1) else callK (some (inN p2 0 (n - 1))) (fun o7 => (if (bI o7) = 0 then t1_found (J 0) else callK (s1_isOf p1 p2) (fun o8 => (if (bI o8) = 0 then t1_found (J 0) else t1_found (J 1)))))) := by
  unfold t1_sent_J33
  rw [ri_1, tB_n, re_1, callK_eq]
  unfold t1_sent_J71 joinB
  rw [hn, show (J n : Int32) - (1 : Int32) = J n - J 1 from rfl, J_sub (by omega), show s1_in p2 (0 : Int32) (J (n - 1)) = some (inN p2 0 (n - 1)) from e2]
  rfl
theorem st_u2 {ct : CT} {ad : Nat → Nat} {P : Nat → Nat → Option Nat} {S : US} {G0 : GS} {n : Nat} {p1 p2 : Int32} (hn : (S 1 2 : Int32) = J n) (h1 : 1 ≤ n) (e2 : s1_in p2 (J 0) (J (n - 1)) = some (inN p2 0 (n - 1))) : s1_sent_J33 p1 p2 S P ad G0 ct (J 1) = (if p2 = (-1 : Int32) then s1_sent_J71 p1 p2 S P ad G0 ct (J 1) else callK (some (inN p2 0 (n - 1))) (fun o7 => (if (bI o7) = 0 then s1_sent_J71 p1 p2 S P ad G0 ct (J 0) else callK (s1_isOf p1 p2) (fun o8 => (if (bI o8) = 0 then s1_sent_J71 p1 p2 S P ad G0 ct (J 0) else s1_sent_J71 p1 p2 S P ad G0 ct (J 1)))))) := by
  unfold s1_sent_J33
  rw [re_1, callK_eq]
  unfold joinB
  rw [hn, show (J n : Int32) - (1 : Int32) = J n - J 1 from rfl, J_sub (by omega), show s1_in p2 (0 : Int32) (J (n - 1)) = some (inN p2 0 (n - 1)) from e2]
  rfl
theorem st_u3 {S : US} {n : Nat} {p1 p2 : Int32} (hn2 : (S 0 1 : Int32) = J n) (hT2 : sM_right S (J 1) (J 2) = some (true, S)) : sM_sent_J34 p1 p2 S (J 1) = (if p2 = (-1 : Int32) then sM_sent_J75 p1 p2 (true, S) (J 1) else (if p2 < J 0 then sM_sent_J75 p1 p2 (true, S) (J 0) else (if J n ≤ p2 then sM_sent_J75 p1 p2 (true, S) (J 0) else (if ((p1 >>> (p2 &&& 31)) &&& (1 : Int32)) = (1 : Int32) then sM_sent_J75 p1 p2 (true, S) (J 1) else sM_sent_J75 p1 p2 (true, S) (J 0))))) := by
  unfold sM_sent_J34
  rw [show sM_right S (J 1) (2 : Int32) = some (true, S) from hT2, callK_eq]
  dsimp only
  rw [bI_t, if_neg (by decide)]
  unfold joinB
  dsimp only
  simp only [hn2]
  rfl
theorem st_m75 {S T : US} {p1 p2 : Int32} (hF1 : sM_right S (J 0) (J 1) = some (false, T)) : sM_sent_J75 p1 p2 (true, S) (J 0) = some (0, T) := by
  unfold sM_sent_J75
  rw [show sM_right (true, S).2 (J 0) (1 : Int32) = some (false, T) from hF1, callK_eq]
  dsimp only
  rw [bI_f, if_pos j00]
theorem st_m75' {S : US} {p1 p2 : Int32} {Q : Int32 × US → Prop} (hT1 : sM_right S (J 1) (J 1) = some (true, S)) (h : Ev (loopK (fun rc (x : (US × Int32 × Int32)) => sM_sent_L89 p1 p2 rc x.1 x.2.1 x.2.2) FUEL (S, (0 : Int32), (0 : Int32))) Q) : Ev (sM_sent_J75 p1 p2 (true, S) (J 1)) Q := by
  unfold sM_sent_J75
  rw [show sM_right (true, S).2 (J 1) (1 : Int32) = some (true, S) from hT1, callK_eq]
  dsimp only
  rw [bI_t, if_neg (by decide)]
  exact h
