set_option maxRecDepth 100000
/-- THE PLAIN LAW (what is owed of it) -/
def PlainLaw : Prop := ∀ (ct : CT) (h0 : AH) (L : Nat) (xs : Nat → Int32), Start ct h0 → L ≤ 144 → sL_law ct L xs (h0, ct.2.2.1, 0) = some ()
def saM (a0 a1 a2 a3 a4 m5 m6 z7 z8 z9 za zb zc sz : Nat) (st sv ca : Nat → Nat) (k : Nat) : Nat :=
  if k < 16 then [a0, a1, a2, a3, a4, m5, m6, z7, z8, z9, za, zb, zc].getD k 0 else if k < 40 then (if k = 20 then sz + 1200048 else if k = 21 then 5501818 else 0) else if k < 60 then st (k - 40) else if k < 1000 then sv (k - 60) else ca (k - 1000)
theorem saM_st {a0 a1 a2 a3 a4 m5 m6 z7 z8 z9 za zb zc sz : Nat} {st sv ca : Nat → Nat} {i : Nat} (h : i < 16) : saM a0 a1 a2 a3 a4 m5 m6 z7 z8 z9 za zb zc sz st sv ca (40 + i) = st i := by
  unfold saM
  rw [if_neg (by omega), if_neg (by omega), if_pos (by omega)]
  congr 1
  omega
theorem saM_sv {a0 a1 a2 a3 a4 m5 m6 z7 z8 z9 za zb zc sz : Nat} {st sv ca : Nat → Nat} {i : Nat} (h : i < 16) : saM a0 a1 a2 a3 a4 m5 m6 z7 z8 z9 za zb zc sz st sv ca (60 + i) = sv i := by
  unfold saM
  rw [if_neg (by omega), if_neg (by omega), if_neg (by omega), if_pos (by omega)]
  congr 1
  omega
theorem saM_ca {a0 a1 a2 a3 a4 m5 m6 z7 z8 z9 za zb zc sz : Nat} {st sv ca : Nat → Nat} {i : Nat} : saM a0 a1 a2 a3 a4 m5 m6 z7 z8 z9 za zb zc sz st sv ca (1000 + i) = ca i := by
  unfold saM
  rw [if_neg (by omega), if_neg (by omega), if_neg (by omega), if_neg (by omega)]
  congr 1
  omega
set_option maxHeartbeats 4000000 in
theorem whole_from (hplain : PlainLaw) {p : Program} {e : Env} {s : State} {m : MethodId} {below : List Frame} {meth : Method} {c : Code} (l : Launch) (hflags : l.flags = flags0) {b L : Nat} {xs : Nat → Int32} (hL : L ≤ 144) (C0 : lw_At p s m meth c b L xs) : W p l e room_1 s m #[Value.ref b] below meth c s.heap [] 0 0 (lw_Z below #[Value.ref b] s) (entryFrame m ([Value.ref b] : List Value).toArray 7) := by
  obtain ⟨hx, hb, hr, hml, hown, htb, hX, hbl, hlocks, hgv⟩ := C0
  have hst : l.stackTraces = false := by
    unfold Launch.stackTraces
    rw [hflags]
    decide +kernel
  have hts : ∀ w ∈ lw_all, w.before #[Value.ref b] s = true := fun w h => htb w (lw_all_tbl h)
  obtain ⟨D, c1, hK⟩ := st_K hgv htb
  have hK0 := hK (c1, fun _ => 0, 0, s.heap) rfl
  have hOA : s.vm.findClass "[Ljava/lang/Object;" = some (c1 4) := (hK0.2 4 _ rfl).2.choose_spec.choose_spec.2.2.2
  have hBA : s.vm.findClass "[B" = some (c1 2) := (hK0.2 2 _ rfl).2
  have hIn := hK0.1 12 _ rfl
  have hSt := hK0.1 13 _ rfl
  obtain ⟨a0, cl0, e0, u0⟩ := st_0 hgv htb hOA
  obtain ⟨a1, cl1, e1, u1⟩ := st_1 hgv htb hOA
  have h01 := st_01 hgv htb e0 e1
  obtain ⟨a2, cl2, ca, e2, u2, u3, u4, u5, u6⟩ := st_2 hgv htb hIn.2.1 (hIn.1 0 (by decide))
  obtain ⟨a3, cl3, e3, u7⟩ := st_3 hgv htb hBA
  obtain ⟨a4, cl4, e4, u8⟩ := st_4 hgv htb hBA
  obtain ⟨m5, m6, hm5, hm6, h56⟩ := st_M hgv htb
  obtain ⟨z7, z8, hz7⟩ := zq_rf (z_7 hgv htb).1
  obtain ⟨z9, za, hz9⟩ := zq_rf (z_10 hgv htb).1
  obtain ⟨zb, zc, hzb⟩ := zq_rf (z_11 hgv htb).1
  obtain ⟨st, sv, hS1, hS2⟩ := st_S hgv htb hSt hBA
  let ct : CT := (c1, saM a0 a1 a2 a3 a4 m5 m6 z7 z8 z9 za zb zc s.heap.size st sv ca, s.heap.size, s.heap)
  have hct1 : ct.1 = c1 := rfl
  have hsa : ct.2.1 = saM a0 a1 a2 a3 a4 m5 m6 z7 z8 z9 za zb zc s.heap.size st sv ca := rfl
  have hKc := hK ct rfl
  have hSF : SF D ct s.heap := by
    refine ⟨fun i hi => ?_, fun j hj => ?_, fun i hi => ?_, fun k hk => ?_, ?_, ?_, ?_, ?_, ?_, ?_⟩
    · rcases (show i = 0 ∨ i = 1 by omega) with rfl | rfl
      · exact ⟨cl0, u0⟩
      · exact ⟨cl1, u1⟩
    · rw [hsa, saM_ca]
      exact (u6 j hj).2
    · rw [hsa, saM_st hi, saM_sv hi]
      exact (hS1 i hi).2.1
    · rcases hk with rfl | rfl | ⟨h1, h2⟩
      · exact ⟨cl3, u7⟩
      · exact ⟨cl4, u8⟩
      · obtain ⟨i, rfl⟩ : ∃ i, k = 60 + i := ⟨k - 60, by omega⟩
        have hi : i < 16 := by omega
        have h3 := (hS1 i hi).2.2
        rw [hsa, saM_sv hi]
        have e1 : lenB (60 + i) = stN i := by unfold lenB; rw [if_neg (by omega)]; congr 1; omega
        have e2 : ∀ j, bytB (60 + i) j = (stB.getD i []).getD j 0 := fun j => by
          unfold bytB
          rw [if_neg (by omega), if_neg (by omega)]
          congr 2
          omega
        rw [e1]
        simp only [e2]
        exact h3
    · intro h
      have h1 : s.vm.findClass "java/lang/Integer" = some (c1 4) := by rw [show c1 4 = D.1 12 from h]; exact hIn.2.1
      exact absurd (fc_inj hOA h1) (by decide)
    · intro h
      have h1 : s.vm.findClass RJ8 = some (c1 4) := by rw [show c1 4 = D.1 13 from h]; exact hSt.2.1
      exact absurd (fc_inj hOA h1) (by decide)
    · intro h
      have h1 : s.vm.findClass "[B" = some (c1 4) := by rw [show c1 4 = c1 2 from h]; exact hBA
      exact absurd (fc_inj hOA h1) (by decide)
    · intro h
      have h1 : s.vm.findClass RJ8 = some (D.1 12) := by rw [h]; exact hSt.2.1
      exact absurd (fc_inj hIn.2.1 h1) (by decide)
    · intro h
      have h1 : s.vm.findClass "[B" = some (D.1 12) := by rw [show D.1 12 = c1 2 from h]; exact hBA
      exact absurd (fc_inj hIn.2.1 h1) (by decide)
    · intro h
      have h1 : s.vm.findClass "[B" = some (D.1 13) := by rw [show D.1 13 = c1 2 from h]; exact hBA
      exact absurd (fc_inj hSt.2.1 h1) (by decide)
  have hSTA : Start ct (hStart D ct s.heap) := hs_start hSF rfl h01 (fun i j hi hj he => by
    rw [hsa, saM_st hi, saM_st hj] at he
    exact hS2 i j hi hj he) h56 rfl rfl
  have hSC : ∀ i, i < 16 → vk_R "HorizonSeam$Reader" (stK.getD i 0) ((scL.getD i ("", 0, "", 0)).2.2.1) (ct.2.1 (40 + i)) s := fun i hi => by
    rw [hsa, saM_st hi]
    exact vk_R.of (w_sr htb i hi) (hS1 i hi).1
  have hJ : JW ct s := by
    refine ⟨fun q hq => ?_, ⟨⟨hm5, hm6⟩, fun q hq => ?_, ?_⟩, st_N hgv htb, st_F hgv htb, va_AO.of (htb _ q409), va_AO.of (htb _ q777), st_X hgv htb, ?_, fun q hq => ?_, st_Nc hgv htb⟩
    · simp only [szL, List.mem_cons, List.not_mem_nil, or_false] at hq
      rcases hq with rfl | rfl | rfl | rfl | rfl | rfl | rfl | rfl | rfl | rfl | rfl | rfl
      · exact z_0 hgv htb
      · exact z_1 hgv htb e0
      · exact z_2 hgv htb e1
      · exact z_3 hgv htb e2
      · exact z_4 hgv htb
      · exact z_5 hgv htb e3
      · exact z_6 hgv htb e4
      · exact hz7
      · exact z_8 hgv htb
      · exact z_9 hgv htb
      · exact hz9
      · exact hzb
    · simp only [scL, List.mem_cons, List.not_mem_nil, or_false] at hq
      rcases hq with rfl | rfl | rfl | rfl | rfl | rfl | rfl | rfl | rfl | rfl | rfl | rfl | rfl | rfl | rfl | rfl
      · exact hSC 0 (by decide)
      · exact hSC 1 (by decide)
      · exact hSC 2 (by decide)
      · exact hSC 3 (by decide)
      · exact hSC 4 (by decide)
      · exact hSC 5 (by decide)
      · exact hSC 6 (by decide)
      · exact hSC 7 (by decide)
      · exact hSC 8 (by decide)
      · exact hSC 9 (by decide)
      · exact hSC 10 (by decide)
      · exact hSC 11 (by decide)
      · exact hSC 12 (by decide)
      · exact hSC 13 (by decide)
      · exact hSC 14 (by decide)
      · exact hSC 15 (by decide)
    · refine ⟨(Array.getElem?_eq_some_iff.mp u2).1, cl2, u2, u3, u4, u5, fun j hj => ?_⟩
      rw [hsa, saM_ca]
      exact (u6 j hj).1
    · exact htb _ q1559
    · simp only [jxZ, List.mem_cons, List.not_mem_nil, or_false] at hq
      rcases hq with rfl | rfl
      · exact (z_10 hgv htb).2
      · exact (z_11 hgv htb).2
  have E : ME p m c cL_law 7 s #[Value.ref b] RX0 D clW ct := ⟨⟨hx, hb, hml, hown, hts⟩, hKc, hJ⟩
  have hl := lv_entry ([.ref b]) (n := 7) (Nat.le_of_ble_eq_true rfl)
  rw [lg_entry_eq]
  generalize (lg_sl ([.ref b]) ++ List.replicate (7 - (lg_sl ([.ref b])).length) Slot.unset).toArray = ls at hl ⊢
  have hl : lv_has ls 7 [(0, .ref b)] := hl
  have hAP := hs_AP hSF
  have hU : YW D clW ckH ct 0 (fun _ => 0) (fun _ _ => none) (nA s.heap.size) (fun _ _ => 0) 0 (hStart D ct s.heap, s.heap.size, 0) (hStart D ct s.heap, s.heap.size, 0) s.heap := by
    refine ⟨⟨⟨⟨fun k q h => ?_, fun i j p q h => ?_, fun k q h => ?_⟩, hAP, fun a e i _ h => absurd h (Nat.not_lt_zero i), fun q _ => rfl, Nat.le_refl _, fun i h => absurd h (Nat.not_lt_zero i), fun a x h => ?_, fun a x h => (hs_lt h).2⟩, rfl, fun a x h => ?_, ?_, Nat.zero_le _⟩, Nat.le_refl _, Nat.le_refl _⟩
    · simp [uws] at h
    · simp [uws] at h
    · simp [uws] at h
    · have := (hs_lt h).1
      cases this
    · have := (hs_lt h).1
      cases this
    · show s.heap.size ≤ s.heap.size + 1200048
      omega
  have hZ : YC ct room_1 s (nA s.heap.size) (hStart D ct s.heap, s.heap.size, 0) := ⟨rfl, by show 1200048 = s.heap.size + 1200048 - s.heap.size; omega, rfl, fun q h => h⟩
  have h9 := law_all (e := e) (below := below) (D := D) (ct := ct) (ck := ckH) (b := b) (L := L) (xs := xs) hst E hr hlocks hX hbl rfl hZ hU va_S.rf hl () (hplain ct _ L xs hSTA hL)
  rw [Nat.sub_self, Nat.sub_self] at h9
  exact h9
