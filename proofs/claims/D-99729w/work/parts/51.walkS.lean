set_option maxRecDepth 100000
section HK
variable {ρ : Type} {p : Program} {l : Launch} {e : Env} {R : Room} {s : State} {m : MethodId} {args : Array Value} {below : List Frame} {meth : Method} {c : Code} {H : Heap} {locs : List Loc} {cells slots : Nat} {Qf : ρ → State → Prop}
variable {cc : ByteArray} {pc nL L M q0 : Nat} {ls : Array Slot} {rest : List Value}
variable {D : va_G} {ct : CT} {ck : Nat → UC} {N : Nat} {ad : Nat → Nat} {P : Nat → Nat → Option Nat} {A A0 : Nat → Prop} {S : US} {w : Int64} {h : AH} {H0 : Heap}
theorem kX1_N_bitCount {p1 : Int32} (E : ME p m c cc nL s args RX1 D clW ct) (hS : va_S A0 H0 H locs) (hA0 : ∀ q, H0.size ≤ q → A0 q) (hR : 1 + 1 ≤ R.frames ∧ 8 + (1 + 11) + 40 ≤ R.locals) (hsize : ls.size = nL) (hW : (rest.map fun v => v.category).sum ≤ 8) (hdg : decode cc pc = .ok (.invokestatic 255, 3)) (hf : cells ≤ R.cells ∧ slots ≤ R.slots) {kp : Int32 → Option ρ} (kk : ∀ (o : Int32) (H1 : Heap) (locs1 : List Loc), H.size ≤ H1.size → (∀ q : Nat, q < H.size → H1[q]? = H[q]?) → va_S A0 H0 H1 locs1 → X p l e R s m args below meth c H1 locs1 cells slots Qf (kp o) (F0 m (pc + 3) ls (.int o :: rest))) : X p l e R s m args below meth c H locs cells slots Qf (callK (sN_bitCount p1) kp) (F0 m pc ls (.int p1 :: rest)) := gc_pure (val' := fun (o : Int32) => some (.int o)) (len := 3) hS hA0 (fun o ho => rnS (As := [.int p1]) (B := fun _ => True) E trivial (mHN_bitCount l D ct p1 _ o ho) (va_cwS 1 E.1.2.2.2.2 (lw_S q1548 q491 q138 q492) rfl rfl rfl (by decide +kernel) hR) rfl hsize rfl hW hdg hf) kk
end HK

set_option maxHeartbeats 4000000 in
theorem mT1_found (l : Launch) (hst : l.stackTraces = false) (D : va_G) (ct : CT) (p1 : Int32) (sz : Nat) (k : Int32) (ho : t1_found p1 = some k) : vx_Met l yX1_found (ws_ yX1_found cX1_found 1 none) { frames := 6, cells := 1, slots := 6, locals := 100 } (mP D clW ct [.int p1] sz (PW ct)) nQ (tX k (nA sz)) 1 6 (nA sz) := by
  refine T.start ho (by decide) (Nat.le_of_ble_eq_true rfl) (lv := [(0, .int p1)]) rfl ?_
  intro p e s m args below meth c E hlk hxt hsz hU ls hl
  subst hsz
  obtain ⟨⟨hx, hb, hml, hown, hts⟩, hK, hJ⟩ := id E
  have hU0 : PW ct s.heap := hU
  have hA0 : ∀ q, s.heap.size ≤ q → (nA s.heap.size) q := fun q h => h
  have hS : va_S (nA s.heap.size) s.heap s.heap [] := va_S.rf
  unfold t1_found
  refine x_iload_n hx hb dX1_found_0 rfl (lv_at hl 0 rfl) ?_
  refine x_if_ne (tgt := 12) hx hb dX1_found_1 (by decide) (fun hc => ?_) (fun hc => ?_)
  · exact X.none
  · exact tx_throw (names := ["java/lang/RuntimeException", "java/lang/Exception"]) (cls := "java/util/NoSuchElementException") E hst hU0 hS hxt hlk hl.1 (by decide +kernel) (by decide +kernel) thE1 (thW1 hts hJ) thG1 (hts _ q1388) (hts _ q145) rfl rfl dX1_found_4 dX1_found_7 dX1_found_8 dX1_found_11 ⟨by decide, by decide⟩ ⟨Nat.le_refl _, Nat.le_refl _⟩ rfl
section TK
variable {p : Program} {l : Launch} {e : Env} {R : Room} {s : State} {m : MethodId} {args : Array Value} {below : List Frame} {meth : Method} {c : Code} {H : Heap} {locs : List Loc}
variable {cc : ByteArray} {pc nL : Nat} {ls : Array Slot}
variable {D : va_G} {ct : CT} {ad : Nat → Nat} {P : Nat → Nat → Option Nat} {A : Nat → Prop} {S : US} {h : AH}
theorem tk1_found {rest : List Value} {p1 : Int32} (E : ME p m c cc nL s args RX1 D clW ct) (hst : l.stackTraces = false) (hU : PW ct H) (hS : va_S (nA s.heap.size) s.heap H locs) (hxt : ∀ x ∈ c.exceptionTable.toList, False) (hlk : meth.locks = false) (hR : 6 + 1 ≤ R.frames ∧ 8 + (1 + 11) + 100 ≤ R.locals) (hsize : ls.size = nL) (hW : (rest.map fun v => v.category).sum ≤ 8) (hdg : decode cc pc = .ok (.invokestatic 148, 3)) (hRc : 1 ≤ R.cells ∧ 6 ≤ R.slots) : X p l e R s m args below meth c H locs 0 0 (tQ below args s (nA s.heap.size)) (t1_found p1) (F0 m pc ls (.int p1 :: rest)) := tx_end (A1 := nA H.size) hS (fun q hq => Nat.le_trans hS.1 hq) hxt hlk (fun k hk => rtS (As := [.int p1]) E hU (mT1_found l hst D ct p1 _ k hk) (va_cwS 1 E.1.2.2.2.2 (lw_S q1385 q1386 q113 q1387) rfl rfl rfl (by decide +kernel) hR) rfl hsize rfl hW hdg hRc)
end TK

set_option maxHeartbeats 4000000 in
theorem mT1_right (l : Launch) (hst : l.stackTraces = false) (D : va_G) (ct : CT) (p1 : Int32) (sz : Nat) (k : Int32) (ho : t1_right p1 = some k) : vx_Met l yX1_right (ws_ yX1_right cX1_right 1 none) { frames := 6, cells := 1, slots := 6, locals := 100 } (mP D clW ct [.int p1] sz (PW ct)) nQ (tX k (nA sz)) 1 6 (nA sz) := by
  refine T.start ho (by decide) (Nat.le_of_ble_eq_true rfl) (lv := [(0, .int p1)]) rfl ?_
  intro p e s m args below meth c E hlk hxt hsz hU ls hl
  subst hsz
  obtain ⟨⟨hx, hb, hml, hown, hts⟩, hK, hJ⟩ := id E
  have hU0 : PW ct s.heap := hU
  have hA0 : ∀ q, s.heap.size ≤ q → (nA s.heap.size) q := fun q h => h
  have hS : va_S (nA s.heap.size) s.heap s.heap [] := va_S.rf
  unfold t1_right
  refine x_iload_n hx hb dX1_right_0 rfl (lv_at hl 0 rfl) ?_
  refine x_if_ne (tgt := 12) hx hb dX1_right_1 (by decide) (fun hc => ?_) (fun hc => ?_)
  · exact X.none
  · exact tx_throw (names := ["java/lang/RuntimeException", "java/lang/Exception"]) (cls := "java/lang/IllegalArgumentException") E hst hU0 hS hxt hlk hl.1 (by decide +kernel) (by decide +kernel) thE2 (thW2 hts hJ) thG2 (hts _ q702) (hts _ q123) rfl rfl dX1_right_4 dX1_right_7 dX1_right_8 dX1_right_11 ⟨by decide, by decide⟩ ⟨Nat.le_refl _, Nat.le_refl _⟩ rfl
section TK
variable {p : Program} {l : Launch} {e : Env} {R : Room} {s : State} {m : MethodId} {args : Array Value} {below : List Frame} {meth : Method} {c : Code} {H : Heap} {locs : List Loc}
variable {cc : ByteArray} {pc nL : Nat} {ls : Array Slot}
variable {D : va_G} {ct : CT} {ad : Nat → Nat} {P : Nat → Nat → Option Nat} {A : Nat → Prop} {S : US} {h : AH}
theorem tk1_right {rest : List Value} {p1 : Int32} (E : ME p m c cc nL s args RX1 D clW ct) (hst : l.stackTraces = false) (hU : PW ct H) (hS : va_S (nA s.heap.size) s.heap H locs) (hxt : ∀ x ∈ c.exceptionTable.toList, False) (hlk : meth.locks = false) (hR : 6 + 1 ≤ R.frames ∧ 8 + (1 + 11) + 100 ≤ R.locals) (hsize : ls.size = nL) (hW : (rest.map fun v => v.category).sum ≤ 8) (hdg : decode cc pc = .ok (.invokestatic 74, 3)) (hRc : 1 ≤ R.cells ∧ 6 ≤ R.slots) : X p l e R s m args below meth c H locs 0 0 (tQ below args s (nA s.heap.size)) (t1_right p1) (F0 m pc ls (.int p1 :: rest)) := tx_end (A1 := nA H.size) hS (fun q hq => Nat.le_trans hS.1 hq) hxt hlk (fun k hk => rtS (As := [.int p1]) E hU (mT1_right l hst D ct p1 _ k hk) (va_cwS 1 E.1.2.2.2.2 (lw_S q699 q700 q113 q701) rfl rfl rfl (by decide +kernel) hR) rfl hsize rfl hW hdg hRc)
end TK

set_option maxHeartbeats 4000000 in
theorem mT1_oneOf (l : Launch) (hst : l.stackTraces = false) (D : va_G) (ct : CT) (p1 : Int32) (p2 : Int32) (sz : Nat) (k : Int32) (ho : t1_oneOf p1 p2 = some k) : vx_Met l yX1_oneOf (ws_ yX1_oneOf cX1_oneOf 2 none) { frames := 7, cells := 1, slots := 6, locals := 120 } (mP D clW ct [.int p1, .int p2] sz (PW ct)) nQ (tX k (nA sz)) 1 6 (nA sz) := by
  refine T.start ho (by decide) (Nat.le_of_ble_eq_true rfl) (lv := [(0, .int p1), (1, .int p2)]) rfl ?_
  intro p e s m args below meth c E hlk hxt hsz hU ls hl
  subst hsz
  obtain ⟨⟨hx, hb, hml, hown, hts⟩, hK, hJ⟩ := id E
  have hU0 : PW ct s.heap := hU
  have hA0 : ∀ q, s.heap.size ≤ q → (nA s.heap.size) q := fun q h => h
  have hS : va_S (nA s.heap.size) s.heap s.heap [] := va_S.rf
  unfold t1_oneOf
  refine x_iload_n hx hb dX1_oneOf_0 rfl (lv_at hl 0 rfl) ?_
  refine x_iconst (v := 0) hx hb dX1_oneOf_1 (by decide) ?_
  refine x_iload_n hx hb dX1_oneOf_2 rfl (lv_at hl 1 rfl) ?_
  refine kX1_1_in E hS hA0 ⟨by decide, by decide⟩ hl.1 (Nat.le_of_ble_eq_true rfl) dX1_oneOf_3 ⟨Nat.zero_le _, Nat.zero_le _⟩ (fun o1 H locs hz_ hk_ hS => ?_)
  replace hU := hU.kept hz_ hk_
  exact tk1_found E hst hU hS hxt hlk ⟨by decide, by decide⟩ hl.1 (Nat.le_of_ble_eq_true rfl) dX1_oneOf_6 ⟨Nat.le_refl _, Nat.le_refl _⟩
section TK
variable {p : Program} {l : Launch} {e : Env} {R : Room} {s : State} {m : MethodId} {args : Array Value} {below : List Frame} {meth : Method} {c : Code} {H : Heap} {locs : List Loc}
variable {cc : ByteArray} {pc nL : Nat} {ls : Array Slot}
variable {D : va_G} {ct : CT} {ad : Nat → Nat} {P : Nat → Nat → Option Nat} {A : Nat → Prop} {S : US} {h : AH}
theorem tk1_oneOf {rest : List Value} {p1 : Int32} {p2 : Int32} (E : ME p m c cc nL s args RX1 D clW ct) (hst : l.stackTraces = false) (hU : PW ct H) (hS : va_S (nA s.heap.size) s.heap H locs) (hxt : ∀ x ∈ c.exceptionTable.toList, False) (hlk : meth.locks = false) (hR : 7 + 1 ≤ R.frames ∧ 8 + (2 + 11) + 120 ≤ R.locals) (hsize : ls.size = nL) (hW : (rest.map fun v => v.category).sum ≤ 8) (hdg : decode cc pc = .ok (.invokestatic 173, 3)) (hRc : 1 ≤ R.cells ∧ 6 ≤ R.slots) : X p l e R s m args below meth c H locs 0 0 (tQ below args s (nA s.heap.size)) (t1_oneOf p1 p2) (F0 m pc ls (.int p2 :: .int p1 :: rest)) := tx_end (A1 := nA H.size) hS (fun q hq => Nat.le_trans hS.1 hq) hxt hlk (fun k hk => rtS (As := [.int p1, .int p2]) E hU (mT1_oneOf l hst D ct p1 p2 _ k hk) (va_cwS 2 E.1.2.2.2.2 (lw_S q1427 q1428 q113 q1429) rfl rfl rfl (by decide +kernel) hR) rfl hsize rfl hW hdg hRc)
end TK

set_option maxHeartbeats 4000000 in
theorem mT1_aStretch (l : Launch) (hst : l.stackTraces = false) (D : va_G) (ct : CT) (ad : Nat → Nat) (P : Nat → Nat → Option Nat) (S : US) (h : AH) (p1 : Int32) (sz : Nat) (k : Int32) (ho : t1_aStretch S ct P h p1 = some k) : vx_Met l yX1_aStretch (ws_ yX1_aStretch cX1_aStretch 2 none) { frames := 7, cells := 1, slots := 6, locals := 120 } (mP D clW ct [.ref (ad (0)), .int p1] sz (GH D ct ad P (fun _ => True) S h)) nQ (tX k (nA sz)) 1 6 (nA sz) := by
  refine T.start ho (by decide) (Nat.le_of_ble_eq_true rfl) (lv := [(0, .ref (ad (0))), (1, .int p1)]) rfl ?_
  intro p e s m args below meth c E hlk hxt hsz hU ls hl
  subst hsz
  obtain ⟨⟨hx, hb, hml, hown, hts⟩, hK, hJ⟩ := id E
  have hU0 : PW ct s.heap := hU.pw
  have hA0 : ∀ q, s.heap.size ≤ q → (nA s.heap.size) q := fun q h => h
  have hS : va_S (nA s.heap.size) s.heap s.heap [] := va_S.rf
  unfold t1_aStretch
  refine x_iload_n hx hb dX1_aStretch_0 rfl (lv_at hl 1 rfl) ?_
  refine x_iconst (v := 0) hx hb dX1_aStretch_1 (by decide) ?_
  refine x_aload_n hx hb dX1_aStretch_2 rfl (lv_at hl 0 rfl) ?_
  refine gX1_31 E hU dX1_aStretch_3 ?_
  refine gX1_115 E hU dX1_aStretch_6 ?_
  refine x_iconst (v := 1) hx hb dX1_aStretch_9 (by decide) ?_
  refine x_isub hx hb dX1_aStretch_10 ?_
  refine kX1_1_in E hS hA0 ⟨by decide, by decide⟩ hl.1 (Nat.le_of_ble_eq_true rfl) dX1_aStretch_11 ⟨Nat.zero_le _, Nat.zero_le _⟩ (fun o1 H locs hz_ hk_ hS => ?_)
  replace hU := hU.kept hz_ hk_
  exact tk1_found E hst hU.pw hS hxt hlk ⟨by decide, by decide⟩ hl.1 (Nat.le_of_ble_eq_true rfl) dX1_aStretch_14 ⟨Nat.le_refl _, Nat.le_refl _⟩
section TK
variable {p : Program} {l : Launch} {e : Env} {R : Room} {s : State} {m : MethodId} {args : Array Value} {below : List Frame} {meth : Method} {c : Code} {H : Heap} {locs : List Loc}
variable {cc : ByteArray} {pc nL : Nat} {ls : Array Slot}
variable {D : va_G} {ct : CT} {ad : Nat → Nat} {P : Nat → Nat → Option Nat} {A : Nat → Prop} {S : US} {h : AH}
theorem tk1_aStretch {rest : List Value} {p1 : Int32} (E : ME p m c cc nL s args RX1 D clW ct) (hst : l.stackTraces = false) (hU : GH D ct ad P A S h H) (hS : va_S (nA s.heap.size) s.heap H locs) (hxt : ∀ x ∈ c.exceptionTable.toList, False) (hlk : meth.locks = false) (hR : 7 + 1 ≤ R.frames ∧ 8 + (2 + 11) + 120 ≤ R.locals) (hsize : ls.size = nL) (hW : (rest.map fun v => v.category).sum ≤ 8) (hdg : decode cc pc = .ok (.invokevirtual 151, 3)) (hRc : 1 ≤ R.cells ∧ 6 ≤ R.slots) : X p l e R s m args below meth c H locs 0 0 (tQ below args s (nA s.heap.size)) (t1_aStretch S ct P h p1) (F0 m pc ls (.int p1 :: .ref (ad (0)) :: rest)) := tx_end (A1 := nA H.size) hS (fun q hq => Nat.le_trans hS.1 hq) hxt hlk (fun k hk => rtV (As := [.int p1]) E (hU.to fun _ _ => trivial) (recvU (i := 0) E.2.1 hU.1 (by decide) rfl rfl) (mT1_aStretch l hst D ct ad P S h p1 _ k hk) (cwV 1 E.1.2.2.2.2 (lw_V q1410 q1412 qs34 q113 q1413) rfl rfl rfl (by decide +kernel) hR) rfl hsize rfl hW hdg hRc)
end TK

set_option maxHeartbeats 4000000 in
theorem mT1_aWoman (l : Launch) (hst : l.stackTraces = false) (D : va_G) (ct : CT) (ad : Nat → Nat) (P : Nat → Nat → Option Nat) (S : US) (h : AH) (p1 : Int32) (sz : Nat) (k : Int32) (ho : t1_aWoman S ct P h p1 = some k) : vx_Met l yX1_aWoman (ws_ yX1_aWoman cX1_aWoman 2 none) { frames := 7, cells := 1, slots := 6, locals := 120 } (mP D clW ct [.ref (ad (0)), .int p1] sz (GH D ct ad P (fun _ => True) S h)) nQ (tX k (nA sz)) 1 6 (nA sz) := by
  refine T.start ho (by decide) (Nat.le_of_ble_eq_true rfl) (lv := [(0, .ref (ad (0))), (1, .int p1)]) rfl ?_
  intro p e s m args below meth c E hlk hxt hsz hU ls hl
  subst hsz
  obtain ⟨⟨hx, hb, hml, hown, hts⟩, hK, hJ⟩ := id E
  have hU0 : PW ct s.heap := hU.pw
  have hA0 : ∀ q, s.heap.size ≤ q → (nA s.heap.size) q := fun q h => h
  have hS : va_S (nA s.heap.size) s.heap s.heap [] := va_S.rf
  unfold t1_aWoman
  refine x_iload_n hx hb dX1_aWoman_0 rfl (lv_at hl 1 rfl) ?_
  refine x_iconst (v := 0) hx hb dX1_aWoman_1 (by decide) ?_
  refine x_aload_n hx hb dX1_aWoman_2 rfl (lv_at hl 0 rfl) ?_
  refine gX1_31 E hU dX1_aWoman_3 ?_
  refine kX1_2_women E hU hS hA0 ⟨by decide, by decide⟩ hl.1 (Nat.le_of_ble_eq_true rfl) dX1_aWoman_6 ⟨Nat.zero_le _, Nat.zero_le _⟩ (fun o1 H locs hU hS => ?_)
  refine x_iconst (v := 1) hx hb dX1_aWoman_9 (by decide) ?_
  refine x_isub hx hb dX1_aWoman_10 ?_
  refine kX1_1_in E hS hA0 ⟨by decide, by decide⟩ hl.1 (Nat.le_of_ble_eq_true rfl) dX1_aWoman_11 ⟨Nat.zero_le _, Nat.zero_le _⟩ (fun o2 H locs hz_ hk_ hS => ?_)
  replace hU := hU.kept hz_ hk_
  exact tk1_found E hst hU.pw hS hxt hlk ⟨by decide, by decide⟩ hl.1 (Nat.le_of_ble_eq_true rfl) dX1_aWoman_14 ⟨Nat.le_refl _, Nat.le_refl _⟩
section TK
variable {p : Program} {l : Launch} {e : Env} {R : Room} {s : State} {m : MethodId} {args : Array Value} {below : List Frame} {meth : Method} {c : Code} {H : Heap} {locs : List Loc}
variable {cc : ByteArray} {pc nL : Nat} {ls : Array Slot}
variable {D : va_G} {ct : CT} {ad : Nat → Nat} {P : Nat → Nat → Option Nat} {A : Nat → Prop} {S : US} {h : AH}
theorem tk1_aWoman {rest : List Value} {p1 : Int32} (E : ME p m c cc nL s args RX1 D clW ct) (hst : l.stackTraces = false) (hU : GH D ct ad P A S h H) (hS : va_S (nA s.heap.size) s.heap H locs) (hxt : ∀ x ∈ c.exceptionTable.toList, False) (hlk : meth.locks = false) (hR : 7 + 1 ≤ R.frames ∧ 8 + (2 + 11) + 120 ≤ R.locals) (hsize : ls.size = nL) (hW : (rest.map fun v => v.category).sum ≤ 8) (hdg : decode cc pc = .ok (.invokevirtual 170, 3)) (hRc : 1 ≤ R.cells ∧ 6 ≤ R.slots) : X p l e R s m args below meth c H locs 0 0 (tQ below args s (nA s.heap.size)) (t1_aWoman S ct P h p1) (F0 m pc ls (.int p1 :: .ref (ad (0)) :: rest)) := tx_end (A1 := nA H.size) hS (fun q hq => Nat.le_trans hS.1 hq) hxt hlk (fun k hk => rtV (As := [.int p1]) E (hU.to fun _ _ => trivial) (recvU (i := 0) E.2.1 hU.1 (by decide) rfl rfl) (mT1_aWoman l hst D ct ad P S h p1 _ k hk) (cwV 1 E.1.2.2.2.2 (lw_V q1423 q1425 qs35 q113 q1426) rfl rfl rfl (by decide +kernel) hR) rfl hsize rfl hW hdg hRc)
end TK

set_option maxHeartbeats 4000000 in
theorem mT1_count (l : Launch) (hst : l.stackTraces = false) (D : va_G) (ct : CT) (ad : Nat → Nat) (P : Nat → Nat → Option Nat) (S : US) (h : AH) (p1 : Int32) (sz : Nat) (k : Int32) (ho : t1_count S ct P h p1 = some k) : vx_Met l yX1_count (ws_ yX1_count cX1_count 2 (some .int)) { frames := 7, cells := 1, slots := 6, locals := 125 } (mP D clW ct [.ref (ad (0)), .int p1] sz (GH D ct ad P (fun _ => True) S h)) nQ (tX k (nA sz)) 1 6 (nA sz) := by
  refine T.start ho (by decide) (Nat.le_of_ble_eq_true rfl) (lv := [(0, .ref (ad (0))), (1, .int p1)]) rfl ?_
  intro p e s m args below meth c E hlk hxt hsz hU ls hl
  subst hsz
  obtain ⟨⟨hx, hb, hml, hown, hts⟩, hK, hJ⟩ := id E
  have hU0 : PW ct s.heap := hU.pw
  have hA0 : ∀ q, s.heap.size ≤ q → (nA s.heap.size) q := fun q h => h
  have hS : va_S (nA s.heap.size) s.heap s.heap [] := va_S.rf
  unfold t1_count
  refine x_iload_n hx hb dX1_count_0 rfl (lv_at hl 1 rfl) ?_
  refine X.ite (fun hc => ?_) (fun hc0 => ?_)
  · refine x_tabEq (tgt := 64) hx hb hc dX1_count_1 (by decide) (by decide) rfl (by decide) ?_
    exact X.none
  refine X.ite (fun hc => ?_) (fun hc1 => ?_)
  · refine x_tabEq (tgt := 72) hx hb hc dX1_count_1 (by decide) (by decide) rfl (by decide) ?_
    exact X.none
  refine X.ite (fun hc => ?_) (fun hc2 => ?_)
  · refine x_tabEq (tgt := 80) hx hb hc dX1_count_1 (by decide) (by decide) rfl (by decide) ?_
    exact X.none
  refine X.ite (fun hc => ?_) (fun hc3 => ?_)
  · refine x_tabEq (tgt := 93) hx hb hc dX1_count_1 (by decide) (by decide) rfl (by decide) ?_
    exact X.none
  refine X.ite (fun hc => ?_) (fun hc4 => ?_)
  · refine x_tabEq (tgt := 101) hx hb hc dX1_count_1 (by decide) (by decide) rfl (by decide) ?_
    exact X.none
  refine X.ite (fun hc => ?_) (fun hc5 => ?_)
  · refine x_tabEq (tgt := 109) hx hb hc dX1_count_1 (by decide) (by decide) rfl (by decide) ?_
    exact X.none
  refine X.ite (fun hc => ?_) (fun hc6 => ?_)
  · refine x_tabEq (tgt := 117) hx hb hc dX1_count_1 (by decide) (by decide) rfl (by decide) ?_
    exact X.none
  refine X.ite (fun hc => ?_) (fun hc7 => ?_)
  · refine x_tabEq (tgt := 125) hx hb hc dX1_count_1 (by decide) (by decide) rfl (by decide) ?_
    exact X.none
  refine X.ite (fun hc => ?_) (fun hc8 => ?_)
  · refine x_tabEq (tgt := 133) hx hb hc dX1_count_1 (by decide) (by decide) rfl (by decide) ?_
    exact X.none
  refine X.ite (fun hc => ?_) (fun hc9 => ?_)
  · refine x_tabEq (tgt := 138) hx hb hc dX1_count_1 (by decide) (by decide) rfl (by decide) ?_
    exact X.none
  refine X.ite (fun hc => ?_) (fun hc10 => ?_)
  · refine x_tabEq (tgt := 148) hx hb hc dX1_count_1 (by decide) (by decide) rfl (by decide) ?_
    exact X.none
  refine X.ite (fun hc => ?_) (fun hc11 => ?_)
  · refine x_tabEq (tgt := 158) hx hb hc dX1_count_1 (by decide) (by decide) rfl (by decide) ?_
    exact X.none
  refine x_tabElse2 (n := 12) (tgt := 163) hx hb dX1_count_1 [0, 1, 2, 3, 4, 5, 6, 7, 8, 9, 10, 11] (by decide) (by decide) (List.forall_mem_cons.mpr ⟨fun he => absurd (x_i32 he (0 : Int32) (by decide)) hc0, (List.forall_mem_cons.mpr ⟨fun he => absurd (x_i32 he (1 : Int32) (by decide)) hc1, (List.forall_mem_cons.mpr ⟨fun he => absurd (x_i32 he (2 : Int32) (by decide)) hc2, (List.forall_mem_cons.mpr ⟨fun he => absurd (x_i32 he (3 : Int32) (by decide)) hc3, (List.forall_mem_cons.mpr ⟨fun he => absurd (x_i32 he (4 : Int32) (by decide)) hc4, (List.forall_mem_cons.mpr ⟨fun he => absurd (x_i32 he (5 : Int32) (by decide)) hc5, (List.forall_mem_cons.mpr ⟨fun he => absurd (x_i32 he (6 : Int32) (by decide)) hc6, (List.forall_mem_cons.mpr ⟨fun he => absurd (x_i32 he (7 : Int32) (by decide)) hc7, (List.forall_mem_cons.mpr ⟨fun he => absurd (x_i32 he (8 : Int32) (by decide)) hc8, (List.forall_mem_cons.mpr ⟨fun he => absurd (x_i32 he (9 : Int32) (by decide)) hc9, (List.forall_mem_cons.mpr ⟨fun he => absurd (x_i32 he (10 : Int32) (by decide)) hc10, (List.forall_mem_cons.mpr ⟨fun he => absurd (x_i32 he (11 : Int32) (by decide)) hc11, (fun _ h => absurd h List.not_mem_nil)⟩)⟩)⟩)⟩)⟩)⟩)⟩)⟩)⟩)⟩)⟩)⟩) (by decide) ?_
  refine x_iload_n hx hb dX1_count_163 rfl (lv_at hl 1 rfl) ?_
  refine x_bipush (v := 12) hx hb dX1_count_164 (by decide) ?_
  refine x_bipush (v := 14) hx hb dX1_count_166 (by decide) ?_
  refine kX1_1_in E hS hA0 ⟨by decide, by decide⟩ hl.1 (Nat.le_of_ble_eq_true rfl) dX1_count_168 ⟨Nat.zero_le _, Nat.zero_le _⟩ (fun o1 H locs hz_ hk_ hS => ?_)
  replace hU := hU.kept hz_ hk_
  exact tk1_found E hst hU.pw hS hxt hlk ⟨by decide, by decide⟩ hl.1 (Nat.le_of_ble_eq_true rfl) dX1_count_171 ⟨Nat.le_refl _, Nat.le_refl _⟩

set_option maxHeartbeats 4000000 in
theorem mT1_stretch (l : Launch) (hst : l.stackTraces = false) (D : va_G) (ct : CT) (ad : Nat → Nat) (P : Nat → Nat → Option Nat) (S : US) (h : AH) (p1 : Int32) (p2 : Int32) (sz : Nat) (k : Int32) (ho : t1_stretch S ct P h p1 p2 = some k) : vx_Met l yX1_stretch (ws_ yX1_stretch cX1_stretch 3 (some .int)) { frames := 502, cells := 1, slots := 6, locals := 20044 } (mP D clW ct [.ref (ad (0)), .int p1, .int p2] sz (GH D ct ad P (fun _ => True) S h)) nQ (tX k (nA sz)) 1 6 (nA sz) := by
  refine T.start ho (by decide) (Nat.le_of_ble_eq_true rfl) (lv := [(0, .ref (ad (0))), (1, .int p1), (2, .int p2)]) rfl ?_
  intro p e s m args below meth c E hlk hxt hsz hU ls hl
  subst hsz
  obtain ⟨⟨hx, hb, hml, hown, hts⟩, hK, hJ⟩ := id E
  have hU0 : PW ct s.heap := hU.pw
  have hA0 : ∀ q, s.heap.size ≤ q → (nA s.heap.size) q := fun q h => h
  have hS : va_S (nA s.heap.size) s.heap s.heap [] := va_S.rf
  unfold t1_stretch
  refine x_aload_n hx hb dX1_stretch_0 rfl (lv_at hl 0 rfl) ?_
  refine x_iload_n hx hb dX1_stretch_1 rfl (lv_at hl 1 rfl) ?_
  refine X.tB (tk1_aStretch E hst hU hS hxt hlk ⟨by decide, by decide⟩ hl.1 (Nat.le_of_ble_eq_true rfl) dX1_stretch_2 ⟨Nat.le_refl _, Nat.le_refl _⟩) ?_
  refine kX1_1_aStretch E hU hS hA0 ⟨by decide, by decide⟩ hl.1 (Nat.le_of_ble_eq_true rfl) dX1_stretch_2 ⟨Nat.zero_le _, Nat.zero_le _⟩ (fun o1 H locs hU hS => ?_)
  refine x_iload_n hx hb dX1_stretch_5 rfl (lv_at hl 2 rfl) ?_
  refine X.ite (fun hc => ?_) (fun hc0 => ?_)
  · refine x_tabEq (tgt := 40) hx hb hc dX1_stretch_6 (by decide) (by decide) rfl (by decide) ?_
    exact X.none
  refine X.ite (fun hc => ?_) (fun hc1 => ?_)
  · refine x_tabEq (tgt := 50) hx hb hc dX1_stretch_6 (by decide) (by decide) rfl (by decide) ?_
    exact X.none
  refine X.ite (fun hc => ?_) (fun hc2 => ?_)
  · refine x_tabEq (tgt := 60) hx hb hc dX1_stretch_6 (by decide) (by decide) rfl (by decide) ?_
    exact X.none
  refine X.ite (fun hc => ?_) (fun hc3 => ?_)
  · refine x_tabEq (tgt := 70) hx hb hc dX1_stretch_6 (by decide) (by decide) rfl (by decide) ?_
    exact X.none
  refine X.ite (fun hc => ?_) (fun hc4 => ?_)
  · refine x_tabEq (tgt := 79) hx hb hc dX1_stretch_6 (by decide) (by decide) rfl (by decide) ?_
    exact X.none
  refine x_tabElse2 (n := 5) (tgt := 88) hx hb dX1_stretch_6 [0, 1, 2, 3, 4] (by decide) (by decide) (List.forall_mem_cons.mpr ⟨fun he => absurd (x_i32 he (0 : Int32) (by decide)) hc0, (List.forall_mem_cons.mpr ⟨fun he => absurd (x_i32 he (1 : Int32) (by decide)) hc1, (List.forall_mem_cons.mpr ⟨fun he => absurd (x_i32 he (2 : Int32) (by decide)) hc2, (List.forall_mem_cons.mpr ⟨fun he => absurd (x_i32 he (3 : Int32) (by decide)) hc3, (List.forall_mem_cons.mpr ⟨fun he => absurd (x_i32 he (4 : Int32) (by decide)) hc4, (fun _ h => absurd h List.not_mem_nil)⟩)⟩)⟩)⟩)⟩) (by decide) ?_
  refine x_iload_n hx hb dX1_stretch_88 rfl (lv_at hl 2 rfl) ?_
  refine x_iconst (v := 5) hx hb dX1_stretch_89 (by decide) ?_
  refine x_icmp_ne (tgt := 97) hx hb dX1_stretch_90 (by decide) (fun hc => ?_) (fun hc => ?_)
  · refine x_iconst (v := 0) hx hb dX1_stretch_97 (by decide) ?_
    exact tk1_found E hst hU.pw hS hxt hlk ⟨by decide, by decide⟩ hl.1 (Nat.le_of_ble_eq_true rfl) dX1_stretch_98 ⟨Nat.le_refl _, Nat.le_refl _⟩
  · refine x_iconst (v := 1) hx hb dX1_stretch_93 (by decide) ?_
    refine x_goto (tgt := 98) hx hb dX1_stretch_94 (by decide) ?_
    exact tk1_found E hst hU.pw hS hxt hlk ⟨by decide, by decide⟩ hl.1 (Nat.le_of_ble_eq_true rfl) dX1_stretch_98 ⟨Nat.le_refl _, Nat.le_refl _⟩

set_option maxHeartbeats 4000000 in
theorem mT1_woman (l : Launch) (hst : l.stackTraces = false) (D : va_G) (ct : CT) (ad : Nat → Nat) (P : Nat → Nat → Option Nat) (S : US) (h : AH) (p1 : Int32) (p2 : Int32) (sz : Nat) (k : Int32) (ho : t1_woman S ct P h p1 p2 = some k) : vx_Met l yX1_woman (ws_ yX1_woman cX1_woman 3 (some .int)) { frames := 8, cells := 1, slots := 6, locals := 141 } (mP D clW ct [.ref (ad (0)), .int p1, .int p2] sz (GH D ct ad P (fun _ => True) S h)) nQ (tX k (nA sz)) 1 6 (nA sz) := by
  refine T.start ho (by decide) (Nat.le_of_ble_eq_true rfl) (lv := [(0, .ref (ad (0))), (1, .int p1), (2, .int p2)]) rfl ?_
  intro p e s m args below meth c E hlk hxt hsz hU ls hl
  subst hsz
  obtain ⟨⟨hx, hb, hml, hown, hts⟩, hK, hJ⟩ := id E
  have hU0 : PW ct s.heap := hU.pw
  have hA0 : ∀ q, s.heap.size ≤ q → (nA s.heap.size) q := fun q h => h
  have hS : va_S (nA s.heap.size) s.heap s.heap [] := va_S.rf
  unfold t1_woman
  refine x_aload_n hx hb dX1_woman_0 rfl (lv_at hl 0 rfl) ?_
  refine x_iload_n hx hb dX1_woman_1 rfl (lv_at hl 1 rfl) ?_
  refine X.tB (tk1_aWoman E hst hU hS hxt hlk ⟨by decide, by decide⟩ hl.1 (Nat.le_of_ble_eq_true rfl) dX1_woman_2 ⟨Nat.le_refl _, Nat.le_refl _⟩) ?_
  refine kX1_1_aWoman E hU hS hA0 ⟨by decide, by decide⟩ hl.1 (Nat.le_of_ble_eq_true rfl) dX1_woman_2 ⟨Nat.zero_le _, Nat.zero_le _⟩ (fun o1 H locs hU hS => ?_)
  refine x_iload_n hx hb dX1_woman_5 rfl (lv_at hl 2 rfl) ?_
  refine x_iconst (v := 2) hx hb dX1_woman_6 (by decide) ?_
  exact tk1_oneOf E hst hU.pw hS hxt hlk ⟨by decide, by decide⟩ hl.1 (Nat.le_of_ble_eq_true rfl) dX1_woman_7 ⟨Nat.le_refl _, Nat.le_refl _⟩

set_option maxHeartbeats 4000000 in
theorem mT1_mend (l : Launch) (hst : l.stackTraces = false) (D : va_G) (ct : CT) (ad : Nat → Nat) (P : Nat → Nat → Option Nat) (S : US) (h : AH) (p1 : Int32) (sz : Nat) (k : Int32) (ho : t1_mend S ct P h p1 = some k) : vx_Met l yX1_mend (ws_ yX1_mend cX1_mend 2 (some .int)) { frames := 8, cells := 1, slots := 6, locals := 141 } (mP D clW ct [.ref (ad (0)), .int p1] sz (GH D ct ad P (fun _ => True) S h)) nQ (tX k (nA sz)) 1 6 (nA sz) := by
  refine T.start ho (by decide) (Nat.le_of_ble_eq_true rfl) (lv := [(0, .ref (ad (0))), (1, .int p1)]) rfl ?_
  intro p e s m args below meth c E hlk hxt hsz hU ls hl
  subst hsz
  obtain ⟨⟨hx, hb, hml, hown, hts⟩, hK, hJ⟩ := id E
  have hU0 : PW ct s.heap := hU.pw
  have hA0 : ∀ q, s.heap.size ≤ q → (nA s.heap.size) q := fun q h => h
  have hS : va_S (nA s.heap.size) s.heap s.heap [] := va_S.rf
  unfold t1_mend
  refine x_aload_n hx hb dX1_mend_0 rfl (lv_at hl 0 rfl) ?_
  refine x_iload_n hx hb dX1_mend_1 rfl (lv_at hl 1 rfl) ?_
  exact tk1_aWoman E hst hU hS hxt hlk ⟨by decide, by decide⟩ hl.1 (Nat.le_of_ble_eq_true rfl) dX1_mend_2 ⟨Nat.le_refl _, Nat.le_refl _⟩

set_option maxHeartbeats 4000000 in
theorem mT1_go (l : Launch) (hst : l.stackTraces = false) (D : va_G) (ct : CT) (ad : Nat → Nat) (P : Nat → Nat → Option Nat) (S : US) (h : AH) (p1 : Int32) (p2 : Int32) (sz : Nat) (k : Int32) (ho : t1_go S ct P h p1 p2 = some k) : vx_Met l yX1_go (ws_ yX1_go cX1_go 4 (some .int)) { frames := 8, cells := 1, slots := 6, locals := 141 } (mP D clW ct [.ref (ad (0)), .int p1, .int p2] sz (GH D ct ad P (fun _ => True) S h)) nQ (tX k (nA sz)) 1 6 (nA sz) := by
  refine T.start ho (by decide) (Nat.le_of_ble_eq_true rfl) (lv := [(0, .ref (ad (0))), (1, .int p1), (2, .int p2)]) rfl ?_
  intro p e s m args below meth c E hlk hxt hsz hU ls hl
  subst hsz
  obtain ⟨⟨hx, hb, hml, hown, hts⟩, hK, hJ⟩ := id E
  have hU0 : PW ct s.heap := hU.pw
  have hA0 : ∀ q, s.heap.size ≤ q → (nA s.heap.size) q := fun q h => h
  have hS : va_S (nA s.heap.size) s.heap s.heap [] := va_S.rf
  unfold t1_go
  refine x_aload_n hx hb dX1_go_0 rfl (lv_at hl 0 rfl) ?_
  refine x_iload_n hx hb dX1_go_1 rfl (lv_at hl 1 rfl) ?_
  refine X.tB (tk1_aWoman E hst hU hS hxt hlk ⟨by decide, by decide⟩ hl.1 (Nat.le_of_ble_eq_true rfl) dX1_go_2 ⟨Nat.le_refl _, Nat.le_refl _⟩) ?_
  refine kX1_1_aWoman E hU hS hA0 ⟨by decide, by decide⟩ hl.1 (Nat.le_of_ble_eq_true rfl) dX1_go_2 ⟨Nat.zero_le _, Nat.zero_le _⟩ (fun o1 H locs hU hS => ?_)
  refine x_aload_n hx hb dX1_go_5 rfl (lv_at hl 0 rfl) ?_
  refine x_iload_n hx hb dX1_go_6 rfl (lv_at hl 2 rfl) ?_
  exact tk1_aStretch E hst hU hS hxt hlk ⟨by decide, by decide⟩ hl.1 (Nat.le_of_ble_eq_true rfl) dX1_go_7 ⟨Nat.le_refl _, Nat.le_refl _⟩

set_option maxHeartbeats 4000000 in
theorem mT1_stitch (l : Launch) (hst : l.stackTraces = false) (D : va_G) (ct : CT) (ad : Nat → Nat) (P : Nat → Nat → Option Nat) (S : US) (h : AH) (p1 : Int32) (p2 : Int32) (sz : Nat) (k : Int32) (ho : t1_stitch S ct P h p1 p2 = some k) : vx_Met l yX1_stitch (ws_ yX1_stitch cX1_stitch 4 (some .int)) { frames := 8, cells := 1, slots := 6, locals := 141 } (mP D clW ct [.ref (ad (0)), .int p1, .int p2] sz (GH D ct ad P (fun _ => True) S h)) nQ (tX k (nA sz)) 1 6 (nA sz) := by
  refine T.start ho (by decide) (Nat.le_of_ble_eq_true rfl) (lv := [(0, .ref (ad (0))), (1, .int p1), (2, .int p2)]) rfl ?_
  intro p e s m args below meth c E hlk hxt hsz hU ls hl
  subst hsz
  obtain ⟨⟨hx, hb, hml, hown, hts⟩, hK, hJ⟩ := id E
  have hU0 : PW ct s.heap := hU.pw
  have hA0 : ∀ q, s.heap.size ≤ q → (nA s.heap.size) q := fun q h => h
  have hS : va_S (nA s.heap.size) s.heap s.heap [] := va_S.rf
  unfold t1_stitch
  refine x_aload_n hx hb dX1_stitch_0 rfl (lv_at hl 0 rfl) ?_
  refine x_iload_n hx hb dX1_stitch_1 rfl (lv_at hl 1 rfl) ?_
  exact tk1_aStretch E hst hU hS hxt hlk ⟨by decide, by decide⟩ hl.1 (Nat.le_of_ble_eq_true rfl) dX1_stitch_2 ⟨Nat.le_refl _, Nat.le_refl _⟩

set_option maxHeartbeats 4000000 in
theorem mT1_thread (l : Launch) (hst : l.stackTraces = false) (D : va_G) (ct : CT) (ad : Nat → Nat) (P : Nat → Nat → Option Nat) (S : US) (h : AH) (p1 : Int32) (p2 : Int32) (sz : Nat) (k : Int32) (ho : t1_thread S ct P h p1 p2 = some k) : vx_Met l yX1_thread (ws_ yX1_thread cX1_thread 3 (some .int)) { frames := 8, cells := 1, slots := 6, locals := 141 } (mP D clW ct [.ref (ad (0)), .int p1, .int p2] sz (GH D ct ad P (fun _ => True) S h)) nQ (tX k (nA sz)) 1 6 (nA sz) := by
  refine T.start ho (by decide) (Nat.le_of_ble_eq_true rfl) (lv := [(0, .ref (ad (0))), (1, .int p1), (2, .int p2)]) rfl ?_
  intro p e s m args below meth c E hlk hxt hsz hU ls hl
  subst hsz
  obtain ⟨⟨hx, hb, hml, hown, hts⟩, hK, hJ⟩ := id E
  have hU0 : PW ct s.heap := hU.pw
  have hA0 : ∀ q, s.heap.size ≤ q → (nA s.heap.size) q := fun q h => h
  have hS : va_S (nA s.heap.size) s.heap s.heap [] := va_S.rf
  unfold t1_thread
  refine x_aload_n hx hb dX1_thread_0 rfl (lv_at hl 0 rfl) ?_
  refine x_iload_n hx hb dX1_thread_1 rfl (lv_at hl 1 rfl) ?_
  exact tk1_aWoman E hst hU hS hxt hlk ⟨by decide, by decide⟩ hl.1 (Nat.le_of_ble_eq_true rfl) dX1_thread_2 ⟨Nat.le_refl _, Nat.le_refl _⟩

set_option maxHeartbeats 4000000 in
theorem mT1_tear (l : Launch) (hst : l.stackTraces = false) (D : va_G) (ct : CT) (ad : Nat → Nat) (P : Nat → Nat → Option Nat) (S : US) (h : AH) (p1 : Int32) (p2 : Int32) (sz : Nat) (k : Int32) (ho : t1_tear S ct P h p1 p2 = some k) : vx_Met l yX1_tear (ws_ yX1_tear cX1_tear 3 (some .int)) { frames := 8, cells := 1, slots := 6, locals := 141 } (mP D clW ct [.ref (ad (0)), .int p1, .int p2] sz (GH D ct ad P (fun _ => True) S h)) nQ (tX k (nA sz)) 1 6 (nA sz) := by
  refine T.start ho (by decide) (Nat.le_of_ble_eq_true rfl) (lv := [(0, .ref (ad (0))), (1, .int p1), (2, .int p2)]) rfl ?_
  intro p e s m args below meth c E hlk hxt hsz hU ls hl
  subst hsz
  obtain ⟨⟨hx, hb, hml, hown, hts⟩, hK, hJ⟩ := id E
  have hU0 : PW ct s.heap := hU.pw
  have hA0 : ∀ q, s.heap.size ≤ q → (nA s.heap.size) q := fun q h => h
  have hS : va_S (nA s.heap.size) s.heap s.heap [] := va_S.rf
  unfold t1_tear
  refine x_aload_n hx hb dX1_tear_0 rfl (lv_at hl 0 rfl) ?_
  refine x_iload_n hx hb dX1_tear_1 rfl (lv_at hl 1 rfl) ?_
  exact tk1_aStretch E hst hU hS hxt hlk ⟨by decide, by decide⟩ hl.1 (Nat.le_of_ble_eq_true rfl) dX1_tear_2 ⟨Nat.le_refl _, Nat.le_refl _⟩

set_option maxHeartbeats 4000000 in
theorem mT1_then (l : Launch) (hst : l.stackTraces = false) (D : va_G) (ct : CT) (ad : Nat → Nat) (P : Nat → Nat → Option Nat) (S : US) (h : AH) (p1 : Int32) (p2 : Int32) (p3 : Int32) (sz : Nat) (k : Int32) (ho : t1_then S ct P h p1 p2 p3 = some k) : vx_Met l yX1_then (ws_ yX1_then cX1_then 4 (some .int)) { frames := 505, cells := 1, slots := 6, locals := 20108 } (mP D clW ct [.ref (ad (0)), .int p1, .int p2, .int p3] sz (GH D ct ad P (fun _ => True) S h)) nQ (tX k (nA sz)) 1 6 (nA sz) := by
  refine T.start ho (by decide) (Nat.le_of_ble_eq_true rfl) (lv := [(0, .ref (ad (0))), (1, .int p1), (2, .int p2), (3, .int p3)]) rfl ?_
  intro p e s m args below meth c E hlk hxt hsz hU ls hl
  subst hsz
  obtain ⟨⟨hx, hb, hml, hown, hts⟩, hK, hJ⟩ := id E
  have hU0 : PW ct s.heap := hU.pw
  have hA0 : ∀ q, s.heap.size ≤ q → (nA s.heap.size) q := fun q h => h
  have hS : va_S (nA s.heap.size) s.heap s.heap [] := va_S.rf
  unfold t1_then
  refine x_aload_n hx hb dX1_then_0 rfl (lv_at hl 0 rfl) ?_
  refine x_iload_n hx hb dX1_then_1 rfl (lv_at hl 1 rfl) ?_
  refine X.tB (tk1_aStretch E hst hU hS hxt hlk ⟨by decide, by decide⟩ hl.1 (Nat.le_of_ble_eq_true rfl) dX1_then_2 ⟨Nat.le_refl _, Nat.le_refl _⟩) ?_
  refine kX1_1_aStretch E hU hS hA0 ⟨by decide, by decide⟩ hl.1 (Nat.le_of_ble_eq_true rfl) dX1_then_2 ⟨Nat.zero_le _, Nat.zero_le _⟩ (fun o1 H locs hU hS => ?_)
  refine x_iload_n hx hb dX1_then_5 rfl (lv_at hl 3 rfl) ?_
  refine x_iconst (v := 1) hx hb dX1_then_6 (by decide) ?_
  refine X.tB (tk1_oneOf E hst hU.pw hS hxt hlk ⟨by decide, by decide⟩ hl.1 (Nat.le_of_ble_eq_true rfl) dX1_then_7 ⟨Nat.le_refl _, Nat.le_refl _⟩) ?_
  refine kX1_1_oneOf E hS hA0 ⟨by decide, by decide⟩ hl.1 (Nat.le_of_ble_eq_true rfl) dX1_then_7 ⟨Nat.zero_le _, Nat.zero_le _⟩ (fun o2 H locs hz_ hk_ hS => ?_)
  replace hU := hU.kept hz_ hk_
  refine x_iload_n hx hb dX1_then_10 rfl (lv_at hl 2 rfl) ?_
  refine x_iconst (v := 0) hx hb dX1_then_11 (by decide) ?_
  refine x_bipush (v := 60) hx hb dX1_then_12 (by decide) ?_
  refine kX1_1_in E hS hA0 ⟨by decide, by decide⟩ hl.1 (Nat.le_of_ble_eq_true rfl) dX1_then_14 ⟨Nat.zero_le _, Nat.zero_le _⟩ (fun o3 H locs hz_ hk_ hS => ?_)
  replace hU := hU.kept hz_ hk_
  exact tk1_right E hst hU.pw hS hxt hlk ⟨by decide, by decide⟩ hl.1 (Nat.le_of_ble_eq_true rfl) dX1_then_17 ⟨Nat.le_refl _, Nat.le_refl _⟩

set_option maxHeartbeats 4000000 in
theorem mT1_later (l : Launch) (hst : l.stackTraces = false) (D : va_G) (ct : CT) (ad : Nat → Nat) (P : Nat → Nat → Option Nat) (S : US) (h : AH) (p1 : Int32) (p2 : Int32) (sz : Nat) (k : Int32) (ho : t1_later S ct P h p1 p2 = some k) : vx_Met l yX1_later (ws_ yX1_later cX1_later 3 (some .int)) { frames := 505, cells := 1, slots := 6, locals := 20108 } (mP D clW ct [.ref (ad (0)), .int p1, .int p2] sz (GH D ct ad P (fun _ => True) S h)) nQ (tX k (nA sz)) 1 6 (nA sz) := by
  refine T.start ho (by decide) (Nat.le_of_ble_eq_true rfl) (lv := [(0, .ref (ad (0))), (1, .int p1), (2, .int p2)]) rfl ?_
  intro p e s m args below meth c E hlk hxt hsz hU ls hl
  subst hsz
  obtain ⟨⟨hx, hb, hml, hown, hts⟩, hK, hJ⟩ := id E
  have hU0 : PW ct s.heap := hU.pw
  have hA0 : ∀ q, s.heap.size ≤ q → (nA s.heap.size) q := fun q h => h
  have hS : va_S (nA s.heap.size) s.heap s.heap [] := va_S.rf
  unfold t1_later
  refine x_iload_n hx hb dX1_later_0 rfl (lv_at hl 2 rfl) ?_
  refine x_iconst (v := 3) hx hb dX1_later_1 (by decide) ?_
  refine X.tB (tk1_oneOf E hst hU.pw hS hxt hlk ⟨by decide, by decide⟩ hl.1 (Nat.le_of_ble_eq_true rfl) dX1_later_2 ⟨Nat.le_refl _, Nat.le_refl _⟩) ?_
  refine kX1_1_oneOf E hS hA0 ⟨by decide, by decide⟩ hl.1 (Nat.le_of_ble_eq_true rfl) dX1_later_2 ⟨Nat.zero_le _, Nat.zero_le _⟩ (fun o1 H locs hz_ hk_ hS => ?_)
  replace hU := hU.kept hz_ hk_
  refine x_iload_n hx hb dX1_later_5 rfl (lv_at hl 1 rfl) ?_
  refine x_iconst (v := 0) hx hb dX1_later_6 (by decide) ?_
  refine x_bipush (v := 60) hx hb dX1_later_7 (by decide) ?_
  refine kX1_1_in E hS hA0 ⟨by decide, by decide⟩ hl.1 (Nat.le_of_ble_eq_true rfl) dX1_later_9 ⟨Nat.zero_le _, Nat.zero_le _⟩ (fun o2 H locs hz_ hk_ hS => ?_)
  replace hU := hU.kept hz_ hk_
  exact tk1_right E hst hU.pw hS hxt hlk ⟨by decide, by decide⟩ hl.1 (Nat.le_of_ble_eq_true rfl) dX1_later_12 ⟨Nat.le_refl _, Nat.le_refl _⟩

set_option maxHeartbeats 4000000 in
theorem mT1_opens (l : Launch) (hst : l.stackTraces = false) (D : va_G) (ct : CT) (ad : Nat → Nat) (P : Nat → Nat → Option Nat) (S : US) (h : AH) (p1 : Int32) (sz : Nat) (k : Int32) (ho : t1_opens S ct P h p1 = some k) : vx_Met l yX1_opens (ws_ yX1_opens cX1_opens 2 (some .int)) { frames := 504, cells := 1, slots := 6, locals := 20087 } (mP D clW ct [.ref (ad (0)), .int p1] sz (GH D ct ad P (fun _ => True) S h)) nQ (tX k (nA sz)) 1 6 (nA sz) := by
  refine T.start ho (by decide) (Nat.le_of_ble_eq_true rfl) (lv := [(0, .ref (ad (0))), (1, .int p1)]) rfl ?_
  intro p e s m args below meth c E hlk hxt hsz hU ls hl
  subst hsz
  obtain ⟨⟨hx, hb, hml, hown, hts⟩, hK, hJ⟩ := id E
  have hU0 : PW ct s.heap := hU.pw
  have hA0 : ∀ q, s.heap.size ≤ q → (nA s.heap.size) q := fun q h => h
  have hS : va_S (nA s.heap.size) s.heap s.heap [] := va_S.rf
  unfold t1_opens
  refine x_aload_n hx hb dX1_opens_0 rfl (lv_at hl 0 rfl) ?_
  refine x_iload_n hx hb dX1_opens_1 rfl (lv_at hl 1 rfl) ?_
  exact tk1_aStretch E hst hU hS hxt hlk ⟨by decide, by decide⟩ hl.1 (Nat.le_of_ble_eq_true rfl) dX1_opens_2 ⟨Nat.le_refl _, Nat.le_refl _⟩

set_option maxHeartbeats 4000000 in
theorem mT1_where (l : Launch) (hst : l.stackTraces = false) (D : va_G) (ct : CT) (ad : Nat → Nat) (P : Nat → Nat → Option Nat) (S : US) (h : AH) (p1 : Int32) (p2 : Int32) (p3 : Int32) (sz : Nat) (k : Int32) (ho : t1_where S ct P h p1 p2 p3 = some k) : vx_Met l yX1_where (ws_ yX1_where cX1_where 4 (some .int)) { frames := 505, cells := 1, slots := 6, locals := 20108 } (mP D clW ct [.ref (ad (0)), .int p1, .int p2, .int p3] sz (GH D ct ad P (fun _ => True) S h)) nQ (tX k (nA sz)) 1 6 (nA sz) := by
  refine T.start ho (by decide) (Nat.le_of_ble_eq_true rfl) (lv := [(0, .ref (ad (0))), (1, .int p1), (2, .int p2), (3, .int p3)]) rfl ?_
  intro p e s m args below meth c E hlk hxt hsz hU ls hl
  subst hsz
  obtain ⟨⟨hx, hb, hml, hown, hts⟩, hK, hJ⟩ := id E
  have hU0 : PW ct s.heap := hU.pw
  have hA0 : ∀ q, s.heap.size ≤ q → (nA s.heap.size) q := fun q h => h
  have hS : va_S (nA s.heap.size) s.heap s.heap [] := va_S.rf
  unfold t1_where
  refine x_aload_n hx hb dX1_where_0 rfl (lv_at hl 0 rfl) ?_
  refine x_iload_n hx hb dX1_where_1 rfl (lv_at hl 1 rfl) ?_
  refine X.tB (tk1_aWoman E hst hU hS hxt hlk ⟨by decide, by decide⟩ hl.1 (Nat.le_of_ble_eq_true rfl) dX1_where_2 ⟨Nat.le_refl _, Nat.le_refl _⟩) ?_
  refine kX1_1_aWoman E hU hS hA0 ⟨by decide, by decide⟩ hl.1 (Nat.le_of_ble_eq_true rfl) dX1_where_2 ⟨Nat.zero_le _, Nat.zero_le _⟩ (fun o1 H locs hU hS => ?_)
  refine x_iload_n hx hb dX1_where_5 rfl (lv_at hl 3 rfl) ?_
  refine x_iconst (v := 1) hx hb dX1_where_6 (by decide) ?_
  refine X.tB (tk1_oneOf E hst hU.pw hS hxt hlk ⟨by decide, by decide⟩ hl.1 (Nat.le_of_ble_eq_true rfl) dX1_where_7 ⟨Nat.le_refl _, Nat.le_refl _⟩) ?_
  refine kX1_1_oneOf E hS hA0 ⟨by decide, by decide⟩ hl.1 (Nat.le_of_ble_eq_true rfl) dX1_where_7 ⟨Nat.zero_le _, Nat.zero_le _⟩ (fun o2 H locs hz_ hk_ hS => ?_)
  replace hU := hU.kept hz_ hk_
  refine x_iload_n hx hb dX1_where_10 rfl (lv_at hl 2 rfl) ?_
  refine x_iconst (v := 0) hx hb dX1_where_11 (by decide) ?_
  refine x_bipush (v := 60) hx hb dX1_where_12 (by decide) ?_
  refine kX1_1_in E hS hA0 ⟨by decide, by decide⟩ hl.1 (Nat.le_of_ble_eq_true rfl) dX1_where_14 ⟨Nat.zero_le _, Nat.zero_le _⟩ (fun o3 H locs hz_ hk_ hS => ?_)
  replace hU := hU.kept hz_ hk_
  exact tk1_right E hst hU.pw hS hxt hlk ⟨by decide, by decide⟩ hl.1 (Nat.le_of_ble_eq_true rfl) dX1_where_17 ⟨Nat.le_refl _, Nat.le_refl _⟩

set_option maxHeartbeats 4000000 in
theorem mT1_toHold (l : Launch) (hst : l.stackTraces = false) (D : va_G) (ct : CT) (ad : Nat → Nat) (P : Nat → Nat → Option Nat) (S : US) (h : AH) (p1 : Int32) (p2 : Int32) (sz : Nat) (k : Int32) (ho : t1_toHold S ct P h p1 p2 = some k) : vx_Met l yX1_toHold (ws_ yX1_toHold cX1_toHold 4 (some .int)) { frames := 504, cells := 1, slots := 6, locals := 20088 } (mP D clW ct [.ref (ad (0)), .int p1, .int p2] sz (GH D ct ad P (fun _ => True) S h)) nQ (tX k (nA sz)) 1 6 (nA sz) := by
  refine T.start ho (by decide) (Nat.le_of_ble_eq_true rfl) (lv := [(0, .ref (ad (0))), (1, .int p1), (2, .int p2)]) rfl ?_
  intro p e s m args below meth c E hlk hxt hsz hU ls hl
  subst hsz
  obtain ⟨⟨hx, hb, hml, hown, hts⟩, hK, hJ⟩ := id E
  have hU0 : PW ct s.heap := hU.pw
  have hA0 : ∀ q, s.heap.size ≤ q → (nA s.heap.size) q := fun q h => h
  have hS : va_S (nA s.heap.size) s.heap s.heap [] := va_S.rf
  unfold t1_toHold
  refine x_aload_n hx hb dX1_toHold_0 rfl (lv_at hl 0 rfl) ?_
  refine x_iload_n hx hb dX1_toHold_1 rfl (lv_at hl 1 rfl) ?_
  refine X.tB (tk1_aStretch E hst hU hS hxt hlk ⟨by decide, by decide⟩ hl.1 (Nat.le_of_ble_eq_true rfl) dX1_toHold_2 ⟨Nat.le_refl _, Nat.le_refl _⟩) ?_
  refine kX1_1_aStretch E hU hS hA0 ⟨by decide, by decide⟩ hl.1 (Nat.le_of_ble_eq_true rfl) dX1_toHold_2 ⟨Nat.zero_le _, Nat.zero_le _⟩ (fun o1 H locs hU hS => ?_)
  refine x_iload_n hx hb dX1_toHold_5 rfl (lv_at hl 2 rfl) ?_
  refine x_iconst (v := 1) hx hb dX1_toHold_6 (by decide) ?_
  refine x_bipush (v := 60) hx hb dX1_toHold_7 (by decide) ?_
  refine kX1_1_in E hS hA0 ⟨by decide, by decide⟩ hl.1 (Nat.le_of_ble_eq_true rfl) dX1_toHold_9 ⟨Nat.zero_le _, Nat.zero_le _⟩ (fun o2 H locs hz_ hk_ hS => ?_)
  replace hU := hU.kept hz_ hk_
  exact tk1_right E hst hU.pw hS hxt hlk ⟨by decide, by decide⟩ hl.1 (Nat.le_of_ble_eq_true rfl) dX1_toHold_12 ⟨Nat.le_refl _, Nat.le_refl _⟩

set_option maxHeartbeats 4000000 in
theorem mT1_toSend (l : Launch) (hst : l.stackTraces = false) (D : va_G) (ct : CT) (ad : Nat → Nat) (P : Nat → Nat → Option Nat) (S : US) (h : AH) (p1 : Int32) (p2 : Int32) (p3 : Int32) (sz : Nat) (k : Int32) (ho : t1_toSend S ct P h p1 p2 p3 = some k) : vx_Met l yX1_toSend (ws_ yX1_toSend cX1_toSend 8 (some .int)) { frames := 504, cells := 1, slots := 6, locals := 20087 } (mP D clW ct [.ref (ad (0)), .int p1, .int p2, .int p3] sz (GH D ct ad P (fun _ => True) S h)) nQ (tX k (nA sz)) 1 6 (nA sz) := by
  refine T.start ho (by decide) (Nat.le_of_ble_eq_true rfl) (lv := [(0, .ref (ad (0))), (1, .int p1), (2, .int p2), (3, .int p3)]) rfl ?_
  intro p e s m args below meth c E hlk hxt hsz hU ls hl
  subst hsz
  obtain ⟨⟨hx, hb, hml, hown, hts⟩, hK, hJ⟩ := id E
  have hU0 : PW ct s.heap := hU.pw
  have hA0 : ∀ q, s.heap.size ≤ q → (nA s.heap.size) q := fun q h => h
  have hS : va_S (nA s.heap.size) s.heap s.heap [] := va_S.rf
  unfold t1_toSend
  refine x_aload_n hx hb dX1_toSend_0 rfl (lv_at hl 0 rfl) ?_
  refine x_iload_n hx hb dX1_toSend_1 rfl (lv_at hl 1 rfl) ?_
  refine X.tB (tk1_aWoman E hst hU hS hxt hlk ⟨by decide, by decide⟩ hl.1 (Nat.le_of_ble_eq_true rfl) dX1_toSend_2 ⟨Nat.le_refl _, Nat.le_refl _⟩) ?_
  refine kX1_1_aWoman E hU hS hA0 ⟨by decide, by decide⟩ hl.1 (Nat.le_of_ble_eq_true rfl) dX1_toSend_2 ⟨Nat.zero_le _, Nat.zero_le _⟩ (fun o1 H locs hU hS => ?_)
  refine x_iload_n hx hb dX1_toSend_5 rfl (lv_at hl 3 rfl) ?_
  refine x_iconst (v := 1) hx hb dX1_toSend_6 (by decide) ?_
  refine X.tB (tk1_oneOf E hst hU.pw hS hxt hlk ⟨by decide, by decide⟩ hl.1 (Nat.le_of_ble_eq_true rfl) dX1_toSend_7 ⟨Nat.le_refl _, Nat.le_refl _⟩) ?_
  refine kX1_1_oneOf E hS hA0 ⟨by decide, by decide⟩ hl.1 (Nat.le_of_ble_eq_true rfl) dX1_toSend_7 ⟨Nat.zero_le _, Nat.zero_le _⟩ (fun o2 H locs hz_ hk_ hS => ?_)
  replace hU := hU.kept hz_ hk_
  refine x_iload_n hx hb dX1_toSend_10 rfl (lv_at hl 2 rfl) ?_
  refine x_iconst (v := 1) hx hb dX1_toSend_11 (by decide) ?_
  refine x_bipush (v := 60) hx hb dX1_toSend_12 (by decide) ?_
  refine kX1_1_in E hS hA0 ⟨by decide, by decide⟩ hl.1 (Nat.le_of_ble_eq_true rfl) dX1_toSend_14 ⟨Nat.zero_le _, Nat.zero_le _⟩ (fun o3 H locs hz_ hk_ hS => ?_)
  replace hU := hU.kept hz_ hk_
  exact tk1_right E hst hU.pw hS hxt hlk ⟨by decide, by decide⟩ hl.1 (Nat.le_of_ble_eq_true rfl) dX1_toSend_17 ⟨Nat.le_refl _, Nat.le_refl _⟩

set_option maxHeartbeats 4000000 in
theorem mT1_bestStitch (l : Launch) (hst : l.stackTraces = false) (D : va_G) (ct : CT) (ad : Nat → Nat) (P : Nat → Nat → Option Nat) (S : US) (h : AH) (p1 : Int32) (p2 : Int32) (sz : Nat) (k : Int32) (ho : t1_bestStitch S ct P h p1 p2 = some k) : vx_Met l yX1_bestStitch (ws_ yX1_bestStitch cX1_bestStitch 7 (some .int)) { frames := 504, cells := 1, slots := 6, locals := 20087 } (mP D clW ct [.ref (ad (0)), .int p1, .int p2] sz (GH D ct ad P (fun _ => True) S h)) nQ (tX k (nA sz)) 1 6 (nA sz) := by
  refine T.start ho (by decide) (Nat.le_of_ble_eq_true rfl) (lv := [(0, .ref (ad (0))), (1, .int p1), (2, .int p2)]) rfl ?_
  intro p e s m args below meth c E hlk hxt hsz hU ls hl
  subst hsz
  obtain ⟨⟨hx, hb, hml, hown, hts⟩, hK, hJ⟩ := id E
  have hU0 : PW ct s.heap := hU.pw
  have hA0 : ∀ q, s.heap.size ≤ q → (nA s.heap.size) q := fun q h => h
  have hS : va_S (nA s.heap.size) s.heap s.heap [] := va_S.rf
  unfold t1_bestStitch
  refine x_aload_n hx hb dX1_bestStitch_0 rfl (lv_at hl 0 rfl) ?_
  refine x_iload_n hx hb dX1_bestStitch_1 rfl (lv_at hl 1 rfl) ?_
  refine X.tB (tk1_aStretch E hst hU hS hxt hlk ⟨by decide, by decide⟩ hl.1 (Nat.le_of_ble_eq_true rfl) dX1_bestStitch_2 ⟨Nat.le_refl _, Nat.le_refl _⟩) ?_
  refine kX1_1_aStretch E hU hS hA0 ⟨by decide, by decide⟩ hl.1 (Nat.le_of_ble_eq_true rfl) dX1_bestStitch_2 ⟨Nat.zero_le _, Nat.zero_le _⟩ (fun o1 H locs hU hS => ?_)
  refine x_iload_n hx hb dX1_bestStitch_5 rfl (lv_at hl 2 rfl) ?_
  refine x_iconst (v := 1) hx hb dX1_bestStitch_6 (by decide) ?_
  refine x_bipush (v := 60) hx hb dX1_bestStitch_7 (by decide) ?_
  refine kX1_1_in E hS hA0 ⟨by decide, by decide⟩ hl.1 (Nat.le_of_ble_eq_true rfl) dX1_bestStitch_9 ⟨Nat.zero_le _, Nat.zero_le _⟩ (fun o2 H locs hz_ hk_ hS => ?_)
  replace hU := hU.kept hz_ hk_
  exact tk1_right E hst hU.pw hS hxt hlk ⟨by decide, by decide⟩ hl.1 (Nat.le_of_ble_eq_true rfl) dX1_bestStitch_12 ⟨Nat.le_refl _, Nat.le_refl _⟩

set_option maxHeartbeats 4000000 in
theorem mT1_sent (l : Launch) (hst : l.stackTraces = false) (D : va_G) (ct : CT) (ad : Nat → Nat) (P : Nat → Nat → Option Nat) (S : US) (h : AH) (p1 : Int32) (p2 : Int32) (sz : Nat) (k : Int32) (ho : t1_sent S ct P h p1 p2 = some k) : vx_Met l yX1_sent (ws_ yX1_sent cX1_sent 9 (some .int)) { frames := 7, cells := 1, slots := 6, locals := 120 } (mP D clW ct [.ref (ad (0)), .int p1, .int p2] sz (GH D ct ad P (fun _ => True) S h)) nQ (tX k (nA sz)) 1 6 (nA sz) := by
  refine T.start ho (by decide) (Nat.le_of_ble_eq_true rfl) (lv := [(0, .ref (ad (0))), (1, .int p1), (2, .int p2)]) rfl ?_
  intro p e s m args below meth c E hlk hxt hsz hU ls hl
  subst hsz
  obtain ⟨⟨hx, hb, hml, hown, hts⟩, hK, hJ⟩ := id E
  have hU0 : PW ct s.heap := hU.pw
  have hA0 : ∀ q, s.heap.size ≤ q → (nA s.heap.size) q := fun q h => h
  have hS : va_S (nA s.heap.size) s.heap s.heap [] := va_S.rf
  unfold t1_sent
  refine x_iload_n hx hb dX1_sent_0 rfl (lv_at hl 1 rfl) ?_
  refine x_iconst (v := 0) hx hb dX1_sent_1 (by decide) ?_
  refine x_iconst (v := 1) hx hb dX1_sent_2 (by decide) ?_
  refine x_aload_n hx hb dX1_sent_3 rfl (lv_at hl 0 rfl) ?_
  refine gX1_31 E hU dX1_sent_4 ?_
  refine gX1_115 E hU dX1_sent_7 ?_
  refine x_ishl hx hb dX1_sent_10 ?_
  refine x_iconst (v := 1) hx hb dX1_sent_11 (by decide) ?_
  refine x_isub hx hb dX1_sent_12 ?_
  refine kX1_1_in E hS hA0 ⟨by decide, by decide⟩ hl.1 (Nat.le_of_ble_eq_true rfl) dX1_sent_13 ⟨Nat.zero_le _, Nat.zero_le _⟩ (fun o1 H locs hz_ hk_ hS => ?_)
  replace hU := hU.kept hz_ hk_
  refine X.join2 (fun (x : Int32) g H locs => GH D ct ad P (fun _ => True) S h H ∧ va_S (nA s.heap.size) s.heap H locs ∧ ∃ ls : Array Slot, g = F0 m 33 ls [.int x] ∧ lv_has ls 9 [(0, .ref (ad (0))), (1, .int p1), (2, .int p2)]) ?_ (fun j3 hj3 => ?_)
  · rintro y2 _ H locs ⟨hU, hS, ls, rfl, hl⟩
    refine X.eqs (sp2 := t1_sent_J33 p1 p2 S y2) rfl ?_
    unfold t1_sent_J33
    refine X.tB (tk1_right E hst hU.pw hS hxt hlk ⟨by decide, by decide⟩ hl.1 (Nat.le_of_ble_eq_true rfl) dX1_sent_33 ⟨Nat.le_refl _, Nat.le_refl _⟩) ?_
    refine kX1_1_right E hS hA0 ⟨by decide, by decide⟩ hl.1 (Nat.le_of_ble_eq_true rfl) dX1_sent_33 ⟨Nat.zero_le _, Nat.zero_le _⟩ (fun o4 H locs hz_ hk_ hS => ?_)
    replace hU := hU.kept hz_ hk_
    refine x_iload_n hx hb dX1_sent_36 rfl (lv_at hl 2 rfl) ?_
    refine x_iconst (v := -1) hx hb dX1_sent_37 (by decide) ?_
    refine X.join2 (fun (x : Int32) g H locs => GH D ct ad P (fun _ => True) S h H ∧ va_S (nA s.heap.size) s.heap H locs ∧ ∃ ls : Array Slot, g = F0 m 71 ls [.int x] ∧ lv_has ls 9 [(0, .ref (ad (0))), (1, .int p1), (2, .int p2)]) ?_ (fun j6 hj6 => ?_)
    · rintro y5 _ H locs ⟨hU, hS, ls, rfl, hl⟩
      refine X.eqs (sp2 := t1_sent_J71 y5) rfl ?_
      unfold t1_sent_J71
      exact tk1_found E hst hU.pw hS hxt hlk ⟨by decide, by decide⟩ hl.1 (Nat.le_of_ble_eq_true rfl) dX1_sent_71 ⟨Nat.le_refl _, Nat.le_refl _⟩
    · refine x_icmp_eq (tgt := 66) hx hb dX1_sent_38 (by decide) (fun hc => ?_) (fun hc => ?_)
      · refine x_iconst (v := 1) hx hb dX1_sent_66 (by decide) ?_
        refine x_goto (tgt := 71) hx hb dX1_sent_67 (by decide) ?_
        exact hj6 (1 : Int32) _ _ _ ⟨hU, hS, _, rfl, lv_sub hl [0, 1, 2] rfl⟩
      · refine x_iload_n hx hb dX1_sent_41 rfl (lv_at hl 2 rfl) ?_
        refine x_iconst (v := 0) hx hb dX1_sent_42 (by decide) ?_
        refine x_aload_n hx hb dX1_sent_43 rfl (lv_at hl 0 rfl) ?_
        refine gX1_31 E hU dX1_sent_44 ?_
        refine gX1_115 E hU dX1_sent_47 ?_
        refine x_iconst (v := 1) hx hb dX1_sent_50 (by decide) ?_
        refine x_isub hx hb dX1_sent_51 ?_
        refine kX1_1_in E hS hA0 ⟨by decide, by decide⟩ hl.1 (Nat.le_of_ble_eq_true rfl) dX1_sent_52 ⟨Nat.zero_le _, Nat.zero_le _⟩ (fun o7 H locs hz_ hk_ hS => ?_)
        replace hU := hU.kept hz_ hk_
        refine x_if_eq (tgt := 70) hx hb dX1_sent_55 (by decide) (fun hc => ?_) (fun hc => ?_)
        · refine x_iconst (v := 0) hx hb dX1_sent_70 (by decide) ?_
          exact hj6 (0 : Int32) _ _ _ ⟨hU, hS, _, rfl, lv_sub hl [0, 1, 2] rfl⟩
        · refine x_iload_n hx hb dX1_sent_58 rfl (lv_at hl 1 rfl) ?_
          refine x_iload_n hx hb dX1_sent_59 rfl (lv_at hl 2 rfl) ?_
          refine kX1_1_isOf E hS hA0 ⟨by decide, by decide⟩ hl.1 (Nat.le_of_ble_eq_true rfl) dX1_sent_60 ⟨Nat.zero_le _, Nat.zero_le _⟩ (fun o8 H locs hz_ hk_ hS => ?_)
          replace hU := hU.kept hz_ hk_
          refine x_if_eq (tgt := 70) hx hb dX1_sent_63 (by decide) (fun hc => ?_) (fun hc => ?_)
          · refine x_iconst (v := 0) hx hb dX1_sent_70 (by decide) ?_
            exact hj6 (0 : Int32) _ _ _ ⟨hU, hS, _, rfl, lv_sub hl [0, 1, 2] rfl⟩
          · refine x_iconst (v := 1) hx hb dX1_sent_66 (by decide) ?_
            refine x_goto (tgt := 71) hx hb dX1_sent_67 (by decide) ?_
            exact hj6 (1 : Int32) _ _ _ ⟨hU, hS, _, rfl, lv_sub hl [0, 1, 2] rfl⟩
  · refine x_if_eq (tgt := 32) hx hb dX1_sent_16 (by decide) (fun hc => ?_) (fun hc => ?_)
    · refine x_iconst (v := 0) hx hb dX1_sent_32 (by decide) ?_
      exact hj3 (0 : Int32) _ _ _ ⟨hU, hS, _, rfl, lv_sub hl [0, 1, 2] rfl⟩
    · refine x_iload_n hx hb dX1_sent_19 rfl (lv_at hl 1 rfl) ?_
      refine kX1_N_bitCount E hS hA0 ⟨by decide, by decide⟩ hl.1 (Nat.le_of_ble_eq_true rfl) dX1_sent_20 ⟨Nat.zero_le _, Nat.zero_le _⟩ (fun o9 H locs hz_ hk_ hS => ?_)
      replace hU := hU.kept hz_ hk_
      refine x_bipush (v := 6) hx hb dX1_sent_23 (by decide) ?_
      refine x_icmp_gt (tgt := 32) hx hb dX1_sent_25 (by decide) (fun hc => ?_) (fun hc => ?_)
      · refine x_iconst (v := 0) hx hb dX1_sent_32 (by decide) ?_
        exact hj3 (0 : Int32) _ _ _ ⟨hU, hS, _, rfl, lv_sub hl [0, 1, 2] rfl⟩
      · refine x_iconst (v := 1) hx hb dX1_sent_28 (by decide) ?_
        refine x_goto (tgt := 33) hx hb dX1_sent_29 (by decide) ?_
        exact hj3 (1 : Int32) _ _ _ ⟨hU, hS, _, rfl, lv_sub hl [0, 1, 2] rfl⟩

set_option maxHeartbeats 4000000 in
theorem mT1_closed (l : Launch) (hst : l.stackTraces = false) (D : va_G) (ct : CT) (ad : Nat → Nat) (P : Nat → Nat → Option Nat) (S : US) (h : AH) (p1 : Int32) (sz : Nat) (k : Int32) (ho : t1_closed S ct P h p1 = some k) : vx_Met l yX1_closed (ws_ yX1_closed cX1_closed 4 (some .int)) { frames := 8, cells := 1, slots := 6, locals := 141 } (mP D clW ct [.ref (ad (0)), .int p1] sz (GH D ct ad P (fun _ => True) S h)) nQ (tX k (nA sz)) 1 6 (nA sz) := by
  refine T.start ho (by decide) (Nat.le_of_ble_eq_true rfl) (lv := [(0, .ref (ad (0))), (1, .int p1)]) rfl ?_
  intro p e s m args below meth c E hlk hxt hsz hU ls hl
  subst hsz
  obtain ⟨⟨hx, hb, hml, hown, hts⟩, hK, hJ⟩ := id E
  have hU0 : PW ct s.heap := hU.pw
  have hA0 : ∀ q, s.heap.size ≤ q → (nA s.heap.size) q := fun q h => h
  have hS : va_S (nA s.heap.size) s.heap s.heap [] := va_S.rf
  unfold t1_closed
  refine x_iload_n hx hb dX1_closed_0 rfl (lv_at hl 1 rfl) ?_
  refine x_iconst (v := 1) hx hb dX1_closed_1 (by decide) ?_
  exact tk1_oneOf E hst hU.pw hS hxt hlk ⟨by decide, by decide⟩ hl.1 (Nat.le_of_ble_eq_true rfl) dX1_closed_2 ⟨Nat.le_refl _, Nat.le_refl _⟩

set_option maxHeartbeats 4000000 in
theorem mT1_tight (l : Launch) (hst : l.stackTraces = false) (D : va_G) (ct : CT) (ad : Nat → Nat) (P : Nat → Nat → Option Nat) (S : US) (h : AH) (p1 : Int32) (p2 : Int32) (sz : Nat) (k : Int32) (ho : t1_tight S ct P h p1 p2 = some k) : vx_Met l yX1_tight (ws_ yX1_tight cX1_tight 5 (some .int)) { frames := 8, cells := 1, slots := 6, locals := 141 } (mP D clW ct [.ref (ad (0)), .int p1, .int p2] sz (GH D ct ad P (fun _ => True) S h)) nQ (tX k (nA sz)) 1 6 (nA sz) := by
  refine T.start ho (by decide) (Nat.le_of_ble_eq_true rfl) (lv := [(0, .ref (ad (0))), (1, .int p1), (2, .int p2)]) rfl ?_
  intro p e s m args below meth c E hlk hxt hsz hU ls hl
  subst hsz
  obtain ⟨⟨hx, hb, hml, hown, hts⟩, hK, hJ⟩ := id E
  have hU0 : PW ct s.heap := hU.pw
  have hA0 : ∀ q, s.heap.size ≤ q → (nA s.heap.size) q := fun q h => h
  have hS : va_S (nA s.heap.size) s.heap s.heap [] := va_S.rf
  unfold t1_tight
  refine x_iload_n hx hb dX1_tight_0 rfl (lv_at hl 2 rfl) ?_
  refine x_iconst (v := 1) hx hb dX1_tight_1 (by decide) ?_
  refine X.tB (tk1_oneOf E hst hU.pw hS hxt hlk ⟨by decide, by decide⟩ hl.1 (Nat.le_of_ble_eq_true rfl) dX1_tight_2 ⟨Nat.le_refl _, Nat.le_refl _⟩) ?_
  refine kX1_1_oneOf E hS hA0 ⟨by decide, by decide⟩ hl.1 (Nat.le_of_ble_eq_true rfl) dX1_tight_2 ⟨Nat.zero_le _, Nat.zero_le _⟩ (fun o1 H locs hz_ hk_ hS => ?_)
  replace hU := hU.kept hz_ hk_
  refine x_iload_n hx hb dX1_tight_5 rfl (lv_at hl 1 rfl) ?_
  refine x_iconst (v := 1) hx hb dX1_tight_6 (by decide) ?_
  refine x_bipush (v := 12) hx hb dX1_tight_7 (by decide) ?_
  refine kX1_1_in E hS hA0 ⟨by decide, by decide⟩ hl.1 (Nat.le_of_ble_eq_true rfl) dX1_tight_9 ⟨Nat.zero_le _, Nat.zero_le _⟩ (fun o2 H locs hz_ hk_ hS => ?_)
  replace hU := hU.kept hz_ hk_
  exact tk1_right E hst hU.pw hS hxt hlk ⟨by decide, by decide⟩ hl.1 (Nat.le_of_ble_eq_true rfl) dX1_tight_12 ⟨Nat.le_refl _, Nat.le_refl _⟩

set_option maxHeartbeats 4000000 in
theorem mT1_readings (l : Launch) (hst : l.stackTraces = false) (D : va_G) (ct : CT) (ad : Nat → Nat) (P : Nat → Nat → Option Nat) (S : US) (h : AH) (p1 : Int32) (p2 : Int32) (sz : Nat) (k : Int32) (ho : t1_readings S ct P h p1 p2 = some k) : vx_Met l yX1_readings (ws_ yX1_readings cX1_readings 10 (some .int)) { frames := 8, cells := 1, slots := 6, locals := 141 } (mP D clW ct [.ref (ad (0)), .int p1, .int p2] sz (GH D ct ad P (fun _ => True) S h)) nQ (tX k (nA sz)) 1 6 (nA sz) := by
  refine T.start ho (by decide) (Nat.le_of_ble_eq_true rfl) (lv := [(0, .ref (ad (0))), (1, .int p1), (2, .int p2)]) rfl ?_
  intro p e s m args below meth c E hlk hxt hsz hU ls hl
  subst hsz
  obtain ⟨⟨hx, hb, hml, hown, hts⟩, hK, hJ⟩ := id E
  have hU0 : PW ct s.heap := hU.pw
  have hA0 : ∀ q, s.heap.size ≤ q → (nA s.heap.size) q := fun q h => h
  have hS : va_S (nA s.heap.size) s.heap s.heap [] := va_S.rf
  unfold t1_readings
  refine x_iload_n hx hb dX1_readings_0 rfl (lv_at hl 2 rfl) ?_
  refine x_iconst (v := 1) hx hb dX1_readings_1 (by decide) ?_
  refine X.tB (tk1_oneOf E hst hU.pw hS hxt hlk ⟨by decide, by decide⟩ hl.1 (Nat.le_of_ble_eq_true rfl) dX1_readings_2 ⟨Nat.le_refl _, Nat.le_refl _⟩) ?_
  refine kX1_1_oneOf E hS hA0 ⟨by decide, by decide⟩ hl.1 (Nat.le_of_ble_eq_true rfl) dX1_readings_2 ⟨Nat.zero_le _, Nat.zero_le _⟩ (fun o1 H locs hz_ hk_ hS => ?_)
  replace hU := hU.kept hz_ hk_
  refine x_iload_n hx hb dX1_readings_5 rfl (lv_at hl 1 rfl) ?_
  refine x_iconst (v := 0) hx hb dX1_readings_6 (by decide) ?_
  refine x_ldcw hx hb hown (hts _ q1601) dX1_readings_7 ?_
  refine kX1_1_in E hS hA0 ⟨by decide, by decide⟩ hl.1 (Nat.le_of_ble_eq_true rfl) dX1_readings_10 ⟨Nat.zero_le _, Nat.zero_le _⟩ (fun o2 H locs hz_ hk_ hS => ?_)
  replace hU := hU.kept hz_ hk_
  exact tk1_right E hst hU.pw hS hxt hlk ⟨by decide, by decide⟩ hl.1 (Nat.le_of_ble_eq_true rfl) dX1_readings_13 ⟨Nat.le_refl _, Nat.le_refl _⟩

set_option maxHeartbeats 4000000 in
theorem mT1_see (l : Launch) (hst : l.stackTraces = false) (D : va_G) (ct : CT) (ad : Nat → Nat) (P : Nat → Nat → Option Nat) (S : US) (h : AH) (p1 : Int32) (p2 : Int32) (p3 : Int32) (sz : Nat) (k : Int32) (ho : t1_see S ct P h p1 p2 p3 = some k) : vx_Met l yX1_see (ws_ yX1_see cX1_see 4 (some .int)) { frames := 8, cells := 1, slots := 6, locals := 141 } (mP D clW ct [.ref (ad (0)), .int p1, .int p2, .int p3] sz (GH D ct ad P (fun _ => True) S h)) nQ (tX k (nA sz)) 1 6 (nA sz) := by
  refine T.start ho (by decide) (Nat.le_of_ble_eq_true rfl) (lv := [(0, .ref (ad (0))), (1, .int p1), (2, .int p2), (3, .int p3)]) rfl ?_
  intro p e s m args below meth c E hlk hxt hsz hU ls hl
  subst hsz
  obtain ⟨⟨hx, hb, hml, hown, hts⟩, hK, hJ⟩ := id E
  have hU0 : PW ct s.heap := hU.pw
  have hA0 : ∀ q, s.heap.size ≤ q → (nA s.heap.size) q := fun q h => h
  have hS : va_S (nA s.heap.size) s.heap s.heap [] := va_S.rf
  unfold t1_see
  refine x_aload_n hx hb dX1_see_0 rfl (lv_at hl 0 rfl) ?_
  refine x_iload_n hx hb dX1_see_1 rfl (lv_at hl 1 rfl) ?_
  exact tk1_aStretch E hst hU hS hxt hlk ⟨by decide, by decide⟩ hl.1 (Nat.le_of_ble_eq_true rfl) dX1_see_2 ⟨Nat.le_refl _, Nat.le_refl _⟩

set_option maxHeartbeats 4000000 in
theorem mT1_torn (l : Launch) (hst : l.stackTraces = false) (D : va_G) (ct : CT) (ad : Nat → Nat) (P : Nat → Nat → Option Nat) (S : US) (h : AH) (p1 : Int32) (sz : Nat) (k : Int32) (ho : t1_torn S ct P h p1 = some k) : vx_Met l yX1_torn (ws_ yX1_torn cX1_torn 3 (some .int)) { frames := 504, cells := 1, slots := 6, locals := 20089 } (mP D clW ct [.ref (ad (0)), .int p1] sz (GH D ct ad P (fun _ => True) S h)) nQ (tX k (nA sz)) 1 6 (nA sz) := by
  refine T.start ho (by decide) (Nat.le_of_ble_eq_true rfl) (lv := [(0, .ref (ad (0))), (1, .int p1)]) rfl ?_
  intro p e s m args below meth c E hlk hxt hsz hU ls hl
  subst hsz
  obtain ⟨⟨hx, hb, hml, hown, hts⟩, hK, hJ⟩ := id E
  have hU0 : PW ct s.heap := hU.pw
  have hA0 : ∀ q, s.heap.size ≤ q → (nA s.heap.size) q := fun q h => h
  have hS : va_S (nA s.heap.size) s.heap s.heap [] := va_S.rf
  unfold t1_torn
  refine x_iload_n hx hb dX1_torn_0 rfl (lv_at hl 1 rfl) ?_
  refine x_iconst (v := 2) hx hb dX1_torn_1 (by decide) ?_
  exact tk1_oneOf E hst hU.pw hS hxt hlk ⟨by decide, by decide⟩ hl.1 (Nat.le_of_ble_eq_true rfl) dX1_torn_2 ⟨Nat.le_refl _, Nat.le_refl _⟩

set_option maxHeartbeats 4000000 in
theorem mT1_look (l : Launch) (hst : l.stackTraces = false) (D : va_G) (ct : CT) (ad : Nat → Nat) (P : Nat → Nat → Option Nat) (S : US) (h : AH) (p1 : Int32) (sz : Nat) (k : Int32) (ho : t1_look S ct P h p1 = some k) : vx_Met l yX1_look (ws_ yX1_look cX1_look 11 (some .int)) { frames := 504, cells := 1, slots := 6, locals := 20087 } (mP D clW ct [.ref (ad (0)), .int p1] sz (GH D ct ad P (fun _ => True) S h)) nQ (tX k (nA sz)) 1 6 (nA sz) := by
  refine T.start ho (by decide) (Nat.le_of_ble_eq_true rfl) (lv := [(0, .ref (ad (0))), (1, .int p1)]) rfl ?_
  intro p e s m args below meth c E hlk hxt hsz hU ls hl
  subst hsz
  obtain ⟨⟨hx, hb, hml, hown, hts⟩, hK, hJ⟩ := id E
  have hU0 : PW ct s.heap := hU.pw
  have hA0 : ∀ q, s.heap.size ≤ q → (nA s.heap.size) q := fun q h => h
  have hS : va_S (nA s.heap.size) s.heap s.heap [] := va_S.rf
  unfold t1_look
  refine x_iload_n hx hb dX1_look_0 rfl (lv_at hl 1 rfl) ?_
  refine x_iconst (v := 1) hx hb dX1_look_1 (by decide) ?_
  exact tk1_oneOf E hst hU.pw hS hxt hlk ⟨by decide, by decide⟩ hl.1 (Nat.le_of_ble_eq_true rfl) dX1_look_2 ⟨Nat.le_refl _, Nat.le_refl _⟩

set_option maxHeartbeats 4000000 in
theorem mT1_gales (l : Launch) (hst : l.stackTraces = false) (D : va_G) (ct : CT) (ad : Nat → Nat) (P : Nat → Nat → Option Nat) (S : US) (h : AH) (p1 : Int32) (p2 : Int32) (sz : Nat) (k : Int32) (ho : t1_gales S ct P h p1 p2 = some k) : vx_Met l yX1_gales (ws_ yX1_gales cX1_gales 8 (some .int)) { frames := 503, cells := 1, slots := 6, locals := 20065 } (mP D clW ct [.ref (ad (0)), .int p1, .int p2] sz (GH D ct ad P (fun _ => True) S h)) nQ (tX k (nA sz)) 1 6 (nA sz) := by
  refine T.start ho (by decide) (Nat.le_of_ble_eq_true rfl) (lv := [(0, .ref (ad (0))), (1, .int p1), (2, .int p2)]) rfl ?_
  intro p e s m args below meth c E hlk hxt hsz hU ls hl
  subst hsz
  obtain ⟨⟨hx, hb, hml, hown, hts⟩, hK, hJ⟩ := id E
  have hU0 : PW ct s.heap := hU.pw
  have hA0 : ∀ q, s.heap.size ≤ q → (nA s.heap.size) q := fun q h => h
  have hS : va_S (nA s.heap.size) s.heap s.heap [] := va_S.rf
  unfold t1_gales
  refine x_iload_n hx hb dX1_gales_0 rfl (lv_at hl 1 rfl) ?_
  refine x_iconst (v := 1) hx hb dX1_gales_1 (by decide) ?_
  refine x_iconst (v := 5) hx hb dX1_gales_2 (by decide) ?_
  refine kX1_1_in E hS hA0 ⟨by decide, by decide⟩ hl.1 (Nat.le_of_ble_eq_true rfl) dX1_gales_3 ⟨Nat.zero_le _, Nat.zero_le _⟩ (fun o1 H locs hz_ hk_ hS => ?_)
  replace hU := hU.kept hz_ hk_
  refine X.join2 (fun (x : Int32) g H locs => GH D ct ad P (fun _ => True) S h H ∧ va_S (nA s.heap.size) s.heap H locs ∧ ∃ ls : Array Slot, g = F0 m 24 ls [.int x] ∧ lv_has ls 8 [(0, .ref (ad (0))), (1, .int p1), (2, .int p2)]) ?_ (fun j3 hj3 => ?_)
  · rintro y2 _ H locs ⟨hU, hS, ls, rfl, hl⟩
    refine X.eqs (sp2 := t1_gales_J24 y2) rfl ?_
    unfold t1_gales_J24
    exact tk1_right E hst hU.pw hS hxt hlk ⟨by decide, by decide⟩ hl.1 (Nat.le_of_ble_eq_true rfl) dX1_gales_24 ⟨Nat.le_refl _, Nat.le_refl _⟩
  · refine x_if_eq (tgt := 23) hx hb dX1_gales_6 (by decide) (fun hc => ?_) (fun hc => ?_)
    · refine x_iconst (v := 0) hx hb dX1_gales_23 (by decide) ?_
      exact hj3 (0 : Int32) _ _ _ ⟨hU, hS, _, rfl, lv_sub hl [0, 1, 2] rfl⟩
    · refine x_iload_n hx hb dX1_gales_9 rfl (lv_at hl 2 rfl) ?_
      refine x_iconst (v := 0) hx hb dX1_gales_10 (by decide) ?_
      refine x_bipush (v := 10) hx hb dX1_gales_11 (by decide) ?_
      refine kX1_1_in E hS hA0 ⟨by decide, by decide⟩ hl.1 (Nat.le_of_ble_eq_true rfl) dX1_gales_13 ⟨Nat.zero_le _, Nat.zero_le _⟩ (fun o4 H locs hz_ hk_ hS => ?_)
      replace hU := hU.kept hz_ hk_
      refine x_if_eq (tgt := 23) hx hb dX1_gales_16 (by decide) (fun hc => ?_) (fun hc => ?_)
      · refine x_iconst (v := 0) hx hb dX1_gales_23 (by decide) ?_
        exact hj3 (0 : Int32) _ _ _ ⟨hU, hS, _, rfl, lv_sub hl [0, 1, 2] rfl⟩
      · refine x_iconst (v := 1) hx hb dX1_gales_19 (by decide) ?_
        refine x_goto (tgt := 24) hx hb dX1_gales_20 (by decide) ?_
        exact hj3 (1 : Int32) _ _ _ ⟨hU, hS, _, rfl, lv_sub hl [0, 1, 2] rfl⟩

set_option maxHeartbeats 4000000 in
theorem mT1_game (l : Launch) (hst : l.stackTraces = false) (D : va_G) (ct : CT) (ad : Nat → Nat) (P : Nat → Nat → Option Nat) (S : US) (h : AH) (p1 : Int32) (p2 : Int32) (p3 : Int32) (sz : Nat) (k : Int32) (ho : t1_game S ct P h p1 p2 p3 = some k) : vx_Met l yX1_game (ws_ yX1_game cX1_game 9 (some .int)) { frames := 8, cells := 1, slots := 6, locals := 141 } (mP D clW ct [.ref (ad (0)), .int p1, .int p2, .int p3] sz (GH D ct ad P (fun _ => True) S h)) nQ (tX k (nA sz)) 1 6 (nA sz) := by
  refine T.start ho (by decide) (Nat.le_of_ble_eq_true rfl) (lv := [(0, .ref (ad (0))), (1, .int p1), (2, .int p2), (3, .int p3)]) rfl ?_
  intro p e s m args below meth c E hlk hxt hsz hU ls hl
  subst hsz
  obtain ⟨⟨hx, hb, hml, hown, hts⟩, hK, hJ⟩ := id E
  have hU0 : PW ct s.heap := hU.pw
  have hA0 : ∀ q, s.heap.size ≤ q → (nA s.heap.size) q := fun q h => h
  have hS : va_S (nA s.heap.size) s.heap s.heap [] := va_S.rf
  unfold t1_game
  refine x_aload_n hx hb dX1_game_0 rfl (lv_at hl 0 rfl) ?_
  refine x_iload_n hx hb dX1_game_1 rfl (lv_at hl 1 rfl) ?_
  refine X.tB (tk1_aWoman E hst hU hS hxt hlk ⟨by decide, by decide⟩ hl.1 (Nat.le_of_ble_eq_true rfl) dX1_game_2 ⟨Nat.le_refl _, Nat.le_refl _⟩) ?_
  refine kX1_1_aWoman E hU hS hA0 ⟨by decide, by decide⟩ hl.1 (Nat.le_of_ble_eq_true rfl) dX1_game_2 ⟨Nat.zero_le _, Nat.zero_le _⟩ (fun o1 H locs hU hS => ?_)
  refine x_aload_n hx hb dX1_game_5 rfl (lv_at hl 0 rfl) ?_
  refine x_iload_n hx hb dX1_game_6 rfl (lv_at hl 2 rfl) ?_
  refine X.tB (tk1_aWoman E hst hU hS hxt hlk ⟨by decide, by decide⟩ hl.1 (Nat.le_of_ble_eq_true rfl) dX1_game_7 ⟨Nat.le_refl _, Nat.le_refl _⟩) ?_
  refine kX1_1_aWoman E hU hS hA0 ⟨by decide, by decide⟩ hl.1 (Nat.le_of_ble_eq_true rfl) dX1_game_7 ⟨Nat.zero_le _, Nat.zero_le _⟩ (fun o2 H locs hU hS => ?_)
  refine x_iload_n hx hb dX1_game_10 rfl (lv_at hl 3 rfl) ?_
  refine x_iconst (v := 1) hx hb dX1_game_11 (by decide) ?_
  refine X.tB (tk1_oneOf E hst hU.pw hS hxt hlk ⟨by decide, by decide⟩ hl.1 (Nat.le_of_ble_eq_true rfl) dX1_game_12 ⟨Nat.le_refl _, Nat.le_refl _⟩) ?_
  refine kX1_1_oneOf E hS hA0 ⟨by decide, by decide⟩ hl.1 (Nat.le_of_ble_eq_true rfl) dX1_game_12 ⟨Nat.zero_le _, Nat.zero_le _⟩ (fun o3 H locs hz_ hk_ hS => ?_)
  replace hU := hU.kept hz_ hk_
  refine x_iload_n hx hb dX1_game_15 rfl (lv_at hl 1 rfl) ?_
  refine x_iload_n hx hb dX1_game_16 rfl (lv_at hl 2 rfl) ?_
  refine X.join2 (fun (x : Int32) g H locs => GH D ct ad P (fun _ => True) S h H ∧ va_S (nA s.heap.size) s.heap H locs ∧ ∃ ls : Array Slot, g = F0 m 25 ls [.int x] ∧ lv_has ls 9 [(0, .ref (ad (0))), (1, .int p1), (2, .int p2), (3, .int p3)]) ?_ (fun j5 hj5 => ?_)
  · rintro y4 _ H locs ⟨hU, hS, ls, rfl, hl⟩
    refine X.eqs (sp2 := t1_game_J25 y4) rfl ?_
    unfold t1_game_J25
    exact tk1_right E hst hU.pw hS hxt hlk ⟨by decide, by decide⟩ hl.1 (Nat.le_of_ble_eq_true rfl) dX1_game_25 ⟨Nat.le_refl _, Nat.le_refl _⟩
  · refine x_icmp_eq (tgt := 24) hx hb dX1_game_17 (by decide) (fun hc => ?_) (fun hc => ?_)
    · refine x_iconst (v := 0) hx hb dX1_game_24 (by decide) ?_
      exact hj5 (0 : Int32) _ _ _ ⟨hU, hS, _, rfl, lv_sub hl [0, 1, 2, 3] rfl⟩
    · refine x_iconst (v := 1) hx hb dX1_game_20 (by decide) ?_
      refine x_goto (tgt := 25) hx hb dX1_game_21 (by decide) ?_
      exact hj5 (1 : Int32) _ _ _ ⟨hU, hS, _, rfl, lv_sub hl [0, 1, 2, 3] rfl⟩

set_option maxHeartbeats 4000000 in
theorem mT1_years (l : Launch) (hst : l.stackTraces = false) (D : va_G) (ct : CT) (ad : Nat → Nat) (P : Nat → Nat → Option Nat) (S : US) (h : AH) (p1 : Int32) (p2 : Int32) (p3 : Int32) (sz : Nat) (k : Int32) (ho : t1_years S ct P h p1 p2 p3 = some k) : vx_Met l yX1_years (ws_ yX1_years cX1_years 5 (some .int)) { frames := 503, cells := 1, slots := 6, locals := 20065 } (mP D clW ct [.ref (ad (0)), .int p1, .int p2, .int p3] sz (GH D ct ad P (fun _ => True) S h)) nQ (tX k (nA sz)) 1 6 (nA sz) := by
  refine T.start ho (by decide) (Nat.le_of_ble_eq_true rfl) (lv := [(0, .ref (ad (0))), (1, .int p1), (2, .int p2), (3, .int p3)]) rfl ?_
  intro p e s m args below meth c E hlk hxt hsz hU ls hl
  subst hsz
  obtain ⟨⟨hx, hb, hml, hown, hts⟩, hK, hJ⟩ := id E
  have hU0 : PW ct s.heap := hU.pw
  have hA0 : ∀ q, s.heap.size ≤ q → (nA s.heap.size) q := fun q h => h
  have hS : va_S (nA s.heap.size) s.heap s.heap [] := va_S.rf
  unfold t1_years
  refine x_iload_n hx hb dX1_years_0 rfl (lv_at hl 3 rfl) ?_
  refine x_iconst (v := 2) hx hb dX1_years_1 (by decide) ?_
  refine X.tB (tk1_oneOf E hst hU.pw hS hxt hlk ⟨by decide, by decide⟩ hl.1 (Nat.le_of_ble_eq_true rfl) dX1_years_2 ⟨Nat.le_refl _, Nat.le_refl _⟩) ?_
  refine kX1_1_oneOf E hS hA0 ⟨by decide, by decide⟩ hl.1 (Nat.le_of_ble_eq_true rfl) dX1_years_2 ⟨Nat.zero_le _, Nat.zero_le _⟩ (fun o1 H locs hz_ hk_ hS => ?_)
  replace hU := hU.kept hz_ hk_
  refine x_iload_n hx hb dX1_years_5 rfl (lv_at hl 2 rfl) ?_
  refine x_iconst (v := 0) hx hb dX1_years_6 (by decide) ?_
  refine x_bipush (v := 60) hx hb dX1_years_7 (by decide) ?_
  refine kX1_1_in E hS hA0 ⟨by decide, by decide⟩ hl.1 (Nat.le_of_ble_eq_true rfl) dX1_years_9 ⟨Nat.zero_le _, Nat.zero_le _⟩ (fun o2 H locs hz_ hk_ hS => ?_)
  replace hU := hU.kept hz_ hk_
  exact tk1_right E hst hU.pw hS hxt hlk ⟨by decide, by decide⟩ hl.1 (Nat.le_of_ble_eq_true rfl) dX1_years_12 ⟨Nat.le_refl _, Nat.le_refl _⟩

set_option maxHeartbeats 4000000 in
theorem mT1_nearest (l : Launch) (hst : l.stackTraces = false) (D : va_G) (ct : CT) (ad : Nat → Nat) (P : Nat → Nat → Option Nat) (S : US) (h : AH) (p1 : Int32) (sz : Nat) (k : Int32) (ho : t1_nearest S ct P h p1 = some k) : vx_Met l yX1_nearest (ws_ yX1_nearest cX1_nearest 4 (some .int)) { frames := 8, cells := 1, slots := 6, locals := 141 } (mP D clW ct [.ref (ad (0)), .int p1] sz (GH D ct ad P (fun _ => True) S h)) nQ (tX k (nA sz)) 1 6 (nA sz) := by
  refine T.start ho (by decide) (Nat.le_of_ble_eq_true rfl) (lv := [(0, .ref (ad (0))), (1, .int p1)]) rfl ?_
  intro p e s m args below meth c E hlk hxt hsz hU ls hl
  subst hsz
  obtain ⟨⟨hx, hb, hml, hown, hts⟩, hK, hJ⟩ := id E
  have hU0 : PW ct s.heap := hU.pw
  have hA0 : ∀ q, s.heap.size ≤ q → (nA s.heap.size) q := fun q h => h
  have hS : va_S (nA s.heap.size) s.heap s.heap [] := va_S.rf
  unfold t1_nearest
  refine x_aload_n hx hb dX1_nearest_0 rfl (lv_at hl 0 rfl) ?_
  refine x_iload_n hx hb dX1_nearest_1 rfl (lv_at hl 1 rfl) ?_
  exact tk1_aStretch E hst hU hS hxt hlk ⟨by decide, by decide⟩ hl.1 (Nat.le_of_ble_eq_true rfl) dX1_nearest_2 ⟨Nat.le_refl _, Nat.le_refl _⟩

set_option maxHeartbeats 4000000 in
theorem mT1_far (l : Launch) (hst : l.stackTraces = false) (D : va_G) (ct : CT) (ad : Nat → Nat) (P : Nat → Nat → Option Nat) (S : US) (h : AH) (p1 : Int32) (p2 : Int32) (sz : Nat) (k : Int32) (ho : t1_far S ct P h p1 p2 = some k) : vx_Met l yX1_far (ws_ yX1_far cX1_far 3 (some .int)) { frames := 8, cells := 1, slots := 6, locals := 141 } (mP D clW ct [.ref (ad (0)), .int p1, .int p2] sz (GH D ct ad P (fun _ => True) S h)) nQ (tX k (nA sz)) 1 6 (nA sz) := by
  refine T.start ho (by decide) (Nat.le_of_ble_eq_true rfl) (lv := [(0, .ref (ad (0))), (1, .int p1), (2, .int p2)]) rfl ?_
  intro p e s m args below meth c E hlk hxt hsz hU ls hl
  subst hsz
  obtain ⟨⟨hx, hb, hml, hown, hts⟩, hK, hJ⟩ := id E
  have hU0 : PW ct s.heap := hU.pw
  have hA0 : ∀ q, s.heap.size ≤ q → (nA s.heap.size) q := fun q h => h
  have hS : va_S (nA s.heap.size) s.heap s.heap [] := va_S.rf
  unfold t1_far
  refine x_aload_n hx hb dX1_far_0 rfl (lv_at hl 0 rfl) ?_
  refine x_iload_n hx hb dX1_far_1 rfl (lv_at hl 1 rfl) ?_
  refine X.tB (tk1_aStretch E hst hU hS hxt hlk ⟨by decide, by decide⟩ hl.1 (Nat.le_of_ble_eq_true rfl) dX1_far_2 ⟨Nat.le_refl _, Nat.le_refl _⟩) ?_
  refine kX1_1_aStretch E hU hS hA0 ⟨by decide, by decide⟩ hl.1 (Nat.le_of_ble_eq_true rfl) dX1_far_2 ⟨Nat.zero_le _, Nat.zero_le _⟩ (fun o1 H locs hU hS => ?_)
  refine x_aload_n hx hb dX1_far_5 rfl (lv_at hl 0 rfl) ?_
  refine x_iload_n hx hb dX1_far_6 rfl (lv_at hl 2 rfl) ?_
  exact tk1_aStretch E hst hU hS hxt hlk ⟨by decide, by decide⟩ hl.1 (Nat.le_of_ble_eq_true rfl) dX1_far_7 ⟨Nat.le_refl _, Nat.le_refl _⟩

set_option maxHeartbeats 4000000 in
theorem mT1_worst (l : Launch) (hst : l.stackTraces = false) (D : va_G) (ct : CT) (ad : Nat → Nat) (P : Nat → Nat → Option Nat) (S : US) (h : AH) (p1 : Int32) (sz : Nat) (k : Int32) (ho : t1_worst S ct P h p1 = some k) : vx_Met l yX1_worst (ws_ yX1_worst cX1_worst 6 (some .int)) { frames := 504, cells := 1, slots := 6, locals := 20087 } (mP D clW ct [.ref (ad (0)), .int p1] sz (GH D ct ad P (fun _ => True) S h)) nQ (tX k (nA sz)) 1 6 (nA sz) := by
  refine T.start ho (by decide) (Nat.le_of_ble_eq_true rfl) (lv := [(0, .ref (ad (0))), (1, .int p1)]) rfl ?_
  intro p e s m args below meth c E hlk hxt hsz hU ls hl
  subst hsz
  obtain ⟨⟨hx, hb, hml, hown, hts⟩, hK, hJ⟩ := id E
  have hU0 : PW ct s.heap := hU.pw
  have hA0 : ∀ q, s.heap.size ≤ q → (nA s.heap.size) q := fun q h => h
  have hS : va_S (nA s.heap.size) s.heap s.heap [] := va_S.rf
  unfold t1_worst
  refine x_iload_n hx hb dX1_worst_0 rfl (lv_at hl 1 rfl) ?_
  refine x_iconst (v := 1) hx hb dX1_worst_1 (by decide) ?_
  refine x_bipush (v := 50) hx hb dX1_worst_2 (by decide) ?_
  refine kX1_1_in E hS hA0 ⟨by decide, by decide⟩ hl.1 (Nat.le_of_ble_eq_true rfl) dX1_worst_4 ⟨Nat.zero_le _, Nat.zero_le _⟩ (fun o1 H locs hz_ hk_ hS => ?_)
  replace hU := hU.kept hz_ hk_
  exact tk1_right E hst hU.pw hS hxt hlk ⟨by decide, by decide⟩ hl.1 (Nat.le_of_ble_eq_true rfl) dX1_worst_7 ⟨Nat.le_refl _, Nat.le_refl _⟩

set_option maxHeartbeats 4000000 in
theorem mT1_meet (l : Launch) (hst : l.stackTraces = false) (D : va_G) (ct : CT) (ad : Nat → Nat) (P : Nat → Nat → Option Nat) (S : US) (h : AH) (p1 : Int32) (p2 : Int32) (sz : Nat) (k : Int32) (ho : t1_meet S ct P h p1 p2 = some k) : vx_Met l yX1_meet (ws_ yX1_meet cX1_meet 4 (some .int)) { frames := 503, cells := 1, slots := 6, locals := 20065 } (mP D clW ct [.ref (ad (0)), .int p1, .int p2] sz (GH D ct ad P (fun _ => True) S h)) nQ (tX k (nA sz)) 1 6 (nA sz) := by
  refine T.start ho (by decide) (Nat.le_of_ble_eq_true rfl) (lv := [(0, .ref (ad (0))), (1, .int p1), (2, .int p2)]) rfl ?_
  intro p e s m args below meth c E hlk hxt hsz hU ls hl
  subst hsz
  obtain ⟨⟨hx, hb, hml, hown, hts⟩, hK, hJ⟩ := id E
  have hU0 : PW ct s.heap := hU.pw
  have hA0 : ∀ q, s.heap.size ≤ q → (nA s.heap.size) q := fun q h => h
  have hS : va_S (nA s.heap.size) s.heap s.heap [] := va_S.rf
  unfold t1_meet
  refine x_aload_n hx hb dX1_meet_0 rfl (lv_at hl 0 rfl) ?_
  refine x_iload_n hx hb dX1_meet_1 rfl (lv_at hl 1 rfl) ?_
  refine X.tB (tk1_aWoman E hst hU hS hxt hlk ⟨by decide, by decide⟩ hl.1 (Nat.le_of_ble_eq_true rfl) dX1_meet_2 ⟨Nat.le_refl _, Nat.le_refl _⟩) ?_
  refine kX1_1_aWoman E hU hS hA0 ⟨by decide, by decide⟩ hl.1 (Nat.le_of_ble_eq_true rfl) dX1_meet_2 ⟨Nat.zero_le _, Nat.zero_le _⟩ (fun o1 H locs hU hS => ?_)
  refine x_aload_n hx hb dX1_meet_5 rfl (lv_at hl 0 rfl) ?_
  refine x_iload_n hx hb dX1_meet_6 rfl (lv_at hl 2 rfl) ?_
  exact tk1_aWoman E hst hU hS hxt hlk ⟨by decide, by decide⟩ hl.1 (Nat.le_of_ble_eq_true rfl) dX1_meet_7 ⟨Nat.le_refl _, Nat.le_refl _⟩

set_option maxHeartbeats 4000000 in
theorem mT1_bare (l : Launch) (hst : l.stackTraces = false) (D : va_G) (ct : CT) (ad : Nat → Nat) (P : Nat → Nat → Option Nat) (S : US) (h : AH) (p1 : Int32) (sz : Nat) (k : Int32) (ho : t1_bare S ct P h p1 = some k) : vx_Met l yX1_bare (ws_ yX1_bare cX1_bare 4 (some .int)) { frames := 505, cells := 1, slots := 6, locals := 20108 } (mP D clW ct [.ref (ad (0)), .int p1] sz (GH D ct ad P (fun _ => True) S h)) nQ (tX k (nA sz)) 1 6 (nA sz) := by
  refine T.start ho (by decide) (Nat.le_of_ble_eq_true rfl) (lv := [(0, .ref (ad (0))), (1, .int p1)]) rfl ?_
  intro p e s m args below meth c E hlk hxt hsz hU ls hl
  subst hsz
  obtain ⟨⟨hx, hb, hml, hown, hts⟩, hK, hJ⟩ := id E
  have hU0 : PW ct s.heap := hU.pw
  have hA0 : ∀ q, s.heap.size ≤ q → (nA s.heap.size) q := fun q h => h
  have hS : va_S (nA s.heap.size) s.heap s.heap [] := va_S.rf
  unfold t1_bare
  refine x_iload_n hx hb dX1_bare_0 rfl (lv_at hl 1 rfl) ?_
  refine x_iconst (v := 0) hx hb dX1_bare_1 (by decide) ?_
  refine x_bipush (v := 60) hx hb dX1_bare_2 (by decide) ?_
  refine kX1_1_in E hS hA0 ⟨by decide, by decide⟩ hl.1 (Nat.le_of_ble_eq_true rfl) dX1_bare_4 ⟨Nat.zero_le _, Nat.zero_le _⟩ (fun o1 H locs hz_ hk_ hS => ?_)
  replace hU := hU.kept hz_ hk_
  exact tk1_right E hst hU.pw hS hxt hlk ⟨by decide, by decide⟩ hl.1 (Nat.le_of_ble_eq_true rfl) dX1_bare_7 ⟨Nat.le_refl _, Nat.le_refl _⟩

set_option maxHeartbeats 4000000 in
theorem mT1_load (l : Launch) (hst : l.stackTraces = false) (D : va_G) (ct : CT) (ad : Nat → Nat) (P : Nat → Nat → Option Nat) (S : US) (h : AH) (p1 : Int32) (sz : Nat) (k : Int32) (ho : t1_load S ct P h p1 = some k) : vx_Met l yX1_load (ws_ yX1_load cX1_load 4 (some .int)) { frames := 7, cells := 1, slots := 6, locals := 120 } (mP D clW ct [.ref (ad (0)), .int p1] sz (GH D ct ad P (fun _ => True) S h)) nQ (tX k (nA sz)) 1 6 (nA sz) := by
  refine T.start ho (by decide) (Nat.le_of_ble_eq_true rfl) (lv := [(0, .ref (ad (0))), (1, .int p1)]) rfl ?_
  intro p e s m args below meth c E hlk hxt hsz hU ls hl
  subst hsz
  obtain ⟨⟨hx, hb, hml, hown, hts⟩, hK, hJ⟩ := id E
  have hU0 : PW ct s.heap := hU.pw
  have hA0 : ∀ q, s.heap.size ≤ q → (nA s.heap.size) q := fun q h => h
  have hS : va_S (nA s.heap.size) s.heap s.heap [] := va_S.rf
  unfold t1_load
  refine x_iload_n hx hb dX1_load_0 rfl (lv_at hl 1 rfl) ?_
  refine x_iconst (v := 0) hx hb dX1_load_1 (by decide) ?_
  refine x_bipush (v := 99) hx hb dX1_load_2 (by decide) ?_
  refine kX1_1_in E hS hA0 ⟨by decide, by decide⟩ hl.1 (Nat.le_of_ble_eq_true rfl) dX1_load_4 ⟨Nat.zero_le _, Nat.zero_le _⟩ (fun o1 H locs hz_ hk_ hS => ?_)
  replace hU := hU.kept hz_ hk_
  exact tk1_right E hst hU.pw hS hxt hlk ⟨by decide, by decide⟩ hl.1 (Nat.le_of_ble_eq_true rfl) dX1_load_7 ⟨Nat.le_refl _, Nat.le_refl _⟩
