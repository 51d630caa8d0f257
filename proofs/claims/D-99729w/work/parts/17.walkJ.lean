set_option maxRecDepth 100000
set_option maxHeartbeats 4000000 in
theorem mHP_checkIndex (l : Launch) (D : va_G) (ct : CT) (p1 : Int32) (p2 : Int32) (p3 : (Option Nat)) (sz : Nat) (o : Int32) (ho : sP_checkIndex p1 p2 p3 = some o) : Met l yJ11_checkIndex (ws_ yJ11_checkIndex cJ11_checkIndex 3 (some .int)) { frames := 1, cells := 0, slots := 0, locals := 40 } (mP D clW ct [.int p1, .int p2, va_rf p3] sz (fun _ => True)) (mC (some (.int o)) (fun _ => True) (nA sz)) 0 0 (nA sz) := by
  refine X.start (val := fun (o : Int32) => some (.int o)) (Bt := fun _ _ => True) (A := nA sz) ho (by decide) (by rcases p3 with _ | _ <;> exact Nat.le_of_ble_eq_true rfl) (lv := [(0, .int p1), (1, .int p2), (2, va_rf p3)]) (by rcases p3 with _ | _ <;> rfl) ?_
  intro p e s m args below meth c E hr hlk hnm hsz hU ls hl
  subst hsz
  obtain ⟨⟨hx, hb, hml, hown, hts⟩, hK, hJ⟩ := id E
  have hA0 : ∀ q, s.heap.size ≤ q → (nA s.heap.size) q := fun q h => h
  have hS : va_S (nA s.heap.size) s.heap s.heap [] := va_S.rf
  unfold sP_checkIndex
  refine x_iload_n hx hb dJ11_checkIndex_0 rfl (lv_at hl 0 rfl) ?_
  refine x_if_lt (tgt := 9) hx hb dJ11_checkIndex_1 (by decide) (fun hc => ?_) (fun hc => ?_)
  · refine x_aload_nO hx hb dJ11_checkIndex_9 rfl (lv_at hl 2 rfl) ?_
    refine x_iload_n hx hb dJ11_checkIndex_10 rfl (lv_at hl 0 rfl) ?_
    refine x_iload_n hx hb dJ11_checkIndex_11 rfl (lv_at hl 1 rfl) ?_
    exact X.none
  · refine x_iload_n hx hb dJ11_checkIndex_4 rfl (lv_at hl 0 rfl) ?_
    refine x_iload_n hx hb dJ11_checkIndex_5 rfl (lv_at hl 1 rfl) ?_
    refine x_icmp_lt (tgt := 16) hx hb dJ11_checkIndex_6 (by decide) (fun hc => ?_) (fun hc => ?_)
    · refine x_iload_n hx hb dJ11_checkIndex_16 rfl (lv_at hl 0 rfl) ?_
      exact x_iret hx hb hr hlk hS rfl trivial dJ11_checkIndex_17
    · refine x_aload_nO hx hb dJ11_checkIndex_9 rfl (lv_at hl 2 rfl) ?_
      refine x_iload_n hx hb dJ11_checkIndex_10 rfl (lv_at hl 0 rfl) ?_
      refine x_iload_n hx hb dJ11_checkIndex_11 rfl (lv_at hl 1 rfl) ?_
      exact X.none
section HK
variable {ρ : Type} {p : Program} {l : Launch} {e : Env} {R : Room} {s : State} {m : MethodId} {args : Array Value} {below : List Frame} {meth : Method} {c : Code} {H : Heap} {locs : List Loc} {cells slots : Nat} {Qf : ρ → State → Prop}
variable {cc : ByteArray} {pc nL L M q0 : Nat} {ls : Array Slot} {rest : List Value}
variable {D : va_G} {ct : CT} {ck : Nat → UC} {N : Nat} {ad : Nat → Nat} {P : Nat → Nat → Option Nat} {A A0 : Nat → Prop} {S : US} {w : Int64} {h : AH} {H0 : Heap}
theorem kJ8_P_checkIndex {p1 : Int32} {p2 : Int32} {p3 : (Option Nat)} (E : ME p m c cc nL s args RJ8 D clW ct) (hS : va_S A0 H0 H locs) (hA0 : ∀ q, H0.size ≤ q → A0 q) (hR : 1 + 1 ≤ R.frames ∧ 8 + (3 + 11) + 40 ≤ R.locals) (hsize : ls.size = nL) (hW : (rest.map fun v => v.category).sum ≤ 8) (hdg : decode cc pc = .ok (.invokestatic 1059, 3)) (hf : cells ≤ R.cells ∧ slots ≤ R.slots) {kp : Int32 → Option ρ} (kk : ∀ (o : Int32) (H1 : Heap) (locs1 : List Loc), H.size ≤ H1.size → (∀ q : Nat, q < H.size → H1[q]? = H[q]?) → va_S A0 H0 H1 locs1 → X p l e R s m args below meth c H1 locs1 cells slots Qf (kp o) (F0 m (pc + 3) ls (.int o :: rest))) : X p l e R s m args below meth c H locs cells slots Qf (callK (sP_checkIndex p1 p2 p3) kp) (F0 m pc ls (va_rf p3 :: .int p2 :: .int p1 :: rest)) := gc_pure (val' := fun (o : Int32) => some (.int o)) (len := 3) hS hA0 (fun o ho => rnS (As := [.int p1, .int p2, va_rf p3]) (B := fun _ => True) E trivial (mHP_checkIndex l D ct p1 p2 p3 _ o ho) (va_cwS 3 E.1.2.2.2.2 (lw_S q558 q441 q129 q442) rfl rfl rfl (by decide +kernel) hR) rfl hsize rfl hW hdg hf) kk
theorem kJ19_P_checkIndex {p1 : Int32} {p2 : Int32} {p3 : (Option Nat)} (E : ME p m c cc nL s args RJ19 D clW ct) (hS : va_S A0 H0 H locs) (hA0 : ∀ q, H0.size ≤ q → A0 q) (hR : 1 + 1 ≤ R.frames ∧ 8 + (3 + 11) + 40 ≤ R.locals) (hsize : ls.size = nL) (hW : (rest.map fun v => v.category).sum ≤ 8) (hdg : decode cc pc = .ok (.invokestatic 105, 3)) (hf : cells ≤ R.cells ∧ slots ≤ R.slots) {kp : Int32 → Option ρ} (kk : ∀ (o : Int32) (H1 : Heap) (locs1 : List Loc), H.size ≤ H1.size → (∀ q : Nat, q < H.size → H1[q]? = H[q]?) → va_S A0 H0 H1 locs1 → X p l e R s m args below meth c H1 locs1 cells slots Qf (kp o) (F0 m (pc + 3) ls (.int o :: rest))) : X p l e R s m args below meth c H locs cells slots Qf (callK (sP_checkIndex p1 p2 p3) kp) (F0 m pc ls (va_rf p3 :: .int p2 :: .int p1 :: rest)) := gc_pure (val' := fun (o : Int32) => some (.int o)) (len := 3) hS hA0 (fun o ho => rnS (As := [.int p1, .int p2, va_rf p3]) (B := fun _ => True) E trivial (mHP_checkIndex l D ct p1 p2 p3 _ o ho) (va_cwS 3 E.1.2.2.2.2 (lw_S q440 q441 q129 q442) rfl rfl rfl (by decide +kernel) hR) rfl hsize rfl hW hdg hf) kk
end HK

set_option maxHeartbeats 4000000 in
theorem mHS_checkIndex (l : Launch) (D : va_G) (ct : CT) (ck : Nat → UC) (N : Nat) (ad : Nat → Nat) (P : Nat → Nat → Option Nat) (S : US) (w : Int64) (h : AH) (p1 : Int32) (p2 : Int32) (sz : Nat) (o : Unit) (ho : sS_checkIndex ct h p1 p2 = some o) : Met l yJ8_checkIndex (ws_ yJ8_checkIndex cJ8_checkIndex 2 none) { frames := 2, cells := 0, slots := 0, locals := 62 } (mP D clW ct [.int p1, .int p2] sz (GW D clW ck ct N ad P (fun _ => True) S w h)) (mC (none) (fun _ => True) (nA sz)) 0 0 (nA sz) := by
  refine X.start (val := fun (o : Unit) => none) (Bt := fun _ _ => True) (A := nA sz) ho (by decide) (Nat.le_of_ble_eq_true rfl) (lv := [(0, .int p1), (1, .int p2)]) rfl ?_
  intro p e s m args below meth c E hr hlk hnm hsz hU ls hl
  subst hsz
  obtain ⟨⟨hx, hb, hml, hown, hts⟩, hK, hJ⟩ := id E
  have hA0 : ∀ q, s.heap.size ≤ q → (nA s.heap.size) q := fun q h => h
  have hS : va_S (nA s.heap.size) s.heap s.heap [] := va_S.rf
  unfold sS_checkIndex
  refine x_iload_n hx hb dJ8_checkIndex_0 rfl (lv_at hl 0 rfl) ?_
  refine x_iload_n hx hb dJ8_checkIndex_1 rfl (lv_at hl 1 rfl) ?_
  refine gx_gets E hU (List.mem_of_getElem? (i := 7) rfl) (hts _ q556) (fun _ h => h) dJ8_checkIndex_2 ?_
  refine kJ8_P_checkIndex E hS hA0 ⟨by decide, by decide⟩ hl.1 (Nat.le_of_ble_eq_true rfl) dJ8_checkIndex_5 ⟨Nat.le_refl _, Nat.le_refl _⟩ (fun o1 H locs hz_ hk_ hS => ?_)
  replace hU := hU.kept hz_ hk_
  refine x_pop hx hb dJ8_checkIndex_8 rfl ?_
  exact x_vret hx hb hr hlk hS rfl trivial dJ8_checkIndex_9
section HK
variable {ρ : Type} {p : Program} {l : Launch} {e : Env} {R : Room} {s : State} {m : MethodId} {args : Array Value} {below : List Frame} {meth : Method} {c : Code} {H : Heap} {locs : List Loc} {cells slots : Nat} {Qf : ρ → State → Prop}
variable {cc : ByteArray} {pc nL L M q0 : Nat} {ls : Array Slot} {rest : List Value}
variable {D : va_G} {ct : CT} {ck : Nat → UC} {N : Nat} {ad : Nat → Nat} {P : Nat → Nat → Option Nat} {A A0 : Nat → Prop} {S : US} {w : Int64} {h : AH} {H0 : Heap}
theorem kJ13_S_checkIndex {p1 : Int32} {p2 : Int32} (E : ME p m c cc nL s args RJ13 D clW ct) (hG : GW D clW ck ct N ad P A S w h H) (hS : va_S A0 H0 H locs) (hA0 : ∀ q, H0.size ≤ q → A0 q) (hR : 2 + 1 ≤ R.frames ∧ 8 + (2 + 11) + 62 ≤ R.locals) (hsize : ls.size = nL) (hW : (rest.map fun v => v.category).sum ≤ 8) (hdg : decode cc pc = .ok (.invokestatic 144, 3)) (hf : cells ≤ R.cells ∧ slots ≤ R.slots) {kp : Unit → Option ρ} (kk : ∀ (o : Unit) (H1 : Heap) (locs1 : List Loc), GW D clW ck ct N ad P A S w h H1 → va_S A0 H0 H1 locs1 → X p l e R s m args below meth c H1 locs1 cells slots Qf (kp o) (F0 m (pc + 3) ls (rest))) : X p l e R s m args below meth c H locs cells slots Qf (callK (sS_checkIndex ct h p1 p2) kp) (F0 m pc ls (.int p2 :: .int p1 :: rest)) := gc_ro (val' := fun (o : Unit) => none) (len := 3) hG hS hA0 (fun o ho => rnS (As := [.int p1, .int p2]) E (hG.to fun _ _ => trivial) (mHS_checkIndex l D ct ck N ad P S w h p1 p2 _ o ho) (va_cwS 2 E.1.2.2.2.2 (lw_S q553 q554 q126 q555) rfl rfl rfl (by decide +kernel) hR) rfl hsize rfl hW hdg hf) kk
end HK

set_option maxHeartbeats 4000000 in
theorem mHA_charAt (l : Launch) (D : va_G) (ct : CT) (ck : Nat → UC) (N : Nat) (ad : Nat → Nat) (P : Nat → Nat → Option Nat) (S : US) (w : Int64) (h : AH) (q0 : Nat) (p1 : Int32) (sz : Nat) (o : Int32) (ho : sA_charAt ct h q0 p1 = some o) : Met l yJ13_charAt (ws_ yJ13_charAt cJ13_charAt 5 (some .char)) { frames := 3, cells := 0, slots := 0, locals := 83 } (mP D clW ct [.ref q0, .int p1] sz (GW D clW ck ct N ad P (fun _ => True) S w h)) (mC (some (.int o)) (fun _ => True) (nA sz)) 0 0 (nA sz) := by
  refine X.start (val := fun (o : Int32) => some (.int o)) (Bt := fun _ _ => True) (A := nA sz) ho (by decide) (Nat.le_of_ble_eq_true rfl) (lv := [(0, .ref q0), (1, .int p1)]) rfl ?_
  intro p e s m args below meth c E hr hlk hnm hsz hU ls hl
  subst hsz
  obtain ⟨⟨hx, hb, hml, hown, hts⟩, hK, hJ⟩ := id E
  have hA0 : ∀ q, s.heap.size ≤ q → (nA s.heap.size) q := fun q h => h
  have hS : va_S (nA s.heap.size) s.heap s.heap [] := va_S.rf
  unfold sA_charAt
  refine x_aload_n hx hb dJ13_charAt_0 rfl (lv_at hl 0 rfl) ?_
  refine fx_getI E hU.2.1 (ci := 11) rfl in_J14 1 (by decide) (hts _ q1018) (fun _ h => h) dJ13_charAt_1 (fun v1 => ?_)
  refine x_istore_n (lv' := [(2, .int v1), (0, .ref q0), (1, .int p1)]) hx hb dJ13_charAt_4 rfl hl (by decide) rfl (fun ls hl => ?_)
  refine x_aload_n hx hb dJ13_charAt_5 rfl (lv_at hl 1 rfl) ?_
  refine fx_getR E hU.2.1 (ci := 11) rfl in_J14 0 (by decide) (hts _ q1017) (fun _ h => h) dJ13_charAt_6 (fun r2 => ?_)
  refine x_astore_nO (lv' := [(3, va_rf r2), (2, .int v1), (0, .ref q0), (1, .int p1)]) hx hb dJ13_charAt_9 rfl hl (by decide) rfl (fun ls hl => ?_)
  refine x_aload_n hx hb dJ13_charAt_10 rfl (lv_at hl 2 rfl) ?_
  refine fx_getI E hU.2.1 (ci := 11) rfl in_J14 3 (by decide) (hts _ q1020) (fun _ h => h) dJ13_charAt_11 (fun v3 => ?_)
  refine x_aload_nO hx hb dJ13_charAt_14 rfl (lv_at hl 0 rfl) ?_
  refine X.onR (fun b4 hb_ => ?_)
  subst hb_
  refine fx_alen E hU.2.1 (t := 2) rfl dJ13_charAt_15 (fun v5 => ?_)
  refine x_iload_n hx hb dJ13_charAt_16 rfl (lv_at hl 1 rfl) ?_
  refine x_ishr hx hb dJ13_charAt_17 ?_
  refine kJ13_min E ⟨by decide, by decide⟩ hl.1 (Nat.le_of_ble_eq_true rfl) dJ13_charAt_18 ⟨Nat.le_refl _, Nat.le_refl _⟩ ?_
  refine x_istore (lv' := [(4, .int (if (v5 >>> (v1 &&& 31)) < v3 then (v5 >>> (v1 &&& 31)) else v3)), (3, .ref b4), (2, .int v1), (0, .ref q0), (1, .int p1)]) hx hb dJ13_charAt_21 hl (by decide) rfl (fun ls hl => ?_)
  refine x_iload_n hx hb dJ13_charAt_23 rfl (lv_at hl 4 rfl) ?_
  refine x_iload hx hb dJ13_charAt_24 (lv_at hl 0 rfl) ?_
  refine kJ13_S_checkIndex E hU hS hA0 ⟨by decide, by decide⟩ hl.1 (Nat.le_of_ble_eq_true rfl) dJ13_charAt_26 ⟨Nat.le_refl _, Nat.le_refl _⟩ (fun o6 H locs hU hS => ?_)
  refine x_iload_n hx hb dJ13_charAt_29 rfl (lv_at hl 2 rfl) ?_
  refine x_if_ne (tgt := 42) hx hb dJ13_charAt_30 (by decide) (fun hc => ?_) (fun hc => ?_)
  · refine x_aload_n hx hb dJ13_charAt_42 rfl (lv_at hl 1 rfl) ?_
    refine x_iload_n hx hb dJ13_charAt_43 rfl (lv_at hl 4 rfl) ?_
    exact X.none
  · refine x_aload_n hx hb dJ13_charAt_33 rfl (lv_at hl 1 rfl) ?_
    refine x_iload_n hx hb dJ13_charAt_34 rfl (lv_at hl 4 rfl) ?_
    refine fx_baload E hU.2.1 dJ13_charAt_35 (fun v7 => ?_)
    refine x_sipush (v := 255) hx hb dJ13_charAt_36 (by decide) ?_
    refine x_iand hx hb dJ13_charAt_39 ?_
    refine x_i2c hx hb dJ13_charAt_40 rfl ?_
    refine X.ite (fun hz => ?_) (fun _ => X.none)
    exact x_zret hx hb hr hlk hS (congrArg Value.int hz) rfl trivial dJ13_charAt_41
section HK
variable {ρ : Type} {p : Program} {l : Launch} {e : Env} {R : Room} {s : State} {m : MethodId} {args : Array Value} {below : List Frame} {meth : Method} {c : Code} {H : Heap} {locs : List Loc} {cells slots : Nat} {Qf : ρ → State → Prop}
variable {cc : ByteArray} {pc nL L M q0 : Nat} {ls : Array Slot} {rest : List Value}
variable {D : va_G} {ct : CT} {ck : Nat → UC} {N : Nat} {ad : Nat → Nat} {P : Nat → Nat → Option Nat} {A A0 : Nat → Prop} {S : US} {w : Int64} {h : AH} {H0 : Heap}
theorem kJ14_A_charAt {p1 : Int32} (E : ME p m c cc nL s args RJ14 D clW ct) (hG : GW D clW ck ct N ad P A S w h H) (hS : va_S A0 H0 H locs) (hA0 : ∀ q, H0.size ≤ q → A0 q) (hR : 3 + 1 ≤ R.frames ∧ 8 + (5 + 11) + 83 ≤ R.locals) (hsize : ls.size = nL) (hW : (rest.map fun v => v.category).sum ≤ 8) (hdg : decode cc pc = .ok (.invokespecial 329, 3)) (hf : cells ≤ R.cells ∧ slots ≤ R.slots) {kp : Int32 → Option ρ} (kk : ∀ (o : Int32) (H1 : Heap) (locs1 : List Loc), GW D clW ck ct N ad P A S w h H1 → va_S A0 H0 H1 locs1 → X p l e R s m args below meth c H1 locs1 cells slots Qf (kp o) (F0 m (pc + 3) ls (.int o :: rest))) : X p l e R s m args below meth c H locs cells slots Qf (hC h q0 11 (callK (sA_charAt ct h q0 p1) kp)) (F0 m pc ls (.int p1 :: .ref q0 :: rest)) := X.hC fun fs bw hq => gc_ro (val' := fun (o : Int32) => some (.int o)) (len := 3) hG hS hA0 (fun o ho => rnSU (As := [.int p1]) (C := "java/lang/StringBuilder") E (hG.to fun _ _ => trivial) (E.2.1.1 11 _ rfl).2 (recvA E.2.1 hG.2.1 hq rfl) (mHA_charAt l D ct ck N ad P S w h q0 p1 _ o ho) (va_cwSU 1 E.1.2.2.2.2 (lw_SU q548 q2500 q549 q550 q132 q551) rfl rfl rfl (by decide +kernel) hR) rfl hsize rfl hW hdg hf) kk
end HK

set_option maxHeartbeats 4000000 in
theorem mHB_charAt (l : Launch) (D : va_G) (ct : CT) (ck : Nat → UC) (N : Nat) (ad : Nat → Nat) (P : Nat → Nat → Option Nat) (S : US) (w : Int64) (h : AH) (q0 : Nat) (p1 : Int32) (sz : Nat) (o : Int32) (ho : sB_charAt ct h q0 p1 = some o) : Met l yJ14_charAt (ws_ yJ14_charAt cJ14_charAt 2 (some .char)) { frames := 4, cells := 0, slots := 0, locals := 107 } (mP D clW ct [.ref q0, .int p1] sz (GW D clW ck ct N ad P (fun _ => True) S w h)) (mC (some (.int o)) (fun _ => True) (nA sz)) 0 0 (nA sz) := by
  refine X.start (val := fun (o : Int32) => some (.int o)) (Bt := fun _ _ => True) (A := nA sz) ho (by decide) (Nat.le_of_ble_eq_true rfl) (lv := [(0, .ref q0), (1, .int p1)]) rfl ?_
  intro p e s m args below meth c E hr hlk hnm hsz hU ls hl
  subst hsz
  obtain ⟨⟨hx, hb, hml, hown, hts⟩, hK, hJ⟩ := id E
  have hA0 : ∀ q, s.heap.size ≤ q → (nA s.heap.size) q := fun q h => h
  have hS : va_S (nA s.heap.size) s.heap s.heap [] := va_S.rf
  unfold sB_charAt
  refine x_aload_n hx hb dJ14_charAt_0 rfl (lv_at hl 0 rfl) ?_
  refine x_iload_n hx hb dJ14_charAt_1 rfl (lv_at hl 1 rfl) ?_
  refine kJ14_A_charAt E hU hS hA0 ⟨by decide, by decide⟩ hl.1 (Nat.le_of_ble_eq_true rfl) dJ14_charAt_2 ⟨Nat.le_refl _, Nat.le_refl _⟩ (fun o1 H locs hU hS => ?_)
  refine X.ite (fun hz => ?_) (fun _ => X.none)
  exact x_zret hx hb hr hlk hS (congrArg Value.int hz) rfl trivial dJ14_charAt_5
section HK
variable {ρ : Type} {p : Program} {l : Launch} {e : Env} {R : Room} {s : State} {m : MethodId} {args : Array Value} {below : List Frame} {meth : Method} {c : Code} {H : Heap} {locs : List Loc} {cells slots : Nat} {Qf : ρ → State → Prop}
variable {cc : ByteArray} {pc nL L M q0 : Nat} {ls : Array Slot} {rest : List Value}
variable {D : va_G} {ct : CT} {ck : Nat → UC} {N : Nat} {ad : Nat → Nat} {P : Nat → Nat → Option Nat} {A A0 : Nat → Prop} {S : US} {w : Int64} {h : AH} {H0 : Heap}
theorem kX7_B_charAt {p1 : Int32} (E : ME p m c cc nL s args RX7 D clW ct) (hG : GW D clW ck ct N ad P A S w h H) (hS : va_S A0 H0 H locs) (hA0 : ∀ q, H0.size ≤ q → A0 q) (hR : 4 + 1 ≤ R.frames ∧ 8 + (2 + 11) + 107 ≤ R.locals) (hsize : ls.size = nL) (hW : (rest.map fun v => v.category).sum ≤ 8) (hdg : decode cc pc = .ok (.invokevirtual 47, 3)) (hf : cells ≤ R.cells ∧ slots ≤ R.slots) {kp : Int32 → Option ρ} (kk : ∀ (o : Int32) (H1 : Heap) (locs1 : List Loc), GW D clW ck ct N ad P A S w h H1 → va_S A0 H0 H1 locs1 → X p l e R s m args below meth c H1 locs1 cells slots Qf (kp o) (F0 m (pc + 3) ls (.int o :: rest))) : X p l e R s m args below meth c H locs cells slots Qf (hC h q0 11 (callK (sB_charAt ct h q0 p1) kp)) (F0 m pc ls (.int p1 :: .ref q0 :: rest)) := X.hC fun fs bw hq => gc_ro (val' := fun (o : Int32) => some (.int o)) (len := 3) hG hS hA0 (fun o ho => rnV (As := [.int p1]) E (hG.to fun _ _ => trivial) (recvA E.2.1 hG.2.1 hq rfl) (mHB_charAt l D ct ck N ad P S w h q0 p1 _ o ho) (cwV 1 E.1.2.2.2.2 (lw_V q544 q545 q546 q133 q547) rfl rfl rfl (by decide +kernel) hR) rfl hsize rfl hW hdg hf) kk
end HK

set_option maxHeartbeats 4000000 in
theorem mH7_by (l : Launch) (D : va_G) (ct : CT) (p1 : Int32) (p2 : Int32) (p3 : Int32) (sz : Nat) (o : Int32) (ho : s7_by p1 p2 p3 = some o) : Met l yX7_by (ws_ yX7_by cX7_by 3 (some .int)) { frames := 1, cells := 0, slots := 0, locals := 40 } (mP D clW ct [.int p1, .int p2, .int p3] sz (fun _ => True)) (mC (some (.int o)) (fun _ => True) (nA sz)) 0 0 (nA sz) := by
  refine X.start (val := fun (o : Int32) => some (.int o)) (Bt := fun _ _ => True) (A := nA sz) ho (by decide) (Nat.le_of_ble_eq_true rfl) (lv := [(0, .int p1), (1, .int p2), (2, .int p3)]) rfl ?_
  intro p e s m args below meth c E hr hlk hnm hsz hU ls hl
  subst hsz
  obtain ⟨⟨hx, hb, hml, hown, hts⟩, hK, hJ⟩ := id E
  have hA0 : ∀ q, s.heap.size ≤ q → (nA s.heap.size) q := fun q h => h
  have hS : va_S (nA s.heap.size) s.heap s.heap [] := va_S.rf
  unfold s7_by
  refine x_iload_n hx hb dX7_by_0 rfl (lv_at hl 0 rfl) ?_
  refine X.ite (fun hc => ?_) (fun hc38 => ?_)
  · refine x_tabEq (tgt := 158) hx hb hc dX7_by_1 (by decide) (by decide) rfl (by decide) ?_
    refine x_iload_n hx hb dX7_by_158 rfl (lv_at hl 1 rfl) ?_
    refine x_if_eq (tgt := 170) hx hb dX7_by_159 (by decide) (fun hc => ?_) (fun hc => ?_)
    · refine x_iconst (v := 0) hx hb dX7_by_170 (by decide) ?_
      exact x_iret hx hb hr hlk hS rfl trivial dX7_by_171
    · refine x_iload_n hx hb dX7_by_162 rfl (lv_at hl 2 rfl) ?_
      refine x_if_eq (tgt := 170) hx hb dX7_by_163 (by decide) (fun hc => ?_) (fun hc => ?_)
      · refine x_iconst (v := 0) hx hb dX7_by_170 (by decide) ?_
        exact x_iret hx hb hr hlk hS rfl trivial dX7_by_171
      · refine x_iconst (v := 1) hx hb dX7_by_166 (by decide) ?_
        refine x_goto (tgt := 171) hx hb dX7_by_167 (by decide) ?_
        exact x_iret hx hb hr hlk hS rfl trivial dX7_by_171
  refine X.ite (fun hc => ?_) (fun hc42 => ?_)
  · refine x_tabEq (tgt := 120) hx hb hc dX7_by_1 (by decide) (by decide) rfl (by decide) ?_
    refine x_iload_n hx hb dX7_by_120 rfl (lv_at hl 1 rfl) ?_
    refine x_iload_n hx hb dX7_by_121 rfl (lv_at hl 2 rfl) ?_
    refine x_imul hx hb dX7_by_122 ?_
    exact x_iret hx hb hr hlk hS rfl trivial dX7_by_123
  refine X.ite (fun hc => ?_) (fun hc43 => ?_)
  · refine x_tabEq (tgt := 112) hx hb hc dX7_by_1 (by decide) (by decide) rfl (by decide) ?_
    refine x_iload_n hx hb dX7_by_112 rfl (lv_at hl 1 rfl) ?_
    refine x_iload_n hx hb dX7_by_113 rfl (lv_at hl 2 rfl) ?_
    refine x_iadd hx hb dX7_by_114 ?_
    exact x_iret hx hb hr hlk hS rfl trivial dX7_by_115
  refine X.ite (fun hc => ?_) (fun hc45 => ?_)
  · refine x_tabEq (tgt := 116) hx hb hc dX7_by_1 (by decide) (by decide) rfl (by decide) ?_
    refine x_iload_n hx hb dX7_by_116 rfl (lv_at hl 1 rfl) ?_
    refine x_iload_n hx hb dX7_by_117 rfl (lv_at hl 2 rfl) ?_
    refine x_isub hx hb dX7_by_118 ?_
    exact x_iret hx hb hr hlk hS rfl trivial dX7_by_119
  refine X.ite (fun hc => ?_) (fun hc47 => ?_)
  · refine x_tabEq (tgt := 124) hx hb hc dX7_by_1 (by decide) (by decide) rfl (by decide) ?_
    refine x_iload_n hx hb dX7_by_124 rfl (lv_at hl 2 rfl) ?_
    refine x_if_ne (tgt := 132) hx hb dX7_by_125 (by decide) (fun hc => ?_) (fun hc => ?_)
    · refine x_iload_n hx hb dX7_by_132 rfl (lv_at hl 1 rfl) ?_
      refine x_iload_n hx hb dX7_by_133 rfl (lv_at hl 2 rfl) ?_
      refine x_idivG hx hb dX7_by_134 ?_
      exact x_iret hx hb hr hlk hS rfl trivial dX7_by_135
    · refine x_iconst (v := 0) hx hb dX7_by_128 (by decide) ?_
      refine x_goto (tgt := 135) hx hb dX7_by_129 (by decide) ?_
      exact x_iret hx hb hr hlk hS rfl trivial dX7_by_135
  refine X.ite (fun hc => ?_) (fun hc60 => ?_)
  · refine x_tabEq (tgt := 136) hx hb hc dX7_by_1 (by decide) (by decide) rfl (by decide) ?_
    refine x_iload_n hx hb dX7_by_136 rfl (lv_at hl 1 rfl) ?_
    refine x_iload_n hx hb dX7_by_137 rfl (lv_at hl 2 rfl) ?_
    refine x_icmp_ge (tgt := 145) hx hb dX7_by_138 (by decide) (fun hc => ?_) (fun hc => ?_)
    · refine x_iconst (v := 0) hx hb dX7_by_145 (by decide) ?_
      exact x_iret hx hb hr hlk hS rfl trivial dX7_by_146
    · refine x_iconst (v := 1) hx hb dX7_by_141 (by decide) ?_
      refine x_goto (tgt := 146) hx hb dX7_by_142 (by decide) ?_
      exact x_iret hx hb hr hlk hS rfl trivial dX7_by_146
  refine X.ite (fun hc => ?_) (fun hc61 => ?_)
  · refine x_tabEq (tgt := 147) hx hb hc dX7_by_1 (by decide) (by decide) rfl (by decide) ?_
    refine x_iload_n hx hb dX7_by_147 rfl (lv_at hl 1 rfl) ?_
    refine x_iload_n hx hb dX7_by_148 rfl (lv_at hl 2 rfl) ?_
    refine x_icmp_ne (tgt := 156) hx hb dX7_by_149 (by decide) (fun hc => ?_) (fun hc => ?_)
    · refine x_iconst (v := 0) hx hb dX7_by_156 (by decide) ?_
      exact x_iret hx hb hr hlk hS rfl trivial dX7_by_157
    · refine x_iconst (v := 1) hx hb dX7_by_152 (by decide) ?_
      refine x_goto (tgt := 157) hx hb dX7_by_153 (by decide) ?_
      exact x_iret hx hb hr hlk hS rfl trivial dX7_by_157
  refine x_tabElse2 (n := 24) (tgt := 172) hx hb dX7_by_1 [38, 42, 43, 45, 47, 60, 61] (by decide) (by decide) (List.forall_mem_cons.mpr ⟨fun he => absurd (x_i32 he (38 : Int32) (by decide)) hc38, (List.forall_mem_cons.mpr ⟨fun he => absurd (x_i32 he (42 : Int32) (by decide)) hc42, (List.forall_mem_cons.mpr ⟨fun he => absurd (x_i32 he (43 : Int32) (by decide)) hc43, (List.forall_mem_cons.mpr ⟨fun he => absurd (x_i32 he (45 : Int32) (by decide)) hc45, (List.forall_mem_cons.mpr ⟨fun he => absurd (x_i32 he (47 : Int32) (by decide)) hc47, (List.forall_mem_cons.mpr ⟨fun he => absurd (x_i32 he (60 : Int32) (by decide)) hc60, (List.forall_mem_cons.mpr ⟨fun he => absurd (x_i32 he (61 : Int32) (by decide)) hc61, (fun _ h => absurd h List.not_mem_nil)⟩)⟩)⟩)⟩)⟩)⟩)⟩) (by decide) ?_
  refine x_iload_n hx hb dX7_by_172 rfl (lv_at hl 1 rfl) ?_
  refine x_if_ne (tgt := 180) hx hb dX7_by_173 (by decide) (fun hc => ?_) (fun hc => ?_)
  · refine x_iconst (v := 1) hx hb dX7_by_180 (by decide) ?_
    refine x_goto (tgt := 185) hx hb dX7_by_181 (by decide) ?_
    exact x_iret hx hb hr hlk hS rfl trivial dX7_by_185
  · refine x_iload_n hx hb dX7_by_176 rfl (lv_at hl 2 rfl) ?_
    refine x_if_eq (tgt := 184) hx hb dX7_by_177 (by decide) (fun hc => ?_) (fun hc => ?_)
    · refine x_iconst (v := 0) hx hb dX7_by_184 (by decide) ?_
      exact x_iret hx hb hr hlk hS rfl trivial dX7_by_185
    · refine x_iconst (v := 1) hx hb dX7_by_180 (by decide) ?_
      refine x_goto (tgt := 185) hx hb dX7_by_181 (by decide) ?_
      exact x_iret hx hb hr hlk hS rfl trivial dX7_by_185
section HK
variable {ρ : Type} {p : Program} {l : Launch} {e : Env} {R : Room} {s : State} {m : MethodId} {args : Array Value} {below : List Frame} {meth : Method} {c : Code} {H : Heap} {locs : List Loc} {cells slots : Nat} {Qf : ρ → State → Prop}
variable {cc : ByteArray} {pc nL L M q0 : Nat} {ls : Array Slot} {rest : List Value}
variable {D : va_G} {ct : CT} {ck : Nat → UC} {N : Nat} {ad : Nat → Nat} {P : Nat → Nat → Option Nat} {A A0 : Nat → Prop} {S : US} {w : Int64} {h : AH} {H0 : Heap}
theorem kX7_7_by {p1 : Int32} {p2 : Int32} {p3 : Int32} (E : ME p m c cc nL s args RX7 D clW ct) (hS : va_S A0 H0 H locs) (hA0 : ∀ q, H0.size ≤ q → A0 q) (hR : 1 + 1 ≤ R.frames ∧ 8 + (3 + 11) + 40 ≤ R.locals) (hsize : ls.size = nL) (hW : (rest.map fun v => v.category).sum ≤ 8) (hdg : decode cc pc = .ok (.invokestatic 51, 3)) (hf : cells ≤ R.cells ∧ slots ≤ R.slots) {kp : Int32 → Option ρ} (kk : ∀ (o : Int32) (H1 : Heap) (locs1 : List Loc), H.size ≤ H1.size → (∀ q : Nat, q < H.size → H1[q]? = H[q]?) → va_S A0 H0 H1 locs1 → X p l e R s m args below meth c H1 locs1 cells slots Qf (kp o) (F0 m (pc + 3) ls (.int o :: rest))) : X p l e R s m args below meth c H locs cells slots Qf (callK (s7_by p1 p2 p3) kp) (F0 m pc ls (.int p3 :: .int p2 :: .int p1 :: rest)) := gc_pure (val' := fun (o : Int32) => some (.int o)) (len := 3) hS hA0 (fun o ho => rnS (As := [.int p1, .int p2, .int p3]) (B := fun _ => True) E trivial (mH7_by l D ct p1 p2 p3 _ o ho) (va_cwS 3 E.1.2.2.2.2 (lw_S q571 q572 q140 q573) rfl rfl rfl (by decide +kernel) hR) rfl hsize rfl hW hdg hf) kk
end HK

set_option maxHeartbeats 4000000 in
theorem mHL_elementData (l : Launch) (D : va_G) (ct : CT) (ck : Nat → UC) (N : Nat) (ad : Nat → Nat) (P : Nat → Nat → Option Nat) (S : US) (w : Int64) (h : AH) (q0 : Nat) (p1 : Int32) (sz : Nat) (o : (Option Nat)) (ho : sL_elementData h q0 p1 = some o) : Met l yJ2_elementData (ws_ yJ2_elementData cJ2_elementData 2 (some (.object "java/lang/Object"))) { frames := 1, cells := 0, slots := 0, locals := 40 } (mP D clW ct [.ref q0, .int p1] sz (GW D clW ck ct N ad P (fun _ => True) S w h)) (mC (some (va_rf o)) (fun _ => True) (nA sz)) 0 0 (nA sz) := by
  refine X.start (val := fun (o : (Option Nat)) => some (va_rf o)) (Bt := fun _ _ => True) (A := nA sz) ho (by decide) (Nat.le_of_ble_eq_true rfl) (lv := [(0, .ref q0), (1, .int p1)]) rfl ?_
  intro p e s m args below meth c E hr hlk hnm hsz hU ls hl
  subst hsz
  obtain ⟨⟨hx, hb, hml, hown, hts⟩, hK, hJ⟩ := id E
  replace hr : meth.sig.returnType = some (FieldType.object "java/lang/Object") ∧ ((∃ n, (FieldType.object "java/lang/Object") = .object n) ∨ ∃ t, (FieldType.object "java/lang/Object") = .array t) := ⟨hr, Or.inl ⟨_, rfl⟩⟩
  have hA0 : ∀ q, s.heap.size ≤ q → (nA s.heap.size) q := fun q h => h
  have hS : va_S (nA s.heap.size) s.heap s.heap [] := va_S.rf
  unfold sL_elementData
  refine x_aload_n hx hb dJ2_elementData_0 rfl (lv_at hl 0 rfl) ?_
  refine fx_getR E hU.2.1 (ci := 10) rfl in_J2 1 (by decide) (hts _ q177) (fun _ h => h) dJ2_elementData_1 (fun r1 => ?_)
  refine x_iload_n hx hb dJ2_elementData_4 rfl (lv_at hl 1 rfl) ?_
  refine X.onR (fun b2 hb_ => ?_)
  subst hb_
  refine fx_aaload E hU.2.1 (t := 4) rfl dJ2_elementData_5 (fun r3 => ?_)
  exact x_aretO hx hb hr hlk hS rfl trivial dJ2_elementData_6
section HK
variable {ρ : Type} {p : Program} {l : Launch} {e : Env} {R : Room} {s : State} {m : MethodId} {args : Array Value} {below : List Frame} {meth : Method} {c : Code} {H : Heap} {locs : List Loc} {cells slots : Nat} {Qf : ρ → State → Prop}
variable {cc : ByteArray} {pc nL L M q0 : Nat} {ls : Array Slot} {rest : List Value}
variable {D : va_G} {ct : CT} {ck : Nat → UC} {N : Nat} {ad : Nat → Nat} {P : Nat → Nat → Option Nat} {A A0 : Nat → Prop} {S : US} {w : Int64} {h : AH} {H0 : Heap}
theorem kJ2_L_elementData {p1 : Int32} (E : ME p m c cc nL s args RJ2 D clW ct) (hG : GW D clW ck ct N ad P A S w h H) (hS : va_S A0 H0 H locs) (hA0 : ∀ q, H0.size ≤ q → A0 q) (hR : 1 + 1 ≤ R.frames ∧ 8 + (2 + 11) + 40 ≤ R.locals) (hsize : ls.size = nL) (hW : (rest.map fun v => v.category).sum ≤ 8) (hdg : decode cc pc = .ok (.invokevirtual 123, 3)) (hf : cells ≤ R.cells ∧ slots ≤ R.slots) {kp : (Option Nat) → Option ρ} (kk : ∀ (o : (Option Nat)) (H1 : Heap) (locs1 : List Loc), GW D clW ck ct N ad P A S w h H1 → va_S A0 H0 H1 locs1 → X p l e R s m args below meth c H1 locs1 cells slots Qf (kp o) (F0 m (pc + 3) ls (va_rf o :: rest))) : X p l e R s m args below meth c H locs cells slots Qf (hC h q0 10 (callK (sL_elementData h q0 p1) kp)) (F0 m pc ls (.int p1 :: .ref q0 :: rest)) := X.hC fun fs bw hq => gc_ro (val' := fun (o : (Option Nat)) => some (va_rf o)) (len := 3) hG hS hA0 (fun o ho => rnV (As := [.int p1]) E (hG.to fun _ _ => trivial) (recvA E.2.1 hG.2.1 hq rfl) (mHL_elementData l D ct ck N ad P S w h q0 p1 _ o ho) (cwV 1 E.1.2.2.2.2 (lw_V q515 q516 q517 q117 q518) rfl rfl rfl (by decide +kernel) hR) rfl hsize rfl hW hdg hf) kk
end HK

set_option maxHeartbeats 4000000 in
theorem mHO_checkIndex (l : Launch) (D : va_G) (ct : CT) (p1 : Int32) (p2 : Int32) (sz : Nat) (o : Int32) (ho : sO_checkIndex p1 p2 = some o) : Met l yJ19_checkIndex (ws_ yJ19_checkIndex cJ19_checkIndex 2 (some .int)) { frames := 2, cells := 0, slots := 0, locals := 62 } (mP D clW ct [.int p1, .int p2] sz (fun _ => True)) (mC (some (.int o)) (fun _ => True) (nA sz)) 0 0 (nA sz) := by
  refine X.start (val := fun (o : Int32) => some (.int o)) (Bt := fun _ _ => True) (A := nA sz) ho (by decide) (Nat.le_of_ble_eq_true rfl) (lv := [(0, .int p1), (1, .int p2)]) rfl ?_
  intro p e s m args below meth c E hr hlk hnm hsz hU ls hl
  subst hsz
  obtain ⟨⟨hx, hb, hml, hown, hts⟩, hK, hJ⟩ := id E
  have hA0 : ∀ q, s.heap.size ≤ q → (nA s.heap.size) q := fun q h => h
  have hS : va_S (nA s.heap.size) s.heap s.heap [] := va_S.rf
  unfold sO_checkIndex
  refine x_iload_n hx hb dJ19_checkIndex_0 rfl (lv_at hl 0 rfl) ?_
  refine x_iload_n hx hb dJ19_checkIndex_1 rfl (lv_at hl 1 rfl) ?_
  refine x_null hx hb dJ19_checkIndex_2 ?_
  refine kJ19_P_checkIndex E hS hA0 ⟨by decide, by decide⟩ hl.1 (Nat.le_of_ble_eq_true rfl) dJ19_checkIndex_3 ⟨Nat.le_refl _, Nat.le_refl _⟩ (fun o1 H locs hz_ hk_ hS => ?_)
  exact x_iret hx hb hr hlk hS rfl trivial dJ19_checkIndex_6
section HK
variable {ρ : Type} {p : Program} {l : Launch} {e : Env} {R : Room} {s : State} {m : MethodId} {args : Array Value} {below : List Frame} {meth : Method} {c : Code} {H : Heap} {locs : List Loc} {cells slots : Nat} {Qf : ρ → State → Prop}
variable {cc : ByteArray} {pc nL L M q0 : Nat} {ls : Array Slot} {rest : List Value}
variable {D : va_G} {ct : CT} {ck : Nat → UC} {N : Nat} {ad : Nat → Nat} {P : Nat → Nat → Option Nat} {A A0 : Nat → Prop} {S : US} {w : Int64} {h : AH} {H0 : Heap}
theorem kJ2_O_checkIndex {p1 : Int32} {p2 : Int32} (E : ME p m c cc nL s args RJ2 D clW ct) (hS : va_S A0 H0 H locs) (hA0 : ∀ q, H0.size ≤ q → A0 q) (hR : 2 + 1 ≤ R.frames ∧ 8 + (2 + 11) + 62 ≤ R.locals) (hsize : ls.size = nL) (hW : (rest.map fun v => v.category).sum ≤ 8) (hdg : decode cc pc = .ok (.invokestatic 118, 3)) (hf : cells ≤ R.cells ∧ slots ≤ R.slots) {kp : Int32 → Option ρ} (kk : ∀ (o : Int32) (H1 : Heap) (locs1 : List Loc), H.size ≤ H1.size → (∀ q : Nat, q < H.size → H1[q]? = H[q]?) → va_S A0 H0 H1 locs1 → X p l e R s m args below meth c H1 locs1 cells slots Qf (kp o) (F0 m (pc + 3) ls (.int o :: rest))) : X p l e R s m args below meth c H locs cells slots Qf (callK (sO_checkIndex p1 p2) kp) (F0 m pc ls (.int p2 :: .int p1 :: rest)) := gc_pure (val' := fun (o : Int32) => some (.int o)) (len := 3) hS hA0 (fun o ho => rnS (As := [.int p1, .int p2]) (B := fun _ => True) E trivial (mHO_checkIndex l D ct p1 p2 _ o ho) (va_cwS 2 E.1.2.2.2.2 (lw_S q437 q438 q139 q439) rfl rfl rfl (by decide +kernel) hR) rfl hsize rfl hW hdg hf) kk
end HK

set_option maxHeartbeats 4000000 in
theorem mHL_get (l : Launch) (D : va_G) (ct : CT) (ck : Nat → UC) (N : Nat) (ad : Nat → Nat) (P : Nat → Nat → Option Nat) (S : US) (w : Int64) (h : AH) (q0 : Nat) (p1 : Int32) (sz : Nat) (o : (Option Nat)) (ho : sL_get h q0 p1 = some o) : Met l yJ2_get (ws_ yJ2_get cJ2_get 2 (some (.object "java/lang/Object"))) { frames := 3, cells := 0, slots := 0, locals := 83 } (mP D clW ct [.ref q0, .int p1] sz (GW D clW ck ct N ad P (fun _ => True) S w h)) (mC (some (va_rf o)) (fun _ => True) (nA sz)) 0 0 (nA sz) := by
  refine X.start (val := fun (o : (Option Nat)) => some (va_rf o)) (Bt := fun _ _ => True) (A := nA sz) ho (by decide) (Nat.le_of_ble_eq_true rfl) (lv := [(0, .ref q0), (1, .int p1)]) rfl ?_
  intro p e s m args below meth c E hr hlk hnm hsz hU ls hl
  subst hsz
  obtain ⟨⟨hx, hb, hml, hown, hts⟩, hK, hJ⟩ := id E
  replace hr : meth.sig.returnType = some (FieldType.object "java/lang/Object") ∧ ((∃ n, (FieldType.object "java/lang/Object") = .object n) ∨ ∃ t, (FieldType.object "java/lang/Object") = .array t) := ⟨hr, Or.inl ⟨_, rfl⟩⟩
  have hA0 : ∀ q, s.heap.size ≤ q → (nA s.heap.size) q := fun q h => h
  have hS : va_S (nA s.heap.size) s.heap s.heap [] := va_S.rf
  unfold sL_get
  refine x_iload_n hx hb dJ2_get_0 rfl (lv_at hl 1 rfl) ?_
  refine x_aload_n hx hb dJ2_get_1 rfl (lv_at hl 0 rfl) ?_
  refine fx_getI E hU.2.1 (ci := 10) rfl in_J2 2 (by decide) (hts _ q178) (fun _ h => h) dJ2_get_2 (fun v1 => ?_)
  refine kJ2_O_checkIndex E hS hA0 ⟨by decide, by decide⟩ hl.1 (Nat.le_of_ble_eq_true rfl) dJ2_get_5 ⟨Nat.le_refl _, Nat.le_refl _⟩ (fun o2 H locs hz_ hk_ hS => ?_)
  replace hU := hU.kept hz_ hk_
  refine x_pop hx hb dJ2_get_8 rfl ?_
  refine x_aload_n hx hb dJ2_get_9 rfl (lv_at hl 0 rfl) ?_
  refine x_iload_n hx hb dJ2_get_10 rfl (lv_at hl 1 rfl) ?_
  refine kJ2_L_elementData E hU hS hA0 ⟨by decide, by decide⟩ hl.1 (Nat.le_of_ble_eq_true rfl) dJ2_get_11 ⟨Nat.le_refl _, Nat.le_refl _⟩ (fun o3 H locs hU hS => ?_)
  exact x_aretO hx hb hr hlk hS rfl trivial dJ2_get_14
section HK
variable {ρ : Type} {p : Program} {l : Launch} {e : Env} {R : Room} {s : State} {m : MethodId} {args : Array Value} {below : List Frame} {meth : Method} {c : Code} {H : Heap} {locs : List Loc} {cells slots : Nat} {Qf : ρ → State → Prop}
variable {cc : ByteArray} {pc nL L M q0 : Nat} {ls : Array Slot} {rest : List Value}
variable {D : va_G} {ct : CT} {ck : Nat → UC} {N : Nat} {ad : Nat → Nat} {P : Nat → Nat → Option Nat} {A A0 : Nat → Prop} {S : US} {w : Int64} {h : AH} {H0 : Heap}
theorem kX1_L_get {p1 : Int32} (E : ME p m c cc nL s args RX1 D clW ct) (hG : GW D clW ck ct N ad P A S w h H) (hS : va_S A0 H0 H locs) (hA0 : ∀ q, H0.size ≤ q → A0 q) (hR : 3 + 1 ≤ R.frames ∧ 8 + (2 + 11) + 83 ≤ R.locals) (hsize : ls.size = nL) (hW : (rest.map fun v => v.category).sum ≤ 8) (hdg : decode cc pc = .ok (.invokeinterface 180 2, 5)) (hf : cells ≤ R.cells ∧ slots ≤ R.slots) {kp : (Option Nat) → Option ρ} (kk : ∀ (o : (Option Nat)) (H1 : Heap) (locs1 : List Loc), GW D clW ck ct N ad P A S w h H1 → va_S A0 H0 H1 locs1 → X p l e R s m args below meth c H1 locs1 cells slots Qf (kp o) (F0 m (pc + 5) ls (va_rf o :: rest))) : X p l e R s m args below meth c H locs cells slots Qf (hC h q0 10 (callK (sL_get h q0 p1) kp)) (F0 m pc ls (.int p1 :: .ref q0 :: rest)) := X.hC fun fs bw hq => gc_ro (val' := fun (o : (Option Nat)) => some (va_rf o)) (len := 5) hG hS hA0 (fun o ho => rnF (As := [.int p1]) E (hG.to fun _ _ => trivial) (E.2.1.1 10 _ rfl).2 (recvA E.2.1 hG.2.1 hq rfl) (mHL_get l D ct ck N ad P S w h q0 p1 _ o ho) (va_cwF 1 E.1.2.2.2.2 (lw_F q1431 q510 q512 q117 q514) rfl rfl rfl (E.2.2.2.2.2.1 ("java/util/ArrayList", ⟨"java/util/List", "get", "(I)Ljava/lang/Object;"⟩, ⟨"java/util/ArrayList", "get", "(I)Ljava/lang/Object;"⟩) (List.mem_of_getElem? (i := 3) rfl)) (by decide +kernel) hR) rfl hsize rfl hW hdg hf) kk
theorem kX7_L_get {p1 : Int32} (E : ME p m c cc nL s args RX7 D clW ct) (hG : GW D clW ck ct N ad P A S w h H) (hS : va_S A0 H0 H locs) (hA0 : ∀ q, H0.size ≤ q → A0 q) (hR : 3 + 1 ≤ R.frames ∧ 8 + (2 + 11) + 83 ≤ R.locals) (hsize : ls.size = nL) (hW : (rest.map fun v => v.category).sum ≤ 8) (hdg : decode cc pc = .ok (.invokeinterface 37 2, 5)) (hf : cells ≤ R.cells ∧ slots ≤ R.slots) {kp : (Option Nat) → Option ρ} (kk : ∀ (o : (Option Nat)) (H1 : Heap) (locs1 : List Loc), GW D clW ck ct N ad P A S w h H1 → va_S A0 H0 H1 locs1 → X p l e R s m args below meth c H1 locs1 cells slots Qf (kp o) (F0 m (pc + 5) ls (va_rf o :: rest))) : X p l e R s m args below meth c H locs cells slots Qf (hC h q0 10 (callK (sL_get h q0 p1) kp)) (F0 m pc ls (.int p1 :: .ref q0 :: rest)) := X.hC fun fs bw hq => gc_ro (val' := fun (o : (Option Nat)) => some (va_rf o)) (len := 5) hG hS hA0 (fun o ho => rnF (As := [.int p1]) E (hG.to fun _ _ => trivial) (E.2.1.1 10 _ rfl).2 (recvA E.2.1 hG.2.1 hq rfl) (mHL_get l D ct ck N ad P S w h q0 p1 _ o ho) (va_cwF 1 E.1.2.2.2.2 (lw_F q507 q510 q512 q117 q514) rfl rfl rfl (E.2.2.2.2.2.1 ("java/util/ArrayList", ⟨"java/util/List", "get", "(I)Ljava/lang/Object;"⟩, ⟨"java/util/ArrayList", "get", "(I)Ljava/lang/Object;"⟩) (List.mem_of_getElem? (i := 3) rfl)) (by decide +kernel) hR) rfl hsize rfl hW hdg hf) kk
theorem kX3_L_get {p1 : Int32} (E : ME p m c cc nL s args RX3 D clW ct) (hG : GW D clW ck ct N ad P A S w h H) (hS : va_S A0 H0 H locs) (hA0 : ∀ q, H0.size ≤ q → A0 q) (hR : 3 + 1 ≤ R.frames ∧ 8 + (2 + 11) + 83 ≤ R.locals) (hsize : ls.size = nL) (hW : (rest.map fun v => v.category).sum ≤ 8) (hdg : decode cc pc = .ok (.invokeinterface 115 2, 5)) (hf : cells ≤ R.cells ∧ slots ≤ R.slots) {kp : (Option Nat) → Option ρ} (kk : ∀ (o : (Option Nat)) (H1 : Heap) (locs1 : List Loc), GW D clW ck ct N ad P A S w h H1 → va_S A0 H0 H1 locs1 → X p l e R s m args below meth c H1 locs1 cells slots Qf (kp o) (F0 m (pc + 5) ls (va_rf o :: rest))) : X p l e R s m args below meth c H locs cells slots Qf (hC h q0 10 (callK (sL_get h q0 p1) kp)) (F0 m pc ls (.int p1 :: .ref q0 :: rest)) := X.hC fun fs bw hq => gc_ro (val' := fun (o : (Option Nat)) => some (va_rf o)) (len := 5) hG hS hA0 (fun o ho => rnF (As := [.int p1]) E (hG.to fun _ _ => trivial) (E.2.1.1 10 _ rfl).2 (recvA E.2.1 hG.2.1 hq rfl) (mHL_get l D ct ck N ad P S w h q0 p1 _ o ho) (va_cwF 1 E.1.2.2.2.2 (lw_F q597 q510 q512 q117 q514) rfl rfl rfl (E.2.2.2.2.2.1 ("java/util/ArrayList", ⟨"java/util/List", "get", "(I)Ljava/lang/Object;"⟩, ⟨"java/util/ArrayList", "get", "(I)Ljava/lang/Object;"⟩) (List.mem_of_getElem? (i := 3) rfl)) (by decide +kernel) hR) rfl hsize rfl hW hdg hf) kk
end HK

set_option maxHeartbeats 4000000 in
theorem mHL_size (l : Launch) (D : va_G) (ct : CT) (ck : Nat → UC) (N : Nat) (ad : Nat → Nat) (P : Nat → Nat → Option Nat) (S : US) (w : Int64) (h : AH) (q0 : Nat) (sz : Nat) (o : Int32) (ho : sL_size h q0 = some o) : Met l yJ2_size (ws_ yJ2_size cJ2_size 1 (some .int)) { frames := 1, cells := 0, slots := 0, locals := 40 } (mP D clW ct [.ref q0] sz (GW D clW ck ct N ad P (fun _ => True) S w h)) (mC (some (.int o)) (fun _ => True) (nA sz)) 0 0 (nA sz) := by
  refine X.start (val := fun (o : Int32) => some (.int o)) (Bt := fun _ _ => True) (A := nA sz) ho (by decide) (Nat.le_of_ble_eq_true rfl) (lv := [(0, .ref q0)]) rfl ?_
  intro p e s m args below meth c E hr hlk hnm hsz hU ls hl
  subst hsz
  obtain ⟨⟨hx, hb, hml, hown, hts⟩, hK, hJ⟩ := id E
  have hA0 : ∀ q, s.heap.size ≤ q → (nA s.heap.size) q := fun q h => h
  have hS : va_S (nA s.heap.size) s.heap s.heap [] := va_S.rf
  unfold sL_size
  refine x_aload_n hx hb dJ2_size_0 rfl (lv_at hl 0 rfl) ?_
  refine fx_getI E hU.2.1 (ci := 10) rfl in_J2 2 (by decide) (hts _ q178) (fun _ h => h) dJ2_size_1 (fun v1 => ?_)
  exact x_iret hx hb hr hlk hS rfl trivial dJ2_size_4
section HK
variable {ρ : Type} {p : Program} {l : Launch} {e : Env} {R : Room} {s : State} {m : MethodId} {args : Array Value} {below : List Frame} {meth : Method} {c : Code} {H : Heap} {locs : List Loc} {cells slots : Nat} {Qf : ρ → State → Prop}
variable {cc : ByteArray} {pc nL L M q0 : Nat} {ls : Array Slot} {rest : List Value}
variable {D : va_G} {ct : CT} {ck : Nat → UC} {N : Nat} {ad : Nat → Nat} {P : Nat → Nat → Option Nat} {A A0 : Nat → Prop} {S : US} {w : Int64} {h : AH} {H0 : Heap}
theorem kX1_L_size (E : ME p m c cc nL s args RX1 D clW ct) (hG : GW D clW ck ct N ad P A S w h H) (hS : va_S A0 H0 H locs) (hA0 : ∀ q, H0.size ≤ q → A0 q) (hR : 1 + 1 ≤ R.frames ∧ 8 + (1 + 11) + 40 ≤ R.locals) (hsize : ls.size = nL) (hW : (rest.map fun v => v.category).sum ≤ 8) (hdg : decode cc pc = .ok (.invokeinterface 121 1, 5)) (hf : cells ≤ R.cells ∧ slots ≤ R.slots) {kp : Int32 → Option ρ} (kk : ∀ (o : Int32) (H1 : Heap) (locs1 : List Loc), GW D clW ck ct N ad P A S w h H1 → va_S A0 H0 H1 locs1 → X p l e R s m args below meth c H1 locs1 cells slots Qf (kp o) (F0 m (pc + 5) ls (.int o :: rest))) : X p l e R s m args below meth c H locs cells slots Qf (hC h q0 10 (callK (sL_size h q0) kp)) (F0 m pc ls (.ref q0 :: rest)) := X.hC fun fs bw hq => gc_ro (val' := fun (o : Int32) => some (.int o)) (len := 5) hG hS hA0 (fun o ho => rnF (As := []) E (hG.to fun _ _ => trivial) (E.2.1.1 10 _ rfl).2 (recvA E.2.1 hG.2.1 hq rfl) (mHL_size l D ct ck N ad P S w h q0 _ o ho) (va_cwF 0 E.1.2.2.2.2 (lw_F q420 q423 q425 q117 q427) rfl rfl rfl (E.2.2.2.2.2.1 ("java/util/ArrayList", ⟨"java/util/List", "size", "()I"⟩, ⟨"java/util/ArrayList", "size", "()I"⟩) (List.mem_of_getElem? (i := 1) rfl)) (by decide +kernel) hR) rfl hsize rfl hW hdg hf) kk
theorem kX7_L_size (E : ME p m c cc nL s args RX7 D clW ct) (hG : GW D clW ck ct N ad P A S w h H) (hS : va_S A0 H0 H locs) (hA0 : ∀ q, H0.size ≤ q → A0 q) (hR : 1 + 1 ≤ R.frames ∧ 8 + (1 + 11) + 40 ≤ R.locals) (hsize : ls.size = nL) (hW : (rest.map fun v => v.category).sum ≤ 8) (hdg : decode cc pc = .ok (.invokeinterface 33 1, 5)) (hf : cells ≤ R.cells ∧ slots ≤ R.slots) {kp : Int32 → Option ρ} (kk : ∀ (o : Int32) (H1 : Heap) (locs1 : List Loc), GW D clW ck ct N ad P A S w h H1 → va_S A0 H0 H1 locs1 → X p l e R s m args below meth c H1 locs1 cells slots Qf (kp o) (F0 m (pc + 5) ls (.int o :: rest))) : X p l e R s m args below meth c H locs cells slots Qf (hC h q0 10 (callK (sL_size h q0) kp)) (F0 m pc ls (.ref q0 :: rest)) := X.hC fun fs bw hq => gc_ro (val' := fun (o : Int32) => some (.int o)) (len := 5) hG hS hA0 (fun o ho => rnF (As := []) E (hG.to fun _ _ => trivial) (E.2.1.1 10 _ rfl).2 (recvA E.2.1 hG.2.1 hq rfl) (mHL_size l D ct ck N ad P S w h q0 _ o ho) (va_cwF 0 E.1.2.2.2.2 (lw_F q543 q423 q425 q117 q427) rfl rfl rfl (E.2.2.2.2.2.1 ("java/util/ArrayList", ⟨"java/util/List", "size", "()I"⟩, ⟨"java/util/ArrayList", "size", "()I"⟩) (List.mem_of_getElem? (i := 1) rfl)) (by decide +kernel) hR) rfl hsize rfl hW hdg hf) kk
theorem kX2_L_size (E : ME p m c cc nL s args RX2 D clW ct) (hG : GW D clW ck ct N ad P A S w h H) (hS : va_S A0 H0 H locs) (hA0 : ∀ q, H0.size ≤ q → A0 q) (hR : 1 + 1 ≤ R.frames ∧ 8 + (1 + 11) + 40 ≤ R.locals) (hsize : ls.size = nL) (hW : (rest.map fun v => v.category).sum ≤ 8) (hdg : decode cc pc = .ok (.invokeinterface 28 1, 5)) (hf : cells ≤ R.cells ∧ slots ≤ R.slots) {kp : Int32 → Option ρ} (kk : ∀ (o : Int32) (H1 : Heap) (locs1 : List Loc), GW D clW ck ct N ad P A S w h H1 → va_S A0 H0 H1 locs1 → X p l e R s m args below meth c H1 locs1 cells slots Qf (kp o) (F0 m (pc + 5) ls (.int o :: rest))) : X p l e R s m args below meth c H locs cells slots Qf (hC h q0 10 (callK (sL_size h q0) kp)) (F0 m pc ls (.ref q0 :: rest)) := X.hC fun fs bw hq => gc_ro (val' := fun (o : Int32) => some (.int o)) (len := 5) hG hS hA0 (fun o ho => rnF (As := []) E (hG.to fun _ _ => trivial) (E.2.1.1 10 _ rfl).2 (recvA E.2.1 hG.2.1 hq rfl) (mHL_size l D ct ck N ad P S w h q0 _ o ho) (va_cwF 0 E.1.2.2.2.2 (lw_F q489 q423 q425 q117 q427) rfl rfl rfl (E.2.2.2.2.2.1 ("java/util/ArrayList", ⟨"java/util/List", "size", "()I"⟩, ⟨"java/util/ArrayList", "size", "()I"⟩) (List.mem_of_getElem? (i := 1) rfl)) (by decide +kernel) hR) rfl hsize rfl hW hdg hf) kk
end HK

set_option maxHeartbeats 4000000 in
theorem mHL_isEmpty (l : Launch) (D : va_G) (ct : CT) (ck : Nat → UC) (N : Nat) (ad : Nat → Nat) (P : Nat → Nat → Option Nat) (S : US) (w : Int64) (h : AH) (q0 : Nat) (sz : Nat) (o : Bool) (ho : sL_isEmpty h q0 = some o) : Met l yJ2_isEmpty (ws_ yJ2_isEmpty cJ2_isEmpty 1 (some .boolean)) { frames := 1, cells := 0, slots := 0, locals := 40 } (mP D clW ct [.ref q0] sz (GW D clW ck ct N ad P (fun _ => True) S w h)) (mC (some (.int (bI o))) (fun _ => True) (nA sz)) 0 0 (nA sz) := by
  refine X.start (val := fun (o : Bool) => some (.int (bI o))) (Bt := fun _ _ => True) (A := nA sz) ho (by decide) (Nat.le_of_ble_eq_true rfl) (lv := [(0, .ref q0)]) rfl ?_
  intro p e s m args below meth c E hr hlk hnm hsz hU ls hl
  subst hsz
  obtain ⟨⟨hx, hb, hml, hown, hts⟩, hK, hJ⟩ := id E
  have hA0 : ∀ q, s.heap.size ≤ q → (nA s.heap.size) q := fun q h => h
  have hS : va_S (nA s.heap.size) s.heap s.heap [] := va_S.rf
  unfold sL_isEmpty
  refine x_aload_n hx hb dJ2_isEmpty_0 rfl (lv_at hl 0 rfl) ?_
  refine fx_getI E hU.2.1 (ci := 10) rfl in_J2 2 (by decide) (hts _ q178) (fun _ h => h) dJ2_isEmpty_1 (fun v1 => ?_)
  refine x_if_ne (tgt := 11) hx hb dJ2_isEmpty_4 (by decide) (fun hc => ?_) (fun hc => ?_)
  · refine x_iconst (v := 0) hx hb dJ2_isEmpty_11 (by decide) ?_
    exact x_zret hx hb hr hlk hS rfl rfl trivial dJ2_isEmpty_12
  · refine x_iconst (v := 1) hx hb dJ2_isEmpty_7 (by decide) ?_
    refine x_goto (tgt := 12) hx hb dJ2_isEmpty_8 (by decide) ?_
    exact x_zret hx hb hr hlk hS rfl rfl trivial dJ2_isEmpty_12

set_option maxHeartbeats 4000000 in
theorem mHN_intValue (l : Launch) (D : va_G) (ct : CT) (ck : Nat → UC) (N : Nat) (ad : Nat → Nat) (P : Nat → Nat → Option Nat) (S : US) (w : Int64) (h : AH) (q0 : Nat) (sz : Nat) (o : Int32) (ho : sN_intValue h q0 = some o) : Met l yJ18_intValue (ws_ yJ18_intValue cJ18_intValue 1 (some .int)) { frames := 1, cells := 0, slots := 0, locals := 40 } (mP D clW ct [.ref q0] sz (GW D clW ck ct N ad P (fun _ => True) S w h)) (mC (some (.int o)) (fun _ => True) (nA sz)) 0 0 (nA sz) := by
  refine X.start (val := fun (o : Int32) => some (.int o)) (Bt := fun _ _ => True) (A := nA sz) ho (by decide) (Nat.le_of_ble_eq_true rfl) (lv := [(0, .ref q0)]) rfl ?_
  intro p e s m args below meth c E hr hlk hnm hsz hU ls hl
  subst hsz
  obtain ⟨⟨hx, hb, hml, hown, hts⟩, hK, hJ⟩ := id E
  have hA0 : ∀ q, s.heap.size ≤ q → (nA s.heap.size) q := fun q h => h
  have hS : va_S (nA s.heap.size) s.heap s.heap [] := va_S.rf
  unfold sN_intValue
  refine x_aload_n hx hb dJ18_intValue_0 rfl (lv_at hl 0 rfl) ?_
  refine fx_getI E hU.2.1 (ci := 12) rfl in_J18 0 (by decide) (hts _ q1358) (fun _ h => h) dJ18_intValue_1 (fun v1 => ?_)
  exact x_iret hx hb hr hlk hS rfl trivial dJ18_intValue_4
section HK
variable {ρ : Type} {p : Program} {l : Launch} {e : Env} {R : Room} {s : State} {m : MethodId} {args : Array Value} {below : List Frame} {meth : Method} {c : Code} {H : Heap} {locs : List Loc} {cells slots : Nat} {Qf : ρ → State → Prop}
variable {cc : ByteArray} {pc nL L M q0 : Nat} {ls : Array Slot} {rest : List Value}
variable {D : va_G} {ct : CT} {ck : Nat → UC} {N : Nat} {ad : Nat → Nat} {P : Nat → Nat → Option Nat} {A A0 : Nat → Prop} {S : US} {w : Int64} {h : AH} {H0 : Heap}
theorem kX1_N_intValue (E : ME p m c cc nL s args RX1 D clW ct) (hG : GW D clW ck ct N ad P A S w h H) (hS : va_S A0 H0 H locs) (hA0 : ∀ q, H0.size ≤ q → A0 q) (hR : 1 + 1 ≤ R.frames ∧ 8 + (1 + 11) + 40 ≤ R.locals) (hsize : ls.size = nL) (hW : (rest.map fun v => v.category).sum ≤ 8) (hdg : decode cc pc = .ok (.invokevirtual 186, 3)) (hf : cells ≤ R.cells ∧ slots ≤ R.slots) {kp : Int32 → Option ρ} (kk : ∀ (o : Int32) (H1 : Heap) (locs1 : List Loc), GW D clW ck ct N ad P A S w h H1 → va_S A0 H0 H1 locs1 → X p l e R s m args below meth c H1 locs1 cells slots Qf (kp o) (F0 m (pc + 3) ls (.int o :: rest))) : X p l e R s m args below meth c H locs cells slots Qf (hC h q0 12 (callK (sN_intValue h q0) kp)) (F0 m pc ls (.ref q0 :: rest)) := X.hC fun fs bw hq => gc_ro (val' := fun (o : Int32) => some (.int o)) (len := 3) hG hS hA0 (fun o ho => rnV (As := []) E (hG.to fun _ _ => trivial) (recvA E.2.1 hG.2.1 hq rfl) (mHN_intValue l D ct ck N ad P S w h q0 _ o ho) (cwV 0 E.1.2.2.2.2 (lw_V q1433 q600 q601 q138 q602) rfl rfl rfl (by decide +kernel) hR) rfl hsize rfl hW hdg hf) kk
theorem kX3_N_intValue (E : ME p m c cc nL s args RX3 D clW ct) (hG : GW D clW ck ct N ad P A S w h H) (hS : va_S A0 H0 H locs) (hA0 : ∀ q, H0.size ≤ q → A0 q) (hR : 1 + 1 ≤ R.frames ∧ 8 + (1 + 11) + 40 ≤ R.locals) (hsize : ls.size = nL) (hW : (rest.map fun v => v.category).sum ≤ 8) (hdg : decode cc pc = .ok (.invokevirtual 121, 3)) (hf : cells ≤ R.cells ∧ slots ≤ R.slots) {kp : Int32 → Option ρ} (kk : ∀ (o : Int32) (H1 : Heap) (locs1 : List Loc), GW D clW ck ct N ad P A S w h H1 → va_S A0 H0 H1 locs1 → X p l e R s m args below meth c H1 locs1 cells slots Qf (kp o) (F0 m (pc + 3) ls (.int o :: rest))) : X p l e R s m args below meth c H locs cells slots Qf (hC h q0 12 (callK (sN_intValue h q0) kp)) (F0 m pc ls (.ref q0 :: rest)) := X.hC fun fs bw hq => gc_ro (val' := fun (o : Int32) => some (.int o)) (len := 3) hG hS hA0 (fun o ho => rnV (As := []) E (hG.to fun _ _ => trivial) (recvA E.2.1 hG.2.1 hq rfl) (mHN_intValue l D ct ck N ad P S w h q0 _ o ho) (cwV 0 E.1.2.2.2.2 (lw_V q599 q600 q601 q138 q602) rfl rfl rfl (by decide +kernel) hR) rfl hsize rfl hW hdg hf) kk
end HK

set_option maxHeartbeats 4000000 in
theorem mHN_bitCount (l : Launch) (D : va_G) (ct : CT) (p1 : Int32) (sz : Nat) (o : Int32) (ho : sN_bitCount p1 = some o) : Met l yJ18_bitCount (ws_ yJ18_bitCount cJ18_bitCount 1 (some .int)) { frames := 1, cells := 0, slots := 0, locals := 40 } (mP D clW ct [.int p1] sz (fun _ => True)) (mC (some (.int o)) (fun _ => True) (nA sz)) 0 0 (nA sz) := by
  refine X.start (val := fun (o : Int32) => some (.int o)) (Bt := fun _ _ => True) (A := nA sz) ho (by decide) (Nat.le_of_ble_eq_true rfl) (lv := [(0, .int p1)]) rfl ?_
  intro p e s m args below meth c E hr hlk hnm hsz hU ls hl
  subst hsz
  obtain ⟨⟨hx, hb, hml, hown, hts⟩, hK, hJ⟩ := id E
  have hA0 : ∀ q, s.heap.size ≤ q → (nA s.heap.size) q := fun q h => h
  have hS : va_S (nA s.heap.size) s.heap s.heap [] := va_S.rf
  unfold sN_bitCount
  refine x_iload_n hx hb dJ18_bitCount_0 rfl (lv_at hl 0 rfl) ?_
  refine x_iload_n hx hb dJ18_bitCount_1 rfl (lv_at hl 0 rfl) ?_
  refine x_iconst (v := 1) hx hb dJ18_bitCount_2 (by decide) ?_
  refine x_iushr hx hb dJ18_bitCount_3 rfl ?_
  refine x_ldcw hx hb hown (hts _ q493) dJ18_bitCount_4 ?_
  refine x_iand hx hb dJ18_bitCount_7 ?_
  refine x_isub hx hb dJ18_bitCount_8 ?_
  refine x_topi (fun e1 => ?_)
  refine x_istore_n (lv' := [(0, .int e1)]) hx hb dJ18_bitCount_9 rfl hl (by decide) rfl (fun ls hl => ?_)
  refine x_iload_n hx hb dJ18_bitCount_10 rfl (lv_at hl 0 rfl) ?_
  refine x_ldcw hx hb hown (hts _ q494) dJ18_bitCount_11 ?_
  refine x_iand hx hb dJ18_bitCount_14 ?_
  refine x_iload_n hx hb dJ18_bitCount_15 rfl (lv_at hl 0 rfl) ?_
  refine x_iconst (v := 2) hx hb dJ18_bitCount_16 (by decide) ?_
  refine x_iushr hx hb dJ18_bitCount_17 rfl ?_
  refine x_ldcw hx hb hown (hts _ q494) dJ18_bitCount_18 ?_
  refine x_iand hx hb dJ18_bitCount_21 ?_
  refine x_iadd hx hb dJ18_bitCount_22 ?_
  refine x_topi (fun e2 => ?_)
  refine x_istore_n (lv' := [(0, .int e2)]) hx hb dJ18_bitCount_23 rfl hl (by decide) rfl (fun ls hl => ?_)
  refine x_iload_n hx hb dJ18_bitCount_24 rfl (lv_at hl 0 rfl) ?_
  refine x_iload_n hx hb dJ18_bitCount_25 rfl (lv_at hl 0 rfl) ?_
  refine x_iconst (v := 4) hx hb dJ18_bitCount_26 (by decide) ?_
  refine x_iushr hx hb dJ18_bitCount_27 rfl ?_
  refine x_iadd hx hb dJ18_bitCount_28 ?_
  refine x_ldcw hx hb hown (hts _ q495) dJ18_bitCount_29 ?_
  refine x_iand hx hb dJ18_bitCount_32 ?_
  refine x_topi (fun e3 => ?_)
  refine x_istore_n (lv' := [(0, .int e3)]) hx hb dJ18_bitCount_33 rfl hl (by decide) rfl (fun ls hl => ?_)
  refine x_iload_n hx hb dJ18_bitCount_34 rfl (lv_at hl 0 rfl) ?_
  refine x_iload_n hx hb dJ18_bitCount_35 rfl (lv_at hl 0 rfl) ?_
  refine x_bipush (v := 8) hx hb dJ18_bitCount_36 (by decide) ?_
  refine x_iushr hx hb dJ18_bitCount_38 rfl ?_
  refine x_iadd hx hb dJ18_bitCount_39 ?_
  refine x_topi (fun e4 => ?_)
  refine x_istore_n (lv' := [(0, .int e4)]) hx hb dJ18_bitCount_40 rfl hl (by decide) rfl (fun ls hl => ?_)
  refine x_iload_n hx hb dJ18_bitCount_41 rfl (lv_at hl 0 rfl) ?_
  refine x_iload_n hx hb dJ18_bitCount_42 rfl (lv_at hl 0 rfl) ?_
  refine x_bipush (v := 16) hx hb dJ18_bitCount_43 (by decide) ?_
  refine x_iushr hx hb dJ18_bitCount_45 rfl ?_
  refine x_iadd hx hb dJ18_bitCount_46 ?_
  refine x_topi (fun e5 => ?_)
  refine x_istore_n (lv' := [(0, .int e5)]) hx hb dJ18_bitCount_47 rfl hl (by decide) rfl (fun ls hl => ?_)
  refine x_iload_n hx hb dJ18_bitCount_48 rfl (lv_at hl 0 rfl) ?_
  refine x_bipush (v := 63) hx hb dJ18_bitCount_49 (by decide) ?_
  refine x_iand hx hb dJ18_bitCount_51 ?_
  exact x_iret hx hb hr hlk hS rfl trivial dJ18_bitCount_52
section HK
variable {ρ : Type} {p : Program} {l : Launch} {e : Env} {R : Room} {s : State} {m : MethodId} {args : Array Value} {below : List Frame} {meth : Method} {c : Code} {H : Heap} {locs : List Loc} {cells slots : Nat} {Qf : ρ → State → Prop}
variable {cc : ByteArray} {pc nL L M q0 : Nat} {ls : Array Slot} {rest : List Value}
variable {D : va_G} {ct : CT} {ck : Nat → UC} {N : Nat} {ad : Nat → Nat} {P : Nat → Nat → Option Nat} {A A0 : Nat → Prop} {S : US} {w : Int64} {h : AH} {H0 : Heap}
theorem kX3_N_bitCount {p1 : Int32} (E : ME p m c cc nL s args RX3 D clW ct) (hS : va_S A0 H0 H locs) (hA0 : ∀ q, H0.size ≤ q → A0 q) (hR : 1 + 1 ≤ R.frames ∧ 8 + (1 + 11) + 40 ≤ R.locals) (hsize : ls.size = nL) (hW : (rest.map fun v => v.category).sum ≤ 8) (hdg : decode cc pc = .ok (.invokestatic 71, 3)) (hf : cells ≤ R.cells ∧ slots ≤ R.slots) {kp : Int32 → Option ρ} (kk : ∀ (o : Int32) (H1 : Heap) (locs1 : List Loc), H.size ≤ H1.size → (∀ q : Nat, q < H.size → H1[q]? = H[q]?) → va_S A0 H0 H1 locs1 → X p l e R s m args below meth c H1 locs1 cells slots Qf (kp o) (F0 m (pc + 3) ls (.int o :: rest))) : X p l e R s m args below meth c H locs cells slots Qf (callK (sN_bitCount p1) kp) (F0 m pc ls (.int p1 :: rest)) := gc_pure (val' := fun (o : Int32) => some (.int o)) (len := 3) hS hA0 (fun o ho => rnS (As := [.int p1]) (B := fun _ => True) E trivial (mHN_bitCount l D ct p1 _ o ho) (va_cwS 1 E.1.2.2.2.2 (lw_S q490 q491 q138 q492) rfl rfl rfl (by decide +kernel) hR) rfl hsize rfl hW hdg hf) kk
end HK

def rmF (n : Nat) : Room := { frames := 4 * n + 4, cells := 0, slots := 0, locals := 120 * n + 200 }
/-- the contract of a form's method of, whichever its class -/
def FMet (l : Launch) (D : va_G) (ct : CT) (ad : Nat → Nat) (P : Nat → Nat → Option Nat) (S : US) (h : AH) (rm : Room) (b : Nat) (o : Int32) : Prop :=
  ((rm.cells = 0 ∧ rm.slots = 0) ∧ (∃ (fs : List Value) (bw : Bool), h b = some (bw, .inr (6, fs))) ∧ ∀ sz : Nat, Met l yX7_of (ws_ yX7_of cX7_of 4 (some .int)) rm (mP D clW ct [.ref b, .ref (ad 2)] sz (GH D ct ad P (fun _ => True) S h)) (mC (some (.int o)) (fun _ => True) (nA sz)) 0 0 (nA sz)) ∨
  ((rm.cells = 0 ∧ rm.slots = 0) ∧ (∃ (fs : List Value) (bw : Bool), h b = some (bw, .inr (7, fs))) ∧ ∀ sz : Nat, Met l yX8_of (ws_ yX8_of cX8_of 2 (some .int)) rm (mP D clW ct [.ref b, .ref (ad 2)] sz (GH D ct ad P (fun _ => True) S h)) (mC (some (.int o)) (fun _ => True) (nA sz)) 0 0 (nA sz)) ∨
  ((rm.cells = 0 ∧ rm.slots = 0) ∧ (∃ (fs : List Value) (bw : Bool), h b = some (bw, .inr (8, fs))) ∧ ∀ sz : Nat, Met l yX9_of (ws_ yX9_of cX9_of 2 (some .int)) rm (mP D clW ct [.ref b, .ref (ad 2)] sz (GH D ct ad P (fun _ => True) S h)) (mC (some (.int o)) (fun _ => True) (nA sz)) 0 0 (nA sz)) ∨
  ((rm.cells = 0 ∧ rm.slots = 0) ∧ (∃ (fs : List Value) (bw : Bool), h b = some (bw, .inr (9, fs))) ∧ ∀ sz : Nat, Met l yX10_of (ws_ yX10_of cX10_of 2 (some .int)) rm (mP D clW ct [.ref b, .ref (ad 2)] sz (GH D ct ad P (fun _ => True) S h)) (mC (some (.int o)) (fun _ => True) (nA sz)) 0 0 (nA sz))

section KF
variable {ρ : Type} {p : Program} {l : Launch} {e : Env} {R : Room} {s : State} {m : MethodId} {args : Array Value} {below : List Frame} {meth : Method} {c : Code} {H : Heap} {locs : List Loc} {cells slots : Nat} {Qf : ρ → State → Prop}
variable {cc : ByteArray} {pc nL L M q0 : Nat} {ls : Array Slot} {rest : List Value}
variable {D : va_G} {ct : CT} {ck : Nat → UC} {N : Nat} {ad : Nat → Nat} {P : Nat → Nat → Option Nat} {A A0 : Nat → Prop} {S : US} {w : Int64} {h : AH} {H0 : Heap}
/-- a call of Form.of, of whichever class -/
theorem kFX3 {b : Nat} {rm : Room} {sp' : Option Int32} (E : ME p m c cc nL s args RX3 D clW ct) (hG : GH D ct ad P A S h H) (hS : va_S A0 H0 H locs) (hA0 : ∀ q, H0.size ≤ q → A0 q) (hM : ∀ o, sp' = some o → FMet l D ct ad P S h rm b o) (hR : rm.frames + 1 ≤ R.frames ∧ 8 + (4 + 11) + rm.locals ≤ R.locals) (hsize : ls.size = nL) (hW : (rest.map fun v => v.category).sum ≤ 8) (hdg : decode cc pc = .ok (.invokeinterface 76 2, 5)) (hf : cells ≤ R.cells ∧ slots ≤ R.slots) {kp : Int32 → Option ρ} (kk : ∀ (o : Int32) (H1 : Heap) (locs1 : List Loc), GH D ct ad P A S h H1 → va_S A0 H0 H1 locs1 → X p l e R s m args below meth c H1 locs1 cells slots Qf (kp o) (F0 m (pc + 5) ls (.int o :: rest))) : X p l e R s m args below meth c H locs cells slots Qf (callK sp' kp) (F0 m pc ls (.ref (ad 2) :: .ref b :: rest)) := by
  refine gc_ro (val' := fun (o : Int32) => some (.int o)) (len := 5) hG hS hA0 (fun o ho => ?_) kk
  rcases hM o ho with ⟨hc1, hc2, h1⟩ | ⟨hc1, hc2, h1⟩ | ⟨hc1, hc2, h1⟩ | ⟨hc1, hc2, h1⟩
  · obtain ⟨fs, bw, hq⟩ := hc2
    exact rnF (As := [.ref (ad 2)]) E (hG.to fun _ _ => trivial) (E.2.1.1 6 _ rfl).2 (recvA E.2.1 hG.2.1 hq rfl) (h1 _) (va_cwF 1 E.1.2.2.2.2 (lw_F q497 q501 q503 q140 q505) rfl hc1.1 hc1.2 (E.2.2.2.2.2.1 ("HorizonSeam$Chain", ⟨"HorizonSeam$Form", "of", "([I)I"⟩, ⟨"HorizonSeam$Chain", "of", "([I)I"⟩) (List.mem_of_getElem? (i := 6) rfl)) (by decide +kernel) ⟨hR.1, Nat.le_trans (by omega) hR.2⟩) rfl hsize rfl hW hdg hf
  · obtain ⟨fs, bw, hq⟩ := hc2
    exact rnF (As := [.ref (ad 2)]) E (hG.to fun _ _ => trivial) (E.2.1.1 7 _ rfl).2 (recvA E.2.1 hG.2.1 hq rfl) (h1 _) (va_cwF 1 E.1.2.2.2.2 (lw_F q497 q531 q533 q141 q535) rfl hc1.1 hc1.2 (E.2.2.2.2.2.1 ("HorizonSeam$Number", ⟨"HorizonSeam$Form", "of", "([I)I"⟩, ⟨"HorizonSeam$Number", "of", "([I)I"⟩) (List.mem_of_getElem? (i := 8) rfl)) (by decide +kernel) ⟨hR.1, Nat.le_trans (by omega) hR.2⟩) rfl hsize rfl hW hdg hf
  · obtain ⟨fs, bw, hq⟩ := hc2
    exact rnF (As := [.ref (ad 2)]) E (hG.to fun _ _ => trivial) (E.2.1.1 8 _ rfl).2 (recvA E.2.1 hG.2.1 hq rfl) (h1 _) (va_cwF 1 E.1.2.2.2.2 (lw_F q497 q537 q539 q142 q541) rfl hc1.1 hc1.2 (E.2.2.2.2.2.1 ("HorizonSeam$Value", ⟨"HorizonSeam$Form", "of", "([I)I"⟩, ⟨"HorizonSeam$Value", "of", "([I)I"⟩) (List.mem_of_getElem? (i := 9) rfl)) (by decide +kernel) ⟨hR.1, Nat.le_trans (by omega) hR.2⟩) rfl hsize rfl hW hdg hf
  · obtain ⟨fs, bw, hq⟩ := hc2
    exact rnF (As := [.ref (ad 2)]) E (hG.to fun _ _ => trivial) (E.2.1.1 9 _ rfl).2 (recvA E.2.1 hG.2.1 hq rfl) (h1 _) (va_cwF 1 E.1.2.2.2.2 (lw_F q497 q523 q525 q143 q527) rfl hc1.1 hc1.2 (E.2.2.2.2.2.1 ("HorizonSeam$Not", ⟨"HorizonSeam$Form", "of", "([I)I"⟩, ⟨"HorizonSeam$Not", "of", "([I)I"⟩) (List.mem_of_getElem? (i := 7) rfl)) (by decide +kernel) ⟨hR.1, Nat.le_trans (by omega) hR.2⟩) rfl hsize rfl hW hdg hf
theorem kFX7 {b : Nat} {rm : Room} {sp' : Option Int32} (E : ME p m c cc nL s args RX7 D clW ct) (hG : GH D ct ad P A S h H) (hS : va_S A0 H0 H locs) (hA0 : ∀ q, H0.size ≤ q → A0 q) (hM : ∀ o, sp' = some o → FMet l D ct ad P S h rm b o) (hR : rm.frames + 1 ≤ R.frames ∧ 8 + (4 + 11) + rm.locals ≤ R.locals) (hsize : ls.size = nL) (hW : (rest.map fun v => v.category).sum ≤ 8) (hdg : decode cc pc = .ok (.invokeinterface 43 2, 5)) (hf : cells ≤ R.cells ∧ slots ≤ R.slots) {kp : Int32 → Option ρ} (kk : ∀ (o : Int32) (H1 : Heap) (locs1 : List Loc), GH D ct ad P A S h H1 → va_S A0 H0 H1 locs1 → X p l e R s m args below meth c H1 locs1 cells slots Qf (kp o) (F0 m (pc + 5) ls (.int o :: rest))) : X p l e R s m args below meth c H locs cells slots Qf (callK sp' kp) (F0 m pc ls (.ref (ad 2) :: .ref b :: rest)) := by
  refine gc_ro (val' := fun (o : Int32) => some (.int o)) (len := 5) hG hS hA0 (fun o ho => ?_) kk
  rcases hM o ho with ⟨hc1, hc2, h1⟩ | ⟨hc1, hc2, h1⟩ | ⟨hc1, hc2, h1⟩ | ⟨hc1, hc2, h1⟩
  · obtain ⟨fs, bw, hq⟩ := hc2
    exact rnF (As := [.ref (ad 2)]) E (hG.to fun _ _ => trivial) (E.2.1.1 6 _ rfl).2 (recvA E.2.1 hG.2.1 hq rfl) (h1 _) (va_cwF 1 E.1.2.2.2.2 (lw_F q521 q501 q503 q140 q505) rfl hc1.1 hc1.2 (E.2.2.2.2.2.1 ("HorizonSeam$Chain", ⟨"HorizonSeam$Form", "of", "([I)I"⟩, ⟨"HorizonSeam$Chain", "of", "([I)I"⟩) (List.mem_of_getElem? (i := 6) rfl)) (by decide +kernel) ⟨hR.1, Nat.le_trans (by omega) hR.2⟩) rfl hsize rfl hW hdg hf
  · obtain ⟨fs, bw, hq⟩ := hc2
    exact rnF (As := [.ref (ad 2)]) E (hG.to fun _ _ => trivial) (E.2.1.1 7 _ rfl).2 (recvA E.2.1 hG.2.1 hq rfl) (h1 _) (va_cwF 1 E.1.2.2.2.2 (lw_F q521 q531 q533 q141 q535) rfl hc1.1 hc1.2 (E.2.2.2.2.2.1 ("HorizonSeam$Number", ⟨"HorizonSeam$Form", "of", "([I)I"⟩, ⟨"HorizonSeam$Number", "of", "([I)I"⟩) (List.mem_of_getElem? (i := 8) rfl)) (by decide +kernel) ⟨hR.1, Nat.le_trans (by omega) hR.2⟩) rfl hsize rfl hW hdg hf
  · obtain ⟨fs, bw, hq⟩ := hc2
    exact rnF (As := [.ref (ad 2)]) E (hG.to fun _ _ => trivial) (E.2.1.1 8 _ rfl).2 (recvA E.2.1 hG.2.1 hq rfl) (h1 _) (va_cwF 1 E.1.2.2.2.2 (lw_F q521 q537 q539 q142 q541) rfl hc1.1 hc1.2 (E.2.2.2.2.2.1 ("HorizonSeam$Value", ⟨"HorizonSeam$Form", "of", "([I)I"⟩, ⟨"HorizonSeam$Value", "of", "([I)I"⟩) (List.mem_of_getElem? (i := 9) rfl)) (by decide +kernel) ⟨hR.1, Nat.le_trans (by omega) hR.2⟩) rfl hsize rfl hW hdg hf
  · obtain ⟨fs, bw, hq⟩ := hc2
    exact rnF (As := [.ref (ad 2)]) E (hG.to fun _ _ => trivial) (E.2.1.1 9 _ rfl).2 (recvA E.2.1 hG.2.1 hq rfl) (h1 _) (va_cwF 1 E.1.2.2.2.2 (lw_F q521 q523 q525 q143 q527) rfl hc1.1 hc1.2 (E.2.2.2.2.2.1 ("HorizonSeam$Not", ⟨"HorizonSeam$Form", "of", "([I)I"⟩, ⟨"HorizonSeam$Not", "of", "([I)I"⟩) (List.mem_of_getElem? (i := 7) rfl)) (by decide +kernel) ⟨hR.1, Nat.le_trans (by omega) hR.2⟩) rfl hsize rfl hW hdg hf
theorem kFX10 {b : Nat} {rm : Room} {sp' : Option Int32} (E : ME p m c cc nL s args RX10 D clW ct) (hG : GH D ct ad P A S h H) (hS : va_S A0 H0 H locs) (hA0 : ∀ q, H0.size ≤ q → A0 q) (hM : ∀ o, sp' = some o → FMet l D ct ad P S h rm b o) (hR : rm.frames + 1 ≤ R.frames ∧ 8 + (4 + 11) + rm.locals ≤ R.locals) (hsize : ls.size = nL) (hW : (rest.map fun v => v.category).sum ≤ 8) (hdg : decode cc pc = .ok (.invokeinterface 13 2, 5)) (hf : cells ≤ R.cells ∧ slots ≤ R.slots) {kp : Int32 → Option ρ} (kk : ∀ (o : Int32) (H1 : Heap) (locs1 : List Loc), GH D ct ad P A S h H1 → va_S A0 H0 H1 locs1 → X p l e R s m args below meth c H1 locs1 cells slots Qf (kp o) (F0 m (pc + 5) ls (.int o :: rest))) : X p l e R s m args below meth c H locs cells slots Qf (callK sp' kp) (F0 m pc ls (.ref (ad 2) :: .ref b :: rest)) := by
  refine gc_ro (val' := fun (o : Int32) => some (.int o)) (len := 5) hG hS hA0 (fun o ho => ?_) kk
  rcases hM o ho with ⟨hc1, hc2, h1⟩ | ⟨hc1, hc2, h1⟩ | ⟨hc1, hc2, h1⟩ | ⟨hc1, hc2, h1⟩
  · obtain ⟨fs, bw, hq⟩ := hc2
    exact rnF (As := [.ref (ad 2)]) E (hG.to fun _ _ => trivial) (E.2.1.1 6 _ rfl).2 (recvA E.2.1 hG.2.1 hq rfl) (h1 _) (va_cwF 1 E.1.2.2.2.2 (lw_F q529 q501 q503 q140 q505) rfl hc1.1 hc1.2 (E.2.2.2.2.2.1 ("HorizonSeam$Chain", ⟨"HorizonSeam$Form", "of", "([I)I"⟩, ⟨"HorizonSeam$Chain", "of", "([I)I"⟩) (List.mem_of_getElem? (i := 6) rfl)) (by decide +kernel) ⟨hR.1, Nat.le_trans (by omega) hR.2⟩) rfl hsize rfl hW hdg hf
  · obtain ⟨fs, bw, hq⟩ := hc2
    exact rnF (As := [.ref (ad 2)]) E (hG.to fun _ _ => trivial) (E.2.1.1 7 _ rfl).2 (recvA E.2.1 hG.2.1 hq rfl) (h1 _) (va_cwF 1 E.1.2.2.2.2 (lw_F q529 q531 q533 q141 q535) rfl hc1.1 hc1.2 (E.2.2.2.2.2.1 ("HorizonSeam$Number", ⟨"HorizonSeam$Form", "of", "([I)I"⟩, ⟨"HorizonSeam$Number", "of", "([I)I"⟩) (List.mem_of_getElem? (i := 8) rfl)) (by decide +kernel) ⟨hR.1, Nat.le_trans (by omega) hR.2⟩) rfl hsize rfl hW hdg hf
  · obtain ⟨fs, bw, hq⟩ := hc2
    exact rnF (As := [.ref (ad 2)]) E (hG.to fun _ _ => trivial) (E.2.1.1 8 _ rfl).2 (recvA E.2.1 hG.2.1 hq rfl) (h1 _) (va_cwF 1 E.1.2.2.2.2 (lw_F q529 q537 q539 q142 q541) rfl hc1.1 hc1.2 (E.2.2.2.2.2.1 ("HorizonSeam$Value", ⟨"HorizonSeam$Form", "of", "([I)I"⟩, ⟨"HorizonSeam$Value", "of", "([I)I"⟩) (List.mem_of_getElem? (i := 9) rfl)) (by decide +kernel) ⟨hR.1, Nat.le_trans (by omega) hR.2⟩) rfl hsize rfl hW hdg hf
  · obtain ⟨fs, bw, hq⟩ := hc2
    exact rnF (As := [.ref (ad 2)]) E (hG.to fun _ _ => trivial) (E.2.1.1 9 _ rfl).2 (recvA E.2.1 hG.2.1 hq rfl) (h1 _) (va_cwF 1 E.1.2.2.2.2 (lw_F q529 q523 q525 q143 q527) rfl hc1.1 hc1.2 (E.2.2.2.2.2.1 ("HorizonSeam$Not", ⟨"HorizonSeam$Form", "of", "([I)I"⟩, ⟨"HorizonSeam$Not", "of", "([I)I"⟩) (List.mem_of_getElem? (i := 7) rfl)) (by decide +kernel) ⟨hR.1, Nat.le_trans (by omega) hR.2⟩) rfl hsize rfl hW hdg hf
end KF

set_option maxHeartbeats 4000000 in
theorem mH7_of (l : Launch) (D : va_G) (ct : CT) (ad : Nat → Nat) (P : Nat → Nat → Option Nat) (S : US) (h : AH) (n : Nat) (rcF : (Nat → Option Int32)) (q0 : Nat) (hrc : ∀ (b : Nat) (o : Int32), rcF b = some o → FMet l D ct ad P S h (rmF n) b o) (sz : Nat) (o : Int32) (ho : s7_of S ct h rcF q0 = some o) : Met l yX7_of (ws_ yX7_of cX7_of 4 (some .int)) (rmF (n + 1)) (mP D clW ct [.ref q0, .ref (ad (2))] sz (GH D ct ad P (fun _ => True) S h)) (mC (some (.int o)) (fun _ => True) (nA sz)) 0 0 (nA sz) := by
  refine X.start (val := fun (o : Int32) => some (.int o)) (Bt := fun _ _ => True) (A := nA sz) ho (by decide) (Nat.le_of_ble_eq_true rfl) (lv := [(0, .ref q0), (1, .ref (ad (2)))]) rfl ?_
  intro p e s m args below meth c E hr hlk hnm hsz hU ls hl
  subst hsz
  obtain ⟨⟨hx, hb, hml, hown, hts⟩, hK, hJ⟩ := id E
  have hA0 : ∀ q, s.heap.size ≤ q → (nA s.heap.size) q := fun q h => h
  have hS : va_S (nA s.heap.size) s.heap s.heap [] := va_S.rf
  unfold s7_of
  refine x_aload_n hx hb dX7_of_0 rfl (lv_at hl 0 rfl) ?_
  refine fx_getR E hU.2.1 (ci := 6) rfl in_X7 0 (by decide) (hts _ q1295) (fun _ h => h) dX7_of_1 (fun r1 => ?_)
  refine x_iconst (v := 0) hx hb dX7_of_4 (by decide) ?_
  refine X.onR (fun b2 hb_ => ?_)
  subst hb_
  refine kX7_L_get E hU hS hA0 ⟨by show _ ≤ 4 * (n + 1) + 4; omega, by show _ ≤ 120 * (n + 1) + 200; omega⟩ hl.1 (Nat.le_of_ble_eq_true rfl) dX7_of_5 ⟨Nat.le_refl _, Nat.le_refl _⟩ (fun o3 H locs hU hS => ?_)
  refine X.onR (fun b4 hb_ => ?_)
  subst hb_
  refine fx_castF E hU.2.1 (hts _ q519) dX7_of_10 ?_
  refine x_aload_n hx hb dX7_of_13 rfl (lv_at hl 1 rfl) ?_
  refine kFX7 E hU hS hA0 (rm := rmF n) (fun o ho => hrc _ o ho) ⟨by show 4 * n + 4 + 1 ≤ 4 * (n + 1) + 4; omega, by show 8 + (4 + 11) + (120 * n + 200) ≤ 120 * (n + 1) + 200; omega⟩ hl.1 (Nat.le_of_ble_eq_true rfl) dX7_of_14 ⟨Nat.le_refl _, Nat.le_refl _⟩ (fun o5 H locs hU hS => ?_)
  refine x_istore_n (lv' := [(2, .int o5), (0, .ref q0), (1, .ref (ad (2)))]) hx hb dX7_of_19 rfl hl (by decide) rfl (fun ls hl => ?_)
  refine x_iconst (v := 1) hx hb dX7_of_20 (by decide) ?_
  refine x_istore_n (lv' := [(3, .int (1 : Int32)), (2, .int o5), (0, .ref q0), (1, .ref (ad (2)))]) hx hb dX7_of_21 rfl hl (by decide) rfl (fun ls hl => ?_)
  refine X.loop (I := fun (x : (Int32 × Int32)) g H locs => GH D ct ad P (fun _ => True) S h H ∧ va_S (nA s.heap.size) s.heap H locs ∧ ∃ ls : Array Slot, g = F0 m 22 ls [] ∧ lv_has ls 4 [(0, .ref q0), (1, .ref (ad (2))), (2, .int x.1), (3, .int x.2)]) (fun rc8 ih8 => ?_) FUEL _ _ _ _ ⟨hU, hS, _, rfl, lv_sub hl [2, 3, 1, 0] rfl⟩
  rintro ⟨v6, v7⟩ _ H locs ⟨hU, hS, ls, rfl, hl⟩
  have hU : GH D ct ad P (fun _ => True) S h H := hU
  have hl : lv_has ls 4 [(0, .ref q0), (1, .ref (ad (2))), (2, .int v6), (3, .int v7)] := hl
  refine X.eqs (sp2 := s7_of_L22 q0 h ct rcF rc8 v6 v7) rfl ?_
  unfold s7_of_L22
  refine x_iload_n hx hb dX7_of_22 rfl (lv_at hl 3 rfl) ?_
  refine x_aload_n hx hb dX7_of_23 rfl (lv_at hl 0 rfl) ?_
  refine fx_getR E hU.2.1 (ci := 6) rfl in_X7 0 (by decide) (hts _ q1295) (fun _ h => h) dX7_of_24 (fun r9 => ?_)
  refine X.onR (fun b10 hb_ => ?_)
  subst hb_
  refine kX7_L_size E hU hS hA0 ⟨by show _ ≤ 4 * (n + 1) + 4; omega, by show _ ≤ 120 * (n + 1) + 200; omega⟩ hl.1 (Nat.le_of_ble_eq_true rfl) dX7_of_27 ⟨Nat.le_refl _, Nat.le_refl _⟩ (fun o11 H locs hU hS => ?_)
  refine x_icmp_ge (tgt := 75) hx hb dX7_of_32 (by decide) (fun hc => ?_) (fun hc => ?_)
  · refine x_iload_n hx hb dX7_of_75 rfl (lv_at hl 2 rfl) ?_
    exact x_iret hx hb hr hlk hS rfl trivial dX7_of_76
  · refine x_aload_n hx hb dX7_of_35 rfl (lv_at hl 0 rfl) ?_
    refine fx_getR E hU.2.1 (ci := 6) rfl in_X7 1 (by decide) (hts _ q1296) (fun _ h => h) dX7_of_36 (fun r12 => ?_)
    refine x_iload_n hx hb dX7_of_39 rfl (lv_at hl 3 rfl) ?_
    refine x_iconst (v := 1) hx hb dX7_of_40 (by decide) ?_
    refine x_isub hx hb dX7_of_41 ?_
    refine X.onR (fun b13 hb_ => ?_)
    subst hb_
    refine kX7_B_charAt E hU hS hA0 ⟨by show _ ≤ 4 * (n + 1) + 4; omega, by show _ ≤ 120 * (n + 1) + 200; omega⟩ hl.1 (Nat.le_of_ble_eq_true rfl) dX7_of_42 ⟨Nat.le_refl _, Nat.le_refl _⟩ (fun o14 H locs hU hS => ?_)
    refine x_iload_n hx hb dX7_of_45 rfl (lv_at hl 2 rfl) ?_
    refine x_aload_n hx hb dX7_of_46 rfl (lv_at hl 0 rfl) ?_
    refine fx_getR E hU.2.1 (ci := 6) rfl in_X7 0 (by decide) (hts _ q1295) (fun _ h => h) dX7_of_47 (fun r15 => ?_)
    refine x_iload_n hx hb dX7_of_50 rfl (lv_at hl 3 rfl) ?_
    refine X.onR (fun b16 hb_ => ?_)
    subst hb_
    refine kX7_L_get E hU hS hA0 ⟨by show _ ≤ 4 * (n + 1) + 4; omega, by show _ ≤ 120 * (n + 1) + 200; omega⟩ hl.1 (Nat.le_of_ble_eq_true rfl) dX7_of_51 ⟨Nat.le_refl _, Nat.le_refl _⟩ (fun o17 H locs hU hS => ?_)
    refine X.onR (fun b18 hb_ => ?_)
    subst hb_
    refine fx_castF E hU.2.1 (hts _ q519) dX7_of_56 ?_
    refine x_aload_n hx hb dX7_of_59 rfl (lv_at hl 1 rfl) ?_
    refine kFX7 E hU hS hA0 (rm := rmF n) (fun o ho => hrc _ o ho) ⟨by show 4 * n + 4 + 1 ≤ 4 * (n + 1) + 4; omega, by show 8 + (4 + 11) + (120 * n + 200) ≤ 120 * (n + 1) + 200; omega⟩ hl.1 (Nat.le_of_ble_eq_true rfl) dX7_of_60 ⟨Nat.le_refl _, Nat.le_refl _⟩ (fun o19 H locs hU hS => ?_)
    refine kX7_7_by E hS hA0 ⟨by show _ ≤ 4 * (n + 1) + 4; omega, by show _ ≤ 120 * (n + 1) + 200; omega⟩ hl.1 (Nat.le_of_ble_eq_true rfl) dX7_of_65 ⟨Nat.le_refl _, Nat.le_refl _⟩ (fun o20 H locs hz_ hk_ hS => ?_)
    replace hU := hU.kept hz_ hk_
    refine x_istore_n (lv' := [(2, .int o20), (0, .ref q0), (1, .ref (ad (2))), (3, .int v7)]) hx hb dX7_of_68 rfl hl (by decide) rfl (fun ls hl => ?_)
    refine x_iinc (v := (v7 + (1 : Int32))) (lv' := [(3, .int (v7 + (1 : Int32))), (2, .int o20), (0, .ref q0), (1, .ref (ad (2)))]) (k := 3) hx hb dX7_of_69 hl rfl rfl (by decide) rfl (fun ls hl => ?_)
    refine x_goto (tgt := 22) hx hb dX7_of_72 (by decide) ?_
    exact ih8 (o20, (v7 + (1 : Int32))) _ _ _ ⟨hU, hS, _, rfl, lv_sub hl [2, 3, 1, 0] rfl⟩

set_option maxHeartbeats 4000000 in
theorem mH8_of (l : Launch) (D : va_G) (ct : CT) (ad : Nat → Nat) (P : Nat → Nat → Option Nat) (S : US) (h : AH) (n : Nat) (rcF : (Nat → Option Int32)) (q0 : Nat) (hrc : ∀ (b : Nat) (o : Int32), rcF b = some o → FMet l D ct ad P S h (rmF n) b o) (sz : Nat) (o : Int32) (ho : s8_of S ct h rcF q0 = some o) : Met l yX8_of (ws_ yX8_of cX8_of 2 (some .int)) (rmF (n + 1)) (mP D clW ct [.ref q0, .ref (ad (2))] sz (GH D ct ad P (fun _ => True) S h)) (mC (some (.int o)) (fun _ => True) (nA sz)) 0 0 (nA sz) := by
  refine X.start (val := fun (o : Int32) => some (.int o)) (Bt := fun _ _ => True) (A := nA sz) ho (by decide) (Nat.le_of_ble_eq_true rfl) (lv := [(0, .ref q0), (1, .ref (ad (2)))]) rfl ?_
  intro p e s m args below meth c E hr hlk hnm hsz hU ls hl
  subst hsz
  obtain ⟨⟨hx, hb, hml, hown, hts⟩, hK, hJ⟩ := id E
  have hA0 : ∀ q, s.heap.size ≤ q → (nA s.heap.size) q := fun q h => h
  have hS : va_S (nA s.heap.size) s.heap s.heap [] := va_S.rf
  unfold s8_of
  refine x_aload_n hx hb dX8_of_0 rfl (lv_at hl 0 rfl) ?_
  refine fx_getI E hU.2.1 (ci := 7) rfl in_X8 0 (by decide) (hts _ q1271) (fun _ h => h) dX8_of_1 (fun v1 => ?_)
  exact x_iret hx hb hr hlk hS rfl trivial dX8_of_4

set_option maxHeartbeats 4000000 in
theorem mH9_of (l : Launch) (D : va_G) (ct : CT) (ad : Nat → Nat) (P : Nat → Nat → Option Nat) (S : US) (h : AH) (n : Nat) (rcF : (Nat → Option Int32)) (q0 : Nat) (hrc : ∀ (b : Nat) (o : Int32), rcF b = some o → FMet l D ct ad P S h (rmF n) b o) (sz : Nat) (o : Int32) (ho : s9_of S ct h rcF q0 = some o) : Met l yX9_of (ws_ yX9_of cX9_of 2 (some .int)) (rmF (n + 1)) (mP D clW ct [.ref q0, .ref (ad (2))] sz (GH D ct ad P (fun _ => True) S h)) (mC (some (.int o)) (fun _ => True) (nA sz)) 0 0 (nA sz) := by
  refine X.start (val := fun (o : Int32) => some (.int o)) (Bt := fun _ _ => True) (A := nA sz) ho (by decide) (Nat.le_of_ble_eq_true rfl) (lv := [(0, .ref q0), (1, .ref (ad (2)))]) rfl ?_
  intro p e s m args below meth c E hr hlk hnm hsz hU ls hl
  subst hsz
  obtain ⟨⟨hx, hb, hml, hown, hts⟩, hK, hJ⟩ := id E
  have hA0 : ∀ q, s.heap.size ≤ q → (nA s.heap.size) q := fun q h => h
  have hS : va_S (nA s.heap.size) s.heap s.heap [] := va_S.rf
  unfold s9_of
  refine x_aload_n hx hb dX9_of_0 rfl (lv_at hl 1 rfl) ?_
  refine x_aload_n hx hb dX9_of_1 rfl (lv_at hl 0 rfl) ?_
  refine fx_getI E hU.2.1 (ci := 8) rfl in_X9 0 (by decide) (hts _ q1281) (fun _ h => h) dX9_of_2 (fun v1 => ?_)
  refine ux_ald (i := 2) (n := 6) E hU.1 (by decide) rfl dX9_of_5 ?_
  exact x_iret hx hb hr hlk hS rfl trivial dX9_of_6

set_option maxHeartbeats 4000000 in
theorem mH10_of (l : Launch) (D : va_G) (ct : CT) (ad : Nat → Nat) (P : Nat → Nat → Option Nat) (S : US) (h : AH) (n : Nat) (rcF : (Nat → Option Int32)) (q0 : Nat) (hrc : ∀ (b : Nat) (o : Int32), rcF b = some o → FMet l D ct ad P S h (rmF n) b o) (sz : Nat) (o : Int32) (ho : s10_of S ct h rcF q0 = some o) : Met l yX10_of (ws_ yX10_of cX10_of 2 (some .int)) (rmF (n + 1)) (mP D clW ct [.ref q0, .ref (ad (2))] sz (GH D ct ad P (fun _ => True) S h)) (mC (some (.int o)) (fun _ => True) (nA sz)) 0 0 (nA sz) := by
  refine X.start (val := fun (o : Int32) => some (.int o)) (Bt := fun _ _ => True) (A := nA sz) ho (by decide) (Nat.le_of_ble_eq_true rfl) (lv := [(0, .ref q0), (1, .ref (ad (2)))]) rfl ?_
  intro p e s m args below meth c E hr hlk hnm hsz hU ls hl
  subst hsz
  obtain ⟨⟨hx, hb, hml, hown, hts⟩, hK, hJ⟩ := id E
  have hA0 : ∀ q, s.heap.size ≤ q → (nA s.heap.size) q := fun q h => h
  have hS : va_S (nA s.heap.size) s.heap s.heap [] := va_S.rf
  unfold s10_of
  refine x_aload_n hx hb dX10_of_0 rfl (lv_at hl 0 rfl) ?_
  refine fx_getR E hU.2.1 (ci := 9) rfl in_X10 0 (by decide) (hts _ q1321) (fun _ h => h) dX10_of_1 (fun r1 => ?_)
  refine x_aload_n hx hb dX10_of_4 rfl (lv_at hl 1 rfl) ?_
  refine X.onR (fun b2 hb_ => ?_)
  subst hb_
  refine kFX10 E hU hS hA0 (rm := rmF n) (fun o ho => hrc _ o ho) ⟨by show 4 * n + 4 + 1 ≤ 4 * (n + 1) + 4; omega, by show 8 + (4 + 11) + (120 * n + 200) ≤ 120 * (n + 1) + 200; omega⟩ hl.1 (Nat.le_of_ble_eq_true rfl) dX10_of_5 ⟨Nat.le_refl _, Nat.le_refl _⟩ (fun o3 H locs hU hS => ?_)
  refine x_if_ne (tgt := 17) hx hb dX10_of_10 (by decide) (fun hc => ?_) (fun hc => ?_)
  · refine x_iconst (v := 0) hx hb dX10_of_17 (by decide) ?_
    exact x_iret hx hb hr hlk hS rfl trivial dX10_of_18
  · refine x_iconst (v := 1) hx hb dX10_of_13 (by decide) ?_
    refine x_goto (tgt := 18) hx hb dX10_of_14 (by decide) ?_
    exact x_iret hx hb hr hlk hS rfl trivial dX10_of_18

theorem fmet (l : Launch) (D : va_G) (ct : CT) (ad : Nat → Nat) (P : Nat → Nat → Option Nat) (S : US) (h : AH) : ∀ (n b : Nat) (o : Int32), sF_of n S ct h b = some o → FMet l D ct ad P S h (rmF n) b o := by
  intro n
  induction n with
  | zero => intro b o ho; cases ho
  | succ n ih =>
    intro b o ho
    unfold sF_of at ho
    split at ho
    · rename_i bw q e
      obtain ⟨ci, fs⟩ := q
      dsimp only at ho
      split at ho
      · rename_i hci
        subst hci
        exact Or.inl ⟨⟨rfl, rfl⟩, ⟨fs, bw, e⟩, fun sz => mH7_of l D ct ad P S h n _ b ih sz o ho⟩
      split at ho
      · rename_i hci
        subst hci
        exact Or.inr (Or.inl ⟨⟨rfl, rfl⟩, ⟨fs, bw, e⟩, fun sz => mH8_of l D ct ad P S h n _ b ih sz o ho⟩)
      split at ho
      · rename_i hci
        subst hci
        exact Or.inr (Or.inr (Or.inl ⟨⟨rfl, rfl⟩, ⟨fs, bw, e⟩, fun sz => mH9_of l D ct ad P S h n _ b ih sz o ho⟩))
      split at ho
      · rename_i hci
        subst hci
        exact Or.inr (Or.inr (Or.inr ⟨⟨rfl, rfl⟩, ⟨fs, bw, e⟩, fun sz => mH10_of l D ct ad P S h n _ b ih sz o ho⟩))
      cases ho
    · cases ho
