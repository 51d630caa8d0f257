set_option maxRecDepth 100000
section HF
variable {ρ ρ' : Type} {p : Program} {l : Launch} {e : Env} {R : Room} {s : State} {m : MethodId} {args : Array Value} {below : List Frame} {meth : Method} {c : Code} {H : Heap} {locs : List Loc} {cells slots : Nat} {Qf : ρ → State → Prop} {sp : Option ρ}
variable {cc : ByteArray} {pc nL L : Nat} {ls : Array Slot} {rest : List Value}
variable {D : va_G} {ct : CT} {ad : Nat → Nat} {P : Nat → Nat → Option Nat} {A A0 : Nat → Prop} {S : US} {h : AH} {H0 : Heap}

theorem kJ2_max (E : ME p m c cc nL s args RJ2 D clW ct) (hR : 1 ≤ R.frames ∧ 21 ≤ R.locals) (hsize : ls.size = nL) (hW : (rest.map fun v => v.category).sum ≤ 8) {x y : Int32} (hdg : decode cc pc = .ok (.invokestatic 79, 3)) (hf : cells ≤ R.cells ∧ slots ≤ R.slots) (kk : X p l e R s m args below meth c H locs cells slots Qf sp (F0 m (pc + 3) ls (.int (if x < y then y else x) :: rest))) : X p l e R s m args below meth c H locs cells slots Qf sp (F0 m pc ls (.int y :: .int x :: rest)) := fun o ho => va_mmax E.1.1 E.1.2.1 (E.1.2.2.1.trans hsize.symm) E.1.2.2.2.1 (E.1.2.2.2.2 _ q417) (E.1.2.2.2.2 _ q375) (E.1.2.2.2.2 _ q125) (E.1.2.2.2.2 _ q376) hR.1 (by omega) hf.1 hf.2 hdg (kk o ho)
theorem kJ9_max (E : ME p m c cc nL s args RJ9 D clW ct) (hR : 1 ≤ R.frames ∧ 21 ≤ R.locals) (hsize : ls.size = nL) (hW : (rest.map fun v => v.category).sum ≤ 8) {x y : Int32} (hdg : decode cc pc = .ok (.invokestatic 92, 3)) (hf : cells ≤ R.cells ∧ slots ≤ R.slots) (kk : X p l e R s m args below meth c H locs cells slots Qf sp (F0 m (pc + 3) ls (.int (if x < y then y else x) :: rest))) : X p l e R s m args below meth c H locs cells slots Qf sp (F0 m pc ls (.int y :: .int x :: rest)) := fun o ho => va_mmax E.1.1 E.1.2.1 (E.1.2.2.1.trans hsize.symm) E.1.2.2.2.1 (E.1.2.2.2.2 _ q882) (E.1.2.2.2.2 _ q375) (E.1.2.2.2.2 _ q125) (E.1.2.2.2.2 _ q376) hR.1 (by omega) hf.1 hf.2 hdg (kk o ho)
theorem kJ15_max (E : ME p m c cc nL s args RJ15 D clW ct) (hR : 1 ≤ R.frames ∧ 21 ≤ R.locals) (hsize : ls.size = nL) (hW : (rest.map fun v => v.category).sum ≤ 8) {x y : Int32} (hdg : decode cc pc = .ok (.invokestatic 194, 3)) (hf : cells ≤ R.cells ∧ slots ≤ R.slots) (kk : X p l e R s m args below meth c H locs cells slots Qf sp (F0 m (pc + 3) ls (.int (if x < y then y else x) :: rest))) : X p l e R s m args below meth c H locs cells slots Qf sp (F0 m pc ls (.int y :: .int x :: rest)) := fun o ho => va_mmax E.1.1 E.1.2.1 (E.1.2.2.1.trans hsize.symm) E.1.2.2.2.1 (E.1.2.2.2.2 _ q374) (E.1.2.2.2.2 _ q375) (E.1.2.2.2.2 _ q125) (E.1.2.2.2.2 _ q376) hR.1 (by omega) hf.1 hf.2 hdg (kk o ho)
theorem kJ9_min (E : ME p m c cc nL s args RJ9 D clW ct) (hR : 1 ≤ R.frames ∧ 21 ≤ R.locals) (hsize : ls.size = nL) (hW : (rest.map fun v => v.category).sum ≤ 8) {x y : Int32} (hdg : decode cc pc = .ok (.invokestatic 38, 3)) (hf : cells ≤ R.cells ∧ slots ≤ R.slots) (kk : X p l e R s m args below meth c H locs cells slots Qf sp (F0 m (pc + 3) ls (.int (if y < x then y else x) :: rest))) : X p l e R s m args below meth c H locs cells slots Qf sp (F0 m pc ls (.int y :: .int x :: rest)) := fun o ho => va_mmin E.1.1 E.1.2.1 (E.1.2.2.1.trans hsize.symm) E.1.2.2.2.1 (E.1.2.2.2.2 _ q883) (E.1.2.2.2.2 _ q412) (E.1.2.2.2.2 _ q125) (E.1.2.2.2.2 _ q413) hR.1 (by omega) hf.1 hf.2 hdg (kk o ho)
theorem kJ16_min (E : ME p m c cc nL s args RJ16 D clW ct) (hR : 1 ≤ R.frames ∧ 21 ≤ R.locals) (hsize : ls.size = nL) (hW : (rest.map fun v => v.category).sum ≤ 8) {x y : Int32} (hdg : decode cc pc = .ok (.invokestatic 304, 3)) (hf : cells ≤ R.cells ∧ slots ≤ R.slots) (kk : X p l e R s m args below meth c H locs cells slots Qf sp (F0 m (pc + 3) ls (.int (if y < x then y else x) :: rest))) : X p l e R s m args below meth c H locs cells slots Qf sp (F0 m pc ls (.int y :: .int x :: rest)) := fun o ho => va_mmin E.1.1 E.1.2.1 (E.1.2.2.1.trans hsize.symm) E.1.2.2.2.1 (E.1.2.2.2.2 _ q411) (E.1.2.2.2.2 _ q412) (E.1.2.2.2.2 _ q125) (E.1.2.2.2.2 _ q413) hR.1 (by omega) hf.1 hf.2 hdg (kk o ho)
end HF

section HK
variable {ρ : Type} {p : Program} {l : Launch} {e : Env} {R : Room} {s : State} {m : MethodId} {args : Array Value} {below : List Frame} {meth : Method} {c : Code} {H : Heap} {locs : List Loc} {cells slots : Nat} {Qf : ρ → State → Prop}
variable {cc : ByteArray} {pc nL L M q0 : Nat} {ls : Array Slot} {rest : List Value}
variable {D : va_G} {ct : CT} {ck : Nat → UC} {N : Nat} {ad : Nat → Nat} {P : Nat → Nat → Option Nat} {A A0 : Nat → Prop} {S : US} {w : Int64} {h : AH} {H0 : Heap}
theorem kJ9_S_checkIndex {p1 : Int32} {p2 : Int32} (E : ME p m c cc nL s args RJ9 D clW ct) (hG : GW D clW ck ct N ad P A S w h H) (hS : va_S A0 H0 H locs) (hA0 : ∀ q, H0.size ≤ q → A0 q) (hR : 2 + 1 ≤ R.frames ∧ 8 + (2 + 11) + 62 ≤ R.locals) (hsize : ls.size = nL) (hW : (rest.map fun v => v.category).sum ≤ 8) (hdg : decode cc pc = .ok (.invokestatic 9, 3)) (hf : cells ≤ R.cells ∧ slots ≤ R.slots) {kp : Unit → Option ρ} (kk : ∀ (o : Unit) (H1 : Heap) (locs1 : List Loc), GW D clW ck ct N ad P A S w h H1 → va_S A0 H0 H1 locs1 → X p l e R s m args below meth c H1 locs1 cells slots Qf (kp o) (F0 m (pc + 3) ls (rest))) : X p l e R s m args below meth c H locs cells slots Qf (callK (sS_checkIndex ct h p1 p2) kp) (F0 m pc ls (.int p2 :: .int p1 :: rest)) := gc_ro (val' := fun (o : Unit) => none) (len := 3) hG hS hA0 (fun o ho => rnS (As := [.int p1, .int p2]) E (hG.to fun _ _ => trivial) (mHS_checkIndex l D ct ck N ad P S w h p1 p2 _ o ho) (va_cwS 2 E.1.2.2.2.2 (lw_S q943 q554 q126 q555) rfl rfl rfl (by decide +kernel) hR) rfl hsize rfl hW hdg hf) kk
end HK

set_option maxHeartbeats 4000000 in
theorem mHV_newLength (l : Launch) (D : va_G) (ct : CT) (p1 : Int32) (p2 : Int32) (p3 : Int32) (sz : Nat) (o : Int32) (ho : sV_newLength p1 p2 p3 = some o) : Met l yJ15_newLength (ws_ yJ15_newLength cJ15_newLength 4 (some .int)) { frames := 1, cells := 0, slots := 0, locals := 40 } (mP D clW ct [.int p1, .int p2, .int p3] sz (fun _ => True)) (mC (some (.int o)) (fun _ => True) (nA sz)) 0 0 (nA sz) := by
  refine X.start (val := fun (o : Int32) => some (.int o)) (Bt := fun _ _ => True) (A := nA sz) ho (by decide) (Nat.le_of_ble_eq_true rfl) (lv := [(0, .int p1), (1, .int p2), (2, .int p3)]) rfl ?_
  intro p e s m args below meth c E hr hlk hnm hsz hU ls hl
  subst hsz
  obtain ⟨⟨hx, hb, hml, hown, hts⟩, hK, hJ⟩ := id E
  have hA0 : ∀ q, s.heap.size ≤ q → (nA s.heap.size) q := fun q h => h
  have hS : va_S (nA s.heap.size) s.heap s.heap [] := va_S.rf
  unfold sV_newLength
  refine x_iload_n hx hb dJ15_newLength_0 rfl (lv_at hl 0 rfl) ?_
  refine x_iload_n hx hb dJ15_newLength_1 rfl (lv_at hl 1 rfl) ?_
  refine x_iload_n hx hb dJ15_newLength_2 rfl (lv_at hl 2 rfl) ?_
  refine kJ15_max E ⟨by decide, by decide⟩ hl.1 (Nat.le_of_ble_eq_true rfl) dJ15_newLength_3 ⟨Nat.le_refl _, Nat.le_refl _⟩ ?_
  refine x_iadd hx hb dJ15_newLength_6 ?_
  refine x_istore_n (lv' := [(3, .int (p1 + (if p2 < p3 then p3 else p2))), (0, .int p1), (1, .int p2), (2, .int p3)]) hx hb dJ15_newLength_7 rfl hl (by decide) rfl (fun ls hl => ?_)
  refine x_iconst (v := 0) hx hb dJ15_newLength_8 (by decide) ?_
  refine x_iload_n hx hb dJ15_newLength_9 rfl (lv_at hl 0 rfl) ?_
  refine x_icmp_ge (tgt := 21) hx hb dJ15_newLength_10 (by decide) (fun hc => ?_) (fun hc => ?_)
  · refine x_iload_n hx hb dJ15_newLength_21 rfl (lv_at hl 1 rfl) ?_
    refine x_iload_n hx hb dJ15_newLength_22 rfl (lv_at hl 2 rfl) ?_
    exact X.none
  · refine x_iload_n hx hb dJ15_newLength_13 rfl (lv_at hl 0 rfl) ?_
    refine x_ldc hx hb hown (hts _ q377) dJ15_newLength_14 ?_
    refine x_icmp_gt (tgt := 21) hx hb dJ15_newLength_16 (by decide) (fun hc => ?_) (fun hc => ?_)
    · refine x_iload_n hx hb dJ15_newLength_21 rfl (lv_at hl 1 rfl) ?_
      refine x_iload_n hx hb dJ15_newLength_22 rfl (lv_at hl 2 rfl) ?_
      exact X.none
    · refine x_iload_n hx hb dJ15_newLength_19 rfl (lv_at hl 0 rfl) ?_
      exact x_iret hx hb hr hlk hS rfl trivial dJ15_newLength_20

set_option maxHeartbeats 4000000 in
theorem mHS_coder (l : Launch) (D : va_G) (ct : CT) (ck : Nat → UC) (N : Nat) (ad : Nat → Nat) (P : Nat → Nat → Option Nat) (S : US) (w : Int64) (h : AH) (q0 : Nat) (sz : Nat) (o : Int32) (ho : sS_coder h q0 = some o) : Met l yJ8_coder (ws_ yJ8_coder cJ8_coder 1 (some .byte)) { frames := 1, cells := 0, slots := 0, locals := 40 } (mP D clW ct [.ref q0] sz (GW D clW ck ct N ad P (fun _ => True) S w h)) (mC (some (.int o)) (fun _ => True) (nA sz)) 0 0 (nA sz) := by
  refine X.start (val := fun (o : Int32) => some (.int o)) (Bt := fun _ _ => True) (A := nA sz) ho (by decide) (Nat.le_of_ble_eq_true rfl) (lv := [(0, .ref q0)]) rfl ?_
  intro p e s m args below meth c E hr hlk hnm hsz hU ls hl
  subst hsz
  obtain ⟨⟨hx, hb, hml, hown, hts⟩, hK, hJ⟩ := id E
  have hA0 : ∀ q, s.heap.size ≤ q → (nA s.heap.size) q := fun q h => h
  have hS : va_S (nA s.heap.size) s.heap s.heap [] := va_S.rf
  unfold sS_coder
  refine gx_gets E hU (List.mem_of_getElem? (i := 0) rfl) (hts _ q866) (fun _ h => h) dJ8_coder_0 ?_
  refine x_if_eq (tgt := 13) hx hb dJ8_coder_3 (by decide) (fun hc => ?_) (fun hc => ?_)
  · refine x_iconst (v := 1) hx hb dJ8_coder_13 (by decide) ?_
    refine X.ite (fun hz => ?_) (fun _ => X.none)
    exact x_zret hx hb hr hlk hS (congrArg Value.int hz) rfl trivial dJ8_coder_14
  · refine x_aload_n hx hb dJ8_coder_6 rfl (lv_at hl 0 rfl) ?_
    refine fx_getI E hU.2.1 (ci := 13) rfl in_J8 1 (by decide) (hts _ q1208) (fun _ h => h) dJ8_coder_7 (fun v1 => ?_)
    refine x_goto (tgt := 14) hx hb dJ8_coder_10 (by decide) ?_
    refine X.ite (fun hz => ?_) (fun _ => X.none)
    exact x_zret hx hb hr hlk hS (congrArg Value.int hz) rfl trivial dJ8_coder_14

section HK
variable {ρ : Type} {p : Program} {l : Launch} {e : Env} {R : Room} {s : State} {m : MethodId} {args : Array Value} {below : List Frame} {meth : Method} {c : Code} {H : Heap} {locs : List Loc} {cells slots : Nat} {Qf : ρ → State → Prop}
variable {cc : ByteArray} {pc nL L M q0 : Nat} {ls : Array Slot} {rest : List Value}
variable {D : va_G} {ct : CT} {ck : Nat → UC} {N : Nat} {ad : Nat → Nat} {P : Nat → Nat → Option Nat} {A A0 : Nat → Prop} {S : US} {w : Int64} {h : AH} {H0 : Heap}
theorem kJ8_S_coder (E : ME p m c cc nL s args RJ8 D clW ct) (hG : GW D clW ck ct N ad P A S w h H) (hS : va_S A0 H0 H locs) (hA0 : ∀ q, H0.size ≤ q → A0 q) (hR : 1 + 1 ≤ R.frames ∧ 8 + (1 + 11) + 40 ≤ R.locals) (hsize : ls.size = nL) (hW : (rest.map fun v => v.category).sum ≤ 8) (hdg : decode cc pc = .ok (.invokevirtual 335, 3)) (hf : cells ≤ R.cells ∧ slots ≤ R.slots) {kp : Int32 → Option ρ} (kk : ∀ (o : Int32) (H1 : Heap) (locs1 : List Loc), GW D clW ck ct N ad P A S w h H1 → va_S A0 H0 H1 locs1 → X p l e R s m args below meth c H1 locs1 cells slots Qf (kp o) (F0 m (pc + 3) ls (.int o :: rest))) : X p l e R s m args below meth c H locs cells slots Qf (hC h q0 13 (callK (sS_coder h q0) kp)) (F0 m pc ls (.ref q0 :: rest)) := X.hC fun fs bw hq => gc_ro (val' := fun (o : Int32) => some (.int o)) (len := 3) hG hS hA0 (fun o ho => rnV (As := []) E (hG.to fun _ _ => trivial) (recvA E.2.1 hG.2.1 hq rfl) (mHS_coder l D ct ck N ad P S w h q0 _ o ho) (cwV 0 E.1.2.2.2.2 (lw_V q872 q873 q874 q126 q875) rfl rfl rfl (by decide +kernel) hR) rfl hsize rfl hW hdg hf) kk
end HK

set_option maxHeartbeats 4000000 in
theorem mHS_length (l : Launch) (D : va_G) (ct : CT) (ck : Nat → UC) (N : Nat) (ad : Nat → Nat) (P : Nat → Nat → Option Nat) (S : US) (w : Int64) (h : AH) (q0 : Nat) (sz : Nat) (o : Int32) (ho : sS_length h q0 = some o) : Met l yJ8_length (ws_ yJ8_length cJ8_length 1 (some .int)) { frames := 2, cells := 0, slots := 0, locals := 60 } (mP D clW ct [.ref q0] sz (GW D clW ck ct N ad P (fun _ => True) S w h)) (mC (some (.int o)) (fun _ => True) (nA sz)) 0 0 (nA sz) := by
  refine X.start (val := fun (o : Int32) => some (.int o)) (Bt := fun _ _ => True) (A := nA sz) ho (by decide) (Nat.le_of_ble_eq_true rfl) (lv := [(0, .ref q0)]) rfl ?_
  intro p e s m args below meth c E hr hlk hnm hsz hU ls hl
  subst hsz
  obtain ⟨⟨hx, hb, hml, hown, hts⟩, hK, hJ⟩ := id E
  have hA0 : ∀ q, s.heap.size ≤ q → (nA s.heap.size) q := fun q h => h
  have hS : va_S (nA s.heap.size) s.heap s.heap [] := va_S.rf
  unfold sS_length
  refine x_aload_n hx hb dJ8_length_0 rfl (lv_at hl 0 rfl) ?_
  refine fx_getR E hU.2.1 (ci := 13) rfl in_J8 0 (by decide) (hts _ q1207) (fun _ h => h) dJ8_length_1 (fun r1 => ?_)
  refine X.onR (fun b2 hb_ => ?_)
  subst hb_
  refine fx_alen E hU.2.1 (t := 2) rfl dJ8_length_4 (fun v3 => ?_)
  refine x_aload_n hx hb dJ8_length_5 rfl (lv_at hl 0 rfl) ?_
  refine kJ8_S_coder E hU hS hA0 ⟨by decide, by decide⟩ hl.1 (Nat.le_of_ble_eq_true rfl) dJ8_length_6 ⟨Nat.le_refl _, Nat.le_refl _⟩ (fun o4 H locs hU hS => ?_)
  refine x_ishr hx hb dJ8_length_9 ?_
  exact x_iret hx hb hr hlk hS rfl trivial dJ8_length_10

section HK
variable {ρ : Type} {p : Program} {l : Launch} {e : Env} {R : Room} {s : State} {m : MethodId} {args : Array Value} {below : List Frame} {meth : Method} {c : Code} {H : Heap} {locs : List Loc} {cells slots : Nat} {Qf : ρ → State → Prop}
variable {cc : ByteArray} {pc nL L M q0 : Nat} {ls : Array Slot} {rest : List Value}
variable {D : va_G} {ct : CT} {ck : Nat → UC} {N : Nat} {ad : Nat → Nat} {P : Nat → Nat → Option Nat} {A A0 : Nat → Prop} {S : US} {w : Int64} {h : AH} {H0 : Heap}
theorem kJ8_S_length (E : ME p m c cc nL s args RJ8 D clW ct) (hG : GW D clW ck ct N ad P A S w h H) (hS : va_S A0 H0 H locs) (hA0 : ∀ q, H0.size ≤ q → A0 q) (hR : 2 + 1 ≤ R.frames ∧ 8 + (1 + 11) + 60 ≤ R.locals) (hsize : ls.size = nL) (hW : (rest.map fun v => v.category).sum ≤ 8) (hdg : decode cc pc = .ok (.invokevirtual 505, 3)) (hf : cells ≤ R.cells ∧ slots ≤ R.slots) {kp : Int32 → Option ρ} (kk : ∀ (o : Int32) (H1 : Heap) (locs1 : List Loc), GW D clW ck ct N ad P A S w h H1 → va_S A0 H0 H1 locs1 → X p l e R s m args below meth c H1 locs1 cells slots Qf (kp o) (F0 m (pc + 3) ls (.int o :: rest))) : X p l e R s m args below meth c H locs cells slots Qf (hC h q0 13 (callK (sS_length h q0) kp)) (F0 m pc ls (.ref q0 :: rest)) := X.hC fun fs bw hq => gc_ro (val' := fun (o : Int32) => some (.int o)) (len := 3) hG hS hA0 (fun o ho => rnV (As := []) E (hG.to fun _ _ => trivial) (recvA E.2.1 hG.2.1 hq rfl) (mHS_length l D ct ck N ad P S w h q0 _ o ho) (cwV 0 E.1.2.2.2.2 (lw_V q868 q869 q870 q126 q871) rfl rfl rfl (by decide +kernel) hR) rfl hsize rfl hW hdg hf) kk
end HK

set_option maxHeartbeats 4000000 in
theorem mHS_isLatin1 (l : Launch) (D : va_G) (ct : CT) (ck : Nat → UC) (N : Nat) (ad : Nat → Nat) (P : Nat → Nat → Option Nat) (S : US) (w : Int64) (h : AH) (q0 : Nat) (sz : Nat) (o : Bool) (ho : sS_isLatin1 h q0 = some o) : Met l yJ8_isLatin1 (ws_ yJ8_isLatin1 cJ8_isLatin1 1 (some .boolean)) { frames := 1, cells := 0, slots := 0, locals := 40 } (mP D clW ct [.ref q0] sz (GW D clW ck ct N ad P (fun _ => True) S w h)) (mC (some (.int (bI o))) (fun _ => True) (nA sz)) 0 0 (nA sz) := by
  refine X.start (val := fun (o : Bool) => some (.int (bI o))) (Bt := fun _ _ => True) (A := nA sz) ho (by decide) (Nat.le_of_ble_eq_true rfl) (lv := [(0, .ref q0)]) rfl ?_
  intro p e s m args below meth c E hr hlk hnm hsz hU ls hl
  subst hsz
  obtain ⟨⟨hx, hb, hml, hown, hts⟩, hK, hJ⟩ := id E
  have hA0 : ∀ q, s.heap.size ≤ q → (nA s.heap.size) q := fun q h => h
  have hS : va_S (nA s.heap.size) s.heap s.heap [] := va_S.rf
  unfold sS_isLatin1
  refine gx_gets E hU (List.mem_of_getElem? (i := 0) rfl) (hts _ q866) (fun _ h => h) dJ8_isLatin1_0 ?_
  refine x_if_eq (tgt := 17) hx hb dJ8_isLatin1_3 (by decide) (fun hc => ?_) (fun hc => ?_)
  · refine x_iconst (v := 0) hx hb dJ8_isLatin1_17 (by decide) ?_
    exact x_zret hx hb hr hlk hS rfl rfl trivial dJ8_isLatin1_18
  · refine x_aload_n hx hb dJ8_isLatin1_6 rfl (lv_at hl 0 rfl) ?_
    refine fx_getI E hU.2.1 (ci := 13) rfl in_J8 1 (by decide) (hts _ q1208) (fun _ h => h) dJ8_isLatin1_7 (fun v1 => ?_)
    refine x_if_ne (tgt := 17) hx hb dJ8_isLatin1_10 (by decide) (fun hc => ?_) (fun hc => ?_)
    · refine x_iconst (v := 0) hx hb dJ8_isLatin1_17 (by decide) ?_
      exact x_zret hx hb hr hlk hS rfl rfl trivial dJ8_isLatin1_18
    · refine x_iconst (v := 1) hx hb dJ8_isLatin1_13 (by decide) ?_
      refine x_goto (tgt := 18) hx hb dJ8_isLatin1_14 (by decide) ?_
      exact x_zret hx hb hr hlk hS rfl rfl trivial dJ8_isLatin1_18

section HK
variable {ρ : Type} {p : Program} {l : Launch} {e : Env} {R : Room} {s : State} {m : MethodId} {args : Array Value} {below : List Frame} {meth : Method} {c : Code} {H : Heap} {locs : List Loc} {cells slots : Nat} {Qf : ρ → State → Prop}
variable {cc : ByteArray} {pc nL L M q0 : Nat} {ls : Array Slot} {rest : List Value}
variable {D : va_G} {ct : CT} {ck : Nat → UC} {N : Nat} {ad : Nat → Nat} {P : Nat → Nat → Option Nat} {A A0 : Nat → Prop} {S : US} {w : Int64} {h : AH} {H0 : Heap}
theorem kJ8_S_isLatin1 (E : ME p m c cc nL s args RJ8 D clW ct) (hG : GW D clW ck ct N ad P A S w h H) (hS : va_S A0 H0 H locs) (hA0 : ∀ q, H0.size ≤ q → A0 q) (hR : 1 + 1 ≤ R.frames ∧ 8 + (1 + 11) + 40 ≤ R.locals) (hsize : ls.size = nL) (hW : (rest.map fun v => v.category).sum ≤ 8) (hdg : decode cc pc = .ok (.invokevirtual 492, 3)) (hf : cells ≤ R.cells ∧ slots ≤ R.slots) {kp : Bool → Option ρ} (kk : ∀ (o : Bool) (H1 : Heap) (locs1 : List Loc), GW D clW ck ct N ad P A S w h H1 → va_S A0 H0 H1 locs1 → X p l e R s m args below meth c H1 locs1 cells slots Qf (kp o) (F0 m (pc + 3) ls (.int (bI o) :: rest))) : X p l e R s m args below meth c H locs cells slots Qf (hC h q0 13 (callK (sS_isLatin1 h q0) kp)) (F0 m pc ls (.ref q0 :: rest)) := X.hC fun fs bw hq => gc_ro (val' := fun (o : Bool) => some (.int (bI o))) (len := 3) hG hS hA0 (fun o ho => rnV (As := []) E (hG.to fun _ _ => trivial) (recvA E.2.1 hG.2.1 hq rfl) (mHS_isLatin1 l D ct ck N ad P S w h q0 _ o ho) (cwV 0 E.1.2.2.2.2 (lw_V q862 q863 q864 q126 q865) rfl rfl rfl (by decide +kernel) hR) rfl hsize rfl hW hdg hf) kk
end HK

set_option maxHeartbeats 4000000 in
theorem mHT_charAt (l : Launch) (D : va_G) (ct : CT) (ck : Nat → UC) (N : Nat) (ad : Nat → Nat) (P : Nat → Nat → Option Nat) (S : US) (w : Int64) (h : AH) (p1 : (Option Nat)) (p2 : Int32) (sz : Nat) (o : Int32) (ho : sT_charAt ct h p1 p2 = some o) : Met l yJ9_charAt (ws_ yJ9_charAt cJ9_charAt 2 (some .char)) { frames := 3, cells := 0, slots := 0, locals := 83 } (mP D clW ct [va_rf p1, .int p2] sz (GW D clW ck ct N ad P (fun _ => True) S w h)) (mC (some (.int o)) (fun _ => True) (nA sz)) 0 0 (nA sz) := by
  refine X.start (val := fun (o : Int32) => some (.int o)) (Bt := fun _ _ => True) (A := nA sz) ho (by decide) (by rcases p1 with _ | _ <;> exact Nat.le_of_ble_eq_true rfl) (lv := [(0, va_rf p1), (1, .int p2)]) (by rcases p1 with _ | _ <;> rfl) ?_
  intro p e s m args below meth c E hr hlk hnm hsz hU ls hl
  subst hsz
  obtain ⟨⟨hx, hb, hml, hown, hts⟩, hK, hJ⟩ := id E
  have hA0 : ∀ q, s.heap.size ≤ q → (nA s.heap.size) q := fun q h => h
  have hS : va_S (nA s.heap.size) s.heap s.heap [] := va_S.rf
  unfold sT_charAt
  refine x_iload_n hx hb dJ9_charAt_0 rfl (lv_at hl 1 rfl) ?_
  refine x_aload_nO hx hb dJ9_charAt_1 rfl (lv_at hl 0 rfl) ?_
  refine X.onR (fun b1 hb_ => ?_)
  subst hb_
  refine fx_alen E hU.2.1 (t := 2) rfl dJ9_charAt_2 (fun v2 => ?_)
  refine kJ9_S_checkIndex E hU hS hA0 ⟨by decide, by decide⟩ hl.1 (Nat.le_of_ble_eq_true rfl) dJ9_charAt_3 ⟨Nat.le_refl _, Nat.le_refl _⟩ (fun o3 H locs hU hS => ?_)
  refine x_aload_n hx hb dJ9_charAt_6 rfl (lv_at hl 0 rfl) ?_
  refine x_iload_n hx hb dJ9_charAt_7 rfl (lv_at hl 1 rfl) ?_
  refine fx_baload E hU.2.1 dJ9_charAt_8 (fun v4 => ?_)
  refine x_sipush (v := 255) hx hb dJ9_charAt_9 (by decide) ?_
  refine x_iand hx hb dJ9_charAt_12 ?_
  refine x_i2c hx hb dJ9_charAt_13 rfl ?_
  refine X.ite (fun hz => ?_) (fun _ => X.none)
  exact x_zret hx hb hr hlk hS (congrArg Value.int hz) rfl trivial dJ9_charAt_14

section HK
variable {ρ : Type} {p : Program} {l : Launch} {e : Env} {R : Room} {s : State} {m : MethodId} {args : Array Value} {below : List Frame} {meth : Method} {c : Code} {H : Heap} {locs : List Loc} {cells slots : Nat} {Qf : ρ → State → Prop}
variable {cc : ByteArray} {pc nL L M q0 : Nat} {ls : Array Slot} {rest : List Value}
variable {D : va_G} {ct : CT} {ck : Nat → UC} {N : Nat} {ad : Nat → Nat} {P : Nat → Nat → Option Nat} {A A0 : Nat → Prop} {S : US} {w : Int64} {h : AH} {H0 : Heap}
theorem kJ8_T_charAt {p1 : (Option Nat)} {p2 : Int32} (E : ME p m c cc nL s args RJ8 D clW ct) (hG : GW D clW ck ct N ad P A S w h H) (hS : va_S A0 H0 H locs) (hA0 : ∀ q, H0.size ≤ q → A0 q) (hR : 3 + 1 ≤ R.frames ∧ 8 + (2 + 11) + 83 ≤ R.locals) (hsize : ls.size = nL) (hW : (rest.map fun v => v.category).sum ≤ 8) (hdg : decode cc pc = .ok (.invokestatic 495, 3)) (hf : cells ≤ R.cells ∧ slots ≤ R.slots) {kp : Int32 → Option ρ} (kk : ∀ (o : Int32) (H1 : Heap) (locs1 : List Loc), GW D clW ck ct N ad P A S w h H1 → va_S A0 H0 H1 locs1 → X p l e R s m args below meth c H1 locs1 cells slots Qf (kp o) (F0 m (pc + 3) ls (.int o :: rest))) : X p l e R s m args below meth c H locs cells slots Qf (callK (sT_charAt ct h p1 p2) kp) (F0 m pc ls (.int p2 :: va_rf p1 :: rest)) := gc_ro (val' := fun (o : Int32) => some (.int o)) (len := 3) hG hS hA0 (fun o ho => rnS (As := [va_rf p1, .int p2]) E (hG.to fun _ _ => trivial) (mHT_charAt l D ct ck N ad P S w h p1 p2 _ o ho) (va_cwS 2 E.1.2.2.2.2 (lw_S q940 q941 q127 q942) rfl rfl rfl (by decide +kernel) hR) rfl hsize rfl hW hdg hf) kk
end HK

set_option maxHeartbeats 4000000 in
theorem mHS_charAt (l : Launch) (D : va_G) (ct : CT) (ck : Nat → UC) (N : Nat) (ad : Nat → Nat) (P : Nat → Nat → Option Nat) (S : US) (w : Int64) (h : AH) (q0 : Nat) (p1 : Int32) (sz : Nat) (o : Int32) (ho : sS_charAt ct h q0 p1 = some o) : Met l yJ8_charAt (ws_ yJ8_charAt cJ8_charAt 2 (some .char)) { frames := 4, cells := 0, slots := 0, locals := 104 } (mP D clW ct [.ref q0, .int p1] sz (GW D clW ck ct N ad P (fun _ => True) S w h)) (mC (some (.int o)) (fun _ => True) (nA sz)) 0 0 (nA sz) := by
  refine X.start (val := fun (o : Int32) => some (.int o)) (Bt := fun _ _ => True) (A := nA sz) ho (by decide) (Nat.le_of_ble_eq_true rfl) (lv := [(0, .ref q0), (1, .int p1)]) rfl ?_
  intro p e s m args below meth c E hr hlk hnm hsz hU ls hl
  subst hsz
  obtain ⟨⟨hx, hb, hml, hown, hts⟩, hK, hJ⟩ := id E
  have hA0 : ∀ q, s.heap.size ≤ q → (nA s.heap.size) q := fun q h => h
  have hS : va_S (nA s.heap.size) s.heap s.heap [] := va_S.rf
  unfold sS_charAt
  refine x_aload_n hx hb dJ8_charAt_0 rfl (lv_at hl 0 rfl) ?_
  refine kJ8_S_isLatin1 E hU hS hA0 ⟨by decide, by decide⟩ hl.1 (Nat.le_of_ble_eq_true rfl) dJ8_charAt_1 ⟨Nat.le_refl _, Nat.le_refl _⟩ (fun o1 H locs hU hS => ?_)
  refine x_if_eq (tgt := 16) hx hb dJ8_charAt_4 (by decide) (fun hc => ?_) (fun hc => ?_)
  · refine x_aload_n hx hb dJ8_charAt_16 rfl (lv_at hl 0 rfl) ?_
    refine fx_getR E hU.2.1 (ci := 13) rfl in_J8 0 (by decide) (hts _ q1207) (fun _ h => h) dJ8_charAt_17 (fun r2 => ?_)
    refine x_iload_n hx hb dJ8_charAt_20 rfl (lv_at hl 1 rfl) ?_
    exact X.none
  · refine x_aload_n hx hb dJ8_charAt_7 rfl (lv_at hl 0 rfl) ?_
    refine fx_getR E hU.2.1 (ci := 13) rfl in_J8 0 (by decide) (hts _ q1207) (fun _ h => h) dJ8_charAt_8 (fun r3 => ?_)
    refine x_iload_n hx hb dJ8_charAt_11 rfl (lv_at hl 1 rfl) ?_
    refine kJ8_T_charAt E hU hS hA0 ⟨by decide, by decide⟩ hl.1 (Nat.le_of_ble_eq_true rfl) dJ8_charAt_12 ⟨Nat.le_refl _, Nat.le_refl _⟩ (fun o4 H locs hU hS => ?_)
    refine X.ite (fun hz => ?_) (fun _ => X.none)
    exact x_zret hx hb hr hlk hS (congrArg Value.int hz) rfl trivial dJ8_charAt_15

set_option maxHeartbeats 4000000 in
theorem mHT_canEncode (l : Launch) (D : va_G) (ct : CT) (p1 : Int32) (sz : Nat) (o : Bool) (ho : sT_canEncode p1 = some o) : Met l yJ9_canEncode (ws_ yJ9_canEncode cJ9_canEncode 1 (some .boolean)) { frames := 1, cells := 0, slots := 0, locals := 40 } (mP D clW ct [.int p1] sz (fun _ => True)) (mC (some (.int (bI o))) (fun _ => True) (nA sz)) 0 0 (nA sz) := by
  refine X.start (val := fun (o : Bool) => some (.int (bI o))) (Bt := fun _ _ => True) (A := nA sz) ho (by decide) (Nat.le_of_ble_eq_true rfl) (lv := [(0, .int p1)]) rfl ?_
  intro p e s m args below meth c E hr hlk hnm hsz hU ls hl
  subst hsz
  obtain ⟨⟨hx, hb, hml, hown, hts⟩, hK, hJ⟩ := id E
  have hA0 : ∀ q, s.heap.size ≤ q → (nA s.heap.size) q := fun q h => h
  have hS : va_S (nA s.heap.size) s.heap s.heap [] := va_S.rf
  unfold sT_canEncode
  refine x_iload_n hx hb dJ9_canEncode_0 rfl (lv_at hl 0 rfl) ?_
  refine x_if_lt (tgt := 15) hx hb dJ9_canEncode_1 (by decide) (fun hc => ?_) (fun hc => ?_)
  · refine x_iconst (v := 0) hx hb dJ9_canEncode_15 (by decide) ?_
    exact x_zret hx hb hr hlk hS rfl rfl trivial dJ9_canEncode_16
  · refine x_iload_n hx hb dJ9_canEncode_4 rfl (lv_at hl 0 rfl) ?_
    refine x_sipush (v := 255) hx hb dJ9_canEncode_5 (by decide) ?_
    refine x_icmp_gt (tgt := 15) hx hb dJ9_canEncode_8 (by decide) (fun hc => ?_) (fun hc => ?_)
    · refine x_iconst (v := 0) hx hb dJ9_canEncode_15 (by decide) ?_
      exact x_zret hx hb hr hlk hS rfl rfl trivial dJ9_canEncode_16
    · refine x_iconst (v := 1) hx hb dJ9_canEncode_11 (by decide) ?_
      refine x_goto (tgt := 16) hx hb dJ9_canEncode_12 (by decide) ?_
      exact x_zret hx hb hr hlk hS rfl rfl trivial dJ9_canEncode_16

section HK
variable {ρ : Type} {p : Program} {l : Launch} {e : Env} {R : Room} {s : State} {m : MethodId} {args : Array Value} {below : List Frame} {meth : Method} {c : Code} {H : Heap} {locs : List Loc} {cells slots : Nat} {Qf : ρ → State → Prop}
variable {cc : ByteArray} {pc nL L M q0 : Nat} {ls : Array Slot} {rest : List Value}
variable {D : va_G} {ct : CT} {ck : Nat → UC} {N : Nat} {ad : Nat → Nat} {P : Nat → Nat → Option Nat} {A A0 : Nat → Prop} {S : US} {w : Int64} {h : AH} {H0 : Heap}
theorem kJ9_T_canEncode {p1 : Int32} (E : ME p m c cc nL s args RJ9 D clW ct) (hS : va_S A0 H0 H locs) (hA0 : ∀ q, H0.size ≤ q → A0 q) (hR : 1 + 1 ≤ R.frames ∧ 8 + (1 + 11) + 40 ≤ R.locals) (hsize : ls.size = nL) (hW : (rest.map fun v => v.category).sum ≤ 8) (hdg : decode cc pc = .ok (.invokestatic 88, 3)) (hf : cells ≤ R.cells ∧ slots ≤ R.slots) {kp : Bool → Option ρ} (kk : ∀ (o : Bool) (H1 : Heap) (locs1 : List Loc), H.size ≤ H1.size → (∀ q : Nat, q < H.size → H1[q]? = H[q]?) → va_S A0 H0 H1 locs1 → X p l e R s m args below meth c H1 locs1 cells slots Qf (kp o) (F0 m (pc + 3) ls (.int (bI o) :: rest))) : X p l e R s m args below meth c H locs cells slots Qf (callK (sT_canEncode p1) kp) (F0 m pc ls (.int p1 :: rest)) := gc_pure (val' := fun (o : Bool) => some (.int (bI o))) (len := 3) hS hA0 (fun o ho => rnS (As := [.int p1]) (B := fun _ => True) E trivial (mHT_canEncode l D ct p1 _ o ho) (va_cwS 1 E.1.2.2.2.2 (lw_S q879 q880 q127 q881) rfl rfl rfl (by decide +kernel) hR) rfl hsize rfl hW hdg hf) kk
end HK

set_option maxHeartbeats 4000000 in
theorem mHT_canEncode_2 (l : Launch) (D : va_G) (ct : CT) (p1 : Int32) (sz : Nat) (o : Bool) (ho : sT_canEncode_2 p1 = some o) : Met l yJ9_canEncode_2 (ws_ yJ9_canEncode_2 cJ9_canEncode_2 1 (some .boolean)) { frames := 1, cells := 0, slots := 0, locals := 40 } (mP D clW ct [.int p1] sz (fun _ => True)) (mC (some (.int (bI o))) (fun _ => True) (nA sz)) 0 0 (nA sz) := by
  refine X.start (val := fun (o : Bool) => some (.int (bI o))) (Bt := fun _ _ => True) (A := nA sz) ho (by decide) (Nat.le_of_ble_eq_true rfl) (lv := [(0, .int p1)]) rfl ?_
  intro p e s m args below meth c E hr hlk hnm hsz hU ls hl
  subst hsz
  obtain ⟨⟨hx, hb, hml, hown, hts⟩, hK, hJ⟩ := id E
  have hA0 : ∀ q, s.heap.size ≤ q → (nA s.heap.size) q := fun q h => h
  have hS : va_S (nA s.heap.size) s.heap s.heap [] := va_S.rf
  unfold sT_canEncode_2
  refine x_iload_n hx hb dJ9_canEncode_2_0 rfl (lv_at hl 0 rfl) ?_
  refine x_sipush (v := 255) hx hb dJ9_canEncode_2_1 (by decide) ?_
  refine x_icmp_gt (tgt := 11) hx hb dJ9_canEncode_2_4 (by decide) (fun hc => ?_) (fun hc => ?_)
  · refine x_iconst (v := 0) hx hb dJ9_canEncode_2_11 (by decide) ?_
    exact x_zret hx hb hr hlk hS rfl rfl trivial dJ9_canEncode_2_12
  · refine x_iconst (v := 1) hx hb dJ9_canEncode_2_7 (by decide) ?_
    refine x_goto (tgt := 12) hx hb dJ9_canEncode_2_8 (by decide) ?_
    exact x_zret hx hb hr hlk hS rfl rfl trivial dJ9_canEncode_2_12

set_option maxHeartbeats 4000000 in
theorem mHT_indexOfChar (l : Launch) (D : va_G) (ct : CT) (ck : Nat → UC) (N : Nat) (ad : Nat → Nat) (P : Nat → Nat → Option Nat) (S : US) (w : Int64) (h : AH) (p1 : (Option Nat)) (p2 : Int32) (p3 : Int32) (p4 : Int32) (sz : Nat) (o : Int32) (ho : sT_indexOfChar h p1 p2 p3 p4 = some o) : Met l yJ9_indexOfChar (ws_ yJ9_indexOfChar cJ9_indexOfChar 6 (some .int)) { frames := 1, cells := 0, slots := 0, locals := 40 } (mP D clW ct [va_rf p1, .int p2, .int p3, .int p4] sz (GW D clW ck ct N ad P (fun _ => True) S w h)) (mC (some (.int o)) (fun _ => True) (nA sz)) 0 0 (nA sz) := by
  refine X.start (val := fun (o : Int32) => some (.int o)) (Bt := fun _ _ => True) (A := nA sz) ho (by decide) (by rcases p1 with _ | _ <;> exact Nat.le_of_ble_eq_true rfl) (lv := [(0, va_rf p1), (1, .int p2), (2, .int p3), (3, .int p4)]) (by rcases p1 with _ | _ <;> rfl) ?_
  intro p e s m args below meth c E hr hlk hnm hsz hU ls hl
  subst hsz
  obtain ⟨⟨hx, hb, hml, hown, hts⟩, hK, hJ⟩ := id E
  have hA0 : ∀ q, s.heap.size ≤ q → (nA s.heap.size) q := fun q h => h
  have hS : va_S (nA s.heap.size) s.heap s.heap [] := va_S.rf
  unfold sT_indexOfChar
  refine x_iload_n hx hb dJ9_indexOfChar_0 rfl (lv_at hl 1 rfl) ?_
  refine x_i2b hx hb dJ9_indexOfChar_1 rfl ?_
  refine x_istore (lv' := [(4, .int p2.toInt8.toInt32), (0, va_rf p1), (1, .int p2), (2, .int p3), (3, .int p4)]) hx hb dJ9_indexOfChar_2 hl (by decide) rfl (fun ls hl => ?_)
  refine x_iload_n hx hb dJ9_indexOfChar_4 rfl (lv_at hl 3 rfl) ?_
  refine x_istore (lv' := [(5, .int p3), (4, .int p2.toInt8.toInt32), (0, va_rf p1), (1, .int p2), (2, .int p3), (3, .int p4)]) hx hb dJ9_indexOfChar_5 hl (by decide) rfl (fun ls hl => ?_)
  refine X.loop (I := fun (x : Int32) g H locs => GW D clW ck ct N ad P (fun _ => True) S w h H ∧ va_S (nA s.heap.size) s.heap H locs ∧ ∃ ls : Array Slot, g = F0 m 7 ls [] ∧ lv_has ls 6 [(0, va_rf p1), (3, .int p4), (4, .int p2.toInt8.toInt32), (5, .int x)]) (fun rc2 ih2 => ?_) FUEL _ _ _ _ ⟨hU, hS, _, rfl, lv_sub hl [2, 5, 1, 0] rfl⟩
  rintro v1 _ H locs ⟨hU, hS, ls, rfl, hl⟩
  refine X.eqs (sp2 := sT_indexOfChar_L7 p1 p2 p4 h rc2 v1) rfl ?_
  unfold sT_indexOfChar_L7
  refine x_iload hx hb dJ9_indexOfChar_7 (lv_at hl 3 rfl) ?_
  refine x_iload_n hx hb dJ9_indexOfChar_9 rfl (lv_at hl 1 rfl) ?_
  refine x_icmp_ge (tgt := 31) hx hb dJ9_indexOfChar_10 (by decide) (fun hc => ?_) (fun hc => ?_)
  · refine x_iconst (v := -1) hx hb dJ9_indexOfChar_31 (by decide) ?_
    exact x_iret hx hb hr hlk hS rfl trivial dJ9_indexOfChar_32
  · refine x_aload_nO hx hb dJ9_indexOfChar_13 rfl (lv_at hl 0 rfl) ?_
    refine x_iload hx hb dJ9_indexOfChar_14 (lv_at hl 3 rfl) ?_
    refine X.onR (fun b3 hb_ => ?_)
    subst hb_
    refine fx_baload E hU.2.1 dJ9_indexOfChar_16 (fun v4 => ?_)
    refine x_iload hx hb dJ9_indexOfChar_17 (lv_at hl 2 rfl) ?_
    refine x_icmp_ne (tgt := 25) hx hb dJ9_indexOfChar_19 (by decide) (fun hc => ?_) (fun hc => ?_)
    · refine x_iinc (v := (v1 + (1 : Int32))) (lv' := [(5, .int (v1 + (1 : Int32))), (0, .ref b3), (3, .int p4), (4, .int p2.toInt8.toInt32)]) (k := 3) hx hb dJ9_indexOfChar_25 hl rfl rfl (by decide) rfl (fun ls hl => ?_)
      refine x_goto (tgt := 7) hx hb dJ9_indexOfChar_28 (by decide) ?_
      exact ih2 (v1 + (1 : Int32)) _ _ _ ⟨hU, hS, _, rfl, lv_sub hl [1, 2, 3, 0] rfl⟩
    · refine x_iload hx hb dJ9_indexOfChar_22 (lv_at hl 3 rfl) ?_
      exact x_iret hx hb hr hlk hS rfl trivial dJ9_indexOfChar_24

section HK
variable {ρ : Type} {p : Program} {l : Launch} {e : Env} {R : Room} {s : State} {m : MethodId} {args : Array Value} {below : List Frame} {meth : Method} {c : Code} {H : Heap} {locs : List Loc} {cells slots : Nat} {Qf : ρ → State → Prop}
variable {cc : ByteArray} {pc nL L M q0 : Nat} {ls : Array Slot} {rest : List Value}
variable {D : va_G} {ct : CT} {ck : Nat → UC} {N : Nat} {ad : Nat → Nat} {P : Nat → Nat → Option Nat} {A A0 : Nat → Prop} {S : US} {w : Int64} {h : AH} {H0 : Heap}
theorem kJ9_T_indexOfChar {p1 : (Option Nat)} {p2 : Int32} {p3 : Int32} {p4 : Int32} (E : ME p m c cc nL s args RJ9 D clW ct) (hG : GW D clW ck ct N ad P A S w h H) (hS : va_S A0 H0 H locs) (hA0 : ∀ q, H0.size ≤ q → A0 q) (hR : 1 + 1 ≤ R.frames ∧ 8 + (6 + 11) + 40 ≤ R.locals) (hsize : ls.size = nL) (hW : (rest.map fun v => v.category).sum ≤ 8) (hdg : decode cc pc = .ok (.invokestatic 95, 3)) (hf : cells ≤ R.cells ∧ slots ≤ R.slots) {kp : Int32 → Option ρ} (kk : ∀ (o : Int32) (H1 : Heap) (locs1 : List Loc), GW D clW ck ct N ad P A S w h H1 → va_S A0 H0 H1 locs1 → X p l e R s m args below meth c H1 locs1 cells slots Qf (kp o) (F0 m (pc + 3) ls (.int o :: rest))) : X p l e R s m args below meth c H locs cells slots Qf (callK (sT_indexOfChar h p1 p2 p3 p4) kp) (F0 m pc ls (.int p4 :: .int p3 :: .int p2 :: va_rf p1 :: rest)) := gc_ro (val' := fun (o : Int32) => some (.int o)) (len := 3) hG hS hA0 (fun o ho => rnS (As := [va_rf p1, .int p2, .int p3, .int p4]) E (hG.to fun _ _ => trivial) (mHT_indexOfChar l D ct ck N ad P S w h p1 p2 p3 p4 _ o ho) (va_cwS 4 E.1.2.2.2.2 (lw_S q884 q885 q127 q886) rfl rfl rfl (by decide +kernel) hR) rfl hsize rfl hW hdg hf) kk
end HK

set_option maxHeartbeats 4000000 in
theorem mHT_indexOf (l : Launch) (D : va_G) (ct : CT) (ck : Nat → UC) (N : Nat) (ad : Nat → Nat) (P : Nat → Nat → Option Nat) (S : US) (w : Int64) (h : AH) (p1 : (Option Nat)) (p2 : Int32) (p3 : Int32) (p4 : Int32) (sz : Nat) (o : Int32) (ho : sT_indexOf h p1 p2 p3 p4 = some o) : Met l yJ9_indexOf (ws_ yJ9_indexOf cJ9_indexOf 4 (some .int)) { frames := 2, cells := 0, slots := 0, locals := 65 } (mP D clW ct [va_rf p1, .int p2, .int p3, .int p4] sz (GW D clW ck ct N ad P (fun _ => True) S w h)) (mC (some (.int o)) (fun _ => True) (nA sz)) 0 0 (nA sz) := by
  refine X.start (val := fun (o : Int32) => some (.int o)) (Bt := fun _ _ => True) (A := nA sz) ho (by decide) (by rcases p1 with _ | _ <;> exact Nat.le_of_ble_eq_true rfl) (lv := [(0, va_rf p1), (1, .int p2), (2, .int p3), (3, .int p4)]) (by rcases p1 with _ | _ <;> rfl) ?_
  intro p e s m args below meth c E hr hlk hnm hsz hU ls hl
  subst hsz
  obtain ⟨⟨hx, hb, hml, hown, hts⟩, hK, hJ⟩ := id E
  have hA0 : ∀ q, s.heap.size ≤ q → (nA s.heap.size) q := fun q h => h
  have hS : va_S (nA s.heap.size) s.heap s.heap [] := va_S.rf
  unfold sT_indexOf
  refine x_iload_n hx hb dJ9_indexOf_0 rfl (lv_at hl 1 rfl) ?_
  refine kJ9_T_canEncode E hS hA0 ⟨by decide, by decide⟩ hl.1 (Nat.le_of_ble_eq_true rfl) dJ9_indexOf_1 ⟨Nat.le_refl _, Nat.le_refl _⟩ (fun o1 H locs hz_ hk_ hS => ?_)
  replace hU := hU.kept hz_ hk_
  refine x_if_ne (tgt := 9) hx hb dJ9_indexOf_4 (by decide) (fun hc => ?_) (fun hc => ?_)
  · refine x_iload_n hx hb dJ9_indexOf_9 rfl (lv_at hl 2 rfl) ?_
    refine x_iconst (v := 0) hx hb dJ9_indexOf_10 (by decide) ?_
    refine kJ9_max E ⟨by decide, by decide⟩ hl.1 (Nat.le_of_ble_eq_true rfl) dJ9_indexOf_11 ⟨Nat.le_refl _, Nat.le_refl _⟩ ?_
    refine x_istore_n (lv' := [(2, .int (if p3 < (0 : Int32) then (0 : Int32) else p3)), (0, va_rf p1), (1, .int p2), (3, .int p4)]) hx hb dJ9_indexOf_14 rfl hl (by decide) rfl (fun ls hl => ?_)
    refine x_iload_n hx hb dJ9_indexOf_15 rfl (lv_at hl 3 rfl) ?_
    refine x_aload_nO hx hb dJ9_indexOf_16 rfl (lv_at hl 1 rfl) ?_
    refine X.onR (fun b2 hb_ => ?_)
    subst hb_
    refine fx_alen E hU.2.1 (t := 2) rfl dJ9_indexOf_17 (fun v3 => ?_)
    refine kJ9_min E ⟨by decide, by decide⟩ hl.1 (Nat.le_of_ble_eq_true rfl) dJ9_indexOf_18 ⟨Nat.le_refl _, Nat.le_refl _⟩ ?_
    refine x_istore_n (lv' := [(3, .int (if v3 < p4 then v3 else p4)), (2, .int (if p3 < (0 : Int32) then (0 : Int32) else p3)), (0, .ref b2), (1, .int p2)]) hx hb dJ9_indexOf_21 rfl hl (by decide) rfl (fun ls hl => ?_)
    refine x_iload_n hx hb dJ9_indexOf_22 rfl (lv_at hl 1 rfl) ?_
    refine x_iload_n hx hb dJ9_indexOf_23 rfl (lv_at hl 0 rfl) ?_
    refine x_icmp_lt (tgt := 29) hx hb dJ9_indexOf_24 (by decide) (fun hc => ?_) (fun hc => ?_)
    · refine x_aload_n hx hb dJ9_indexOf_29 rfl (lv_at hl 2 rfl) ?_
      refine x_iload_n hx hb dJ9_indexOf_30 rfl (lv_at hl 3 rfl) ?_
      refine x_iload_n hx hb dJ9_indexOf_31 rfl (lv_at hl 1 rfl) ?_
      refine x_iload_n hx hb dJ9_indexOf_32 rfl (lv_at hl 0 rfl) ?_
      refine kJ9_T_indexOfChar E hU hS hA0 ⟨by decide, by decide⟩ hl.1 (Nat.le_of_ble_eq_true rfl) dJ9_indexOf_33 ⟨Nat.le_refl _, Nat.le_refl _⟩ (fun o4 H locs hU hS => ?_)
      exact x_iret hx hb hr hlk hS rfl trivial dJ9_indexOf_36
    · refine x_iconst (v := -1) hx hb dJ9_indexOf_27 (by decide) ?_
      exact x_iret hx hb hr hlk hS rfl trivial dJ9_indexOf_28
  · refine x_iconst (v := -1) hx hb dJ9_indexOf_7 (by decide) ?_
    exact x_iret hx hb hr hlk hS rfl trivial dJ9_indexOf_8

section HK
variable {ρ : Type} {p : Program} {l : Launch} {e : Env} {R : Room} {s : State} {m : MethodId} {args : Array Value} {below : List Frame} {meth : Method} {c : Code} {H : Heap} {locs : List Loc} {cells slots : Nat} {Qf : ρ → State → Prop}
variable {cc : ByteArray} {pc nL L M q0 : Nat} {ls : Array Slot} {rest : List Value}
variable {D : va_G} {ct : CT} {ck : Nat → UC} {N : Nat} {ad : Nat → Nat} {P : Nat → Nat → Option Nat} {A A0 : Nat → Prop} {S : US} {w : Int64} {h : AH} {H0 : Heap}
theorem kJ8_T_indexOf {p1 : (Option Nat)} {p2 : Int32} {p3 : Int32} {p4 : Int32} (E : ME p m c cc nL s args RJ8 D clW ct) (hG : GW D clW ck ct N ad P A S w h H) (hS : va_S A0 H0 H locs) (hA0 : ∀ q, H0.size ≤ q → A0 q) (hR : 2 + 1 ≤ R.frames ∧ 8 + (4 + 11) + 65 ≤ R.locals) (hsize : ls.size = nL) (hW : (rest.map fun v => v.category).sum ≤ 8) (hdg : decode cc pc = .ok (.invokestatic 637, 3)) (hf : cells ≤ R.cells ∧ slots ≤ R.slots) {kp : Int32 → Option ρ} (kk : ∀ (o : Int32) (H1 : Heap) (locs1 : List Loc), GW D clW ck ct N ad P A S w h H1 → va_S A0 H0 H1 locs1 → X p l e R s m args below meth c H1 locs1 cells slots Qf (kp o) (F0 m (pc + 3) ls (.int o :: rest))) : X p l e R s m args below meth c H locs cells slots Qf (callK (sT_indexOf h p1 p2 p3 p4) kp) (F0 m pc ls (.int p4 :: .int p3 :: .int p2 :: va_rf p1 :: rest)) := gc_ro (val' := fun (o : Int32) => some (.int o)) (len := 3) hG hS hA0 (fun o ho => rnS (As := [va_rf p1, .int p2, .int p3, .int p4]) E (hG.to fun _ _ => trivial) (mHT_indexOf l D ct ck N ad P S w h p1 p2 p3 p4 _ o ho) (va_cwS 4 E.1.2.2.2.2 (lw_S q876 q877 q127 q878) rfl rfl rfl (by decide +kernel) hR) rfl hsize rfl hW hdg hf) kk
end HK

set_option maxHeartbeats 4000000 in
theorem mHS_indexOf_2 (l : Launch) (D : va_G) (ct : CT) (ck : Nat → UC) (N : Nat) (ad : Nat → Nat) (P : Nat → Nat → Option Nat) (S : US) (w : Int64) (h : AH) (q0 : Nat) (p1 : Int32) (p2 : Int32) (sz : Nat) (o : Int32) (ho : sS_indexOf_2 h q0 p1 p2 = some o) : Met l yJ8_indexOf_2 (ws_ yJ8_indexOf_2 cJ8_indexOf_2 3 (some .int)) { frames := 3, cells := 0, slots := 0, locals := 88 } (mP D clW ct [.ref q0, .int p1, .int p2] sz (GW D clW ck ct N ad P (fun _ => True) S w h)) (mC (some (.int o)) (fun _ => True) (nA sz)) 0 0 (nA sz) := by
  refine X.start (val := fun (o : Int32) => some (.int o)) (Bt := fun _ _ => True) (A := nA sz) ho (by decide) (Nat.le_of_ble_eq_true rfl) (lv := [(0, .ref q0), (1, .int p1), (2, .int p2)]) rfl ?_
  intro p e s m args below meth c E hr hlk hnm hsz hU ls hl
  subst hsz
  obtain ⟨⟨hx, hb, hml, hown, hts⟩, hK, hJ⟩ := id E
  have hA0 : ∀ q, s.heap.size ≤ q → (nA s.heap.size) q := fun q h => h
  have hS : va_S (nA s.heap.size) s.heap s.heap [] := va_S.rf
  unfold sS_indexOf_2
  refine x_aload_n hx hb dJ8_indexOf_2_0 rfl (lv_at hl 0 rfl) ?_
  refine kJ8_S_isLatin1 E hU hS hA0 ⟨by decide, by decide⟩ hl.1 (Nat.le_of_ble_eq_true rfl) dJ8_indexOf_2_1 ⟨Nat.le_refl _, Nat.le_refl _⟩ (fun o1 H locs hU hS => ?_)
  refine x_if_eq (tgt := 23) hx hb dJ8_indexOf_2_4 (by decide) (fun hc => ?_) (fun hc => ?_)
  · refine x_aload_n hx hb dJ8_indexOf_2_23 rfl (lv_at hl 0 rfl) ?_
    refine fx_getR E hU.2.1 (ci := 13) rfl in_J8 0 (by decide) (hts _ q1207) (fun _ h => h) dJ8_indexOf_2_24 (fun r2 => ?_)
    refine x_iload_n hx hb dJ8_indexOf_2_27 rfl (lv_at hl 1 rfl) ?_
    refine x_iload_n hx hb dJ8_indexOf_2_28 rfl (lv_at hl 2 rfl) ?_
    refine x_aload_n hx hb dJ8_indexOf_2_29 rfl (lv_at hl 0 rfl) ?_
    refine kJ8_S_length E hU hS hA0 ⟨by decide, by decide⟩ hl.1 (by rcases r2 with _ | _ <;> exact Nat.le_of_ble_eq_true rfl) dJ8_indexOf_2_30 ⟨Nat.le_refl _, Nat.le_refl _⟩ (fun o3 H locs hU hS => ?_)
    exact X.none
  · refine x_aload_n hx hb dJ8_indexOf_2_7 rfl (lv_at hl 0 rfl) ?_
    refine fx_getR E hU.2.1 (ci := 13) rfl in_J8 0 (by decide) (hts _ q1207) (fun _ h => h) dJ8_indexOf_2_8 (fun r4 => ?_)
    refine x_iload_n hx hb dJ8_indexOf_2_11 rfl (lv_at hl 1 rfl) ?_
    refine x_iload_n hx hb dJ8_indexOf_2_12 rfl (lv_at hl 2 rfl) ?_
    refine x_aload_n hx hb dJ8_indexOf_2_13 rfl (lv_at hl 0 rfl) ?_
    refine kJ8_S_length E hU hS hA0 ⟨by decide, by decide⟩ hl.1 (by rcases r4 with _ | _ <;> exact Nat.le_of_ble_eq_true rfl) dJ8_indexOf_2_14 ⟨Nat.le_refl _, Nat.le_refl _⟩ (fun o5 H locs hU hS => ?_)
    refine kJ8_T_indexOf E hU hS hA0 ⟨by decide, by decide⟩ hl.1 (Nat.le_of_ble_eq_true rfl) dJ8_indexOf_2_17 ⟨Nat.le_refl _, Nat.le_refl _⟩ (fun o6 H locs hU hS => ?_)
    refine x_goto (tgt := 36) hx hb dJ8_indexOf_2_20 (by decide) ?_
    exact x_iret hx hb hr hlk hS rfl trivial dJ8_indexOf_2_36

section HK
variable {ρ : Type} {p : Program} {l : Launch} {e : Env} {R : Room} {s : State} {m : MethodId} {args : Array Value} {below : List Frame} {meth : Method} {c : Code} {H : Heap} {locs : List Loc} {cells slots : Nat} {Qf : ρ → State → Prop}
variable {cc : ByteArray} {pc nL L M q0 : Nat} {ls : Array Slot} {rest : List Value}
variable {D : va_G} {ct : CT} {ck : Nat → UC} {N : Nat} {ad : Nat → Nat} {P : Nat → Nat → Option Nat} {A A0 : Nat → Prop} {S : US} {w : Int64} {h : AH} {H0 : Heap}
theorem kJ8_S_indexOf_2 {p1 : Int32} {p2 : Int32} (E : ME p m c cc nL s args RJ8 D clW ct) (hG : GW D clW ck ct N ad P A S w h H) (hS : va_S A0 H0 H locs) (hA0 : ∀ q, H0.size ≤ q → A0 q) (hR : 3 + 1 ≤ R.frames ∧ 8 + (3 + 11) + 88 ≤ R.locals) (hsize : ls.size = nL) (hW : (rest.map fun v => v.category).sum ≤ 8) (hdg : decode cc pc = .ok (.invokevirtual 633, 3)) (hf : cells ≤ R.cells ∧ slots ≤ R.slots) {kp : Int32 → Option ρ} (kk : ∀ (o : Int32) (H1 : Heap) (locs1 : List Loc), GW D clW ck ct N ad P A S w h H1 → va_S A0 H0 H1 locs1 → X p l e R s m args below meth c H1 locs1 cells slots Qf (kp o) (F0 m (pc + 3) ls (.int o :: rest))) : X p l e R s m args below meth c H locs cells slots Qf (hC h q0 13 (callK (sS_indexOf_2 h q0 p1 p2) kp)) (F0 m pc ls (.int p2 :: .int p1 :: .ref q0 :: rest)) := X.hC fun fs bw hq => gc_ro (val' := fun (o : Int32) => some (.int o)) (len := 3) hG hS hA0 (fun o ho => rnV (As := [.int p1, .int p2]) E (hG.to fun _ _ => trivial) (recvA E.2.1 hG.2.1 hq rfl) (mHS_indexOf_2 l D ct ck N ad P S w h q0 p1 p2 _ o ho) (cwV 2 E.1.2.2.2.2 (lw_V q858 q859 q860 q126 q861) rfl rfl rfl (by decide +kernel) hR) rfl hsize rfl hW hdg hf) kk
end HK

set_option maxHeartbeats 4000000 in
theorem mHS_indexOf (l : Launch) (D : va_G) (ct : CT) (ck : Nat → UC) (N : Nat) (ad : Nat → Nat) (P : Nat → Nat → Option Nat) (S : US) (w : Int64) (h : AH) (q0 : Nat) (p1 : Int32) (sz : Nat) (o : Int32) (ho : sS_indexOf h q0 p1 = some o) : Met l yJ8_indexOf (ws_ yJ8_indexOf cJ8_indexOf 2 (some .int)) { frames := 4, cells := 0, slots := 0, locals := 110 } (mP D clW ct [.ref q0, .int p1] sz (GW D clW ck ct N ad P (fun _ => True) S w h)) (mC (some (.int o)) (fun _ => True) (nA sz)) 0 0 (nA sz) := by
  refine X.start (val := fun (o : Int32) => some (.int o)) (Bt := fun _ _ => True) (A := nA sz) ho (by decide) (Nat.le_of_ble_eq_true rfl) (lv := [(0, .ref q0), (1, .int p1)]) rfl ?_
  intro p e s m args below meth c E hr hlk hnm hsz hU ls hl
  subst hsz
  obtain ⟨⟨hx, hb, hml, hown, hts⟩, hK, hJ⟩ := id E
  have hA0 : ∀ q, s.heap.size ≤ q → (nA s.heap.size) q := fun q h => h
  have hS : va_S (nA s.heap.size) s.heap s.heap [] := va_S.rf
  unfold sS_indexOf
  refine x_aload_n hx hb dJ8_indexOf_0 rfl (lv_at hl 0 rfl) ?_
  refine x_iload_n hx hb dJ8_indexOf_1 rfl (lv_at hl 1 rfl) ?_
  refine x_iconst (v := 0) hx hb dJ8_indexOf_2 (by decide) ?_
  refine kJ8_S_indexOf_2 E hU hS hA0 ⟨by decide, by decide⟩ hl.1 (Nat.le_of_ble_eq_true rfl) dJ8_indexOf_3 ⟨Nat.le_refl _, Nat.le_refl _⟩ (fun o1 H locs hU hS => ?_)
  exact x_iret hx hb hr hlk hS rfl trivial dJ8_indexOf_6

set_option maxHeartbeats 4000000 in
theorem mHT_equals (l : Launch) (D : va_G) (ct : CT) (ck : Nat → UC) (N : Nat) (ad : Nat → Nat) (P : Nat → Nat → Option Nat) (S : US) (w : Int64) (h : AH) (p1 : (Option Nat)) (p2 : (Option Nat)) (sz : Nat) (o : Bool) (ho : sT_equals h p1 p2 = some o) : Met l yJ9_equals (ws_ yJ9_equals cJ9_equals 3 (some .boolean)) { frames := 1, cells := 0, slots := 0, locals := 40 } (mP D clW ct [va_rf p1, va_rf p2] sz (GW D clW ck ct N ad P (fun _ => True) S w h)) (mC (some (.int (bI o))) (fun _ => True) (nA sz)) 0 0 (nA sz) := by
  refine X.start (val := fun (o : Bool) => some (.int (bI o))) (Bt := fun _ _ => True) (A := nA sz) ho (by decide) (by rcases p1 with _ | _ <;> rcases p2 with _ | _ <;> exact Nat.le_of_ble_eq_true rfl) (lv := [(0, va_rf p1), (1, va_rf p2)]) (by rcases p1 with _ | _ <;> rcases p2 with _ | _ <;> rfl) ?_
  intro p e s m args below meth c E hr hlk hnm hsz hU ls hl
  subst hsz
  obtain ⟨⟨hx, hb, hml, hown, hts⟩, hK, hJ⟩ := id E
  have hA0 : ∀ q, s.heap.size ≤ q → (nA s.heap.size) q := fun q h => h
  have hS : va_S (nA s.heap.size) s.heap s.heap [] := va_S.rf
  unfold sT_equals
  refine x_aload_nO hx hb dJ9_equals_0 rfl (lv_at hl 0 rfl) ?_
  refine X.onR (fun b1 hb_ => ?_)
  subst hb_
  refine fx_alen E hU.2.1 (t := 2) rfl dJ9_equals_1 (fun v2 => ?_)
  refine x_aload_nO hx hb dJ9_equals_2 rfl (lv_at hl 1 rfl) ?_
  refine X.onR (fun b3 hb_ => ?_)
  subst hb_
  refine fx_alen E hU.2.1 (t := 2) rfl dJ9_equals_3 (fun v4 => ?_)
  refine x_icmp_ne (tgt := 34) hx hb dJ9_equals_4 (by decide) (fun hc => ?_) (fun hc => ?_)
  · refine x_iconst (v := 0) hx hb dJ9_equals_34 (by decide) ?_
    exact x_zret hx hb hr hlk hS rfl rfl trivial dJ9_equals_35
  · refine x_iconst (v := 0) hx hb dJ9_equals_7 (by decide) ?_
    refine x_istore_n (lv' := [(2, .int (0 : Int32)), (0, .ref b1), (1, .ref b3)]) hx hb dJ9_equals_8 rfl hl (by decide) rfl (fun ls hl => ?_)
    refine X.loop (I := fun (x : Int32) g H locs => GW D clW ck ct N ad P (fun _ => True) S w h H ∧ va_S (nA s.heap.size) s.heap H locs ∧ ∃ ls : Array Slot, g = F0 m 9 ls [] ∧ lv_has ls 3 [(0, .ref b1), (1, .ref b3), (2, .int x)]) (fun rc6 ih6 => ?_) FUEL _ _ _ _ ⟨hU, hS, _, rfl, lv_sub hl [1, 2, 0] rfl⟩
    rintro v5 _ H locs ⟨hU, hS, ls, rfl, hl⟩
    refine X.eqs (sp2 := sT_equals_L9 h b1 b3 rc6 v5) rfl ?_
    unfold sT_equals_L9
    refine x_iload_n hx hb dJ9_equals_9 rfl (lv_at hl 2 rfl) ?_
    refine x_aload_n hx hb dJ9_equals_10 rfl (lv_at hl 0 rfl) ?_
    refine fx_alen E hU.2.1 (t := 2) rfl dJ9_equals_11 (fun v7 => ?_)
    refine x_icmp_ge (tgt := 32) hx hb dJ9_equals_12 (by decide) (fun hc => ?_) (fun hc => ?_)
    · refine x_iconst (v := 1) hx hb dJ9_equals_32 (by decide) ?_
      exact x_zret hx hb hr hlk hS rfl rfl trivial dJ9_equals_33
    · refine x_aload_n hx hb dJ9_equals_15 rfl (lv_at hl 0 rfl) ?_
      refine x_iload_n hx hb dJ9_equals_16 rfl (lv_at hl 2 rfl) ?_
      refine fx_baload E hU.2.1 dJ9_equals_17 (fun v8 => ?_)
      refine x_aload_n hx hb dJ9_equals_18 rfl (lv_at hl 1 rfl) ?_
      refine x_iload_n hx hb dJ9_equals_19 rfl (lv_at hl 2 rfl) ?_
      refine fx_baload E hU.2.1 dJ9_equals_20 (fun v9 => ?_)
      refine x_icmp_eq (tgt := 26) hx hb dJ9_equals_21 (by decide) (fun hc => ?_) (fun hc => ?_)
      · refine x_iinc (v := (v5 + (1 : Int32))) (lv' := [(2, .int (v5 + (1 : Int32))), (0, .ref b1), (1, .ref b3)]) (k := 2) hx hb dJ9_equals_26 hl rfl rfl (by decide) rfl (fun ls hl => ?_)
        refine x_goto (tgt := 9) hx hb dJ9_equals_29 (by decide) ?_
        exact ih6 (v5 + (1 : Int32)) _ _ _ ⟨hU, hS, _, rfl, lv_sub hl [1, 2, 0] rfl⟩
      · refine x_iconst (v := 0) hx hb dJ9_equals_24 (by decide) ?_
        exact x_zret hx hb hr hlk hS rfl rfl trivial dJ9_equals_25

section HK
variable {ρ : Type} {p : Program} {l : Launch} {e : Env} {R : Room} {s : State} {m : MethodId} {args : Array Value} {below : List Frame} {meth : Method} {c : Code} {H : Heap} {locs : List Loc} {cells slots : Nat} {Qf : ρ → State → Prop}
variable {cc : ByteArray} {pc nL L M q0 : Nat} {ls : Array Slot} {rest : List Value}
variable {D : va_G} {ct : CT} {ck : Nat → UC} {N : Nat} {ad : Nat → Nat} {P : Nat → Nat → Option Nat} {A A0 : Nat → Prop} {S : US} {w : Int64} {h : AH} {H0 : Heap}
theorem kJ8_T_equals {p1 : (Option Nat)} {p2 : (Option Nat)} (E : ME p m c cc nL s args RJ8 D clW ct) (hG : GW D clW ck ct N ad P A S w h H) (hS : va_S A0 H0 H locs) (hA0 : ∀ q, H0.size ≤ q → A0 q) (hR : 1 + 1 ≤ R.frames ∧ 8 + (3 + 11) + 40 ≤ R.locals) (hsize : ls.size = nL) (hW : (rest.map fun v => v.category).sum ≤ 8) (hdg : decode cc pc = .ok (.invokestatic 541, 3)) (hf : cells ≤ R.cells ∧ slots ≤ R.slots) {kp : Bool → Option ρ} (kk : ∀ (o : Bool) (H1 : Heap) (locs1 : List Loc), GW D clW ck ct N ad P A S w h H1 → va_S A0 H0 H1 locs1 → X p l e R s m args below meth c H1 locs1 cells slots Qf (kp o) (F0 m (pc + 3) ls (.int (bI o) :: rest))) : X p l e R s m args below meth c H locs cells slots Qf (callK (sT_equals h p1 p2) kp) (F0 m pc ls (va_rf p2 :: va_rf p1 :: rest)) := gc_ro (val' := fun (o : Bool) => some (.int (bI o))) (len := 3) hG hS hA0 (fun o ho => rnS (As := [va_rf p1, va_rf p2]) E (hG.to fun _ _ => trivial) (mHT_equals l D ct ck N ad P S w h p1 p2 _ o ho) (va_cwS 2 E.1.2.2.2.2 (lw_S q1225 q1226 q127 q1227) rfl rfl rfl (by decide +kernel) hR) rfl hsize rfl hW hdg hf) kk
end HK

set_option maxHeartbeats 4000000 in
theorem mHS_equals (l : Launch) (D : va_G) (ct : CT) (ck : Nat → UC) (N : Nat) (ad : Nat → Nat) (P : Nat → Nat → Option Nat) (S : US) (w : Int64) (h : AH) (q0 : Nat) (p1 : (Option Nat)) (sz : Nat) (o : Bool) (ho : sS_equals h q0 p1 = some o) : Met l yJ8_equals (ws_ yJ8_equals cJ8_equals 3 (some .boolean)) { frames := 2, cells := 0, slots := 0, locals := 62 } (mP D clW ct [.ref q0, va_rf p1] sz (GW D clW ck ct N ad P (fun _ => True) S w h)) (mC (some (.int (bI o))) (fun _ => True) (nA sz)) 0 0 (nA sz) := by
  refine X.start (val := fun (o : Bool) => some (.int (bI o))) (Bt := fun _ _ => True) (A := nA sz) ho (by decide) (by rcases p1 with _ | _ <;> exact Nat.le_of_ble_eq_true rfl) (lv := [(0, .ref q0), (1, va_rf p1)]) (by rcases p1 with _ | _ <;> rfl) ?_
  intro p e s m args below meth c E hr hlk hnm hsz hU ls hl
  subst hsz
  obtain ⟨⟨hx, hb, hml, hown, hts⟩, hK, hJ⟩ := id E
  have hA0 : ∀ q, s.heap.size ≤ q → (nA s.heap.size) q := fun q h => h
  have hS : va_S (nA s.heap.size) s.heap s.heap [] := va_S.rf
  unfold sS_equals
  refine x_aload_n hx hb dJ8_equals_0 rfl (lv_at hl 0 rfl) ?_
  refine x_aload_nO hx hb dJ8_equals_1 rfl (lv_at hl 1 rfl) ?_
  refine x_acmp_ne (rx := (some q0)) (ry := p1) (tgt := 7) hx hb dJ8_equals_2 (by decide) (fun hc => ?_) (fun hc => ?_)
  · refine x_aload_nO hx hb dJ8_equals_7 rfl (lv_at hl 1 rfl) ?_
    refine X.onR (fun b1 hb_ => ?_)
    subst hb_
    refine fx_inst E hU.2.1 (ci := 13) rfl (hts _ q1224) dJ8_equals_8 ?_
    refine x_if_eq (tgt := 54) hx hb dJ8_equals_11 (by decide) (fun hc => ?_) (fun hc => ?_)
    · refine x_iconst (v := 0) hx hb dJ8_equals_54 (by decide) ?_
      exact x_zret hx hb hr hlk hS rfl rfl trivial dJ8_equals_55
    · refine x_aload_n hx hb dJ8_equals_14 rfl (lv_at hl 1 rfl) ?_
      refine fx_cast E hU.2.1 (ci := 13) rfl (hts _ q1224) dJ8_equals_15 ?_
      refine x_astore_n (lv' := [(2, .ref b1), (0, .ref q0), (1, .ref b1)]) hx hb dJ8_equals_18 rfl hl (by decide) rfl (fun ls hl => ?_)
      refine gx_gets E hU (List.mem_of_getElem? (i := 0) rfl) (hts _ q866) (fun _ h => h) dJ8_equals_19 ?_
      refine X.join2 (fun (x : Unit) g H locs => GW D clW ck ct N ad P (fun _ => True) S w h H ∧ va_S (nA s.heap.size) s.heap H locs ∧ ∃ ls : Array Slot, g = F0 m 36 ls [] ∧ lv_has ls 3 [(0, .ref q0), (2, .ref b1)]) ?_ (fun j2 hj2 => ?_)
      · rintro _ _ H locs ⟨hU, hS, ls, rfl, hl⟩
        refine X.eqs (sp2 := sS_equals_J36 q0 h b1) rfl ?_
        unfold sS_equals_J36
        refine x_aload_n hx hb dJ8_equals_36 rfl (lv_at hl 0 rfl) ?_
        refine fx_getR E hU.2.1 (ci := 13) rfl in_J8 0 (by decide) (hts _ q1207) (fun _ h => h) dJ8_equals_37 (fun r3 => ?_)
        refine x_aload_n hx hb dJ8_equals_40 rfl (lv_at hl 1 rfl) ?_
        refine fx_getR E hU.2.1 (ci := 13) rfl in_J8 0 (by decide) (hts _ q1207) (fun _ h => h) dJ8_equals_41 (fun r4 => ?_)
        refine kJ8_T_equals E hU hS hA0 ⟨by decide, by decide⟩ hl.1 (Nat.le_of_ble_eq_true rfl) dJ8_equals_44 ⟨Nat.le_refl _, Nat.le_refl _⟩ (fun o5 H locs hU hS => ?_)
        refine x_if_eq (tgt := 54) hx hb dJ8_equals_47 (by decide) (fun hc => ?_) (fun hc => ?_)
        · refine x_iconst (v := 0) hx hb dJ8_equals_54 (by decide) ?_
          exact x_zret hx hb hr hlk hS rfl rfl trivial dJ8_equals_55
        · refine x_iconst (v := 1) hx hb dJ8_equals_50 (by decide) ?_
          refine x_goto (tgt := 55) hx hb dJ8_equals_51 (by decide) ?_
          exact x_zret hx hb hr hlk hS rfl rfl trivial dJ8_equals_55
      · refine x_if_eq (tgt := 36) hx hb dJ8_equals_22 (by decide) (fun hc => ?_) (fun hc => ?_)
        · exact hj2 () _ _ _ ⟨hU, hS, _, rfl, lv_sub hl [1, 0] rfl⟩
        · refine x_aload_n hx hb dJ8_equals_25 rfl (lv_at hl 1 rfl) ?_
          refine fx_getI E hU.2.1 (ci := 13) rfl in_J8 1 (by decide) (hts _ q1208) (fun _ h => h) dJ8_equals_26 (fun v6 => ?_)
          refine x_aload_n hx hb dJ8_equals_29 rfl (lv_at hl 0 rfl) ?_
          refine fx_getI E hU.2.1 (ci := 13) rfl in_J8 1 (by decide) (hts _ q1208) (fun _ h => h) dJ8_equals_30 (fun v7 => ?_)
          refine x_icmp_ne (tgt := 54) hx hb dJ8_equals_33 (by decide) (fun hc => ?_) (fun hc => ?_)
          · refine x_iconst (v := 0) hx hb dJ8_equals_54 (by decide) ?_
            exact x_zret hx hb hr hlk hS rfl rfl trivial dJ8_equals_55
          · exact hj2 () _ _ _ ⟨hU, hS, _, rfl, lv_sub hl [1, 0] rfl⟩
  · refine x_iconst (v := 1) hx hb dJ8_equals_5 (by decide) ?_
    exact x_zret hx hb hr hlk hS rfl rfl trivial dJ8_equals_6

set_option maxHeartbeats 4000000 in
theorem mHV_mismatch (l : Launch) (D : va_G) (ct : CT) (ck : Nat → UC) (N : Nat) (ad : Nat → Nat) (P : Nat → Nat → Option Nat) (S : US) (w : Int64) (h : AH) (p1 : (Option Nat)) (p2 : Int32) (p3 : (Option Nat)) (p4 : Int32) (p5 : Int32) (sz : Nat) (o : Int32) (ho : sV_mismatch h p1 p2 p3 p4 p5 = some o) : Met l yJ15_mismatch (ws_ yJ15_mismatch cJ15_mismatch 8 (some .int)) { frames := 1, cells := 0, slots := 0, locals := 40 } (mP D clW ct [va_rf p1, .int p2, va_rf p3, .int p4, .int p5] sz (GW D clW ck ct N ad P (fun _ => True) S w h)) (mC (some (.int o)) (fun _ => True) (nA sz)) 0 0 (nA sz) := by
  refine X.start (val := fun (o : Int32) => some (.int o)) (Bt := fun _ _ => True) (A := nA sz) ho (by decide) (by rcases p1 with _ | _ <;> rcases p3 with _ | _ <;> exact Nat.le_of_ble_eq_true rfl) (lv := [(0, va_rf p1), (1, .int p2), (2, va_rf p3), (3, .int p4), (4, .int p5)]) (by rcases p1 with _ | _ <;> rcases p3 with _ | _ <;> rfl) ?_
  intro p e s m args below meth c E hr hlk hnm hsz hU ls hl
  subst hsz
  obtain ⟨⟨hx, hb, hml, hown, hts⟩, hK, hJ⟩ := id E
  have hA0 : ∀ q, s.heap.size ≤ q → (nA s.heap.size) q := fun q h => h
  have hS : va_S (nA s.heap.size) s.heap s.heap [] := va_S.rf
  unfold sV_mismatch
  refine x_iconst (v := 0) hx hb dJ15_mismatch_0 (by decide) ?_
  refine x_istore (lv' := [(5, .int (0 : Int32)), (0, va_rf p1), (1, .int p2), (2, va_rf p3), (3, .int p4), (4, .int p5)]) hx hb dJ15_mismatch_1 hl (by decide) rfl (fun ls hl => ?_)
  refine x_iload hx hb dJ15_mismatch_3 (lv_at hl 5 rfl) ?_
  refine x_bipush (v := 7) hx hb dJ15_mismatch_5 (by decide) ?_
  refine x_icmp_le (tgt := 70) hx hb dJ15_mismatch_7 (by decide) (fun hc => ?_) (fun hc => ?_)
  · refine X.loop (I := fun (x : Int32) g H locs => GW D clW ck ct N ad P (fun _ => True) S w h H ∧ va_S (nA s.heap.size) s.heap H locs ∧ ∃ ls : Array Slot, g = F0 m 70 ls [] ∧ lv_has ls 8 [(0, va_rf p1), (1, .int p2), (2, va_rf p3), (3, .int p4), (4, .int p5), (5, .int x)]) (fun rc2 ih2 => ?_) FUEL _ _ _ _ ⟨hU, hS, _, rfl, lv_sub hl [1, 2, 3, 4, 5, 0] rfl⟩
    rintro v1 _ H locs ⟨hU, hS, ls, rfl, hl⟩
    refine X.eqs (sp2 := sV_mismatch_L70 p1 p2 p3 p4 p5 h rc2 v1) rfl ?_
    unfold sV_mismatch_L70
    refine x_iload hx hb dJ15_mismatch_70 (lv_at hl 5 rfl) ?_
    refine x_iload hx hb dJ15_mismatch_72 (lv_at hl 4 rfl) ?_
    refine x_icmp_ge (tgt := 101) hx hb dJ15_mismatch_74 (by decide) (fun hc => ?_) (fun hc => ?_)
    · refine x_iconst (v := -1) hx hb dJ15_mismatch_101 (by decide) ?_
      exact x_iret hx hb hr hlk hS rfl trivial dJ15_mismatch_102
    · refine x_aload_nO hx hb dJ15_mismatch_77 rfl (lv_at hl 0 rfl) ?_
      refine x_iload_n hx hb dJ15_mismatch_78 rfl (lv_at hl 1 rfl) ?_
      refine x_iload hx hb dJ15_mismatch_79 (lv_at hl 5 rfl) ?_
      refine x_iadd hx hb dJ15_mismatch_81 ?_
      refine X.onR (fun b3 hb_ => ?_)
      subst hb_
      refine fx_baload E hU.2.1 dJ15_mismatch_82 (fun v4 => ?_)
      refine x_aload_nO hx hb dJ15_mismatch_83 rfl (lv_at hl 2 rfl) ?_
      refine x_iload_n hx hb dJ15_mismatch_84 rfl (lv_at hl 3 rfl) ?_
      refine x_iload hx hb dJ15_mismatch_85 (lv_at hl 5 rfl) ?_
      refine x_iadd hx hb dJ15_mismatch_87 ?_
      refine X.onR (fun b5 hb_ => ?_)
      subst hb_
      refine fx_baload E hU.2.1 dJ15_mismatch_88 (fun v6 => ?_)
      refine x_icmp_eq (tgt := 95) hx hb dJ15_mismatch_89 (by decide) (fun hc => ?_) (fun hc => ?_)
      · refine x_iinc (v := (v1 + (1 : Int32))) (lv' := [(5, .int (v1 + (1 : Int32))), (0, .ref b3), (1, .int p2), (2, .ref b5), (3, .int p4), (4, .int p5)]) (k := 5) hx hb dJ15_mismatch_95 hl rfl rfl (by decide) rfl (fun ls hl => ?_)
        refine x_goto (tgt := 70) hx hb dJ15_mismatch_98 (by decide) ?_
        exact ih2 (v1 + (1 : Int32)) _ _ _ ⟨hU, hS, _, rfl, lv_sub hl [1, 2, 3, 4, 5, 0] rfl⟩
      · refine x_iload hx hb dJ15_mismatch_92 (lv_at hl 5 rfl) ?_
        exact x_iret hx hb hr hlk hS rfl trivial dJ15_mismatch_94
  · refine x_aload_nO hx hb dJ15_mismatch_10 rfl (lv_at hl 1 rfl) ?_
    refine x_iload_n hx hb dJ15_mismatch_11 rfl (lv_at hl 2 rfl) ?_
    refine X.onR (fun b7 hb_ => ?_)
    subst hb_
    refine fx_baload E hU.2.1 dJ15_mismatch_12 (fun v8 => ?_)
    refine x_aload_nO hx hb dJ15_mismatch_13 rfl (lv_at hl 3 rfl) ?_
    refine x_iload_n hx hb dJ15_mismatch_14 rfl (lv_at hl 4 rfl) ?_
    refine X.onR (fun b9 hb_ => ?_)
    subst hb_
    refine fx_baload E hU.2.1 dJ15_mismatch_15 (fun v10 => ?_)
    refine x_icmp_eq (tgt := 21) hx hb dJ15_mismatch_16 (by decide) (fun hc => ?_) (fun hc => ?_)
    · refine gx_gets E hU (List.mem_of_getElem? (i := 8) rfl) (hts _ q1622) (fun _ h => h) dJ15_mismatch_21 ?_
      refine x_iload_n hx hb dJ15_mismatch_24 rfl (lv_at hl 2 rfl) ?_
      refine x_iadd hx hb dJ15_mismatch_25 ?_
      refine x_istore (lv' := [(6, .int ((16 : Int32) + p2)), (5, .int (0 : Int32)), (0, .ref b7), (1, .int p2), (2, .ref b9), (3, .int p4), (4, .int p5)]) hx hb dJ15_mismatch_26 hl (by decide) rfl (fun ls hl => ?_)
      refine gx_gets E hU (List.mem_of_getElem? (i := 8) rfl) (hts _ q1622) (fun _ h => h) dJ15_mismatch_28 ?_
      refine x_iload_n hx hb dJ15_mismatch_31 rfl (lv_at hl 5 rfl) ?_
      refine x_iadd hx hb dJ15_mismatch_32 ?_
      refine x_istore (lv' := [(7, .int ((16 : Int32) + p4)), (6, .int ((16 : Int32) + p2)), (5, .int (0 : Int32)), (0, .ref b7), (1, .int p2), (2, .ref b9), (3, .int p4), (4, .int p5)]) hx hb dJ15_mismatch_33 hl (by decide) rfl (fun ls hl => ?_)
      refine x_aload_n hx hb dJ15_mismatch_35 rfl (lv_at hl 3 rfl) ?_
      refine x_iload hx hb dJ15_mismatch_36 (lv_at hl 1 rfl) ?_
      refine x_i2l hx hb dJ15_mismatch_38 rfl ?_
      refine x_aload_n hx hb dJ15_mismatch_39 rfl (lv_at hl 5 rfl) ?_
      refine x_iload hx hb dJ15_mismatch_40 (lv_at hl 0 rfl) ?_
      refine x_i2l hx hb dJ15_mismatch_42 rfl ?_
      refine x_iload hx hb dJ15_mismatch_43 (lv_at hl 7 rfl) ?_
      refine gx_gets E hU (List.mem_of_getElem? (i := 9) rfl) (hts _ q1624) (fun _ h => h) dJ15_mismatch_45 ?_
      exact X.none
    · refine x_iconst (v := 0) hx hb dJ15_mismatch_19 (by decide) ?_
      exact x_iret hx hb hr hlk hS rfl trivial dJ15_mismatch_20

section HK
variable {ρ : Type} {p : Program} {l : Launch} {e : Env} {R : Room} {s : State} {m : MethodId} {args : Array Value} {below : List Frame} {meth : Method} {c : Code} {H : Heap} {locs : List Loc} {cells slots : Nat} {Qf : ρ → State → Prop}
variable {cc : ByteArray} {pc nL L M q0 : Nat} {ls : Array Slot} {rest : List Value}
variable {D : va_G} {ct : CT} {ck : Nat → UC} {N : Nat} {ad : Nat → Nat} {P : Nat → Nat → Option Nat} {A A0 : Nat → Prop} {S : US} {w : Int64} {h : AH} {H0 : Heap}
theorem kJ8_V_mismatch {p1 : (Option Nat)} {p2 : Int32} {p3 : (Option Nat)} {p4 : Int32} {p5 : Int32} (E : ME p m c cc nL s args RJ8 D clW ct) (hG : GW D clW ck ct N ad P A S w h H) (hS : va_S A0 H0 H locs) (hA0 : ∀ q, H0.size ≤ q → A0 q) (hR : 1 + 1 ≤ R.frames ∧ 8 + (8 + 11) + 40 ≤ R.locals) (hsize : ls.size = nL) (hW : (rest.map fun v => v.category).sum ≤ 8) (hdg : decode cc pc = .ok (.invokestatic 607, 3)) (hf : cells ≤ R.cells ∧ slots ≤ R.slots) {kp : Int32 → Option ρ} (kk : ∀ (o : Int32) (H1 : Heap) (locs1 : List Loc), GW D clW ck ct N ad P A S w h H1 → va_S A0 H0 H1 locs1 → X p l e R s m args below meth c H1 locs1 cells slots Qf (kp o) (F0 m (pc + 3) ls (.int o :: rest))) : X p l e R s m args below meth c H locs cells slots Qf (callK (sV_mismatch h p1 p2 p3 p4 p5) kp) (F0 m pc ls (.int p5 :: .int p4 :: va_rf p3 :: .int p2 :: va_rf p1 :: rest)) := gc_ro (val' := fun (o : Int32) => some (.int o)) (len := 3) hG hS hA0 (fun o ho => rnS (As := [va_rf p1, .int p2, va_rf p3, .int p4, .int p5]) E (hG.to fun _ _ => trivial) (mHV_mismatch l D ct ck N ad P S w h p1 p2 p3 p4 p5 _ o ho) (va_cwS 5 E.1.2.2.2.2 (lw_S q1619 q1620 q134 q1621) rfl rfl rfl (by decide +kernel) hR) rfl hsize rfl hW hdg hf) kk
end HK

set_option maxHeartbeats 4000000 in
theorem mHS_startsWith (l : Launch) (D : va_G) (ct : CT) (ck : Nat → UC) (N : Nat) (ad : Nat → Nat) (P : Nat → Nat → Option Nat) (S : US) (w : Int64) (h : AH) (q0 : Nat) (p1 : (Option Nat)) (p2 : Int32) (sz : Nat) (o : Bool) (ho : sS_startsWith h q0 p1 p2 = some o) : Met l yJ8_startsWith (ws_ yJ8_startsWith cJ8_startsWith 8 (some .boolean)) { frames := 3, cells := 0, slots := 0, locals := 80 } (mP D clW ct [.ref q0, va_rf p1, .int p2] sz (GW D clW ck ct N ad P (fun _ => True) S w h)) (mC (some (.int (bI o))) (fun _ => True) (nA sz)) 0 0 (nA sz) := by
  refine X.start (val := fun (o : Bool) => some (.int (bI o))) (Bt := fun _ _ => True) (A := nA sz) ho (by decide) (by rcases p1 with _ | _ <;> exact Nat.le_of_ble_eq_true rfl) (lv := [(0, .ref q0), (1, va_rf p1), (2, .int p2)]) (by rcases p1 with _ | _ <;> rfl) ?_
  intro p e s m args below meth c E hr hlk hnm hsz hU ls hl
  subst hsz
  obtain ⟨⟨hx, hb, hml, hown, hts⟩, hK, hJ⟩ := id E
  have hA0 : ∀ q, s.heap.size ≤ q → (nA s.heap.size) q := fun q h => h
  have hS : va_S (nA s.heap.size) s.heap s.heap [] := va_S.rf
  unfold sS_startsWith
  refine x_iload_n hx hb dJ8_startsWith_0 rfl (lv_at hl 2 rfl) ?_
  refine x_if_lt (tgt := 17) hx hb dJ8_startsWith_1 (by decide) (fun hc => ?_) (fun hc => ?_)
  · refine x_iconst (v := 0) hx hb dJ8_startsWith_17 (by decide) ?_
    exact x_zret hx hb hr hlk hS rfl rfl trivial dJ8_startsWith_18
  · refine x_iload_n hx hb dJ8_startsWith_4 rfl (lv_at hl 2 rfl) ?_
    refine x_aload_n hx hb dJ8_startsWith_5 rfl (lv_at hl 0 rfl) ?_
    refine kJ8_S_length E hU hS hA0 ⟨by decide, by decide⟩ hl.1 (Nat.le_of_ble_eq_true rfl) dJ8_startsWith_6 ⟨Nat.le_refl _, Nat.le_refl _⟩ (fun o1 H locs hU hS => ?_)
    refine x_aload_nO hx hb dJ8_startsWith_9 rfl (lv_at hl 1 rfl) ?_
    refine X.onR (fun b2 hb_ => ?_)
    subst hb_
    refine kJ8_S_length E hU hS hA0 ⟨by decide, by decide⟩ hl.1 (Nat.le_of_ble_eq_true rfl) dJ8_startsWith_10 ⟨Nat.le_refl _, Nat.le_refl _⟩ (fun o3 H locs hU hS => ?_)
    refine x_isub hx hb dJ8_startsWith_13 ?_
    refine x_icmp_le (tgt := 19) hx hb dJ8_startsWith_14 (by decide) (fun hc => ?_) (fun hc => ?_)
    · refine x_aload_n hx hb dJ8_startsWith_19 rfl (lv_at hl 0 rfl) ?_
      refine fx_getR E hU.2.1 (ci := 13) rfl in_J8 0 (by decide) (hts _ q1207) (fun _ h => h) dJ8_startsWith_20 (fun r4 => ?_)
      refine x_astore_nO (lv' := [(3, va_rf r4), (0, .ref q0), (1, .ref b2), (2, .int p2)]) hx hb dJ8_startsWith_23 rfl hl (by decide) rfl (fun ls hl => ?_)
      refine x_aload_n hx hb dJ8_startsWith_24 rfl (lv_at hl 2 rfl) ?_
      refine fx_getR E hU.2.1 (ci := 13) rfl in_J8 0 (by decide) (hts _ q1207) (fun _ h => h) dJ8_startsWith_25 (fun r5 => ?_)
      refine x_astoreO (lv' := [(4, va_rf r5), (3, va_rf r4), (0, .ref q0), (1, .ref b2), (2, .int p2)]) hx hb dJ8_startsWith_28 hl (by decide) (by rcases r4 with _ | _ <;> rfl) (fun ls hl => ?_)
      refine x_iconst (v := 0) hx hb dJ8_startsWith_30 (by decide) ?_
      refine x_istore (lv' := [(5, .int (0 : Int32)), (4, va_rf r5), (3, va_rf r4), (0, .ref q0), (1, .ref b2), (2, .int p2)]) hx hb dJ8_startsWith_31 hl (by decide) (by rcases r5 with _ | _ <;> rfl) (fun ls hl => ?_)
      refine x_aloadO hx hb dJ8_startsWith_33 (lv_at hl 1 rfl) ?_
      refine X.onR (fun b6 hb_ => ?_)
      subst hb_
      refine fx_alen E hU.2.1 (t := 2) rfl dJ8_startsWith_35 (fun v7 => ?_)
      refine x_istore (lv' := [(6, .int v7), (5, .int (0 : Int32)), (4, .ref b6), (3, va_rf r4), (0, .ref q0), (1, .ref b2), (2, .int p2)]) hx hb dJ8_startsWith_36 hl (by decide) rfl (fun ls hl => ?_)
      refine x_aload_n hx hb dJ8_startsWith_38 rfl (lv_at hl 4 rfl) ?_
      refine kJ8_S_coder E hU hS hA0 ⟨by decide, by decide⟩ hl.1 (Nat.le_of_ble_eq_true rfl) dJ8_startsWith_39 ⟨Nat.le_refl _, Nat.le_refl _⟩ (fun o8 H locs hU hS => ?_)
      refine x_istore (lv' := [(7, .int o8), (6, .int v7), (5, .int (0 : Int32)), (4, .ref b6), (3, va_rf r4), (0, .ref q0), (1, .ref b2), (2, .int p2)]) hx hb dJ8_startsWith_42 hl (by decide) rfl (fun ls hl => ?_)
      refine x_iload hx hb dJ8_startsWith_44 (lv_at hl 0 rfl) ?_
      refine x_aload_n hx hb dJ8_startsWith_46 rfl (lv_at hl 6 rfl) ?_
      refine kJ8_S_coder E hU hS hA0 ⟨by decide, by decide⟩ hl.1 (Nat.le_of_ble_eq_true rfl) dJ8_startsWith_47 ⟨Nat.le_refl _, Nat.le_refl _⟩ (fun o9 H locs hU hS => ?_)
      refine x_icmp_ne (tgt := 82) hx hb dJ8_startsWith_50 (by decide) (fun hc => ?_) (fun hc => ?_)
      · refine x_iload hx hb dJ8_startsWith_82 (lv_at hl 0 rfl) ?_
        refine x_if_ne (tgt := 89) hx hb dJ8_startsWith_84 (by decide) (fun hc => ?_) (fun hc => ?_)
        · refine x_iload hx hb dJ8_startsWith_89 (lv_at hl 2 rfl) ?_
          refine x_iload hx hb dJ8_startsWith_91 (lv_at hl 1 rfl) ?_
          refine x_icmp_ge (tgt := 121) hx hb dJ8_startsWith_93 (by decide) (fun hc => ?_) (fun hc => ?_)
          · refine x_iconst (v := 1) hx hb dJ8_startsWith_121 (by decide) ?_
            exact x_zret hx hb hr hlk hS rfl rfl trivial dJ8_startsWith_122
          · refine x_aload_nO hx hb dJ8_startsWith_96 rfl (lv_at hl 4 rfl) ?_
            refine x_iload_n hx hb dJ8_startsWith_97 rfl (lv_at hl 7 rfl) ?_
            refine x_iinc (v := (p2 + (1 : Int32))) (lv' := [(2, .int (p2 + (1 : Int32))), (7, .int o8), (6, .int v7), (5, .int (0 : Int32)), (4, .ref b6), (3, va_rf r4), (0, .ref q0), (1, .ref b2)]) (k := 7) hx hb dJ8_startsWith_98 hl rfl rfl (by decide) rfl (fun ls hl => ?_)
            exact X.none
        · refine x_iconst (v := 0) hx hb dJ8_startsWith_87 (by decide) ?_
          exact x_zret hx hb hr hlk hS rfl rfl trivial dJ8_startsWith_88
      · refine x_iload hx hb dJ8_startsWith_53 (lv_at hl 0 rfl) ?_
        refine x_iconst (v := 1) hx hb dJ8_startsWith_55 (by decide) ?_
        refine X.join2 (fun (x : Int32) g H locs => GW D clW ck ct N ad P (fun _ => True) S w h H ∧ va_S (nA s.heap.size) s.heap H locs ∧ ∃ ls : Array Slot, g = F0 m 63 ls [] ∧ lv_has ls 8 [(2, .int x), (3, va_rf r4), (4, .ref b6), (6, .int v7)]) ?_ (fun j11 hj11 => ?_)
        · rintro v10 _ H locs ⟨hU, hS, ls, rfl, hl⟩
          refine X.eqs (sp2 := sS_startsWith_J63 h r4 b6 v7 v10) rfl ?_
          unfold sS_startsWith_J63
          refine x_aload_nO hx hb dJ8_startsWith_63 rfl (lv_at hl 1 rfl) ?_
          refine x_iload_n hx hb dJ8_startsWith_64 rfl (lv_at hl 0 rfl) ?_
          refine x_aload hx hb dJ8_startsWith_65 (lv_at hl 2 rfl) ?_
          refine x_iconst (v := 0) hx hb dJ8_startsWith_67 (by decide) ?_
          refine x_iload hx hb dJ8_startsWith_68 (lv_at hl 3 rfl) ?_
          refine kJ8_V_mismatch E hU hS hA0 ⟨by decide, by decide⟩ hl.1 (Nat.le_of_ble_eq_true rfl) dJ8_startsWith_70 ⟨Nat.le_refl _, Nat.le_refl _⟩ (fun o12 H locs hU hS => ?_)
          refine x_if_ge (tgt := 80) hx hb dJ8_startsWith_73 (by decide) (fun hc => ?_) (fun hc => ?_)
          · refine x_iconst (v := 0) hx hb dJ8_startsWith_80 (by decide) ?_
            exact x_zret hx hb hr hlk hS rfl rfl trivial dJ8_startsWith_81
          · refine x_iconst (v := 1) hx hb dJ8_startsWith_76 (by decide) ?_
            refine x_goto (tgt := 81) hx hb dJ8_startsWith_77 (by decide) ?_
            exact x_zret hx hb hr hlk hS rfl rfl trivial dJ8_startsWith_81
        · refine x_icmp_ne (tgt := 63) hx hb dJ8_startsWith_56 (by decide) (fun hc => ?_) (fun hc => ?_)
          · exact hj11 p2 _ _ _ ⟨hU, hS, _, rfl, lv_sub hl [7, 4, 3, 1] rfl⟩
          · refine x_iload_n hx hb dJ8_startsWith_59 rfl (lv_at hl 7 rfl) ?_
            refine x_iconst (v := 1) hx hb dJ8_startsWith_60 (by decide) ?_
            refine x_ishl hx hb dJ8_startsWith_61 ?_
            refine x_istore_n (lv' := [(2, .int (p2 <<< ((1 : Int32) &&& 31))), (7, .int o8), (6, .int v7), (5, .int (0 : Int32)), (4, .ref b6), (3, va_rf r4), (0, .ref q0), (1, .ref b2)]) hx hb dJ8_startsWith_62 rfl hl (by decide) rfl (fun ls hl => ?_)
            exact hj11 (p2 <<< ((1 : Int32) &&& 31)) _ _ _ ⟨hU, hS, _, rfl, lv_sub hl [0, 5, 4, 2] rfl⟩
    · refine x_iconst (v := 0) hx hb dJ8_startsWith_17 (by decide) ?_
      exact x_zret hx hb hr hlk hS rfl rfl trivial dJ8_startsWith_18

set_option maxHeartbeats 4000000 in
theorem mHN_stringSize (l : Launch) (D : va_G) (ct : CT) (p1 : Int32) (sz : Nat) (o : Int32) (ho : sN_stringSize p1 = some o) : Met l yJ18_stringSize (ws_ yJ18_stringSize cJ18_stringSize 4 (some .int)) { frames := 1, cells := 0, slots := 0, locals := 40 } (mP D clW ct [.int p1] sz (fun _ => True)) (mC (some (.int o)) (fun _ => True) (nA sz)) 0 0 (nA sz) := by
  refine X.start (val := fun (o : Int32) => some (.int o)) (Bt := fun _ _ => True) (A := nA sz) ho (by decide) (Nat.le_of_ble_eq_true rfl) (lv := [(0, .int p1)]) rfl ?_
  intro p e s m args below meth c E hr hlk hnm hsz hU ls hl
  subst hsz
  obtain ⟨⟨hx, hb, hml, hown, hts⟩, hK, hJ⟩ := id E
  have hA0 : ∀ q, s.heap.size ≤ q → (nA s.heap.size) q := fun q h => h
  have hS : va_S (nA s.heap.size) s.heap s.heap [] := va_S.rf
  unfold sN_stringSize
  refine x_iconst (v := 1) hx hb dJ18_stringSize_0 (by decide) ?_
  refine x_istore_n (lv' := [(1, .int (1 : Int32)), (0, .int p1)]) hx hb dJ18_stringSize_1 rfl hl (by decide) rfl (fun ls hl => ?_)
  refine x_iload_n hx hb dJ18_stringSize_2 rfl (lv_at hl 1 rfl) ?_
  refine X.join2 (fun (x : (Int32 × Int32)) g H locs => va_S (nA s.heap.size) s.heap H locs ∧ ∃ ls : Array Slot, g = F0 m 11 ls [] ∧ lv_has ls 4 [(0, .int x.1), (1, .int x.2)]) ?_ (fun j3 hj3 => ?_)
  · rintro ⟨v1, v2⟩ _ H locs ⟨hS, ls, rfl, hl⟩
    have hl : lv_has ls 4 [(0, .int v1), (1, .int v2)] := hl
    refine X.eqs (sp2 := sN_stringSize_J11 v1 v2) rfl ?_
    unfold sN_stringSize_J11
    refine x_bipush (v := -10) hx hb dJ18_stringSize_11 (by decide) ?_
    refine x_istore_n (lv' := [(2, .int (-10 : Int32)), (0, .int v1), (1, .int v2)]) hx hb dJ18_stringSize_13 rfl hl (by decide) rfl (fun ls hl => ?_)
    refine x_iconst (v := 1) hx hb dJ18_stringSize_14 (by decide) ?_
    refine x_istore_n (lv' := [(3, .int (1 : Int32)), (2, .int (-10 : Int32)), (0, .int v1), (1, .int v2)]) hx hb dJ18_stringSize_15 rfl hl (by decide) rfl (fun ls hl => ?_)
    refine X.loop (I := fun (x : (Int32 × Int32)) g H locs => va_S (nA s.heap.size) s.heap H locs ∧ ∃ ls : Array Slot, g = F0 m 16 ls [] ∧ lv_has ls 4 [(0, .int v1), (1, .int v2), (2, .int x.1), (3, .int x.2)]) (fun rc6 ih6 => ?_) FUEL _ _ _ _ ⟨hS, _, rfl, lv_sub hl [2, 3, 1, 0] rfl⟩
    rintro ⟨v4, v5⟩ _ H locs ⟨hS, ls, rfl, hl⟩
    have hl : lv_has ls 4 [(0, .int v1), (1, .int v2), (2, .int v4), (3, .int v5)] := hl
    refine X.eqs (sp2 := sN_stringSize_L16 v1 v2 rc6 v4 v5) rfl ?_
    unfold sN_stringSize_L16
    refine x_iload_n hx hb dJ18_stringSize_16 rfl (lv_at hl 3 rfl) ?_
    refine x_bipush (v := 10) hx hb dJ18_stringSize_17 (by decide) ?_
    refine x_icmp_ge (tgt := 42) hx hb dJ18_stringSize_19 (by decide) (fun hc => ?_) (fun hc => ?_)
    · refine x_bipush (v := 10) hx hb dJ18_stringSize_42 (by decide) ?_
      refine x_iload_n hx hb dJ18_stringSize_44 rfl (lv_at hl 1 rfl) ?_
      refine x_iadd hx hb dJ18_stringSize_45 ?_
      exact x_iret hx hb hr hlk hS rfl trivial dJ18_stringSize_46
    · refine x_iload_n hx hb dJ18_stringSize_22 rfl (lv_at hl 0 rfl) ?_
      refine x_iload_n hx hb dJ18_stringSize_23 rfl (lv_at hl 2 rfl) ?_
      refine x_icmp_le (tgt := 31) hx hb dJ18_stringSize_24 (by decide) (fun hc => ?_) (fun hc => ?_)
      · refine x_bipush (v := 10) hx hb dJ18_stringSize_31 (by decide) ?_
        refine x_iload_n hx hb dJ18_stringSize_33 rfl (lv_at hl 2 rfl) ?_
        refine x_imul hx hb dJ18_stringSize_34 ?_
        refine x_istore_n (lv' := [(2, .int ((10 : Int32) * v4)), (0, .int v1), (1, .int v2), (3, .int v5)]) hx hb dJ18_stringSize_35 rfl hl (by decide) rfl (fun ls hl => ?_)
        refine x_iinc (v := (v5 + (1 : Int32))) (lv' := [(3, .int (v5 + (1 : Int32))), (2, .int ((10 : Int32) * v4)), (0, .int v1), (1, .int v2)]) (k := 3) hx hb dJ18_stringSize_36 hl rfl rfl (by decide) rfl (fun ls hl => ?_)
        refine x_goto (tgt := 16) hx hb dJ18_stringSize_39 (by decide) ?_
        exact ih6 (((10 : Int32) * v4), (v5 + (1 : Int32))) _ _ _ ⟨hS, _, rfl, lv_sub hl [2, 3, 1, 0] rfl⟩
      · refine x_iload_n hx hb dJ18_stringSize_27 rfl (lv_at hl 3 rfl) ?_
        refine x_iload_n hx hb dJ18_stringSize_28 rfl (lv_at hl 1 rfl) ?_
        refine x_iadd hx hb dJ18_stringSize_29 ?_
        exact x_iret hx hb hr hlk hS rfl trivial dJ18_stringSize_30
  · refine x_if_lt (tgt := 11) hx hb dJ18_stringSize_3 (by decide) (fun hc => ?_) (fun hc => ?_)
    · exact hj3 (p1, (1 : Int32)) _ _ _ ⟨hS, _, rfl, lv_sub hl [1, 0] rfl⟩
    · refine x_iconst (v := 0) hx hb dJ18_stringSize_6 (by decide) ?_
      refine x_istore_n (lv' := [(1, .int (0 : Int32)), (0, .int p1)]) hx hb dJ18_stringSize_7 rfl hl (by decide) rfl (fun ls hl => ?_)
      refine x_iload_n hx hb dJ18_stringSize_8 rfl (lv_at hl 1 rfl) ?_
      refine x_ineg hx hb dJ18_stringSize_9 ?_
      refine x_istore_n (lv' := [(0, .int (-p1)), (1, .int (0 : Int32))]) hx hb dJ18_stringSize_10 rfl hl (by decide) rfl (fun ls hl => ?_)
      exact hj3 ((-p1), (0 : Int32)) _ _ _ ⟨hS, _, rfl, lv_sub hl [0, 1] rfl⟩

set_option maxHeartbeats 4000000 in
theorem mHA_isLatin1 (l : Launch) (D : va_G) (ct : CT) (ck : Nat → UC) (N : Nat) (ad : Nat → Nat) (P : Nat → Nat → Option Nat) (S : US) (w : Int64) (h : AH) (q0 : Nat) (sz : Nat) (o : Bool) (ho : sA_isLatin1 h q0 = some o) : Met l yJ13_isLatin1 (ws_ yJ13_isLatin1 cJ13_isLatin1 1 (some .boolean)) { frames := 1, cells := 0, slots := 0, locals := 40 } (mP D clW ct [.ref q0] sz (GW D clW ck ct N ad P (fun _ => True) S w h)) (mC (some (.int (bI o))) (fun _ => True) (nA sz)) 0 0 (nA sz) := by
  refine X.start (val := fun (o : Bool) => some (.int (bI o))) (Bt := fun _ _ => True) (A := nA sz) ho (by decide) (Nat.le_of_ble_eq_true rfl) (lv := [(0, .ref q0)]) rfl ?_
  intro p e s m args below meth c E hr hlk hnm hsz hU ls hl
  subst hsz
  obtain ⟨⟨hx, hb, hml, hown, hts⟩, hK, hJ⟩ := id E
  have hA0 : ∀ q, s.heap.size ≤ q → (nA s.heap.size) q := fun q h => h
  have hS : va_S (nA s.heap.size) s.heap s.heap [] := va_S.rf
  unfold sA_isLatin1
  refine gx_gets E hU (List.mem_of_getElem? (i := 0) rfl) (hts _ q1009) (fun _ h => h) dJ13_isLatin1_0 ?_
  refine x_if_eq (tgt := 17) hx hb dJ13_isLatin1_3 (by decide) (fun hc => ?_) (fun hc => ?_)
  · refine x_iconst (v := 0) hx hb dJ13_isLatin1_17 (by decide) ?_
    exact x_zret hx hb hr hlk hS rfl rfl trivial dJ13_isLatin1_18
  · refine x_aload_n hx hb dJ13_isLatin1_6 rfl (lv_at hl 0 rfl) ?_
    refine fx_getI E hU.2.1 (ci := 11) rfl in_J14 1 (by decide) (hts _ q1018) (fun _ h => h) dJ13_isLatin1_7 (fun v1 => ?_)
    refine x_if_ne (tgt := 17) hx hb dJ13_isLatin1_10 (by decide) (fun hc => ?_) (fun hc => ?_)
    · refine x_iconst (v := 0) hx hb dJ13_isLatin1_17 (by decide) ?_
      exact x_zret hx hb hr hlk hS rfl rfl trivial dJ13_isLatin1_18
    · refine x_iconst (v := 1) hx hb dJ13_isLatin1_13 (by decide) ?_
      refine x_goto (tgt := 18) hx hb dJ13_isLatin1_14 (by decide) ?_
      exact x_zret hx hb hr hlk hS rfl rfl trivial dJ13_isLatin1_18

set_option maxHeartbeats 4000000 in
theorem mHA_getValue (l : Launch) (D : va_G) (ct : CT) (ck : Nat → UC) (N : Nat) (ad : Nat → Nat) (P : Nat → Nat → Option Nat) (S : US) (w : Int64) (h : AH) (q0 : Nat) (sz : Nat) (o : (Option Nat)) (ho : sA_getValue h q0 = some o) : Met l yJ13_getValue (ws_ yJ13_getValue cJ13_getValue 1 (some (.array .byte))) { frames := 1, cells := 0, slots := 0, locals := 40 } (mP D clW ct [.ref q0] sz (GW D clW ck ct N ad P (fun _ => True) S w h)) (mC (some (va_rf o)) (fun _ => True) (nA sz)) 0 0 (nA sz) := by
  refine X.start (val := fun (o : (Option Nat)) => some (va_rf o)) (Bt := fun _ _ => True) (A := nA sz) ho (by decide) (Nat.le_of_ble_eq_true rfl) (lv := [(0, .ref q0)]) rfl ?_
  intro p e s m args below meth c E hr hlk hnm hsz hU ls hl
  subst hsz
  obtain ⟨⟨hx, hb, hml, hown, hts⟩, hK, hJ⟩ := id E
  replace hr : meth.sig.returnType = some (FieldType.array FieldType.byte) ∧ ((∃ n, (FieldType.array FieldType.byte) = .object n) ∨ ∃ t, (FieldType.array FieldType.byte) = .array t) := ⟨hr, Or.inr ⟨_, rfl⟩⟩
  have hA0 : ∀ q, s.heap.size ≤ q → (nA s.heap.size) q := fun q h => h
  have hS : va_S (nA s.heap.size) s.heap s.heap [] := va_S.rf
  unfold sA_getValue
  refine x_aload_n hx hb dJ13_getValue_0 rfl (lv_at hl 0 rfl) ?_
  refine fx_getR E hU.2.1 (ci := 11) rfl in_J14 0 (by decide) (hts _ q1017) (fun _ h => h) dJ13_getValue_1 (fun r1 => ?_)
  exact x_aretO hx hb hr hlk hS rfl trivial dJ13_getValue_4

set_option maxHeartbeats 4000000 in
theorem mHA_length (l : Launch) (D : va_G) (ct : CT) (ck : Nat → UC) (N : Nat) (ad : Nat → Nat) (P : Nat → Nat → Option Nat) (S : US) (w : Int64) (h : AH) (q0 : Nat) (sz : Nat) (o : Int32) (ho : sA_length h q0 = some o) : Met l yJ13_length (ws_ yJ13_length cJ13_length 1 (some .int)) { frames := 1, cells := 0, slots := 0, locals := 40 } (mP D clW ct [.ref q0] sz (GW D clW ck ct N ad P (fun _ => True) S w h)) (mC (some (.int o)) (fun _ => True) (nA sz)) 0 0 (nA sz) := by
  refine X.start (val := fun (o : Int32) => some (.int o)) (Bt := fun _ _ => True) (A := nA sz) ho (by decide) (Nat.le_of_ble_eq_true rfl) (lv := [(0, .ref q0)]) rfl ?_
  intro p e s m args below meth c E hr hlk hnm hsz hU ls hl
  subst hsz
  obtain ⟨⟨hx, hb, hml, hown, hts⟩, hK, hJ⟩ := id E
  have hA0 : ∀ q, s.heap.size ≤ q → (nA s.heap.size) q := fun q h => h
  have hS : va_S (nA s.heap.size) s.heap s.heap [] := va_S.rf
  unfold sA_length
  refine x_aload_n hx hb dJ13_length_0 rfl (lv_at hl 0 rfl) ?_
  refine fx_getI E hU.2.1 (ci := 11) rfl in_J14 3 (by decide) (hts _ q1020) (fun _ h => h) dJ13_length_1 (fun v1 => ?_)
  exact x_iret hx hb hr hlk hS rfl trivial dJ13_length_4

section KZ
variable {ρ : Type} {p : Program} {l : Launch} {e : Env} {R : Room} {s : State} {m : MethodId} {args : Array Value} {below : List Frame} {meth : Method} {c : Code} {H : Heap} {locs : List Loc} {Qf : ρ → State → Prop}
variable {cc : ByteArray} {pc nL L M q0 : Nat} {ls : Array Slot} {rest : List Value}
variable {D : va_G} {ct : CT} {ck : Nat → UC} {N : Nat} {ad : Nat → Nat} {P : Nat → Nat → Option Nat} {A : Nat → Prop} {S : US} {w : Int64} {G0 G : GS}
theorem kzX1_L_size (E : ME p m c cc nL s args RX1 D clW ct) (hZ : YC ct R s A G0) (hY : YW D clW ck ct N ad P A S w G0 G H) (hS : va_S A s.heap H locs) (hR : 1 + 1 ≤ R.frames ∧ 8 + (1 + 11) + 40 ≤ R.locals) (hsize : ls.size = nL) (hW : (rest.map fun v => v.category).sum ≤ 8) (hdg : decode cc pc = .ok (.invokeinterface 121 1, 5)) {kp : Int32 → Option ρ} (kk : ∀ (o : Int32) (H1 : Heap) (locs1 : List Loc), YW D clW ck ct N ad P A S w G0 G H1 → va_S A s.heap H1 locs1 → X p l e R s m args below meth c H1 locs1 (G.2.1 - G0.2.1) (G.2.2 - G0.2.2) Qf (kp o) (F0 m (pc + 5) ls (.int o :: rest))) : X p l e R s m args below meth c H locs (G.2.1 - G0.2.1) (G.2.2 - G0.2.2) Qf (hC G.1 q0 10 (callK (sL_size G.1 q0) kp)) (F0 m pc ls (.ref q0 :: rest)) := X.hC fun fs bw hq => gy_ro (val' := fun (o : Int32) => some (.int o)) (len := 5) hZ hY hS (fun o ho => rqF (As := []) E (hY.1.1.to fun _ _ => trivial) (E.2.1.1 10 _ rfl).2 (recvA E.2.1 hY.1.1.2.1 hq rfl) (mHL_size l D ct ck N ad P S w G.1 q0 _ o ho) (va_cwF 0 E.1.2.2.2.2 (lw_F q420 q423 q425 q117 q427) rfl rfl rfl (E.2.2.2.2.2.1 ("java/util/ArrayList", ⟨"java/util/List", "size", "()I"⟩, ⟨"java/util/ArrayList", "size", "()I"⟩) (List.mem_of_getElem? (i := 1) rfl)) (by decide +kernel) hR) rfl hsize rfl hW hdg (hY.room0 hZ)) kk
theorem kzX7_L_size (E : ME p m c cc nL s args RX7 D clW ct) (hZ : YC ct R s A G0) (hY : YW D clW ck ct N ad P A S w G0 G H) (hS : va_S A s.heap H locs) (hR : 1 + 1 ≤ R.frames ∧ 8 + (1 + 11) + 40 ≤ R.locals) (hsize : ls.size = nL) (hW : (rest.map fun v => v.category).sum ≤ 8) (hdg : decode cc pc = .ok (.invokeinterface 33 1, 5)) {kp : Int32 → Option ρ} (kk : ∀ (o : Int32) (H1 : Heap) (locs1 : List Loc), YW D clW ck ct N ad P A S w G0 G H1 → va_S A s.heap H1 locs1 → X p l e R s m args below meth c H1 locs1 (G.2.1 - G0.2.1) (G.2.2 - G0.2.2) Qf (kp o) (F0 m (pc + 5) ls (.int o :: rest))) : X p l e R s m args below meth c H locs (G.2.1 - G0.2.1) (G.2.2 - G0.2.2) Qf (hC G.1 q0 10 (callK (sL_size G.1 q0) kp)) (F0 m pc ls (.ref q0 :: rest)) := X.hC fun fs bw hq => gy_ro (val' := fun (o : Int32) => some (.int o)) (len := 5) hZ hY hS (fun o ho => rqF (As := []) E (hY.1.1.to fun _ _ => trivial) (E.2.1.1 10 _ rfl).2 (recvA E.2.1 hY.1.1.2.1 hq rfl) (mHL_size l D ct ck N ad P S w G.1 q0 _ o ho) (va_cwF 0 E.1.2.2.2.2 (lw_F q543 q423 q425 q117 q427) rfl rfl rfl (E.2.2.2.2.2.1 ("java/util/ArrayList", ⟨"java/util/List", "size", "()I"⟩, ⟨"java/util/ArrayList", "size", "()I"⟩) (List.mem_of_getElem? (i := 1) rfl)) (by decide +kernel) hR) rfl hsize rfl hW hdg (hY.room0 hZ)) kk
theorem kzX2_L_size (E : ME p m c cc nL s args RX2 D clW ct) (hZ : YC ct R s A G0) (hY : YW D clW ck ct N ad P A S w G0 G H) (hS : va_S A s.heap H locs) (hR : 1 + 1 ≤ R.frames ∧ 8 + (1 + 11) + 40 ≤ R.locals) (hsize : ls.size = nL) (hW : (rest.map fun v => v.category).sum ≤ 8) (hdg : decode cc pc = .ok (.invokeinterface 28 1, 5)) {kp : Int32 → Option ρ} (kk : ∀ (o : Int32) (H1 : Heap) (locs1 : List Loc), YW D clW ck ct N ad P A S w G0 G H1 → va_S A s.heap H1 locs1 → X p l e R s m args below meth c H1 locs1 (G.2.1 - G0.2.1) (G.2.2 - G0.2.2) Qf (kp o) (F0 m (pc + 5) ls (.int o :: rest))) : X p l e R s m args below meth c H locs (G.2.1 - G0.2.1) (G.2.2 - G0.2.2) Qf (hC G.1 q0 10 (callK (sL_size G.1 q0) kp)) (F0 m pc ls (.ref q0 :: rest)) := X.hC fun fs bw hq => gy_ro (val' := fun (o : Int32) => some (.int o)) (len := 5) hZ hY hS (fun o ho => rqF (As := []) E (hY.1.1.to fun _ _ => trivial) (E.2.1.1 10 _ rfl).2 (recvA E.2.1 hY.1.1.2.1 hq rfl) (mHL_size l D ct ck N ad P S w G.1 q0 _ o ho) (va_cwF 0 E.1.2.2.2.2 (lw_F q489 q423 q425 q117 q427) rfl rfl rfl (E.2.2.2.2.2.1 ("java/util/ArrayList", ⟨"java/util/List", "size", "()I"⟩, ⟨"java/util/ArrayList", "size", "()I"⟩) (List.mem_of_getElem? (i := 1) rfl)) (by decide +kernel) hR) rfl hsize rfl hW hdg (hY.room0 hZ)) kk
theorem kzX1_L_isEmpty (E : ME p m c cc nL s args RX1 D clW ct) (hZ : YC ct R s A G0) (hY : YW D clW ck ct N ad P A S w G0 G H) (hS : va_S A s.heap H locs) (hR : 1 + 1 ≤ R.frames ∧ 8 + (1 + 11) + 40 ≤ R.locals) (hsize : ls.size = nL) (hW : (rest.map fun v => v.category).sum ≤ 8) (hdg : decode cc pc = .ok (.invokeinterface 220 1, 5)) {kp : Bool → Option ρ} (kk : ∀ (o : Bool) (H1 : Heap) (locs1 : List Loc), YW D clW ck ct N ad P A S w G0 G H1 → va_S A s.heap H1 locs1 → X p l e R s m args below meth c H1 locs1 (G.2.1 - G0.2.1) (G.2.2 - G0.2.2) Qf (kp o) (F0 m (pc + 5) ls (.int (bI o) :: rest))) : X p l e R s m args below meth c H locs (G.2.1 - G0.2.1) (G.2.2 - G0.2.2) Qf (hC G.1 q0 10 (callK (sL_isEmpty G.1 q0) kp)) (F0 m pc ls (.ref q0 :: rest)) := X.hC fun fs bw hq => gy_ro (val' := fun (o : Bool) => some (.int (bI o))) (len := 5) hZ hY hS (fun o ho => rqF (As := []) E (hY.1.1.to fun _ _ => trivial) (E.2.1.1 10 _ rfl).2 (recvA E.2.1 hY.1.1.2.1 hq rfl) (mHL_isEmpty l D ct ck N ad P S w G.1 q0 _ o ho) (va_cwF 0 E.1.2.2.2.2 (lw_F q613 q616 q618 q117 q620) rfl rfl rfl (E.2.2.2.2.2.1 ("java/util/ArrayList", ⟨"java/util/List", "isEmpty", "()Z"⟩, ⟨"java/util/ArrayList", "isEmpty", "()Z"⟩) (List.mem_of_getElem? (i := 4) rfl)) (by decide +kernel) hR) rfl hsize rfl hW hdg (hY.room0 hZ)) kk
theorem kzX1_L_get {p1 : Int32} (E : ME p m c cc nL s args RX1 D clW ct) (hZ : YC ct R s A G0) (hY : YW D clW ck ct N ad P A S w G0 G H) (hS : va_S A s.heap H locs) (hR : 3 + 1 ≤ R.frames ∧ 8 + (2 + 11) + 83 ≤ R.locals) (hsize : ls.size = nL) (hW : (rest.map fun v => v.category).sum ≤ 8) (hdg : decode cc pc = .ok (.invokeinterface 180 2, 5)) {kp : (Option Nat) → Option ρ} (kk : ∀ (o : (Option Nat)) (H1 : Heap) (locs1 : List Loc), YW D clW ck ct N ad P A S w G0 G H1 → va_S A s.heap H1 locs1 → X p l e R s m args below meth c H1 locs1 (G.2.1 - G0.2.1) (G.2.2 - G0.2.2) Qf (kp o) (F0 m (pc + 5) ls (va_rf o :: rest))) : X p l e R s m args below meth c H locs (G.2.1 - G0.2.1) (G.2.2 - G0.2.2) Qf (hC G.1 q0 10 (callK (sL_get G.1 q0 p1) kp)) (F0 m pc ls (.int p1 :: .ref q0 :: rest)) := X.hC fun fs bw hq => gy_ro (val' := fun (o : (Option Nat)) => some (va_rf o)) (len := 5) hZ hY hS (fun o ho => rqF (As := [.int p1]) E (hY.1.1.to fun _ _ => trivial) (E.2.1.1 10 _ rfl).2 (recvA E.2.1 hY.1.1.2.1 hq rfl) (mHL_get l D ct ck N ad P S w G.1 q0 p1 _ o ho) (va_cwF 1 E.1.2.2.2.2 (lw_F q1431 q510 q512 q117 q514) rfl rfl rfl (E.2.2.2.2.2.1 ("java/util/ArrayList", ⟨"java/util/List", "get", "(I)Ljava/lang/Object;"⟩, ⟨"java/util/ArrayList", "get", "(I)Ljava/lang/Object;"⟩) (List.mem_of_getElem? (i := 3) rfl)) (by decide +kernel) hR) rfl hsize rfl hW hdg (hY.room0 hZ)) kk
theorem kzX7_L_get {p1 : Int32} (E : ME p m c cc nL s args RX7 D clW ct) (hZ : YC ct R s A G0) (hY : YW D clW ck ct N ad P A S w G0 G H) (hS : va_S A s.heap H locs) (hR : 3 + 1 ≤ R.frames ∧ 8 + (2 + 11) + 83 ≤ R.locals) (hsize : ls.size = nL) (hW : (rest.map fun v => v.category).sum ≤ 8) (hdg : decode cc pc = .ok (.invokeinterface 37 2, 5)) {kp : (Option Nat) → Option ρ} (kk : ∀ (o : (Option Nat)) (H1 : Heap) (locs1 : List Loc), YW D clW ck ct N ad P A S w G0 G H1 → va_S A s.heap H1 locs1 → X p l e R s m args below meth c H1 locs1 (G.2.1 - G0.2.1) (G.2.2 - G0.2.2) Qf (kp o) (F0 m (pc + 5) ls (va_rf o :: rest))) : X p l e R s m args below meth c H locs (G.2.1 - G0.2.1) (G.2.2 - G0.2.2) Qf (hC G.1 q0 10 (callK (sL_get G.1 q0 p1) kp)) (F0 m pc ls (.int p1 :: .ref q0 :: rest)) := X.hC fun fs bw hq => gy_ro (val' := fun (o : (Option Nat)) => some (va_rf o)) (len := 5) hZ hY hS (fun o ho => rqF (As := [.int p1]) E (hY.1.1.to fun _ _ => trivial) (E.2.1.1 10 _ rfl).2 (recvA E.2.1 hY.1.1.2.1 hq rfl) (mHL_get l D ct ck N ad P S w G.1 q0 p1 _ o ho) (va_cwF 1 E.1.2.2.2.2 (lw_F q507 q510 q512 q117 q514) rfl rfl rfl (E.2.2.2.2.2.1 ("java/util/ArrayList", ⟨"java/util/List", "get", "(I)Ljava/lang/Object;"⟩, ⟨"java/util/ArrayList", "get", "(I)Ljava/lang/Object;"⟩) (List.mem_of_getElem? (i := 3) rfl)) (by decide +kernel) hR) rfl hsize rfl hW hdg (hY.room0 hZ)) kk
theorem kzJ2_O_checkIndex {p1 : Int32} {p2 : Int32} (E : ME p m c cc nL s args RJ2 D clW ct) (hZ : YC ct R s A G0) (hY : YW D clW ck ct N ad P A S w G0 G H) (hS : va_S A s.heap H locs) (hR : 2 + 1 ≤ R.frames ∧ 8 + (2 + 11) + 62 ≤ R.locals) (hsize : ls.size = nL) (hW : (rest.map fun v => v.category).sum ≤ 8) (hdg : decode cc pc = .ok (.invokestatic 118, 3)) {kp : Int32 → Option ρ} (kk : ∀ (o : Int32) (H1 : Heap) (locs1 : List Loc), YW D clW ck ct N ad P A S w G0 G H1 → va_S A s.heap H1 locs1 → X p l e R s m args below meth c H1 locs1 (G.2.1 - G0.2.1) (G.2.2 - G0.2.2) Qf (kp o) (F0 m (pc + 3) ls (.int o :: rest))) : X p l e R s m args below meth c H locs (G.2.1 - G0.2.1) (G.2.2 - G0.2.2) Qf (callK (sO_checkIndex p1 p2) kp) (F0 m pc ls (.int p2 :: .int p1 :: rest)) := gy_ro (val' := fun (o : Int32) => some (.int o)) (len := 3) hZ hY hS (fun o ho => rqS (As := [.int p1, .int p2]) (B := fun _ => True) E trivial (mHO_checkIndex l D ct p1 p2 _ o ho) (va_cwS 2 E.1.2.2.2.2 (lw_S q437 q438 q139 q439) rfl rfl rfl (by decide +kernel) hR) rfl hsize rfl hW hdg (hY.room0 hZ)) kk
theorem kzX1_N_intValue (E : ME p m c cc nL s args RX1 D clW ct) (hZ : YC ct R s A G0) (hY : YW D clW ck ct N ad P A S w G0 G H) (hS : va_S A s.heap H locs) (hR : 1 + 1 ≤ R.frames ∧ 8 + (1 + 11) + 40 ≤ R.locals) (hsize : ls.size = nL) (hW : (rest.map fun v => v.category).sum ≤ 8) (hdg : decode cc pc = .ok (.invokevirtual 186, 3)) {kp : Int32 → Option ρ} (kk : ∀ (o : Int32) (H1 : Heap) (locs1 : List Loc), YW D clW ck ct N ad P A S w G0 G H1 → va_S A s.heap H1 locs1 → X p l e R s m args below meth c H1 locs1 (G.2.1 - G0.2.1) (G.2.2 - G0.2.2) Qf (kp o) (F0 m (pc + 3) ls (.int o :: rest))) : X p l e R s m args below meth c H locs (G.2.1 - G0.2.1) (G.2.2 - G0.2.2) Qf (hC G.1 q0 12 (callK (sN_intValue G.1 q0) kp)) (F0 m pc ls (.ref q0 :: rest)) := X.hC fun fs bw hq => gy_ro (val' := fun (o : Int32) => some (.int o)) (len := 3) hZ hY hS (fun o ho => rqV (As := []) E (hY.1.1.to fun _ _ => trivial) (recvA E.2.1 hY.1.1.2.1 hq rfl) (mHN_intValue l D ct ck N ad P S w G.1 q0 _ o ho) (cwV 0 E.1.2.2.2.2 (lw_V q1433 q600 q601 q138 q602) rfl rfl rfl (by decide +kernel) hR) rfl hsize rfl hW hdg (hY.room0 hZ)) kk
theorem kzX1_N_bitCount {p1 : Int32} (E : ME p m c cc nL s args RX1 D clW ct) (hZ : YC ct R s A G0) (hY : YW D clW ck ct N ad P A S w G0 G H) (hS : va_S A s.heap H locs) (hR : 1 + 1 ≤ R.frames ∧ 8 + (1 + 11) + 40 ≤ R.locals) (hsize : ls.size = nL) (hW : (rest.map fun v => v.category).sum ≤ 8) (hdg : decode cc pc = .ok (.invokestatic 255, 3)) {kp : Int32 → Option ρ} (kk : ∀ (o : Int32) (H1 : Heap) (locs1 : List Loc), YW D clW ck ct N ad P A S w G0 G H1 → va_S A s.heap H1 locs1 → X p l e R s m args below meth c H1 locs1 (G.2.1 - G0.2.1) (G.2.2 - G0.2.2) Qf (kp o) (F0 m (pc + 3) ls (.int o :: rest))) : X p l e R s m args below meth c H locs (G.2.1 - G0.2.1) (G.2.2 - G0.2.2) Qf (callK (sN_bitCount p1) kp) (F0 m pc ls (.int p1 :: rest)) := gy_ro (val' := fun (o : Int32) => some (.int o)) (len := 3) hZ hY hS (fun o ho => rqS (As := [.int p1]) (B := fun _ => True) E trivial (mHN_bitCount l D ct p1 _ o ho) (va_cwS 1 E.1.2.2.2.2 (lw_S q1548 q491 q138 q492) rfl rfl rfl (by decide +kernel) hR) rfl hsize rfl hW hdg (hY.room0 hZ)) kk
theorem kzX1_1_in {p1 : Int32} {p2 : Int32} {p3 : Int32} (E : ME p m c cc nL s args RX1 D clW ct) (hZ : YC ct R s A G0) (hY : YW D clW ck ct N ad P A S w G0 G H) (hS : va_S A s.heap H locs) (hR : 1 + 1 ≤ R.frames ∧ 8 + (3 + 11) + 40 ≤ R.locals) (hsize : ls.size = nL) (hW : (rest.map fun v => v.category).sum ≤ 8) (hdg : decode cc pc = .ok (.invokestatic 144, 3)) {kp : Bool → Option ρ} (kk : ∀ (o : Bool) (H1 : Heap) (locs1 : List Loc), YW D clW ck ct N ad P A S w G0 G H1 → va_S A s.heap H1 locs1 → X p l e R s m args below meth c H1 locs1 (G.2.1 - G0.2.1) (G.2.2 - G0.2.2) Qf (kp o) (F0 m (pc + 3) ls (.int (bI o) :: rest))) : X p l e R s m args below meth c H locs (G.2.1 - G0.2.1) (G.2.2 - G0.2.2) Qf (callK (s1_in p1 p2 p3) kp) (F0 m pc ls (.int p3 :: .int p2 :: .int p1 :: rest)) := gy_ro (val' := fun (o : Bool) => some (.int (bI o))) (len := 3) hZ hY hS (fun o ho => rqS (As := [.int p1, .int p2, .int p3]) (B := fun _ => True) E trivial (mH1_in l D ct p1 p2 p3 _ o ho) (va_cwS 3 E.1.2.2.2.2 (lw_S q328 q329 q113 q330) rfl rfl rfl (by decide +kernel) hR) rfl hsize rfl hW hdg (hY.room0 hZ)) kk
theorem kzX5_1_in {p1 : Int32} {p2 : Int32} {p3 : Int32} (E : ME p m c cc nL s args RX5 D clW ct) (hZ : YC ct R s A G0) (hY : YW D clW ck ct N ad P A S w G0 G H) (hS : va_S A s.heap H locs) (hR : 1 + 1 ≤ R.frames ∧ 8 + (3 + 11) + 40 ≤ R.locals) (hsize : ls.size = nL) (hW : (rest.map fun v => v.category).sum ≤ 8) (hdg : decode cc pc = .ok (.invokestatic 75, 3)) {kp : Bool → Option ρ} (kk : ∀ (o : Bool) (H1 : Heap) (locs1 : List Loc), YW D clW ck ct N ad P A S w G0 G H1 → va_S A s.heap H1 locs1 → X p l e R s m args below meth c H1 locs1 (G.2.1 - G0.2.1) (G.2.2 - G0.2.2) Qf (kp o) (F0 m (pc + 3) ls (.int (bI o) :: rest))) : X p l e R s m args below meth c H locs (G.2.1 - G0.2.1) (G.2.2 - G0.2.2) Qf (callK (s1_in p1 p2 p3) kp) (F0 m pc ls (.int p3 :: .int p2 :: .int p1 :: rest)) := gy_ro (val' := fun (o : Bool) => some (.int (bI o))) (len := 3) hZ hY hS (fun o ho => rqSN (As := [.int p1, .int p2, .int p3]) (B := fun _ => True) E trivial (mH1_in l D ct p1 p2 p3 _ o ho) ⟨va_cnB 3 E.1.2.2.2.2 (lw_meth q330) rfl rfl rfl (E.2.2.nw q846 rfl) (E.1.2.2.2.2 _ q113) (by decide +kernel) hR, E.1.2.2.2.2 _ q329⟩ rfl hsize rfl hW hdg (hY.room0 hZ)) kk
theorem kzX1_1_refuse {p1 : Int32} (E : ME p m c cc nL s args RX1 D clW ct) (hZ : YC ct R s A G0) (hY : YW D clW ckH ct 26 ad P A S 0 G0 G H) (hS : va_S A s.heap H locs) (hR : 1 + 1 ≤ R.frames ∧ 8 + (2 + 11) + 40 ≤ R.locals) (hsize : ls.size = nL) (hW : (rest.map fun v => v.category).sum ≤ 8) (hdg : decode cc pc = .ok (.invokevirtual 200, 3)) {kp : (Int32 × US) → Option ρ} (kk : ∀ (o : (Int32 × US)) (H1 : Heap) (locs1 : List Loc), YW D clW ckH ct 26 ad P A o.2 0 G0 G H1 → va_S A s.heap H1 locs1 → X p l e R s m args below meth c H1 locs1 (G.2.1 - G0.2.1) (G.2.2 - G0.2.2) Qf (kp o) (F0 m (pc + 3) ls (.int o.1 :: rest))) : X p l e R s m args below meth c H locs (G.2.1 - G0.2.1) (G.2.2 - G0.2.2) Qf (callK (s1_refuse S p1) kp) (F0 m pc ls (.int p1 :: .ref (ad (0)) :: rest)) := gy_mod (val' := fun (o : (Int32 × US)) => some (.int o.1)) (len := 3) (So := fun (o : (Int32 × US)) => o.2) hZ hY hS (fun o ho => rqV (As := [.int p1]) E (hY.1.1.to fun _ _ => trivial) (recvU (i := 0) E.2.1 hY.1.1.1 (by decide) rfl rfl) (mH1_refuse l D ct ad P S G.1 p1 _ o ho) (cwV 1 E.1.2.2.2.2 (lw_V q331 q333 qs0 q113 q334) rfl rfl rfl (by decide +kernel) hR) rfl hsize rfl hW hdg (hY.room0 hZ)) kk
theorem kzX1_1_right {p1 : Int32} (E : ME p m c cc nL s args RX1 D clW ct) (hZ : YC ct R s A G0) (hY : YW D clW ck ct N ad P A S w G0 G H) (hS : va_S A s.heap H locs) (hR : 1 + 1 ≤ R.frames ∧ 8 + (1 + 11) + 40 ≤ R.locals) (hsize : ls.size = nL) (hW : (rest.map fun v => v.category).sum ≤ 8) (hdg : decode cc pc = .ok (.invokestatic 74, 3)) {kp : Unit → Option ρ} (kk : ∀ (o : Unit) (H1 : Heap) (locs1 : List Loc), YW D clW ck ct N ad P A S w G0 G H1 → va_S A s.heap H1 locs1 → X p l e R s m args below meth c H1 locs1 (G.2.1 - G0.2.1) (G.2.2 - G0.2.2) Qf (kp o) (F0 m (pc + 3) ls (rest))) : X p l e R s m args below meth c H locs (G.2.1 - G0.2.1) (G.2.2 - G0.2.2) Qf (callK (s1_right p1) kp) (F0 m pc ls (.int p1 :: rest)) := gy_ro (val' := fun (o : Unit) => none) (len := 3) hZ hY hS (fun o ho => rqS (As := [.int p1]) (B := fun _ => True) E trivial (mH1_right l D ct p1 _ o ho) (va_cwS 1 E.1.2.2.2.2 (lw_S q699 q700 q113 q701) rfl rfl rfl (by decide +kernel) hR) rfl hsize rfl hW hdg (hY.room0 hZ)) kk
theorem kzX1_1_isOf {p1 : Int32} {p2 : Int32} (E : ME p m c cc nL s args RX1 D clW ct) (hZ : YC ct R s A G0) (hY : YW D clW ck ct N ad P A S w G0 G H) (hS : va_S A s.heap H locs) (hR : 1 + 1 ≤ R.frames ∧ 8 + (2 + 11) + 40 ≤ R.locals) (hsize : ls.size = nL) (hW : (rest.map fun v => v.category).sum ≤ 8) (hdg : decode cc pc = .ok (.invokestatic 258, 3)) {kp : Bool → Option ρ} (kk : ∀ (o : Bool) (H1 : Heap) (locs1 : List Loc), YW D clW ck ct N ad P A S w G0 G H1 → va_S A s.heap H1 locs1 → X p l e R s m args below meth c H1 locs1 (G.2.1 - G0.2.1) (G.2.2 - G0.2.2) Qf (kp o) (F0 m (pc + 3) ls (.int (bI o) :: rest))) : X p l e R s m args below meth c H locs (G.2.1 - G0.2.1) (G.2.2 - G0.2.2) Qf (callK (s1_isOf p1 p2) kp) (F0 m pc ls (.int p2 :: .int p1 :: rest)) := gy_ro (val' := fun (o : Bool) => some (.int (bI o))) (len := 3) hZ hY hS (fun o ho => rqS (As := [.int p1, .int p2]) (B := fun _ => True) E trivial (mH1_isOf l D ct p1 p2 _ o ho) (va_cwS 2 E.1.2.2.2.2 (lw_S q1549 q956 q113 q957) rfl rfl rfl (by decide +kernel) hR) rfl hsize rfl hW hdg (hY.room0 hZ)) kk
theorem kzX1_1_found {p1 : Int32} (E : ME p m c cc nL s args RX1 D clW ct) (hZ : YC ct R s A G0) (hY : YW D clW ck ct N ad P A S w G0 G H) (hS : va_S A s.heap H locs) (hR : 1 + 1 ≤ R.frames ∧ 8 + (1 + 11) + 40 ≤ R.locals) (hsize : ls.size = nL) (hW : (rest.map fun v => v.category).sum ≤ 8) (hdg : decode cc pc = .ok (.invokestatic 148, 3)) {kp : Unit → Option ρ} (kk : ∀ (o : Unit) (H1 : Heap) (locs1 : List Loc), YW D clW ck ct N ad P A S w G0 G H1 → va_S A s.heap H1 locs1 → X p l e R s m args below meth c H1 locs1 (G.2.1 - G0.2.1) (G.2.2 - G0.2.2) Qf (kp o) (F0 m (pc + 3) ls (rest))) : X p l e R s m args below meth c H locs (G.2.1 - G0.2.1) (G.2.2 - G0.2.2) Qf (callK (s1_found p1) kp) (F0 m pc ls (.int p1 :: rest)) := gy_ro (val' := fun (o : Unit) => none) (len := 3) hZ hY hS (fun o ho => rqS (As := [.int p1]) (B := fun _ => True) E trivial (mH1_found l D ct p1 _ o ho) (va_cwS 1 E.1.2.2.2.2 (lw_S q1385 q1386 q113 q1387) rfl rfl rfl (by decide +kernel) hR) rfl hsize rfl hW hdg (hY.room0 hZ)) kk
theorem kzX1_1_aStretch {p1 : Int32} (E : ME p m c cc nL s args RX1 D clW ct) (hZ : YC ct R s A G0) (hY : YW D clW ckH ct 26 ad P A S 0 G0 G H) (hS : va_S A s.heap H locs) (hR : 2 + 1 ≤ R.frames ∧ 8 + (2 + 11) + 62 ≤ R.locals) (hsize : ls.size = nL) (hW : (rest.map fun v => v.category).sum ≤ 8) (hdg : decode cc pc = .ok (.invokevirtual 151, 3)) {kp : Unit → Option ρ} (kk : ∀ (o : Unit) (H1 : Heap) (locs1 : List Loc), YW D clW ckH ct 26 ad P A S 0 G0 G H1 → va_S A s.heap H1 locs1 → X p l e R s m args below meth c H1 locs1 (G.2.1 - G0.2.1) (G.2.2 - G0.2.2) Qf (kp o) (F0 m (pc + 3) ls (rest))) : X p l e R s m args below meth c H locs (G.2.1 - G0.2.1) (G.2.2 - G0.2.2) Qf (callK (s1_aStretch S p1) kp) (F0 m pc ls (.int p1 :: .ref (ad (0)) :: rest)) := gy_ro (val' := fun (o : Unit) => none) (len := 3) hZ hY hS (fun o ho => rqV (As := [.int p1]) E (hY.1.1.to fun _ _ => trivial) (recvU (i := 0) E.2.1 hY.1.1.1 (by decide) rfl rfl) (mH1_aStretch l D ct ad P S G.1 p1 _ o ho) (cwV 1 E.1.2.2.2.2 (lw_V q1410 q1412 qs34 q113 q1413) rfl rfl rfl (by decide +kernel) hR) rfl hsize rfl hW hdg (hY.room0 hZ)) kk
theorem kzX1_1_aWoman {p1 : Int32} (E : ME p m c cc nL s args RX1 D clW ct) (hZ : YC ct R s A G0) (hY : YW D clW ckH ct 26 ad P A S 0 G0 G H) (hS : va_S A s.heap H locs) (hR : 3 + 1 ≤ R.frames ∧ 8 + (2 + 11) + 80 ≤ R.locals) (hsize : ls.size = nL) (hW : (rest.map fun v => v.category).sum ≤ 8) (hdg : decode cc pc = .ok (.invokevirtual 170, 3)) {kp : Unit → Option ρ} (kk : ∀ (o : Unit) (H1 : Heap) (locs1 : List Loc), YW D clW ckH ct 26 ad P A S 0 G0 G H1 → va_S A s.heap H1 locs1 → X p l e R s m args below meth c H1 locs1 (G.2.1 - G0.2.1) (G.2.2 - G0.2.2) Qf (kp o) (F0 m (pc + 3) ls (rest))) : X p l e R s m args below meth c H locs (G.2.1 - G0.2.1) (G.2.2 - G0.2.2) Qf (callK (s1_aWoman S P G.1 p1) kp) (F0 m pc ls (.int p1 :: .ref (ad (0)) :: rest)) := gy_ro (val' := fun (o : Unit) => none) (len := 3) hZ hY hS (fun o ho => rqV (As := [.int p1]) E (hY.1.1.to fun _ _ => trivial) (recvU (i := 0) E.2.1 hY.1.1.1 (by decide) rfl rfl) (mH1_aWoman l D ct ad P S G.1 p1 _ o ho) (cwV 1 E.1.2.2.2.2 (lw_V q1423 q1425 qs35 q113 q1426) rfl rfl rfl (by decide +kernel) hR) rfl hsize rfl hW hdg (hY.room0 hZ)) kk
theorem kzX1_1_oneOf {p1 : Int32} {p2 : Int32} (E : ME p m c cc nL s args RX1 D clW ct) (hZ : YC ct R s A G0) (hY : YW D clW ck ct N ad P A S w G0 G H) (hS : va_S A s.heap H locs) (hR : 2 + 1 ≤ R.frames ∧ 8 + (2 + 11) + 62 ≤ R.locals) (hsize : ls.size = nL) (hW : (rest.map fun v => v.category).sum ≤ 8) (hdg : decode cc pc = .ok (.invokestatic 173, 3)) {kp : Unit → Option ρ} (kk : ∀ (o : Unit) (H1 : Heap) (locs1 : List Loc), YW D clW ck ct N ad P A S w G0 G H1 → va_S A s.heap H1 locs1 → X p l e R s m args below meth c H1 locs1 (G.2.1 - G0.2.1) (G.2.2 - G0.2.2) Qf (kp o) (F0 m (pc + 3) ls (rest))) : X p l e R s m args below meth c H locs (G.2.1 - G0.2.1) (G.2.2 - G0.2.2) Qf (callK (s1_oneOf p1 p2) kp) (F0 m pc ls (.int p2 :: .int p1 :: rest)) := gy_ro (val' := fun (o : Unit) => none) (len := 3) hZ hY hS (fun o ho => rqS (As := [.int p1, .int p2]) (B := fun _ => True) E trivial (mH1_oneOf l D ct p1 p2 _ o ho) (va_cwS 2 E.1.2.2.2.2 (lw_S q1427 q1428 q113 q1429) rfl rfl rfl (by decide +kernel) hR) rfl hsize rfl hW hdg (hY.room0 hZ)) kk
theorem kzX1_1_steps {p1 : Int32} {p2 : Int32} (E : ME p m c cc nL s args RX1 D clW ct) (hZ : YC ct R s A G0) (hY : YW D clW ckH ct 26 ad P A S 0 G0 G H) (hS : va_S A s.heap H locs) (hR : 2 + 1 ≤ R.frames ∧ 8 + (3 + 11) + 63 ≤ R.locals) (hsize : ls.size = nL) (hW : (rest.map fun v => v.category).sum ≤ 8) (hdg : decode cc pc = .ok (.invokevirtual 266, 3)) {kp : Int32 → Option ρ} (kk : ∀ (o : Int32) (H1 : Heap) (locs1 : List Loc), YW D clW ckH ct 26 ad P A S 0 G0 G H1 → va_S A s.heap H1 locs1 → X p l e R s m args below meth c H1 locs1 (G.2.1 - G0.2.1) (G.2.2 - G0.2.2) Qf (kp o) (F0 m (pc + 3) ls (.int o :: rest))) : X p l e R s m args below meth c H locs (G.2.1 - G0.2.1) (G.2.2 - G0.2.2) Qf (callK (s1_steps S p1 p2) kp) (F0 m pc ls (.int p2 :: .int p1 :: .ref (ad (0)) :: rest)) := gy_ro (val' := fun (o : Int32) => some (.int o)) (len := 3) hZ hY hS (fun o ho => rqV (As := [.int p1, .int p2]) E (hY.1.1.to fun _ _ => trivial) (recvU (i := 0) E.2.1 hY.1.1.1 (by decide) rfl rfl) (mH1_steps l D ct ad P S G.1 p1 p2 _ o ho) (cwV 2 E.1.2.2.2.2 (lw_V q1560 q1562 qs40 q113 q1563) rfl rfl rfl (by decide +kernel) hR) rfl hsize rfl hW hdg (hY.room0 hZ)) kk
theorem kzX1_1_isSo (E : ME p m c cc nL s args RX1 D clW ct) (hZ : YC ct R s A G0) (hY : YW D clW ckH ct 26 ad P A S 0 G0 G H) (hS : va_S A s.heap H locs) (hR : 503 + 1 ≤ R.frames ∧ 8 + (5 + 11) + 20065 ≤ R.locals) (hsize : ls.size = nL) (hW : (rest.map fun v => v.category).sum ≤ 8) (hdg : decode cc pc = .ok (.invokevirtual 301, 3)) {kp : (Bool × US) → Option ρ} (kk : ∀ (o : (Bool × US)) (H1 : Heap) (locs1 : List Loc), YW D clW ckH ct 26 ad P A o.2 0 G0 G H1 → va_S A s.heap H1 locs1 → X p l e R s m args below meth c H1 locs1 (G.2.1 - G0.2.1) (G.2.2 - G0.2.2) Qf (kp o) (F0 m (pc + 3) ls (.int (bI o.1) :: rest))) : X p l e R s m args below meth c H locs (G.2.1 - G0.2.1) (G.2.2 - G0.2.2) Qf (callK (s1_isSo S ct P G.1) kp) (F0 m pc ls (.ref (ad (0)) :: rest)) := gy_mod (val' := fun (o : (Bool × US)) => some (.int (bI o.1))) (len := 3) (So := fun (o : (Bool × US)) => o.2) hZ hY hS (fun o ho => rqV (As := []) E (hY.1.1.to fun _ _ => trivial) (recvU (i := 0) E.2.1 hY.1.1.1 (by decide) rfl rfl) (mH1_isSo l D ct ad P S G.1 _ o ho) (cwV 0 E.1.2.2.2.2 (lw_V q1738 q1740 qs43 q113 q1741) rfl rfl rfl (by decide +kernel) hR) rfl hsize rfl hW hdg (hY.room0 hZ)) kk
theorem kzX1_1_moves {p1 : Int32} {p2 : Int32} (E : ME p m c cc nL s args RX1 D clW ct) (hZ : YC ct R s A G0) (hY : YW D clW ckH ct 26 ad P A S 0 G0 G H) (hS : va_S A s.heap H locs) (hR : 5 + 1 ≤ R.frames ∧ 8 + (3 + 11) + 125 ≤ R.locals) (hsize : ls.size = nL) (hW : (rest.map fun v => v.category).sum ≤ 8) (hdg : decode cc pc = .ok (.invokevirtual 318, 3)) {kp : US → Option ρ} (kk : ∀ (o : US) (H1 : Heap) (locs1 : List Loc), YW D clW ckH ct 26 ad P A o 0 G0 G H1 → va_S A s.heap H1 locs1 → X p l e R s m args below meth c H1 locs1 (G.2.1 - G0.2.1) (G.2.2 - G0.2.2) Qf (kp o) (F0 m (pc + 3) ls (rest))) : X p l e R s m args below meth c H locs (G.2.1 - G0.2.1) (G.2.2 - G0.2.2) Qf (callK (s1_moves S P G.1 p1 p2) kp) (F0 m pc ls (.int p2 :: .int p1 :: .ref (ad (0)) :: rest)) := gy_mod (val' := fun (o : US) => none) (len := 3) (So := fun (o : US) => o) hZ hY hS (fun o ho => rqV (As := [.int p1, .int p2]) E (hY.1.1.to fun _ _ => trivial) (recvU (i := 0) E.2.1 hY.1.1.1 (by decide) rfl rfl) (mH1_moves l D ct ad P S G.1 p1 p2 _ o ho) (cwV 2 E.1.2.2.2.2 (lw_V q1774 q1776 qs46 q113 q1777) rfl rfl rfl (by decide +kernel) hR) rfl hsize rfl hW hdg (hY.room0 hZ)) kk
theorem kzX1_2_women (E : ME p m c cc nL s args RX1 D clW ct) (hZ : YC ct R s A G0) (hY : YW D clW ckH ct 26 ad P A S 0 G0 G H) (hS : va_S A s.heap H locs) (hR : 2 + 1 ≤ R.frames ∧ 8 + (1 + 11) + 60 ≤ R.locals) (hsize : ls.size = nL) (hW : (rest.map fun v => v.category).sum ≤ 8) (hdg : decode cc pc = .ok (.invokevirtual 101, 3)) {kp : Int32 → Option ρ} (kk : ∀ (o : Int32) (H1 : Heap) (locs1 : List Loc), YW D clW ckH ct 26 ad P A S 0 G0 G H1 → va_S A s.heap H1 locs1 → X p l e R s m args below meth c H1 locs1 (G.2.1 - G0.2.1) (G.2.2 - G0.2.2) Qf (kp o) (F0 m (pc + 3) ls (.int o :: rest))) : X p l e R s m args below meth c H locs (G.2.1 - G0.2.1) (G.2.2 - G0.2.2) Qf (callK (s2_women S P G.1) kp) (F0 m pc ls (.ref (ad (1)) :: rest)) := gy_ro (val' := fun (o : Int32) => some (.int o)) (len := 3) hZ hY hS (fun o ho => rqV (As := []) E (hY.1.1.to fun _ _ => trivial) (recvU (i := 1) E.2.1 hY.1.1.1 (by decide) rfl rfl) (mH2_women l D ct ad P S G.1 _ o ho) (cwV 0 E.1.2.2.2.2 (lw_V q1371 q485 q486 q114 q487) rfl rfl rfl (by decide +kernel) hR) rfl hsize rfl hW hdg (hY.room0 hZ)) kk
theorem kzX1_3_be (E : ME p m c cc nL s args RX1 D clW ct) (hZ : YC ct R s A G0) (hY : YW D clW ckH ct 26 ad P A S 0 G0 G H) (hS : va_S A s.heap H locs) (hL : L < 3) (hM : M < 3) (hR : 1 + 1 ≤ R.frames ∧ 8 + (3 + 11) + 40 ≤ R.locals) (hsize : ls.size = nL) (hW : (rest.map fun v => v.category).sum ≤ 8) (hdg : decode cc pc = .ok (.invokevirtual 224, 3)) {kp : US → Option ρ} (kk : ∀ (o : US) (H1 : Heap) (locs1 : List Loc), YW D clW ckH ct 26 ad P A o 0 G0 G H1 → va_S A s.heap H1 locs1 → X p l e R s m args below meth c H1 locs1 (G.2.1 - G0.2.1) (G.2.2 - G0.2.2) Qf (kp o) (F0 m (pc + 3) ls (.ref (ad (lc L 0)) :: rest))) : X p l e R s m args below meth c H locs (G.2.1 - G0.2.1) (G.2.2 - G0.2.2) Qf (callK (s3_be S L M) kp) (F0 m pc ls (.ref (ad (lc M 0)) :: .ref (ad (lc L 0)) :: rest)) := gy_mod (val' := fun (o : US) => some (.ref (ad (lc L 0)))) (len := 3) (So := fun (o : US) => o) hZ hY hS (fun o ho => rqV (As := [.ref (ad (lc M 0))]) E (hY.1.1.to fun _ _ => trivial) (recvU (i := lc L 0) E.2.1 hY.1.1.1 (lc_lt (hL) (by decide)) (ck_lc (by decide)) rfl) (mH3_be l D ct ad P S G.1 L M hL hM _ o ho) (cwV 1 E.1.2.2.2.2 (lw_V q630 q346 q347 q118 q348) rfl rfl rfl (by decide +kernel) hR) rfl hsize rfl hW hdg (hY.room0 hZ)) kk
theorem kzX3_3_be (E : ME p m c cc nL s args RX3 D clW ct) (hZ : YC ct R s A G0) (hY : YW D clW ckH ct 26 ad P A S 0 G0 G H) (hS : va_S A s.heap H locs) (hL : L < 3) (hM : M < 3) (hR : 1 + 1 ≤ R.frames ∧ 8 + (3 + 11) + 40 ≤ R.locals) (hsize : ls.size = nL) (hW : (rest.map fun v => v.category).sum ≤ 8) (hdg : decode cc pc = .ok (.invokevirtual 37, 3)) {kp : US → Option ρ} (kk : ∀ (o : US) (H1 : Heap) (locs1 : List Loc), YW D clW ckH ct 26 ad P A o 0 G0 G H1 → va_S A s.heap H1 locs1 → X p l e R s m args below meth c H1 locs1 (G.2.1 - G0.2.1) (G.2.2 - G0.2.2) Qf (kp o) (F0 m (pc + 3) ls (.ref (ad (lc L 0)) :: rest))) : X p l e R s m args below meth c H locs (G.2.1 - G0.2.1) (G.2.2 - G0.2.2) Qf (callK (s3_be S L M) kp) (F0 m pc ls (.ref (ad (lc M 0)) :: .ref (ad (lc L 0)) :: rest)) := gy_mod (val' := fun (o : US) => some (.ref (ad (lc L 0)))) (len := 3) (So := fun (o : US) => o) hZ hY hS (fun o ho => rqV (As := [.ref (ad (lc M 0))]) E (hY.1.1.to fun _ _ => trivial) (recvU (i := lc L 0) E.2.1 hY.1.1.1 (lc_lt (hL) (by decide)) (ck_lc (by decide)) rfl) (mH3_be l D ct ad P S G.1 L M hL hM _ o ho) (cwV 1 E.1.2.2.2.2 (lw_V q345 q346 q347 q118 q348) rfl rfl rfl (by decide +kernel) hR) rfl hsize rfl hW hdg (hY.room0 hZ)) kk
theorem kzX1_3_after {p1 : Int32} (E : ME p m c cc nL s args RX1 D clW ct) (hZ : YC ct R s A G0) (hY : YW D clW ckH ct 26 ad P A S 0 G0 G H) (hS : va_S A s.heap H locs) (hL : L < 3) (hR : 503 + 1 ≤ R.frames ∧ 8 + (3 + 11) + 20065 ≤ R.locals) (hsize : ls.size = nL) (hW : (rest.map fun v => v.category).sum ≤ 8) (hdg : decode cc pc = .ok (.invokevirtual 206, 3)) {kp : US → Option ρ} (kk : ∀ (o : US) (H1 : Heap) (locs1 : List Loc), YW D clW ckH ct 26 ad P A o 0 G0 G H1 → va_S A s.heap H1 locs1 → X p l e R s m args below meth c H1 locs1 (G.2.1 - G0.2.1) (G.2.2 - G0.2.2) Qf (kp o) (F0 m (pc + 3) ls (.ref (ad (lc L 0)) :: rest))) : X p l e R s m args below meth c H locs (G.2.1 - G0.2.1) (G.2.2 - G0.2.2) Qf (callK (s3_after S ct P G.1 L p1) kp) (F0 m pc ls (.int p1 :: .ref (ad (lc L 0)) :: rest)) := gy_mod (val' := fun (o : US) => some (.ref (ad (lc L 0)))) (len := 3) (So := fun (o : US) => o) hZ hY hS (fun o ho => rqV (As := [.int p1]) E (hY.1.1.to fun _ _ => trivial) (recvU (i := lc L 0) E.2.1 hY.1.1.1 (lc_lt (hL) (by decide)) (ck_lc (by decide)) rfl) (mH3_after l D ct ad P S G.1 L p1 hL _ o ho) (cwV 1 E.1.2.2.2.2 (lw_V q448 q449 q450 q118 q451) rfl rfl rfl (by decide +kernel) hR) rfl hsize rfl hW hdg (hY.room0 hZ)) kk
theorem kzX1_3_isOpen {p1 : Int32} (E : ME p m c cc nL s args RX1 D clW ct) (hZ : YC ct R s A G0) (hY : YW D clW ckH ct 26 ad P A S 0 G0 G H) (hS : va_S A s.heap H locs) (hL : L < 3) (hR : 1 + 1 ≤ R.frames ∧ 8 + (2 + 11) + 40 ≤ R.locals) (hsize : ls.size = nL) (hW : (rest.map fun v => v.category).sum ≤ 8) (hdg : decode cc pc = .ok (.invokevirtual 213, 3)) {kp : Bool → Option ρ} (kk : ∀ (o : Bool) (H1 : Heap) (locs1 : List Loc), YW D clW ckH ct 26 ad P A S 0 G0 G H1 → va_S A s.heap H1 locs1 → X p l e R s m args below meth c H1 locs1 (G.2.1 - G0.2.1) (G.2.2 - G0.2.2) Qf (kp o) (F0 m (pc + 3) ls (.int (bI o) :: rest))) : X p l e R s m args below meth c H locs (G.2.1 - G0.2.1) (G.2.2 - G0.2.2) Qf (callK (s3_isOpen S L p1) kp) (F0 m pc ls (.int p1 :: .ref (ad (lc L 0)) :: rest)) := gy_ro (val' := fun (o : Bool) => some (.int (bI o))) (len := 3) hZ hY hS (fun o ho => rqV (As := [.int p1]) E (hY.1.1.to fun _ _ => trivial) (recvU (i := lc L 0) E.2.1 hY.1.1.1 (lc_lt (hL) (by decide)) (ck_lc (by decide)) rfl) (mH3_isOpen l D ct ad P S G.1 L p1 hL _ o ho) (cwV 1 E.1.2.2.2.2 (lw_V q631 q461 q462 q118 q463) rfl rfl rfl (by decide +kernel) hR) rfl hsize rfl hW hdg (hY.room0 hZ)) kk
theorem kzX1_3_loosen {p1 : Int32} {p2 : Int32} (E : ME p m c cc nL s args RX1 D clW ct) (hZ : YC ct R s A G0) (hY : YW D clW ckH ct 26 ad P A S 0 G0 G H) (hS : va_S A s.heap H locs) (hL : L < 3) (hR : 3 + 1 ≤ R.frames ∧ 8 + (4 + 11) + 84 ≤ R.locals) (hsize : ls.size = nL) (hW : (rest.map fun v => v.category).sum ≤ 8) (hdg : decode cc pc = .ok (.invokevirtual 217, 3)) {kp : US → Option ρ} (kk : ∀ (o : US) (H1 : Heap) (locs1 : List Loc), YW D clW ckH ct 26 ad P A o 0 G0 G H1 → va_S A s.heap H1 locs1 → X p l e R s m args below meth c H1 locs1 (G.2.1 - G0.2.1) (G.2.2 - G0.2.2) Qf (kp o) (F0 m (pc + 3) ls (rest))) : X p l e R s m args below meth c H locs (G.2.1 - G0.2.1) (G.2.2 - G0.2.2) Qf (callK (s3_loosen S L p1 p2) kp) (F0 m pc ls (.int p2 :: .int p1 :: .ref (ad (lc L 0)) :: rest)) := gy_mod (val' := fun (o : US) => none) (len := 3) (So := fun (o : US) => o) hZ hY hS (fun o ho => rqV (As := [.int p1, .int p2]) E (hY.1.1.to fun _ _ => trivial) (recvU (i := lc L 0) E.2.1 hY.1.1.1 (lc_lt (hL) (by decide)) (ck_lc (by decide)) rfl) (mH3_loosen l D ct ad P S G.1 L p1 p2 hL _ o ho) (cwV 2 E.1.2.2.2.2 (lw_V q1470 q588 q589 q118 q590) rfl rfl rfl (by decide +kernel) hR) rfl hsize rfl hW hdg (hY.room0 hZ)) kk
theorem kzX1_3_mend {p1 : Int32} (E : ME p m c cc nL s args RX1 D clW ct) (hZ : YC ct R s A G0) (hY : YW D clW ckH ct 26 ad P A S 0 G0 G H) (hS : va_S A s.heap H locs) (hL : L < 3) (hR : 4 + 1 ≤ R.frames ∧ 8 + (2 + 11) + 104 ≤ R.locals) (hsize : ls.size = nL) (hW : (rest.map fun v => v.category).sum ≤ 8) (hdg : decode cc pc = .ok (.invokevirtual 210, 3)) {kp : US → Option ρ} (kk : ∀ (o : US) (H1 : Heap) (locs1 : List Loc), YW D clW ckH ct 26 ad P A o 0 G0 G H1 → va_S A s.heap H1 locs1 → X p l e R s m args below meth c H1 locs1 (G.2.1 - G0.2.1) (G.2.2 - G0.2.2) Qf (kp o) (F0 m (pc + 3) ls (rest))) : X p l e R s m args below meth c H locs (G.2.1 - G0.2.1) (G.2.2 - G0.2.2) Qf (callK (s3_mend S P G.1 L p1) kp) (F0 m pc ls (.int p1 :: .ref (ad (lc L 0)) :: rest)) := gy_mod (val' := fun (o : US) => none) (len := 3) (So := fun (o : US) => o) hZ hY hS (fun o ho => rqV (As := [.int p1]) E (hY.1.1.to fun _ _ => trivial) (recvU (i := lc L 0) E.2.1 hY.1.1.1 (lc_lt (hL) (by decide)) (ck_lc (by decide)) rfl) (mH3_mend l D ct ad P S G.1 L p1 hL _ o ho) (cwV 1 E.1.2.2.2.2 (lw_V q1441 q593 q594 q118 q595) rfl rfl rfl (by decide +kernel) hR) rfl hsize rfl hW hdg (hY.room0 hZ)) kk
theorem kzJ13_V_newLength {p1 : Int32} {p2 : Int32} {p3 : Int32} (E : ME p m c cc nL s args RJ13 D clW ct) (hZ : YC ct R s A G0) (hY : YW D clW ck ct N ad P A S w G0 G H) (hS : va_S A s.heap H locs) (hR : 1 + 1 ≤ R.frames ∧ 8 + (4 + 11) + 40 ≤ R.locals) (hsize : ls.size = nL) (hW : (rest.map fun v => v.category).sum ≤ 8) (hdg : decode cc pc = .ok (.invokestatic 114, 3)) {kp : Int32 → Option ρ} (kk : ∀ (o : Int32) (H1 : Heap) (locs1 : List Loc), YW D clW ck ct N ad P A S w G0 G H1 → va_S A s.heap H1 locs1 → X p l e R s m args below meth c H1 locs1 (G.2.1 - G0.2.1) (G.2.2 - G0.2.2) Qf (kp o) (F0 m (pc + 3) ls (.int o :: rest))) : X p l e R s m args below meth c H locs (G.2.1 - G0.2.1) (G.2.2 - G0.2.2) Qf (callK (sV_newLength p1 p2 p3) kp) (F0 m pc ls (.int p3 :: .int p2 :: .int p1 :: rest)) := gy_ro (val' := fun (o : Int32) => some (.int o)) (len := 3) hZ hY hS (fun o ho => rqS (As := [.int p1, .int p2, .int p3]) (B := fun _ => True) E trivial (mHV_newLength l D ct p1 p2 p3 _ o ho) (va_cwS 3 E.1.2.2.2.2 (lw_S q1044 q372 q134 q373) rfl rfl rfl (by decide +kernel) hR) rfl hsize rfl hW hdg (hY.room0 hZ)) kk
theorem kzJ2_V_newLength {p1 : Int32} {p2 : Int32} {p3 : Int32} (E : ME p m c cc nL s args RJ2 D clW ct) (hZ : YC ct R s A G0) (hY : YW D clW ck ct N ad P A S w G0 G H) (hS : va_S A s.heap H locs) (hR : 1 + 1 ≤ R.frames ∧ 8 + (4 + 11) + 40 ≤ R.locals) (hsize : ls.size = nL) (hW : (rest.map fun v => v.category).sum ≤ 8) (hdg : decode cc pc = .ok (.invokestatic 73, 3)) {kp : Int32 → Option ρ} (kk : ∀ (o : Int32) (H1 : Heap) (locs1 : List Loc), YW D clW ck ct N ad P A S w G0 G H1 → va_S A s.heap H1 locs1 → X p l e R s m args below meth c H1 locs1 (G.2.1 - G0.2.1) (G.2.2 - G0.2.2) Qf (kp o) (F0 m (pc + 3) ls (.int o :: rest))) : X p l e R s m args below meth c H locs (G.2.1 - G0.2.1) (G.2.2 - G0.2.2) Qf (callK (sV_newLength p1 p2 p3) kp) (F0 m pc ls (.int p3 :: .int p2 :: .int p1 :: rest)) := gy_ro (val' := fun (o : Int32) => some (.int o)) (len := 3) hZ hY hS (fun o ho => rqS (As := [.int p1, .int p2, .int p3]) (B := fun _ => True) E trivial (mHV_newLength l D ct p1 p2 p3 _ o ho) (va_cwS 3 E.1.2.2.2.2 (lw_S q371 q372 q134 q373) rfl rfl rfl (by decide +kernel) hR) rfl hsize rfl hW hdg (hY.room0 hZ)) kk
theorem kzX1_S_length (E : ME p m c cc nL s args RX1 D clW ct) (hZ : YC ct R s A G0) (hY : YW D clW ck ct N ad P A S w G0 G H) (hS : va_S A s.heap H locs) (hR : 2 + 1 ≤ R.frames ∧ 8 + (1 + 11) + 60 ≤ R.locals) (hsize : ls.size = nL) (hW : (rest.map fun v => v.category).sum ≤ 8) (hdg : decode cc pc = .ok (.invokevirtual 291, 3)) {kp : Int32 → Option ρ} (kk : ∀ (o : Int32) (H1 : Heap) (locs1 : List Loc), YW D clW ck ct N ad P A S w G0 G H1 → va_S A s.heap H1 locs1 → X p l e R s m args below meth c H1 locs1 (G.2.1 - G0.2.1) (G.2.2 - G0.2.2) Qf (kp o) (F0 m (pc + 3) ls (.int o :: rest))) : X p l e R s m args below meth c H locs (G.2.1 - G0.2.1) (G.2.2 - G0.2.2) Qf (hC G.1 q0 13 (callK (sS_length G.1 q0) kp)) (F0 m pc ls (.ref q0 :: rest)) := X.hC fun fs bw hq => gy_ro (val' := fun (o : Int32) => some (.int o)) (len := 3) hZ hY hS (fun o ho => rqV (As := []) E (hY.1.1.to fun _ _ => trivial) (recvA E.2.1 hY.1.1.2.1 hq rfl) (mHS_length l D ct ck N ad P S w G.1 q0 _ o ho) (cwV 0 E.1.2.2.2.2 (lw_V q1613 q869 q870 q126 q871) rfl rfl rfl (by decide +kernel) hR) rfl hsize rfl hW hdg (hY.room0 hZ)) kk
theorem kzX5_S_length (E : ME p m c cc nL s args RX5 D clW ct) (hZ : YC ct R s A G0) (hY : YW D clW ck ct N ad P A S w G0 G H) (hS : va_S A s.heap H locs) (hR : 2 + 1 ≤ R.frames ∧ 8 + (1 + 11) + 60 ≤ R.locals) (hsize : ls.size = nL) (hW : (rest.map fun v => v.category).sum ≤ 8) (hdg : decode cc pc = .ok (.invokevirtual 111, 3)) {kp : Int32 → Option ρ} (kk : ∀ (o : Int32) (H1 : Heap) (locs1 : List Loc), YW D clW ck ct N ad P A S w G0 G H1 → va_S A s.heap H1 locs1 → X p l e R s m args below meth c H1 locs1 (G.2.1 - G0.2.1) (G.2.2 - G0.2.2) Qf (kp o) (F0 m (pc + 3) ls (.int o :: rest))) : X p l e R s m args below meth c H locs (G.2.1 - G0.2.1) (G.2.2 - G0.2.2) Qf (hC G.1 q0 13 (callK (sS_length G.1 q0) kp)) (F0 m pc ls (.ref q0 :: rest)) := X.hC fun fs bw hq => gy_ro (val' := fun (o : Int32) => some (.int o)) (len := 3) hZ hY hS (fun o ho => rqV (As := []) E (hY.1.1.to fun _ _ => trivial) (recvA E.2.1 hY.1.1.2.1 hq rfl) (mHS_length l D ct ck N ad P S w G.1 q0 _ o ho) (cwV 0 E.1.2.2.2.2 (lw_V q935 q869 q870 q126 q871) rfl rfl rfl (by decide +kernel) hR) rfl hsize rfl hW hdg (hY.room0 hZ)) kk
theorem kzX5_S_charAt {p1 : Int32} (E : ME p m c cc nL s args RX5 D clW ct) (hZ : YC ct R s A G0) (hY : YW D clW ck ct N ad P A S w G0 G H) (hS : va_S A s.heap H locs) (hR : 4 + 1 ≤ R.frames ∧ 8 + (2 + 11) + 104 ≤ R.locals) (hsize : ls.size = nL) (hW : (rest.map fun v => v.category).sum ≤ 8) (hdg : decode cc pc = .ok (.invokevirtual 114, 3)) {kp : Int32 → Option ρ} (kk : ∀ (o : Int32) (H1 : Heap) (locs1 : List Loc), YW D clW ck ct N ad P A S w G0 G H1 → va_S A s.heap H1 locs1 → X p l e R s m args below meth c H1 locs1 (G.2.1 - G0.2.1) (G.2.2 - G0.2.2) Qf (kp o) (F0 m (pc + 3) ls (.int o :: rest))) : X p l e R s m args below meth c H locs (G.2.1 - G0.2.1) (G.2.2 - G0.2.2) Qf (hC G.1 q0 13 (callK (sS_charAt ct G.1 q0 p1) kp)) (F0 m pc ls (.int p1 :: .ref q0 :: rest)) := X.hC fun fs bw hq => gy_ro (val' := fun (o : Int32) => some (.int o)) (len := 3) hZ hY hS (fun o ho => rqV (As := [.int p1]) E (hY.1.1.to fun _ _ => trivial) (recvA E.2.1 hY.1.1.2.1 hq rfl) (mHS_charAt l D ct ck N ad P S w G.1 q0 p1 _ o ho) (cwV 1 E.1.2.2.2.2 (lw_V q936 q937 q938 q126 q939) rfl rfl rfl (by decide +kernel) hR) rfl hsize rfl hW hdg (hY.room0 hZ)) kk
theorem kzJ13_T_canEncode_2 {p1 : Int32} (E : ME p m c cc nL s args RJ13 D clW ct) (hZ : YC ct R s A G0) (hY : YW D clW ck ct N ad P A S w G0 G H) (hS : va_S A s.heap H locs) (hR : 1 + 1 ≤ R.frames ∧ 8 + (1 + 11) + 40 ≤ R.locals) (hsize : ls.size = nL) (hW : (rest.map fun v => v.category).sum ≤ 8) (hdg : decode cc pc = .ok (.invokestatic 191, 3)) {kp : Bool → Option ρ} (kk : ∀ (o : Bool) (H1 : Heap) (locs1 : List Loc), YW D clW ck ct N ad P A S w G0 G H1 → va_S A s.heap H1 locs1 → X p l e R s m args below meth c H1 locs1 (G.2.1 - G0.2.1) (G.2.2 - G0.2.2) Qf (kp o) (F0 m (pc + 3) ls (.int (bI o) :: rest))) : X p l e R s m args below meth c H locs (G.2.1 - G0.2.1) (G.2.2 - G0.2.2) Qf (callK (sT_canEncode_2 p1) kp) (F0 m pc ls (.int p1 :: rest)) := gy_ro (val' := fun (o : Bool) => some (.int (bI o))) (len := 3) hZ hY hS (fun o ho => rqS (As := [.int p1]) (B := fun _ => True) E trivial (mHT_canEncode_2 l D ct p1 _ o ho) (va_cwS 1 E.1.2.2.2.2 (lw_S q1061 q1062 q127 q1063) rfl rfl rfl (by decide +kernel) hR) rfl hsize rfl hW hdg (hY.room0 hZ)) kk
theorem kzX5_S_indexOf {p1 : Int32} (E : ME p m c cc nL s args RX5 D clW ct) (hZ : YC ct R s A G0) (hY : YW D clW ck ct N ad P A S w G0 G H) (hS : va_S A s.heap H locs) (hR : 4 + 1 ≤ R.frames ∧ 8 + (2 + 11) + 110 ≤ R.locals) (hsize : ls.size = nL) (hW : (rest.map fun v => v.category).sum ≤ 8) (hdg : decode cc pc = .ok (.invokevirtual 104, 3)) {kp : Int32 → Option ρ} (kk : ∀ (o : Int32) (H1 : Heap) (locs1 : List Loc), YW D clW ck ct N ad P A S w G0 G H1 → va_S A s.heap H1 locs1 → X p l e R s m args below meth c H1 locs1 (G.2.1 - G0.2.1) (G.2.2 - G0.2.2) Qf (kp o) (F0 m (pc + 3) ls (.int o :: rest))) : X p l e R s m args below meth c H locs (G.2.1 - G0.2.1) (G.2.2 - G0.2.2) Qf (hC G.1 q0 13 (callK (sS_indexOf G.1 q0 p1) kp)) (F0 m pc ls (.int p1 :: .ref q0 :: rest)) := X.hC fun fs bw hq => gy_ro (val' := fun (o : Int32) => some (.int o)) (len := 3) hZ hY hS (fun o ho => rqV (As := [.int p1]) E (hY.1.1.to fun _ _ => trivial) (recvA E.2.1 hY.1.1.2.1 hq rfl) (mHS_indexOf l D ct ck N ad P S w G.1 q0 p1 _ o ho) (cwV 1 E.1.2.2.2.2 (lw_V q854 q855 q856 q126 q857) rfl rfl rfl (by decide +kernel) hR) rfl hsize rfl hW hdg (hY.room0 hZ)) kk
theorem kzX1_S_startsWith {p1 : (Option Nat)} {p2 : Int32} (E : ME p m c cc nL s args RX1 D clW ct) (hZ : YC ct R s A G0) (hY : YW D clW ck ct N ad P A S w G0 G H) (hS : va_S A s.heap H locs) (hR : 3 + 1 ≤ R.frames ∧ 8 + (8 + 11) + 80 ≤ R.locals) (hsize : ls.size = nL) (hW : (rest.map fun v => v.category).sum ≤ 8) (hdg : decode cc pc = .ok (.invokevirtual 296, 3)) {kp : Bool → Option ρ} (kk : ∀ (o : Bool) (H1 : Heap) (locs1 : List Loc), YW D clW ck ct N ad P A S w G0 G H1 → va_S A s.heap H1 locs1 → X p l e R s m args below meth c H1 locs1 (G.2.1 - G0.2.1) (G.2.2 - G0.2.2) Qf (kp o) (F0 m (pc + 3) ls (.int (bI o) :: rest))) : X p l e R s m args below meth c H locs (G.2.1 - G0.2.1) (G.2.2 - G0.2.2) Qf (hC G.1 q0 13 (callK (sS_startsWith G.1 q0 p1 p2) kp)) (F0 m pc ls (.int p2 :: va_rf p1 :: .ref q0 :: rest)) := X.hC fun fs bw hq => gy_ro (val' := fun (o : Bool) => some (.int (bI o))) (len := 3) hZ hY hS (fun o ho => rqV (As := [va_rf p1, .int p2]) E (hY.1.1.to fun _ _ => trivial) (recvA E.2.1 hY.1.1.2.1 hq rfl) (mHS_startsWith l D ct ck N ad P S w G.1 q0 p1 p2 _ o ho) (cwV 2 E.1.2.2.2.2 (lw_V q1615 q1616 q1617 q126 q1618) rfl rfl rfl (by decide +kernel) hR) rfl hsize rfl hW hdg (hY.room0 hZ)) kk
theorem kzJ18_N_stringSize {p1 : Int32} (E : ME p m c cc nL s args RJ18 D clW ct) (hZ : YC ct R s A G0) (hY : YW D clW ck ct N ad P A S w G0 G H) (hS : va_S A s.heap H locs) (hR : 1 + 1 ≤ R.frames ∧ 8 + (4 + 11) + 40 ≤ R.locals) (hsize : ls.size = nL) (hW : (rest.map fun v => v.category).sum ≤ 8) (hdg : decode cc pc = .ok (.invokestatic 72, 3)) {kp : Int32 → Option ρ} (kk : ∀ (o : Int32) (H1 : Heap) (locs1 : List Loc), YW D clW ck ct N ad P A S w G0 G H1 → va_S A s.heap H1 locs1 → X p l e R s m args below meth c H1 locs1 (G.2.1 - G0.2.1) (G.2.2 - G0.2.2) Qf (kp o) (F0 m (pc + 3) ls (.int o :: rest))) : X p l e R s m args below meth c H locs (G.2.1 - G0.2.1) (G.2.2 - G0.2.2) Qf (callK (sN_stringSize p1) kp) (F0 m pc ls (.int p1 :: rest)) := gy_ro (val' := fun (o : Int32) => some (.int o)) (len := 3) hZ hY hS (fun o ho => rqS (As := [.int p1]) (B := fun _ => True) E trivial (mHN_stringSize l D ct p1 _ o ho) (va_cwS 1 E.1.2.2.2.2 (lw_S q1605 q1136 q138 q1137) rfl rfl rfl (by decide +kernel) hR) rfl hsize rfl hW hdg (hY.room0 hZ)) kk
theorem kzJ13_A_isLatin1 (E : ME p m c cc nL s args RJ13 D clW ct) (hZ : YC ct R s A G0) (hY : YW D clW ck ct N ad P A S w G0 G H) (hS : va_S A s.heap H locs) (hR : 1 + 1 ≤ R.frames ∧ 8 + (1 + 11) + 40 ≤ R.locals) (hsize : ls.size = nL) (hW : (rest.map fun v => v.category).sum ≤ 8) (hdg : decode cc pc = .ok (.invokevirtual 83, 3)) {kp : Bool → Option ρ} (kk : ∀ (o : Bool) (H1 : Heap) (locs1 : List Loc), YW D clW ck ct N ad P A S w G0 G H1 → va_S A s.heap H1 locs1 → X p l e R s m args below meth c H1 locs1 (G.2.1 - G0.2.1) (G.2.2 - G0.2.2) Qf (kp o) (F0 m (pc + 3) ls (.int (bI o) :: rest))) : X p l e R s m args below meth c H locs (G.2.1 - G0.2.1) (G.2.2 - G0.2.2) Qf (hC G.1 q0 11 (callK (sA_isLatin1 G.1 q0) kp)) (F0 m pc ls (.ref q0 :: rest)) := X.hC fun fs bw hq => gy_ro (val' := fun (o : Bool) => some (.int (bI o))) (len := 3) hZ hY hS (fun o ho => rqU (As := []) E (hY.1.1.to fun _ _ => trivial) (recvA E.2.1 hY.1.1.2.1 hq rfl) (mHA_isLatin1 l D ct ck N ad P S w G.1 q0 _ o ho) (va_cwU 0 E.1.2.2.2.2 (lw_U q1056 q1058 q1059 q1057 q132 q1060) rfl rfl rfl rfl (by decide +kernel) hR) rfl hsize rfl hW hdg (hY.room0 hZ)) kk
theorem kzJ8_A_isLatin1 (E : ME p m c cc nL s args RJ8 D clW ct) (hZ : YC ct R s A G0) (hY : YW D clW ck ct N ad P A S w G0 G H) (hS : va_S A s.heap H locs) (hR : 1 + 1 ≤ R.frames ∧ 8 + (1 + 11) + 40 ≤ R.locals) (hsize : ls.size = nL) (hW : (rest.map fun v => v.category).sum ≤ 8) (hdg : decode cc pc = .ok (.invokevirtual 1047, 3)) {kp : Bool → Option ρ} (kk : ∀ (o : Bool) (H1 : Heap) (locs1 : List Loc), YW D clW ck ct N ad P A S w G0 G H1 → va_S A s.heap H1 locs1 → X p l e R s m args below meth c H1 locs1 (G.2.1 - G0.2.1) (G.2.2 - G0.2.2) Qf (kp o) (F0 m (pc + 3) ls (.int (bI o) :: rest))) : X p l e R s m args below meth c H locs (G.2.1 - G0.2.1) (G.2.2 - G0.2.2) Qf (hC G.1 q0 11 (callK (sA_isLatin1 G.1 q0) kp)) (F0 m pc ls (.ref q0 :: rest)) := X.hC fun fs bw hq => gy_ro (val' := fun (o : Bool) => some (.int (bI o))) (len := 3) hZ hY hS (fun o ho => rqU (As := []) E (hY.1.1.to fun _ _ => trivial) (recvA E.2.1 hY.1.1.2.1 hq rfl) (mHA_isLatin1 l D ct ck N ad P S w G.1 q0 _ o ho) (va_cwU 0 E.1.2.2.2.2 (lw_U q1115 q1058 q1059 q1057 q132 q1060) rfl rfl rfl rfl (by decide +kernel) hR) rfl hsize rfl hW hdg (hY.room0 hZ)) kk
theorem kzJ8_A_getValue (E : ME p m c cc nL s args RJ8 D clW ct) (hZ : YC ct R s A G0) (hY : YW D clW ck ct N ad P A S w G0 G H) (hS : va_S A s.heap H locs) (hR : 1 + 1 ≤ R.frames ∧ 8 + (1 + 11) + 40 ≤ R.locals) (hsize : ls.size = nL) (hW : (rest.map fun v => v.category).sum ≤ 8) (hdg : decode cc pc = .ok (.invokevirtual 552, 3)) {kp : (Option Nat) → Option ρ} (kk : ∀ (o : (Option Nat)) (H1 : Heap) (locs1 : List Loc), YW D clW ck ct N ad P A S w G0 G H1 → va_S A s.heap H1 locs1 → X p l e R s m args below meth c H1 locs1 (G.2.1 - G0.2.1) (G.2.2 - G0.2.2) Qf (kp o) (F0 m (pc + 3) ls (va_rf o :: rest))) : X p l e R s m args below meth c H locs (G.2.1 - G0.2.1) (G.2.2 - G0.2.2) Qf (hC G.1 q0 11 (callK (sA_getValue G.1 q0) kp)) (F0 m pc ls (.ref q0 :: rest)) := X.hC fun fs bw hq => gy_ro (val' := fun (o : (Option Nat)) => some (va_rf o)) (len := 3) hZ hY hS (fun o ho => rqU (As := []) E (hY.1.1.to fun _ _ => trivial) (recvA E.2.1 hY.1.1.2.1 hq rfl) (mHA_getValue l D ct ck N ad P S w G.1 q0 _ o ho) (va_cwU 0 E.1.2.2.2.2 (lw_U q1102 q1104 q1105 q1103 q132 q1106) rfl rfl rfl rfl (by decide +kernel) hR) rfl hsize rfl hW hdg (hY.room0 hZ)) kk
theorem kzJ14_A_length (E : ME p m c cc nL s args RJ14 D clW ct) (hZ : YC ct R s A G0) (hY : YW D clW ck ct N ad P A S w G0 G H) (hS : va_S A s.heap H locs) (hR : 1 + 1 ≤ R.frames ∧ 8 + (1 + 11) + 40 ≤ R.locals) (hsize : ls.size = nL) (hW : (rest.map fun v => v.category).sum ≤ 8) (hdg : decode cc pc = .ok (.invokespecial 343, 3)) {kp : Int32 → Option ρ} (kk : ∀ (o : Int32) (H1 : Heap) (locs1 : List Loc), YW D clW ck ct N ad P A S w G0 G H1 → va_S A s.heap H1 locs1 → X p l e R s m args below meth c H1 locs1 (G.2.1 - G0.2.1) (G.2.2 - G0.2.2) Qf (kp o) (F0 m (pc + 3) ls (.int o :: rest))) : X p l e R s m args below meth c H locs (G.2.1 - G0.2.1) (G.2.2 - G0.2.2) Qf (hC G.1 q0 11 (callK (sA_length G.1 q0) kp)) (F0 m pc ls (.ref q0 :: rest)) := X.hC fun fs bw hq => gy_ro (val' := fun (o : Int32) => some (.int o)) (len := 3) hZ hY hS (fun o ho => rqSU (As := []) (C := "java/lang/StringBuilder") E (hY.1.1.to fun _ _ => trivial) (E.2.1.1 11 _ rfl).2 (recvA E.2.1 hY.1.1.2.1 hq rfl) (mHA_length l D ct ck N ad P S w G.1 q0 _ o ho) (va_cwSU 0 E.1.2.2.2.2 (lw_SU q1113 q1109 q549 q1108 q132 q1114) rfl rfl rfl (by decide +kernel) hR) rfl hsize rfl hW hdg (hY.room0 hZ)) kk
end KZ

set_option maxHeartbeats 4000000 in
theorem mYJ_init (l : Launch) (D : va_G) (ct : CT) (ck : Nat → UC) (N : Nat) (ad : Nat → Nat) (P : Nat → Nat → Option Nat) (S : US) (w : Int64) (G0 : GS) (q0 : Nat) (o : GS) (ho : sJ_init ct G0 q0 = some o) : Met l yJ0_init (ws_ yJ0_init cJ0_init 1 none) { frames := 1, cells := nmax ct - G0.2.1, slots := zmax ct - G0.2.2, locals := 60 } (mP D clW ct [.ref q0] G0.2.1 (MW D clW ck ct N ad P (fun _ => True) S w G0)) (yC (none) (MW D clW ck ct N ad P (mA N ad G0) S w o) G0 o (mA N ad G0)) (nmax ct - G0.2.1) (zmax ct - G0.2.2) (mA N ad G0) := by
  refine Y.start (val := fun (o : GS) => none) (Bt := fun (o : GS) => MW D clW ck ct N ad P (mA N ad G0) S w o) (Go := fun (o : GS) => o) ho (by decide) (Nat.le_of_ble_eq_true rfl) (lv := [(0, .ref q0)]) rfl ?_
  intro p e s m args below meth c E hr hlk hnm hZ hU hS ls hl
  obtain ⟨⟨hx, hb, hml, hown, hts⟩, hK, hJ⟩ := id E
  unfold sJ_init
  refine x_aload_n hx hb dJ0_init_0 rfl (lv_at hl 0 rfl) ?_
  refine gx_objInit E (hts _ q174) (hts _ q155) (hts _ q156) ⟨Nat.le_of_ble_eq_true rfl, Nat.le_of_ble_eq_true rfl⟩ hl.1 (Nat.le_of_ble_eq_true rfl) dJ0_init_1 ?_
  exact y_vret hx hb hr hlk hZ hU hS rfl rfl hU.1 dJ0_init_4
section KZ
variable {ρ : Type} {p : Program} {l : Launch} {e : Env} {R : Room} {s : State} {m : MethodId} {args : Array Value} {below : List Frame} {meth : Method} {c : Code} {H : Heap} {locs : List Loc} {Qf : ρ → State → Prop}
variable {cc : ByteArray} {pc nL L M q0 : Nat} {ls : Array Slot} {rest : List Value}
variable {D : va_G} {ct : CT} {ck : Nat → UC} {N : Nat} {ad : Nat → Nat} {P : Nat → Nat → Option Nat} {A : Nat → Prop} {S : US} {w : Int64} {G0 G : GS}
theorem kzJ1_J_init (E : ME p m c cc nL s args RJ1 D clW ct) (hZ : YC ct R s A G0) (hY : YW D clW ck ct N ad P A S w G0 G H) (hS : va_S A s.heap H locs) (hR : 1 + 1 ≤ R.frames ∧ 8 + (1 + 11) + 60 ≤ R.locals) (hsize : ls.size = nL) (hW : (rest.map fun v => v.category).sum ≤ 8) (hdg : decode cc pc = .ok (.invokespecial 1, 3)) {kp : GS → Option ρ} (kk : ∀ (o : GS) (H1 : Heap) (locs1 : List Loc), YW D clW ck ct N ad P A S w G0 o H1 → va_S A s.heap H1 locs1 → X p l e R s m args below meth c H1 locs1 (o.2.1 - G0.2.1) (o.2.2 - G0.2.2) Qf (kp o) (F0 m (pc + 3) ls (rest))) : X p l e R s m args below meth c H locs (G.2.1 - G0.2.1) (G.2.2 - G0.2.2) Qf (callK (sJ_init ct G q0) kp) (F0 m pc ls (.ref q0 :: rest)) := gy_mx (val' := fun (o : GS) => none) (len := 3) (So := fun (o : GS) => S) (Po := fun (o : GS) => P) (Gn := fun (o : GS) => o) hZ hY hS (fun o ho => rqI (As := []) E hY.1.any (by rw [hY.1.2.1]; exact mYJ_init l D ct ck N ad P S w G q0 o ho) ⟨callB_of 0 E.1.2.2.2.2 (lw_meth q173) rfl rfl rfl (E.1.2.2.2.2 _ q115) (E.1.2.2.2.2 _ q171) (by decide +kernel) hR, rfl, E.1.2.2.2.2 _ q172⟩ rfl hsize rfl hW hdg (hY.room hZ)) kk
end KZ

set_option maxHeartbeats 4000000 in
theorem mYK_init (l : Launch) (D : va_G) (ct : CT) (ck : Nat → UC) (N : Nat) (ad : Nat → Nat) (P : Nat → Nat → Option Nat) (S : US) (w : Int64) (G0 : GS) (q0 : Nat) (o : GS) (ho : sK_init ct G0 q0 = some o) : Met l yJ1_init (ws_ yJ1_init cJ1_init 1 none) { frames := 2, cells := nmax ct - G0.2.1, slots := zmax ct - G0.2.2, locals := 80 } (mP D clW ct [.ref q0] G0.2.1 (MW D clW ck ct N ad P (fun _ => True) S w G0)) (yC (none) (MW D clW ck ct N ad P (mA N ad G0) S w o) G0 o (mA N ad G0)) (nmax ct - G0.2.1) (zmax ct - G0.2.2) (mA N ad G0) := by
  refine Y.start (val := fun (o : GS) => none) (Bt := fun (o : GS) => MW D clW ck ct N ad P (mA N ad G0) S w o) (Go := fun (o : GS) => o) ho (by decide) (Nat.le_of_ble_eq_true rfl) (lv := [(0, .ref q0)]) rfl ?_
  intro p e s m args below meth c E hr hlk hnm hZ hU hS ls hl
  obtain ⟨⟨hx, hb, hml, hown, hts⟩, hK, hJ⟩ := id E
  unfold sK_init
  refine x_aload_n hx hb dJ1_init_0 rfl (lv_at hl 0 rfl) ?_
  refine kzJ1_J_init E hZ hU hS ⟨Nat.le_of_ble_eq_true rfl, Nat.le_of_ble_eq_true rfl⟩ hl.1 (Nat.le_of_ble_eq_true rfl) dJ1_init_1 (fun o1 H locs hU hS => ?_)
  refine x_aload_n hx hb dJ1_init_4 rfl (lv_at hl 0 rfl) ?_
  refine x_iconst (v := 0) hx hb dJ1_init_5 (by decide) ?_
  refine gy_put (v := .int (0 : Int32)) (ty0 := tyJ2) E hU hS (ci := 10) rfl in_J2 tyJ2_ok nmJ2 0 (by decide) (hts _ q179) (fun _ h => h) (Or.inl rfl) rfl rfl dJ1_init_6 (fun G2 H locs hU hS => ?_)
  exact y_vret hx hb hr hlk hZ hU hS rfl rfl hU.1 dJ1_init_9
section KZ
variable {ρ : Type} {p : Program} {l : Launch} {e : Env} {R : Room} {s : State} {m : MethodId} {args : Array Value} {below : List Frame} {meth : Method} {c : Code} {H : Heap} {locs : List Loc} {Qf : ρ → State → Prop}
variable {cc : ByteArray} {pc nL L M q0 : Nat} {ls : Array Slot} {rest : List Value}
variable {D : va_G} {ct : CT} {ck : Nat → UC} {N : Nat} {ad : Nat → Nat} {P : Nat → Nat → Option Nat} {A : Nat → Prop} {S : US} {w : Int64} {G0 G : GS}
theorem kzJ2_K_init (E : ME p m c cc nL s args RJ2 D clW ct) (hZ : YC ct R s A G0) (hY : YW D clW ck ct N ad P A S w G0 G H) (hS : va_S A s.heap H locs) (hR : 2 + 1 ≤ R.frames ∧ 8 + (1 + 11) + 80 ≤ R.locals) (hsize : ls.size = nL) (hW : (rest.map fun v => v.category).sum ≤ 8) (hdg : decode cc pc = .ok (.invokespecial 1, 3)) {kp : GS → Option ρ} (kk : ∀ (o : GS) (H1 : Heap) (locs1 : List Loc), YW D clW ck ct N ad P A S w G0 o H1 → va_S A s.heap H1 locs1 → X p l e R s m args below meth c H1 locs1 (o.2.1 - G0.2.1) (o.2.2 - G0.2.2) Qf (kp o) (F0 m (pc + 3) ls (rest))) : X p l e R s m args below meth c H locs (G.2.1 - G0.2.1) (G.2.2 - G0.2.2) Qf (callK (sK_init ct G q0) kp) (F0 m pc ls (.ref q0 :: rest)) := gy_mx (val' := fun (o : GS) => none) (len := 3) (So := fun (o : GS) => S) (Po := fun (o : GS) => P) (Gn := fun (o : GS) => o) hZ hY hS (fun o ho => rqI (As := []) E hY.1.any (by rw [hY.1.2.1]; exact mYK_init l D ct ck N ad P S w G q0 o ho) ⟨callB_of 0 E.1.2.2.2.2 (lw_meth q170) rfl rfl rfl (E.1.2.2.2.2 _ q116) (E.1.2.2.2.2 _ q168) (by decide +kernel) hR, rfl, E.1.2.2.2.2 _ q169⟩ rfl hsize rfl hW hdg (hY.room hZ)) kk
end KZ

set_option maxHeartbeats 4000000 in
theorem mYL_init (l : Launch) (D : va_G) (ct : CT) (ck : Nat → UC) (N : Nat) (ad : Nat → Nat) (P : Nat → Nat → Option Nat) (S : US) (w : Int64) (G0 : GS) (q0 : Nat) (o : GS) (ho : sL_init ct G0 q0 = some o) : Met l yJ2_init (ws_ yJ2_init cJ2_init 1 none) { frames := 3, cells := nmax ct - G0.2.1, slots := zmax ct - G0.2.2, locals := 100 } (mP D clW ct [.ref q0] G0.2.1 (MW D clW ck ct N ad P (fun _ => True) S w G0)) (yC (none) (MW D clW ck ct N ad P (mA N ad G0) S w o) G0 o (mA N ad G0)) (nmax ct - G0.2.1) (zmax ct - G0.2.2) (mA N ad G0) := by
  refine Y.start (val := fun (o : GS) => none) (Bt := fun (o : GS) => MW D clW ck ct N ad P (mA N ad G0) S w o) (Go := fun (o : GS) => o) ho (by decide) (Nat.le_of_ble_eq_true rfl) (lv := [(0, .ref q0)]) rfl ?_
  intro p e s m args below meth c E hr hlk hnm hZ hU hS ls hl
  obtain ⟨⟨hx, hb, hml, hown, hts⟩, hK, hJ⟩ := id E
  unfold sL_init
  refine x_aload_n hx hb dJ2_init_0 rfl (lv_at hl 0 rfl) ?_
  refine kzJ2_K_init E hZ hU hS ⟨Nat.le_of_ble_eq_true rfl, Nat.le_of_ble_eq_true rfl⟩ hl.1 (Nat.le_of_ble_eq_true rfl) dJ2_init_1 (fun o1 H locs hU hS => ?_)
  refine x_aload_n hx hb dJ2_init_4 rfl (lv_at hl 0 rfl) ?_
  refine gx_gets E hU.1.1 (List.mem_of_getElem? (i := 1) rfl) (hts _ q175) (fun _ h => h) dJ2_init_5 ?_
  refine gy_put (v := .ref (ct.2.1 0)) (ty0 := tyJ2) E hU hS (ci := 10) rfl in_J2 tyJ2_ok nmJ2 1 (by decide) (hts _ q177) (fun _ h => h) (Or.inl rfl) rfl rfl dJ2_init_8 (fun G2 H locs hU hS => ?_)
  exact y_vret hx hb hr hlk hZ hU hS rfl rfl hU.1 dJ2_init_11
section KZ
variable {ρ : Type} {p : Program} {l : Launch} {e : Env} {R : Room} {s : State} {m : MethodId} {args : Array Value} {below : List Frame} {meth : Method} {c : Code} {H : Heap} {locs : List Loc} {Qf : ρ → State → Prop}
variable {cc : ByteArray} {pc nL L M q0 : Nat} {ls : Array Slot} {rest : List Value}
variable {D : va_G} {ct : CT} {ck : Nat → UC} {N : Nat} {ad : Nat → Nat} {P : Nat → Nat → Option Nat} {A : Nat → Prop} {S : US} {w : Int64} {G0 G : GS}
theorem kzX1_L_init (E : ME p m c cc nL s args RX1 D clW ct) (hZ : YC ct R s A G0) (hY : YW D clW ck ct N ad P A S w G0 G H) (hS : va_S A s.heap H locs) (hR : 3 + 1 ≤ R.frames ∧ 8 + (1 + 11) + 100 ≤ R.locals) (hsize : ls.size = nL) (hW : (rest.map fun v => v.category).sum ≤ 8) (hdg : decode cc pc = .ok (.invokespecial 63, 3)) {kp : GS → Option ρ} (kk : ∀ (o : GS) (H1 : Heap) (locs1 : List Loc), YW D clW ck ct N ad P A S w G0 o H1 → va_S A s.heap H1 locs1 → X p l e R s m args below meth c H1 locs1 (o.2.1 - G0.2.1) (o.2.2 - G0.2.2) Qf (kp o) (F0 m (pc + 3) ls (rest))) : X p l e R s m args below meth c H locs (G.2.1 - G0.2.1) (G.2.2 - G0.2.2) Qf (callK (sL_init ct G q0) kp) (F0 m pc ls (.ref q0 :: rest)) := gy_mx (val' := fun (o : GS) => none) (len := 3) (So := fun (o : GS) => S) (Po := fun (o : GS) => P) (Gn := fun (o : GS) => o) hZ hY hS (fun o ho => rqI (As := []) E hY.1.any (by rw [hY.1.2.1]; exact mYL_init l D ct ck N ad P S w G q0 o ho) ⟨callB_of 0 E.1.2.2.2.2 (lw_meth q167) rfl rfl rfl (E.1.2.2.2.2 _ q117) (E.1.2.2.2.2 _ q265) (by decide +kernel) hR, rfl, E.1.2.2.2.2 _ q166⟩ rfl hsize rfl hW hdg (hY.room hZ)) kk
theorem kzX7_L_init (E : ME p m c cc nL s args RX7 D clW ct) (hZ : YC ct R s A G0) (hY : YW D clW ck ct N ad P A S w G0 G H) (hS : va_S A s.heap H locs) (hR : 3 + 1 ≤ R.frames ∧ 8 + (1 + 11) + 100 ≤ R.locals) (hsize : ls.size = nL) (hW : (rest.map fun v => v.category).sum ≤ 8) (hdg : decode cc pc = .ok (.invokespecial 9, 3)) {kp : GS → Option ρ} (kk : ∀ (o : GS) (H1 : Heap) (locs1 : List Loc), YW D clW ck ct N ad P A S w G0 o H1 → va_S A s.heap H1 locs1 → X p l e R s m args below meth c H1 locs1 (o.2.1 - G0.2.1) (o.2.2 - G0.2.2) Qf (kp o) (F0 m (pc + 3) ls (rest))) : X p l e R s m args below meth c H locs (G.2.1 - G0.2.1) (G.2.2 - G0.2.2) Qf (callK (sL_init ct G q0) kp) (F0 m pc ls (.ref q0 :: rest)) := gy_mx (val' := fun (o : GS) => none) (len := 3) (So := fun (o : GS) => S) (Po := fun (o : GS) => P) (Gn := fun (o : GS) => o) hZ hY hS (fun o ho => rqI (As := []) E hY.1.any (by rw [hY.1.2.1]; exact mYL_init l D ct ck N ad P S w G q0 o ho) ⟨callB_of 0 E.1.2.2.2.2 (lw_meth q167) rfl rfl rfl (E.1.2.2.2.2 _ q117) (E.1.2.2.2.2 _ q1290) (by decide +kernel) hR, rfl, E.1.2.2.2.2 _ q166⟩ rfl hsize rfl hW hdg (hY.room hZ)) kk
theorem kzX2_L_init (E : ME p m c cc nL s args RX2 D clW ct) (hZ : YC ct R s A G0) (hY : YW D clW ck ct N ad P A S w G0 G H) (hS : va_S A s.heap H locs) (hR : 3 + 1 ≤ R.frames ∧ 8 + (1 + 11) + 100 ≤ R.locals) (hsize : ls.size = nL) (hW : (rest.map fun v => v.category).sum ≤ 8) (hdg : decode cc pc = .ok (.invokespecial 11, 3)) {kp : GS → Option ρ} (kk : ∀ (o : GS) (H1 : Heap) (locs1 : List Loc), YW D clW ck ct N ad P A S w G0 o H1 → va_S A s.heap H1 locs1 → X p l e R s m args below meth c H1 locs1 (o.2.1 - G0.2.1) (o.2.2 - G0.2.2) Qf (kp o) (F0 m (pc + 3) ls (rest))) : X p l e R s m args below meth c H locs (G.2.1 - G0.2.1) (G.2.2 - G0.2.2) Qf (callK (sL_init ct G q0) kp) (F0 m pc ls (.ref q0 :: rest)) := gy_mx (val' := fun (o : GS) => none) (len := 3) (So := fun (o : GS) => S) (Po := fun (o : GS) => P) (Gn := fun (o : GS) => o) hZ hY hS (fun o ho => rqI (As := []) E hY.1.any (by rw [hY.1.2.1]; exact mYL_init l D ct ck N ad P S w G q0 o ho) ⟨callB_of 0 E.1.2.2.2.2 (lw_meth q167) rfl rfl rfl (E.1.2.2.2.2 _ q117) (E.1.2.2.2.2 _ q165) (by decide +kernel) hR, rfl, E.1.2.2.2.2 _ q166⟩ rfl hsize rfl hW hdg (hY.room hZ)) kk
end KZ

set_option maxHeartbeats 4000000 in
theorem mYY_copyOf_2 (l : Launch) (D : va_G) (ct : CT) (ck : Nat → UC) (N : Nat) (ad : Nat → Nat) (P : Nat → Nat → Option Nat) (S : US) (w : Int64) (G0 : GS) (p1 : (Option Nat)) (p2 : Int32) (p3 : (Option Nat)) (o : ((Option Nat) × GS)) (ho : sY_copyOf_2 ct G0 p1 p2 p3 = some o) : Met l yJ16_copyOf_2 (ws_ yJ16_copyOf_2 cJ16_copyOf_2 4 (some (.array (.object "java/lang/Object")))) { frames := 1, cells := nmax ct - G0.2.1, slots := zmax ct - G0.2.2, locals := 60 } (mP D clW ct [va_rf p1, .int p2, va_rf p3] G0.2.1 (MW D clW ck ct N ad P (fun _ => True) S w G0)) (yC (some (va_rf o.1)) (MW D clW ck ct N ad P (mA N ad G0) S w o.2) G0 o.2 (mA N ad G0)) (nmax ct - G0.2.1) (zmax ct - G0.2.2) (mA N ad G0) := by
  refine Y.start (val := fun (o : ((Option Nat) × GS)) => some (va_rf o.1)) (Bt := fun (o : ((Option Nat) × GS)) => MW D clW ck ct N ad P (mA N ad G0) S w o.2) (Go := fun (o : ((Option Nat) × GS)) => o.2) ho (by decide) (by rcases p1 with _ | _ <;> rcases p3 with _ | _ <;> exact Nat.le_of_ble_eq_true rfl) (lv := [(0, va_rf p1), (1, .int p2), (2, va_rf p3)]) (by rcases p1 with _ | _ <;> rcases p3 with _ | _ <;> rfl) ?_
  intro p e s m args below meth c E hr hlk hnm hZ hU hS ls hl
  obtain ⟨⟨hx, hb, hml, hown, hts⟩, hK, hJ⟩ := id E
  replace hr : meth.sig.returnType = some (FieldType.array (FieldType.object "java/lang/Object")) ∧ ((∃ n, (FieldType.array (FieldType.object "java/lang/Object")) = .object n) ∨ ∃ t, (FieldType.array (FieldType.object "java/lang/Object")) = .array t) := ⟨hr, Or.inr ⟨_, rfl⟩⟩
  unfold sY_copyOf_2
  refine x_aload_nO hx hb dJ16_copyOf_2_0 rfl (lv_at hl 2 rfl) ?_
  refine gx_ldcM E (hts _ q408) hJ.2.1.1.2 dJ16_copyOf_2_1 ?_
  refine x_acmp_ne (rx := p3) (ry := (some (ct.2.1 6))) (tgt := 13) hx hb dJ16_copyOf_2_3 (by decide) (fun hc => ?_) (fun hc => ?_)
  · refine x_aload_nO hx hb dJ16_copyOf_2_13 rfl (lv_at hl 2 rfl) ?_
    exact X.none
  · refine x_iload_n hx hb dJ16_copyOf_2_6 rfl (lv_at hl 1 rfl) ?_
    refine gy_newq (t := 4) E hZ hU hS (hts _ q410) hJ.2.2.2.2.1 rfl dJ16_copyOf_2_7 (fun q1 G2 H hU hS => ?_)
    refine x_goto (tgt := 24) hx hb dJ16_copyOf_2_10 (by decide) ?_
    refine x_astore_n (lv' := [(3, .ref q1), (0, va_rf p1), (1, .int p2), (2, va_rf p3)]) hx hb dJ16_copyOf_2_24 rfl hl (by decide) (by rcases p3 with _ | _ <;> rfl) (fun ls hl => ?_)
    refine x_aload_nO hx hb dJ16_copyOf_2_25 rfl (lv_at hl 1 rfl) ?_
    refine x_iconst (v := 0) hx hb dJ16_copyOf_2_26 (by decide) ?_
    refine x_aload_n hx hb dJ16_copyOf_2_27 rfl (lv_at hl 0 rfl) ?_
    refine x_iconst (v := 0) hx hb dJ16_copyOf_2_28 (by decide) ?_
    refine x_aload_nO hx hb dJ16_copyOf_2_29 rfl (lv_at hl 1 rfl) ?_
    refine X.onR (fun b3 hb_ => ?_)
    subst hb_
    refine fx_alen E hU.1.1.2.1 (t := 4) rfl dJ16_copyOf_2_30 (fun v4 => ?_)
    refine x_iload_n hx hb dJ16_copyOf_2_31 rfl (lv_at hl 2 rfl) ?_
    refine kJ16_min E ⟨Nat.le_of_ble_eq_true rfl, Nat.le_of_ble_eq_true rfl⟩ hl.1 (Nat.le_of_ble_eq_true rfl) dJ16_copyOf_2_32 (hU.room0 hZ) ?_
    refine gy_copyQ E hU hS (hts _ q414) (hts _ q416) (hts _ q415) (hts _ q136) ⟨Nat.le_of_ble_eq_true rfl, Nat.le_of_ble_eq_true rfl⟩ hl.1 (Nat.le_of_ble_eq_true rfl) dJ16_copyOf_2_35 (fun G5 H locs hU hS => ?_)
    refine x_aload_n hx hb dJ16_copyOf_2_38 rfl (lv_at hl 0 rfl) ?_
    exact y_aret (r := (some q1)) hx hb hr hlk hZ hU hS rfl rfl hU.1 dJ16_copyOf_2_39
section KZ
variable {ρ : Type} {p : Program} {l : Launch} {e : Env} {R : Room} {s : State} {m : MethodId} {args : Array Value} {below : List Frame} {meth : Method} {c : Code} {H : Heap} {locs : List Loc} {Qf : ρ → State → Prop}
variable {cc : ByteArray} {pc nL L M q0 : Nat} {ls : Array Slot} {rest : List Value}
variable {D : va_G} {ct : CT} {ck : Nat → UC} {N : Nat} {ad : Nat → Nat} {P : Nat → Nat → Option Nat} {A : Nat → Prop} {S : US} {w : Int64} {G0 G : GS}
theorem kzJ2_Y_copyOf_2 {p1 : (Option Nat)} {p2 : Int32} {p3 : (Option Nat)} (E : ME p m c cc nL s args RJ2 D clW ct) (hZ : YC ct R s A G0) (hY : YW D clW ck ct N ad P A S w G0 G H) (hS : va_S A s.heap H locs) (hR : 1 + 1 ≤ R.frames ∧ 8 + (4 + 11) + 60 ≤ R.locals) (hsize : ls.size = nL) (hW : (rest.map fun v => v.category).sum ≤ 8) (hdg : decode cc pc = .ok (.invokestatic 57, 3)) {kp : ((Option Nat) × GS) → Option ρ} (kk : ∀ (o : ((Option Nat) × GS)) (H1 : Heap) (locs1 : List Loc), YW D clW ck ct N ad P A S w G0 o.2 H1 → va_S A s.heap H1 locs1 → X p l e R s m args below meth c H1 locs1 (o.2.2.1 - G0.2.1) (o.2.2.2 - G0.2.2) Qf (kp o) (F0 m (pc + 3) ls (va_rf o.1 :: rest))) : X p l e R s m args below meth c H locs (G.2.1 - G0.2.1) (G.2.2 - G0.2.2) Qf (callK (sY_copyOf_2 ct G p1 p2 p3) kp) (F0 m pc ls (va_rf p3 :: .int p2 :: va_rf p1 :: rest)) := gy_mx (val' := fun (o : ((Option Nat) × GS)) => some (va_rf o.1)) (len := 3) (So := fun (o : ((Option Nat) × GS)) => S) (Po := fun (o : ((Option Nat) × GS)) => P) (Gn := fun (o : ((Option Nat) × GS)) => o.2) hZ hY hS (fun o ho => rqS (As := [va_rf p1, .int p2, va_rf p3]) E hY.1.any (by rw [hY.1.2.1]; exact mYY_copyOf_2 l D ct ck N ad P S w G p1 p2 p3 o ho) (va_cwS 3 E.1.2.2.2.2 (lw_S q683 q406 q135 q407) rfl rfl rfl (by decide +kernel) hR) rfl hsize rfl hW hdg (hY.room hZ)) kk
theorem kzJ16_Y_copyOf_2 {p1 : (Option Nat)} {p2 : Int32} {p3 : (Option Nat)} (E : ME p m c cc nL s args RJ16 D clW ct) (hZ : YC ct R s A G0) (hY : YW D clW ck ct N ad P A S w G0 G H) (hS : va_S A s.heap H locs) (hR : 1 + 1 ≤ R.frames ∧ 8 + (4 + 11) + 60 ≤ R.locals) (hsize : ls.size = nL) (hW : (rest.map fun v => v.category).sum ≤ 8) (hdg : decode cc pc = .ok (.invokestatic 300, 3)) {kp : ((Option Nat) × GS) → Option ρ} (kk : ∀ (o : ((Option Nat) × GS)) (H1 : Heap) (locs1 : List Loc), YW D clW ck ct N ad P A S w G0 o.2 H1 → va_S A s.heap H1 locs1 → X p l e R s m args below meth c H1 locs1 (o.2.2.1 - G0.2.1) (o.2.2.2 - G0.2.2) Qf (kp o) (F0 m (pc + 3) ls (va_rf o.1 :: rest))) : X p l e R s m args below meth c H locs (G.2.1 - G0.2.1) (G.2.2 - G0.2.2) Qf (callK (sY_copyOf_2 ct G p1 p2 p3) kp) (F0 m pc ls (va_rf p3 :: .int p2 :: va_rf p1 :: rest)) := gy_mx (val' := fun (o : ((Option Nat) × GS)) => some (va_rf o.1)) (len := 3) (So := fun (o : ((Option Nat) × GS)) => S) (Po := fun (o : ((Option Nat) × GS)) => P) (Gn := fun (o : ((Option Nat) × GS)) => o.2) hZ hY hS (fun o ho => rqS (As := [va_rf p1, .int p2, va_rf p3]) E hY.1.any (by rw [hY.1.2.1]; exact mYY_copyOf_2 l D ct ck N ad P S w G p1 p2 p3 o ho) (va_cwS 3 E.1.2.2.2.2 (lw_S q405 q406 q135 q407) rfl rfl rfl (by decide +kernel) hR) rfl hsize rfl hW hdg (hY.room hZ)) kk
end KZ

set_option maxHeartbeats 4000000 in
theorem mYY_copyOf (l : Launch) (D : va_G) (ct : CT) (ck : Nat → UC) (N : Nat) (ad : Nat → Nat) (P : Nat → Nat → Option Nat) (S : US) (w : Int64) (G0 : GS) (p1 : (Option Nat)) (p2 : Int32) (o : ((Option Nat) × GS)) (ho : sY_copyOf ct G0 p1 p2 = some o) : Met l yJ16_copyOf (ws_ yJ16_copyOf cJ16_copyOf 2 (some (.array (.object "java/lang/Object")))) { frames := 2, cells := nmax ct - G0.2.1, slots := zmax ct - G0.2.2, locals := 83 } (mP D clW ct [va_rf p1, .int p2] G0.2.1 (MW D clW ck ct N ad P (fun _ => True) S w G0)) (yC (some (va_rf o.1)) (MW D clW ck ct N ad P (mA N ad G0) S w o.2) G0 o.2 (mA N ad G0)) (nmax ct - G0.2.1) (zmax ct - G0.2.2) (mA N ad G0) := by
  refine Y.start (val := fun (o : ((Option Nat) × GS)) => some (va_rf o.1)) (Bt := fun (o : ((Option Nat) × GS)) => MW D clW ck ct N ad P (mA N ad G0) S w o.2) (Go := fun (o : ((Option Nat) × GS)) => o.2) ho (by decide) (by rcases p1 with _ | _ <;> exact Nat.le_of_ble_eq_true rfl) (lv := [(0, va_rf p1), (1, .int p2)]) (by rcases p1 with _ | _ <;> rfl) ?_
  intro p e s m args below meth c E hr hlk hnm hZ hU hS ls hl
  obtain ⟨⟨hx, hb, hml, hown, hts⟩, hK, hJ⟩ := id E
  replace hr : meth.sig.returnType = some (FieldType.array (FieldType.object "java/lang/Object")) ∧ ((∃ n, (FieldType.array (FieldType.object "java/lang/Object")) = .object n) ∨ ∃ t, (FieldType.array (FieldType.object "java/lang/Object")) = .array t) := ⟨hr, Or.inr ⟨_, rfl⟩⟩
  unfold sY_copyOf
  refine x_aload_nO hx hb dJ16_copyOf_0 rfl (lv_at hl 0 rfl) ?_
  refine x_iload_n hx hb dJ16_copyOf_1 rfl (lv_at hl 1 rfl) ?_
  refine x_aload_nO hx hb dJ16_copyOf_2 rfl (lv_at hl 0 rfl) ?_
  refine X.onR (fun b1 hb_ => ?_)
  subst hb_
  refine gy_getC (G := G0) E hU.1.1.2.1 (hts _ q384) (hJ.at q678 rfl) (hts _ q2531) (hts _ q385) (hts _ q404) ⟨Nat.le_of_ble_eq_true rfl, Nat.le_of_ble_eq_true rfl⟩ hl.1 (Nat.le_of_ble_eq_true rfl) dJ16_copyOf_3 ?_
  refine kzJ16_Y_copyOf_2 E hZ hU hS ⟨Nat.le_of_ble_eq_true rfl, Nat.le_of_ble_eq_true rfl⟩ hl.1 (Nat.le_of_ble_eq_true rfl) dJ16_copyOf_6 (fun o2 H locs hU hS => ?_)
  exact y_aret (r := o2.1) hx hb hr hlk hZ hU hS rfl rfl hU.1 dJ16_copyOf_9
section KZ
variable {ρ : Type} {p : Program} {l : Launch} {e : Env} {R : Room} {s : State} {m : MethodId} {args : Array Value} {below : List Frame} {meth : Method} {c : Code} {H : Heap} {locs : List Loc} {Qf : ρ → State → Prop}
variable {cc : ByteArray} {pc nL L M q0 : Nat} {ls : Array Slot} {rest : List Value}
variable {D : va_G} {ct : CT} {ck : Nat → UC} {N : Nat} {ad : Nat → Nat} {P : Nat → Nat → Option Nat} {A : Nat → Prop} {S : US} {w : Int64} {G0 G : GS}
theorem kzJ2_Y_copyOf {p1 : (Option Nat)} {p2 : Int32} (E : ME p m c cc nL s args RJ2 D clW ct) (hZ : YC ct R s A G0) (hY : YW D clW ck ct N ad P A S w G0 G H) (hS : va_S A s.heap H locs) (hR : 2 + 1 ≤ R.frames ∧ 8 + (2 + 11) + 83 ≤ R.locals) (hsize : ls.size = nL) (hW : (rest.map fun v => v.category).sum ≤ 8) (hdg : decode cc pc = .ok (.invokestatic 66, 3)) {kp : ((Option Nat) × GS) → Option ρ} (kk : ∀ (o : ((Option Nat) × GS)) (H1 : Heap) (locs1 : List Loc), YW D clW ck ct N ad P A S w G0 o.2 H1 → va_S A s.heap H1 locs1 → X p l e R s m args below meth c H1 locs1 (o.2.2.1 - G0.2.1) (o.2.2.2 - G0.2.2) Qf (kp o) (F0 m (pc + 3) ls (va_rf o.1 :: rest))) : X p l e R s m args below meth c H locs (G.2.1 - G0.2.1) (G.2.2 - G0.2.2) Qf (callK (sY_copyOf ct G p1 p2) kp) (F0 m pc ls (.int p2 :: va_rf p1 :: rest)) := gy_mx (val' := fun (o : ((Option Nat) × GS)) => some (va_rf o.1)) (len := 3) (So := fun (o : ((Option Nat) × GS)) => S) (Po := fun (o : ((Option Nat) × GS)) => P) (Gn := fun (o : ((Option Nat) × GS)) => o.2) hZ hY hS (fun o ho => rqS (As := [va_rf p1, .int p2]) E hY.1.any (by rw [hY.1.2.1]; exact mYY_copyOf l D ct ck N ad P S w G p1 p2 o ho) (va_cwS 2 E.1.2.2.2.2 (lw_S q381 q382 q135 q383) rfl rfl rfl (by decide +kernel) hR) rfl hsize rfl hW hdg (hY.room hZ)) kk
end KZ

set_option maxHeartbeats 4000000 in
theorem mYL_grow_2 (l : Launch) (D : va_G) (ct : CT) (ck : Nat → UC) (N : Nat) (ad : Nat → Nat) (P : Nat → Nat → Option Nat) (S : US) (w : Int64) (G0 : GS) (q0 : Nat) (p1 : Int32) (o : ((Option Nat) × GS)) (ho : sL_grow_2 ct G0 q0 p1 = some o) : Met l yJ2_grow_2 (ws_ yJ2_grow_2 cJ2_grow_2 4 (some (.array (.object "java/lang/Object")))) { frames := 3, cells := nmax ct - G0.2.1, slots := zmax ct - G0.2.2, locals := 104 } (mP D clW ct [.ref q0, .int p1] G0.2.1 (MW D clW ck ct N ad P (fun _ => True) S w G0)) (yC (some (va_rf o.1)) (MW D clW ck ct N ad P (mA N ad G0) S w o.2) G0 o.2 (mA N ad G0)) (nmax ct - G0.2.1) (zmax ct - G0.2.2) (mA N ad G0) := by
  refine Y.start (val := fun (o : ((Option Nat) × GS)) => some (va_rf o.1)) (Bt := fun (o : ((Option Nat) × GS)) => MW D clW ck ct N ad P (mA N ad G0) S w o.2) (Go := fun (o : ((Option Nat) × GS)) => o.2) ho (by decide) (Nat.le_of_ble_eq_true rfl) (lv := [(0, .ref q0), (1, .int p1)]) rfl ?_
  intro p e s m args below meth c E hr hlk hnm hZ hU hS ls hl
  obtain ⟨⟨hx, hb, hml, hown, hts⟩, hK, hJ⟩ := id E
  replace hr : meth.sig.returnType = some (FieldType.array (FieldType.object "java/lang/Object")) ∧ ((∃ n, (FieldType.array (FieldType.object "java/lang/Object")) = .object n) ∨ ∃ t, (FieldType.array (FieldType.object "java/lang/Object")) = .array t) := ⟨hr, Or.inr ⟨_, rfl⟩⟩
  unfold sL_grow_2
  refine x_aload_n hx hb dJ2_grow_2_0 rfl (lv_at hl 0 rfl) ?_
  refine fx_getR E hU.1.1.2.1 (ci := 10) rfl in_J2 1 (by decide) (hts _ q177) (fun _ h => h) dJ2_grow_2_1 (fun r1 => ?_)
  refine X.onR (fun b2 hb_ => ?_)
  subst hb_
  refine fx_alen E hU.1.1.2.1 (t := 4) rfl dJ2_grow_2_4 (fun v3 => ?_)
  refine x_istore_n (lv' := [(2, .int v3), (0, .ref q0), (1, .int p1)]) hx hb dJ2_grow_2_5 rfl hl (by decide) rfl (fun ls hl => ?_)
  refine x_iload_n hx hb dJ2_grow_2_6 rfl (lv_at hl 0 rfl) ?_
  refine X.join2Y (fun (x : Unit) g H locs => YW D clW ck ct N ad P (mA N ad G0) S w G0 G0 H ∧ va_S (mA N ad G0) s.heap H locs ∧ ∃ ls : Array Slot, g = F0 m 20 ls [] ∧ lv_has ls 4 [(0, .ref q0), (1, .int p1), (2, .int v3)]) (fun (x : Unit) => G0.2.1 - G0.2.1) (fun (x : Unit) => G0.2.2 - G0.2.2) ?_ (fun j4 hj4 => ?_)
  · rintro _ _ H locs ⟨hU, hS, ls, rfl, hl⟩
    refine X.cs (cells2 := G0.2.1 - G0.2.1) (slots2 := G0.2.2 - G0.2.2) rfl rfl ?_
    refine X.eqs (sp2 := sL_grow_2_J20 q0 p1 G0 ct v3) rfl ?_
    unfold sL_grow_2_J20
    refine x_iload_n hx hb dJ2_grow_2_20 rfl (lv_at hl 2 rfl) ?_
    refine x_iload_n hx hb dJ2_grow_2_21 rfl (lv_at hl 1 rfl) ?_
    refine x_iload_n hx hb dJ2_grow_2_22 rfl (lv_at hl 2 rfl) ?_
    refine x_isub hx hb dJ2_grow_2_23 ?_
    refine x_iload_n hx hb dJ2_grow_2_24 rfl (lv_at hl 2 rfl) ?_
    refine x_iconst (v := 1) hx hb dJ2_grow_2_25 (by decide) ?_
    refine x_ishr hx hb dJ2_grow_2_26 ?_
    refine kzJ2_V_newLength E hZ hU hS ⟨Nat.le_of_ble_eq_true rfl, Nat.le_of_ble_eq_true rfl⟩ hl.1 (Nat.le_of_ble_eq_true rfl) dJ2_grow_2_27 (fun o9 H locs hU hS => ?_)
    refine x_istore_n (lv' := [(3, .int o9), (0, .ref q0), (1, .int p1), (2, .int v3)]) hx hb dJ2_grow_2_30 rfl hl (by decide) rfl (fun ls hl => ?_)
    refine x_aload_n hx hb dJ2_grow_2_31 rfl (lv_at hl 1 rfl) ?_
    refine x_aload_n hx hb dJ2_grow_2_32 rfl (lv_at hl 1 rfl) ?_
    refine fx_getR E hU.1.1.2.1 (ci := 10) rfl in_J2 1 (by decide) (hts _ q177) (fun _ h => h) dJ2_grow_2_33 (fun r10 => ?_)
    refine x_iload_n hx hb dJ2_grow_2_36 rfl (lv_at hl 0 rfl) ?_
    refine kzJ2_Y_copyOf E hZ hU hS ⟨Nat.le_of_ble_eq_true rfl, Nat.le_of_ble_eq_true rfl⟩ hl.1 (Nat.le_of_ble_eq_true rfl) dJ2_grow_2_37 (fun o11 H locs hU hS => ?_)
    refine x_dup_x1 hx hb dJ2_grow_2_40 (by rcases o11.1 with _ | _ <;> rfl) rfl ?_
    refine gy_put (v := va_rf o11.1) (ty0 := tyJ2) E hU hS (ci := 10) rfl in_J2 tyJ2_ok nmJ2 1 (by decide) (hts _ q177) (fun _ h => h) (Or.inl rfl) (by cases o11.1 <;> rfl) (by cases o11.1 <;> rfl) dJ2_grow_2_41 (fun G12 H locs hU hS => ?_)
    exact y_aret (r := o11.1) hx hb hr hlk hZ hU hS rfl rfl hU.1 dJ2_grow_2_44
  · refine x_if_gt (tgt := 20) hx hb dJ2_grow_2_7 (by decide) (fun hc => ?_) (fun hc => ?_)
    · exact hj4 () _ _ _ ⟨hU, hS, _, rfl, lv_sub hl [1, 2, 0] rfl⟩
    · refine x_aload_n hx hb dJ2_grow_2_10 rfl (lv_at hl 1 rfl) ?_
      refine fx_getR E hU.1.1.2.1 (ci := 10) rfl in_J2 1 (by decide) (hts _ q177) (fun _ h => h) dJ2_grow_2_11 (fun r5 => ?_)
      refine gx_gets E hU.1.1 (List.mem_of_getElem? (i := 1) rfl) (hts _ q175) (fun _ h => h) dJ2_grow_2_14 ?_
      refine x_acmp_eq (rx := r5) (ry := (some (ct.2.1 0))) (tgt := 45) hx hb dJ2_grow_2_17 (by decide) (fun hc => ?_) (fun hc => ?_)
      · refine x_aload_n hx hb dJ2_grow_2_45 rfl (lv_at hl 1 rfl) ?_
        refine x_bipush (v := 10) hx hb dJ2_grow_2_46 (by decide) ?_
        refine x_iload_n hx hb dJ2_grow_2_48 rfl (lv_at hl 2 rfl) ?_
        refine kJ2_max E ⟨Nat.le_of_ble_eq_true rfl, Nat.le_of_ble_eq_true rfl⟩ hl.1 (Nat.le_of_ble_eq_true rfl) dJ2_grow_2_49 (hU.room0 hZ) ?_
        refine gy_newq (t := 4) E hZ hU hS (hts _ q418) hJ.2.2.2.2.1 rfl dJ2_grow_2_52 (fun q6 G7 H hU hS => ?_)
        refine x_dup_x1 hx hb dJ2_grow_2_55 rfl rfl ?_
        refine gy_put (v := .ref q6) (ty0 := tyJ2) E hU hS (ci := 10) rfl in_J2 tyJ2_ok nmJ2 1 (by decide) (hts _ q177) (fun _ h => h) (Or.inl rfl) rfl rfl dJ2_grow_2_56 (fun G8 H locs hU hS => ?_)
        exact y_aret (r := (some q6)) hx hb hr hlk hZ hU hS rfl rfl hU.1 dJ2_grow_2_59
      · exact hj4 () _ _ _ ⟨hU, hS, _, rfl, lv_sub hl [1, 2, 0] rfl⟩
section KZ
variable {ρ : Type} {p : Program} {l : Launch} {e : Env} {R : Room} {s : State} {m : MethodId} {args : Array Value} {below : List Frame} {meth : Method} {c : Code} {H : Heap} {locs : List Loc} {Qf : ρ → State → Prop}
variable {cc : ByteArray} {pc nL L M q0 : Nat} {ls : Array Slot} {rest : List Value}
variable {D : va_G} {ct : CT} {ck : Nat → UC} {N : Nat} {ad : Nat → Nat} {P : Nat → Nat → Option Nat} {A : Nat → Prop} {S : US} {w : Int64} {G0 G : GS}
theorem kzJ2_L_grow_2 {p1 : Int32} (E : ME p m c cc nL s args RJ2 D clW ct) (hZ : YC ct R s A G0) (hY : YW D clW ck ct N ad P A S w G0 G H) (hS : va_S A s.heap H locs) (hR : 3 + 1 ≤ R.frames ∧ 8 + (4 + 11) + 104 ≤ R.locals) (hsize : ls.size = nL) (hW : (rest.map fun v => v.category).sum ≤ 8) (hdg : decode cc pc = .ok (.invokevirtual 69, 3)) {kp : ((Option Nat) × GS) → Option ρ} (kk : ∀ (o : ((Option Nat) × GS)) (H1 : Heap) (locs1 : List Loc), YW D clW ck ct N ad P A S w G0 o.2 H1 → va_S A s.heap H1 locs1 → X p l e R s m args below meth c H1 locs1 (o.2.2.1 - G0.2.1) (o.2.2.2 - G0.2.2) Qf (kp o) (F0 m (pc + 3) ls (va_rf o.1 :: rest))) : X p l e R s m args below meth c H locs (G.2.1 - G0.2.1) (G.2.2 - G0.2.2) Qf (hC G.1 q0 10 (callK (sL_grow_2 ct G q0 p1) kp)) (F0 m pc ls (.int p1 :: .ref q0 :: rest)) := X.hC fun fs bw hq => gy_mx (val' := fun (o : ((Option Nat) × GS)) => some (va_rf o.1)) (len := 3) (So := fun (o : ((Option Nat) × GS)) => S) (Po := fun (o : ((Option Nat) × GS)) => P) (Gn := fun (o : ((Option Nat) × GS)) => o.2) hZ hY hS (fun o ho => rqV (As := [.int p1]) E hY.1.any (recvA E.2.1 hY.1.1.2.1 hq rfl) (by rw [hY.1.2.1]; exact mYL_grow_2 l D ct ck N ad P S w G q0 p1 o ho) (cwV 1 E.1.2.2.2.2 (lw_V q367 q369 qs4 q117 q370) rfl rfl rfl (by decide +kernel) hR) rfl hsize rfl hW hdg (hY.room hZ)) kk
end KZ

set_option maxHeartbeats 4000000 in
theorem mYL_grow (l : Launch) (D : va_G) (ct : CT) (ck : Nat → UC) (N : Nat) (ad : Nat → Nat) (P : Nat → Nat → Option Nat) (S : US) (w : Int64) (G0 : GS) (q0 : Nat) (o : ((Option Nat) × GS)) (ho : sL_grow ct G0 q0 = some o) : Met l yJ2_grow (ws_ yJ2_grow cJ2_grow 1 (some (.array (.object "java/lang/Object")))) { frames := 4, cells := nmax ct - G0.2.1, slots := zmax ct - G0.2.2, locals := 127 } (mP D clW ct [.ref q0] G0.2.1 (MW D clW ck ct N ad P (fun _ => True) S w G0)) (yC (some (va_rf o.1)) (MW D clW ck ct N ad P (mA N ad G0) S w o.2) G0 o.2 (mA N ad G0)) (nmax ct - G0.2.1) (zmax ct - G0.2.2) (mA N ad G0) := by
  refine Y.start (val := fun (o : ((Option Nat) × GS)) => some (va_rf o.1)) (Bt := fun (o : ((Option Nat) × GS)) => MW D clW ck ct N ad P (mA N ad G0) S w o.2) (Go := fun (o : ((Option Nat) × GS)) => o.2) ho (by decide) (Nat.le_of_ble_eq_true rfl) (lv := [(0, .ref q0)]) rfl ?_
  intro p e s m args below meth c E hr hlk hnm hZ hU hS ls hl
  obtain ⟨⟨hx, hb, hml, hown, hts⟩, hK, hJ⟩ := id E
  replace hr : meth.sig.returnType = some (FieldType.array (FieldType.object "java/lang/Object")) ∧ ((∃ n, (FieldType.array (FieldType.object "java/lang/Object")) = .object n) ∨ ∃ t, (FieldType.array (FieldType.object "java/lang/Object")) = .array t) := ⟨hr, Or.inr ⟨_, rfl⟩⟩
  unfold sL_grow
  refine x_aload_n hx hb dJ2_grow_0 rfl (lv_at hl 0 rfl) ?_
  refine x_aload_n hx hb dJ2_grow_1 rfl (lv_at hl 0 rfl) ?_
  refine fx_getI E hU.1.1.2.1 (ci := 10) rfl in_J2 2 (by decide) (hts _ q178) (fun _ h => h) dJ2_grow_2 (fun v1 => ?_)
  refine x_iconst (v := 1) hx hb dJ2_grow_5 (by decide) ?_
  refine x_iadd hx hb dJ2_grow_6 ?_
  refine kzJ2_L_grow_2 E hZ hU hS ⟨Nat.le_of_ble_eq_true rfl, Nat.le_of_ble_eq_true rfl⟩ hl.1 (Nat.le_of_ble_eq_true rfl) dJ2_grow_7 (fun o2 H locs hU hS => ?_)
  exact y_aret (r := o2.1) hx hb hr hlk hZ hU hS rfl rfl hU.1 dJ2_grow_10
section KZ
variable {ρ : Type} {p : Program} {l : Launch} {e : Env} {R : Room} {s : State} {m : MethodId} {args : Array Value} {below : List Frame} {meth : Method} {c : Code} {H : Heap} {locs : List Loc} {Qf : ρ → State → Prop}
variable {cc : ByteArray} {pc nL L M q0 : Nat} {ls : Array Slot} {rest : List Value}
variable {D : va_G} {ct : CT} {ck : Nat → UC} {N : Nat} {ad : Nat → Nat} {P : Nat → Nat → Option Nat} {A : Nat → Prop} {S : US} {w : Int64} {G0 G : GS}
theorem kzJ2_L_grow (E : ME p m c cc nL s args RJ2 D clW ct) (hZ : YC ct R s A G0) (hY : YW D clW ck ct N ad P A S w G0 G H) (hS : va_S A s.heap H locs) (hR : 4 + 1 ≤ R.frames ∧ 8 + (1 + 11) + 127 ≤ R.locals) (hsize : ls.size = nL) (hW : (rest.map fun v => v.category).sum ≤ 8) (hdg : decode cc pc = .ok (.invokevirtual 129, 3)) {kp : ((Option Nat) × GS) → Option ρ} (kk : ∀ (o : ((Option Nat) × GS)) (H1 : Heap) (locs1 : List Loc), YW D clW ck ct N ad P A S w G0 o.2 H1 → va_S A s.heap H1 locs1 → X p l e R s m args below meth c H1 locs1 (o.2.2.1 - G0.2.1) (o.2.2.2 - G0.2.2) Qf (kp o) (F0 m (pc + 3) ls (va_rf o.1 :: rest))) : X p l e R s m args below meth c H locs (G.2.1 - G0.2.1) (G.2.2 - G0.2.2) Qf (hC G.1 q0 10 (callK (sL_grow ct G q0) kp)) (F0 m pc ls (.ref q0 :: rest)) := X.hC fun fs bw hq => gy_mx (val' := fun (o : ((Option Nat) × GS)) => some (va_rf o.1)) (len := 3) (So := fun (o : ((Option Nat) × GS)) => S) (Po := fun (o : ((Option Nat) × GS)) => P) (Gn := fun (o : ((Option Nat) × GS)) => o.2) hZ hY hS (fun o ho => rqV (As := []) E hY.1.any (recvA E.2.1 hY.1.1.2.1 hq rfl) (by rw [hY.1.2.1]; exact mYL_grow l D ct ck N ad P S w G q0 o ho) (cwV 0 E.1.2.2.2.2 (lw_V q363 q365 qs3 q117 q366) rfl rfl rfl (by decide +kernel) hR) rfl hsize rfl hW hdg (hY.room hZ)) kk
end KZ

set_option maxHeartbeats 4000000 in
theorem mYL_add_2 (l : Launch) (D : va_G) (ct : CT) (ck : Nat → UC) (N : Nat) (ad : Nat → Nat) (P : Nat → Nat → Option Nat) (S : US) (w : Int64) (G0 : GS) (q0 : Nat) (p1 : (Option Nat)) (p2 : (Option Nat)) (p3 : Int32) (o : GS) (ho : sL_add_2 ct G0 q0 p1 p2 p3 = some o) : Met l yJ2_add_2 (ws_ yJ2_add_2 cJ2_add_2 4 none) { frames := 5, cells := nmax ct - G0.2.1, slots := zmax ct - G0.2.2, locals := 147 } (mP D clW ct [.ref q0, va_rf p1, va_rf p2, .int p3] G0.2.1 (MW D clW ck ct N ad P (fun _ => True) S w G0)) (yC (none) (MW D clW ck ct N ad P (mA N ad G0) S w o) G0 o (mA N ad G0)) (nmax ct - G0.2.1) (zmax ct - G0.2.2) (mA N ad G0) := by
  refine Y.start (val := fun (o : GS) => none) (Bt := fun (o : GS) => MW D clW ck ct N ad P (mA N ad G0) S w o) (Go := fun (o : GS) => o) ho (by decide) (by rcases p1 with _ | _ <;> rcases p2 with _ | _ <;> exact Nat.le_of_ble_eq_true rfl) (lv := [(0, .ref q0), (1, va_rf p1), (2, va_rf p2), (3, .int p3)]) (by rcases p1 with _ | _ <;> rcases p2 with _ | _ <;> rfl) ?_
  intro p e s m args below meth c E hr hlk hnm hZ hU hS ls hl
  obtain ⟨⟨hx, hb, hml, hown, hts⟩, hK, hJ⟩ := id E
  unfold sL_add_2
  refine x_iload_n hx hb dJ2_add_2_0 rfl (lv_at hl 3 rfl) ?_
  refine x_aload_nO hx hb dJ2_add_2_1 rfl (lv_at hl 2 rfl) ?_
  refine X.onR (fun b1 hb_ => ?_)
  subst hb_
  refine fx_alen E hU.1.1.2.1 (t := 4) rfl dJ2_add_2_2 (fun v2 => ?_)
  refine x_icmp_ne (tgt := 11) hx hb dJ2_add_2_3 (by decide) (fun hc => ?_) (fun hc => ?_)
  · refine x_aload_n hx hb dJ2_add_2_11 rfl (lv_at hl 2 rfl) ?_
    refine x_iload_n hx hb dJ2_add_2_12 rfl (lv_at hl 3 rfl) ?_
    refine x_aload_nO hx hb dJ2_add_2_13 rfl (lv_at hl 1 rfl) ?_
    refine gy_aast (r := p1) E hU hS dJ2_add_2_14 (fun G3 H locs hU hS => ?_)
    refine x_aload_n hx hb dJ2_add_2_15 rfl (lv_at hl 0 rfl) ?_
    refine x_iload_n hx hb dJ2_add_2_16 rfl (lv_at hl 3 rfl) ?_
    refine x_iconst (v := 1) hx hb dJ2_add_2_17 (by decide) ?_
    refine x_iadd hx hb dJ2_add_2_18 ?_
    refine gy_put (v := .int (p3 + (1 : Int32))) (ty0 := tyJ2) E hU hS (ci := 10) rfl in_J2 tyJ2_ok nmJ2 2 (by decide) (hts _ q178) (fun _ h => h) (Or.inl rfl) rfl rfl dJ2_add_2_19 (fun G4 H locs hU hS => ?_)
    exact y_vret hx hb hr hlk hZ hU hS rfl rfl hU.1 dJ2_add_2_22
  · refine x_aload_n hx hb dJ2_add_2_6 rfl (lv_at hl 0 rfl) ?_
    refine kzJ2_L_grow E hZ hU hS ⟨Nat.le_of_ble_eq_true rfl, Nat.le_of_ble_eq_true rfl⟩ hl.1 (Nat.le_of_ble_eq_true rfl) dJ2_add_2_7 (fun o5 H locs hU hS => ?_)
    refine X.onR (fun b6 hb_ => ?_)
    rw [hb_]
    try rw [hb_] at hl
    refine x_astore_n (lv' := [(2, .ref b6), (0, .ref q0), (1, va_rf p1), (3, .int p3)]) hx hb dJ2_add_2_10 rfl hl (by decide) (by rcases p1 with _ | _ <;> rfl) (fun ls hl => ?_)
    refine x_aload_n hx hb dJ2_add_2_11 rfl (lv_at hl 0 rfl) ?_
    refine x_iload_n hx hb dJ2_add_2_12 rfl (lv_at hl 3 rfl) ?_
    refine x_aload_nO hx hb dJ2_add_2_13 rfl (lv_at hl 2 rfl) ?_
    refine gy_aast (r := p1) E hU hS dJ2_add_2_14 (fun G7 H locs hU hS => ?_)
    refine x_aload_n hx hb dJ2_add_2_15 rfl (lv_at hl 1 rfl) ?_
    refine x_iload_n hx hb dJ2_add_2_16 rfl (lv_at hl 3 rfl) ?_
    refine x_iconst (v := 1) hx hb dJ2_add_2_17 (by decide) ?_
    refine x_iadd hx hb dJ2_add_2_18 ?_
    refine gy_put (v := .int (p3 + (1 : Int32))) (ty0 := tyJ2) E hU hS (ci := 10) rfl in_J2 tyJ2_ok nmJ2 2 (by decide) (hts _ q178) (fun _ h => h) (Or.inl rfl) rfl rfl dJ2_add_2_19 (fun G8 H locs hU hS => ?_)
    exact y_vret hx hb hr hlk hZ hU hS rfl rfl hU.1 dJ2_add_2_22
section KZ
variable {ρ : Type} {p : Program} {l : Launch} {e : Env} {R : Room} {s : State} {m : MethodId} {args : Array Value} {below : List Frame} {meth : Method} {c : Code} {H : Heap} {locs : List Loc} {Qf : ρ → State → Prop}
variable {cc : ByteArray} {pc nL L M q0 : Nat} {ls : Array Slot} {rest : List Value}
variable {D : va_G} {ct : CT} {ck : Nat → UC} {N : Nat} {ad : Nat → Nat} {P : Nat → Nat → Option Nat} {A : Nat → Prop} {S : US} {w : Int64} {G0 G : GS}
theorem kzJ2_L_add_2 {p1 : (Option Nat)} {p2 : (Option Nat)} {p3 : Int32} (E : ME p m c cc nL s args RJ2 D clW ct) (hZ : YC ct R s A G0) (hY : YW D clW ck ct N ad P A S w G0 G H) (hS : va_S A s.heap H locs) (hR : 5 + 1 ≤ R.frames ∧ 8 + (4 + 11) + 147 ≤ R.locals) (hsize : ls.size = nL) (hW : (rest.map fun v => v.category).sum ≤ 8) (hdg : decode cc pc = .ok (.invokevirtual 131, 3)) {kp : GS → Option ρ} (kk : ∀ (o : GS) (H1 : Heap) (locs1 : List Loc), YW D clW ck ct N ad P A S w G0 o H1 → va_S A s.heap H1 locs1 → X p l e R s m args below meth c H1 locs1 (o.2.1 - G0.2.1) (o.2.2 - G0.2.2) Qf (kp o) (F0 m (pc + 3) ls (rest))) : X p l e R s m args below meth c H locs (G.2.1 - G0.2.1) (G.2.2 - G0.2.2) Qf (hC G.1 q0 10 (callK (sL_add_2 ct G q0 p1 p2 p3) kp)) (F0 m pc ls (.int p3 :: va_rf p2 :: va_rf p1 :: .ref q0 :: rest)) := X.hC fun fs bw hq => gy_mx (val' := fun (o : GS) => none) (len := 3) (So := fun (o : GS) => S) (Po := fun (o : GS) => P) (Gn := fun (o : GS) => o) hZ hY hS (fun o ho => rqV (As := [va_rf p1, va_rf p2, .int p3]) E hY.1.any (recvA E.2.1 hY.1.1.2.1 hq rfl) (by rw [hY.1.2.1]; exact mYL_add_2 l D ct ck N ad P S w G q0 p1 p2 p3 o ho) (cwV 3 E.1.2.2.2.2 (lw_V q359 q361 qs2 q117 q362) rfl rfl rfl (by decide +kernel) hR) rfl hsize rfl hW hdg (hY.room hZ)) kk
end KZ

set_option maxHeartbeats 4000000 in
theorem mYL_add (l : Launch) (D : va_G) (ct : CT) (ck : Nat → UC) (N : Nat) (ad : Nat → Nat) (P : Nat → Nat → Option Nat) (S : US) (w : Int64) (G0 : GS) (q0 : Nat) (p1 : (Option Nat)) (o : (Bool × GS)) (ho : sL_add ct G0 q0 p1 = some o) : Met l yJ2_add (ws_ yJ2_add cJ2_add 2 (some .boolean)) { frames := 6, cells := nmax ct - G0.2.1, slots := zmax ct - G0.2.2, locals := 170 } (mP D clW ct [.ref q0, va_rf p1] G0.2.1 (MW D clW ck ct N ad P (fun _ => True) S w G0)) (yC (some (.int (bI o.1))) (MW D clW ck ct N ad P (mA N ad G0) S w o.2) G0 o.2 (mA N ad G0)) (nmax ct - G0.2.1) (zmax ct - G0.2.2) (mA N ad G0) := by
  refine Y.start (val := fun (o : (Bool × GS)) => some (.int (bI o.1))) (Bt := fun (o : (Bool × GS)) => MW D clW ck ct N ad P (mA N ad G0) S w o.2) (Go := fun (o : (Bool × GS)) => o.2) ho (by decide) (by rcases p1 with _ | _ <;> exact Nat.le_of_ble_eq_true rfl) (lv := [(0, .ref q0), (1, va_rf p1)]) (by rcases p1 with _ | _ <;> rfl) ?_
  intro p e s m args below meth c E hr hlk hnm hZ hU hS ls hl
  obtain ⟨⟨hx, hb, hml, hown, hts⟩, hK, hJ⟩ := id E
  unfold sL_add
  refine x_aload_n hx hb dJ2_add_0 rfl (lv_at hl 0 rfl) ?_
  refine x_dup hx hb dJ2_add_1 rfl ?_
  refine fx_getI E hU.1.1.2.1 (ci := 10) rfl in_J2 0 (by decide) (hts _ q180) (u_same (hts _ q181)) dJ2_add_2 (fun v1 => ?_)
  refine x_iconst (v := 1) hx hb dJ2_add_5 (by decide) ?_
  refine x_iadd hx hb dJ2_add_6 ?_
  refine gy_put (v := .int (v1 + (1 : Int32))) (ty0 := tyJ2) E hU hS (ci := 10) rfl in_J2 tyJ2_ok nmJ2 0 (by decide) (hts _ q180) (u_same (hts _ q181)) (Or.inl rfl) rfl rfl dJ2_add_7 (fun G2 H locs hU hS => ?_)
  refine x_aload_n hx hb dJ2_add_10 rfl (lv_at hl 0 rfl) ?_
  refine x_aload_nO hx hb dJ2_add_11 rfl (lv_at hl 1 rfl) ?_
  refine x_aload_n hx hb dJ2_add_12 rfl (lv_at hl 0 rfl) ?_
  refine fx_getR E hU.1.1.2.1 (ci := 10) rfl in_J2 1 (by decide) (hts _ q177) (fun _ h => h) dJ2_add_13 (fun r3 => ?_)
  refine x_aload_n hx hb dJ2_add_16 rfl (lv_at hl 0 rfl) ?_
  refine fx_getI E hU.1.1.2.1 (ci := 10) rfl in_J2 2 (by decide) (hts _ q178) (fun _ h => h) dJ2_add_17 (fun v4 => ?_)
  refine kzJ2_L_add_2 E hZ hU hS ⟨Nat.le_of_ble_eq_true rfl, Nat.le_of_ble_eq_true rfl⟩ hl.1 (Nat.le_of_ble_eq_true rfl) dJ2_add_20 (fun o5 H locs hU hS => ?_)
  refine x_iconst (v := 1) hx hb dJ2_add_23 (by decide) ?_
  exact y_zret hx hb hr hlk hZ hU hS rfl rfl rfl hU.1 dJ2_add_24
section KZ
variable {ρ : Type} {p : Program} {l : Launch} {e : Env} {R : Room} {s : State} {m : MethodId} {args : Array Value} {below : List Frame} {meth : Method} {c : Code} {H : Heap} {locs : List Loc} {Qf : ρ → State → Prop}
variable {cc : ByteArray} {pc nL L M q0 : Nat} {ls : Array Slot} {rest : List Value}
variable {D : va_G} {ct : CT} {ck : Nat → UC} {N : Nat} {ad : Nat → Nat} {P : Nat → Nat → Option Nat} {A : Nat → Prop} {S : US} {w : Int64} {G0 G : GS}
theorem kzX1_L_add {p1 : (Option Nat)} (E : ME p m c cc nL s args RX1 D clW ct) (hZ : YC ct R s A G0) (hY : YW D clW ck ct N ad P A S w G0 G H) (hS : va_S A s.heap H locs) (hR : 6 + 1 ≤ R.frames ∧ 8 + (2 + 11) + 170 ≤ R.locals) (hsize : ls.size = nL) (hW : (rest.map fun v => v.category).sum ≤ 8) (hdg : decode cc pc = .ok (.invokeinterface 193 2, 5)) {kp : (Bool × GS) → Option ρ} (kk : ∀ (o : (Bool × GS)) (H1 : Heap) (locs1 : List Loc), YW D clW ck ct N ad P A S w G0 o.2 H1 → va_S A s.heap H1 locs1 → X p l e R s m args below meth c H1 locs1 (o.2.2.1 - G0.2.1) (o.2.2.2 - G0.2.2) Qf (kp o) (F0 m (pc + 5) ls (.int (bI o.1) :: rest))) : X p l e R s m args below meth c H locs (G.2.1 - G0.2.1) (G.2.2 - G0.2.2) Qf (hC G.1 q0 10 (callK (sL_add ct G q0 p1) kp)) (F0 m pc ls (va_rf p1 :: .ref q0 :: rest)) := X.hC fun fs bw hq => gy_mx (val' := fun (o : (Bool × GS)) => some (.int (bI o.1))) (len := 5) (So := fun (o : (Bool × GS)) => S) (Po := fun (o : (Bool × GS)) => P) (Gn := fun (o : (Bool × GS)) => o.2) hZ hY hS (fun o ho => rqF (As := [va_rf p1]) E hY.1.any (E.2.1.1 10 _ rfl).2 (recvA E.2.1 hY.1.1.2.1 hq rfl) (by rw [hY.1.2.1]; exact mYL_add l D ct ck N ad P S w G q0 p1 o ho) (va_cwF 1 E.1.2.2.2.2 (lw_F q350 q354 q356 q117 q358) rfl rfl rfl (E.2.2.2.2.2.1 ("java/util/ArrayList", ⟨"java/util/List", "add", "(Ljava/lang/Object;)Z"⟩, ⟨"java/util/ArrayList", "add", "(Ljava/lang/Object;)Z"⟩) (List.mem_of_getElem? (i := 0) rfl)) (by decide +kernel) hR) rfl hsize rfl hW hdg (hY.room hZ)) kk
theorem kzX7_L_add {p1 : (Option Nat)} (E : ME p m c cc nL s args RX7 D clW ct) (hZ : YC ct R s A G0) (hY : YW D clW ck ct N ad P A S w G0 G H) (hS : va_S A s.heap H locs) (hR : 6 + 1 ≤ R.frames ∧ 8 + (2 + 11) + 170 ≤ R.locals) (hsize : ls.size = nL) (hW : (rest.map fun v => v.category).sum ≤ 8) (hdg : decode cc pc = .ok (.invokeinterface 23 2, 5)) {kp : (Bool × GS) → Option ρ} (kk : ∀ (o : (Bool × GS)) (H1 : Heap) (locs1 : List Loc), YW D clW ck ct N ad P A S w G0 o.2 H1 → va_S A s.heap H1 locs1 → X p l e R s m args below meth c H1 locs1 (o.2.2.1 - G0.2.1) (o.2.2.2 - G0.2.2) Qf (kp o) (F0 m (pc + 5) ls (.int (bI o.1) :: rest))) : X p l e R s m args below meth c H locs (G.2.1 - G0.2.1) (G.2.2 - G0.2.2) Qf (hC G.1 q0 10 (callK (sL_add ct G q0 p1) kp)) (F0 m pc ls (va_rf p1 :: .ref q0 :: rest)) := X.hC fun fs bw hq => gy_mx (val' := fun (o : (Bool × GS)) => some (.int (bI o.1))) (len := 5) (So := fun (o : (Bool × GS)) => S) (Po := fun (o : (Bool × GS)) => P) (Gn := fun (o : (Bool × GS)) => o.2) hZ hY hS (fun o ho => rqF (As := [va_rf p1]) E hY.1.any (E.2.1.1 10 _ rfl).2 (recvA E.2.1 hY.1.1.2.1 hq rfl) (by rw [hY.1.2.1]; exact mYL_add l D ct ck N ad P S w G q0 p1 o ho) (va_cwF 1 E.1.2.2.2.2 (lw_F q1294 q354 q356 q117 q358) rfl rfl rfl (E.2.2.2.2.2.1 ("java/util/ArrayList", ⟨"java/util/List", "add", "(Ljava/lang/Object;)Z"⟩, ⟨"java/util/ArrayList", "add", "(Ljava/lang/Object;)Z"⟩) (List.mem_of_getElem? (i := 0) rfl)) (by decide +kernel) hR) rfl hsize rfl hW hdg (hY.room hZ)) kk
end KZ

set_option maxHeartbeats 4000000 in
theorem mYL_fastRemove (l : Launch) (D : va_G) (ct : CT) (ck : Nat → UC) (N : Nat) (ad : Nat → Nat) (P : Nat → Nat → Option Nat) (S : US) (w : Int64) (G0 : GS) (q0 : Nat) (p1 : (Option Nat)) (p2 : Int32) (o : GS) (ho : sL_fastRemove ct G0 q0 p1 p2 = some o) : Met l yJ2_fastRemove (ws_ yJ2_fastRemove cJ2_fastRemove 4 none) { frames := 1, cells := nmax ct - G0.2.1, slots := zmax ct - G0.2.2, locals := 60 } (mP D clW ct [.ref q0, va_rf p1, .int p2] G0.2.1 (MW D clW ck ct N ad P (fun _ => True) S w G0)) (yC (none) (MW D clW ck ct N ad P (mA N ad G0) S w o) G0 o (mA N ad G0)) (nmax ct - G0.2.1) (zmax ct - G0.2.2) (mA N ad G0) := by
  refine Y.start (val := fun (o : GS) => none) (Bt := fun (o : GS) => MW D clW ck ct N ad P (mA N ad G0) S w o) (Go := fun (o : GS) => o) ho (by decide) (by rcases p1 with _ | _ <;> exact Nat.le_of_ble_eq_true rfl) (lv := [(0, .ref q0), (1, va_rf p1), (2, .int p2)]) (by rcases p1 with _ | _ <;> rfl) ?_
  intro p e s m args below meth c E hr hlk hnm hZ hU hS ls hl
  obtain ⟨⟨hx, hb, hml, hown, hts⟩, hK, hJ⟩ := id E
  unfold sL_fastRemove
  refine x_aload_n hx hb dJ2_fastRemove_0 rfl (lv_at hl 0 rfl) ?_
  refine x_dup hx hb dJ2_fastRemove_1 rfl ?_
  refine fx_getI E hU.1.1.2.1 (ci := 10) rfl in_J2 0 (by decide) (hts _ q180) (u_same (hts _ q181)) dJ2_fastRemove_2 (fun v1 => ?_)
  refine x_iconst (v := 1) hx hb dJ2_fastRemove_5 (by decide) ?_
  refine x_iadd hx hb dJ2_fastRemove_6 ?_
  refine gy_put (v := .int (v1 + (1 : Int32))) (ty0 := tyJ2) E hU hS (ci := 10) rfl in_J2 tyJ2_ok nmJ2 0 (by decide) (hts _ q180) (u_same (hts _ q181)) (Or.inl rfl) rfl rfl dJ2_fastRemove_7 (fun G2 H locs hU hS => ?_)
  refine x_aload_n hx hb dJ2_fastRemove_10 rfl (lv_at hl 0 rfl) ?_
  refine fx_getI E hU.1.1.2.1 (ci := 10) rfl in_J2 2 (by decide) (hts _ q178) (fun _ h => h) dJ2_fastRemove_11 (fun v3 => ?_)
  refine x_iconst (v := 1) hx hb dJ2_fastRemove_14 (by decide) ?_
  refine x_isub hx hb dJ2_fastRemove_15 ?_
  refine x_dup hx hb dJ2_fastRemove_16 rfl ?_
  refine x_istore_n (lv' := [(3, .int (v3 - (1 : Int32))), (0, .ref q0), (1, va_rf p1), (2, .int p2)]) hx hb dJ2_fastRemove_17 rfl hl (by decide) rfl (fun ls hl => ?_)
  refine x_iload_n hx hb dJ2_fastRemove_18 rfl (lv_at hl 3 rfl) ?_
  refine x_icmp_le (tgt := 34) hx hb dJ2_fastRemove_19 (by decide) (fun hc => ?_) (fun hc => ?_)
  · refine x_aload_nO hx hb dJ2_fastRemove_34 rfl (lv_at hl 2 rfl) ?_
    refine x_aload_n hx hb dJ2_fastRemove_35 rfl (lv_at hl 1 rfl) ?_
    refine x_iload_n hx hb dJ2_fastRemove_36 rfl (lv_at hl 0 rfl) ?_
    refine x_dup_x1 hx hb dJ2_fastRemove_37 rfl rfl ?_
    refine gy_put (v := .int (v3 - (1 : Int32))) (ty0 := tyJ2) E hU hS (ci := 10) rfl in_J2 tyJ2_ok nmJ2 2 (by decide) (hts _ q178) (fun _ h => h) (Or.inl rfl) rfl rfl dJ2_fastRemove_38 (fun G4 H locs hU hS => ?_)
    refine x_null hx hb dJ2_fastRemove_41 ?_
    refine X.onR (fun b5 hb_ => ?_)
    subst hb_
    refine gy_aast (r := none) E hU hS dJ2_fastRemove_42 (fun G6 H locs hU hS => ?_)
    exact y_vret hx hb hr hlk hZ hU hS rfl rfl hU.1 dJ2_fastRemove_43
  · refine x_aload_nO hx hb dJ2_fastRemove_22 rfl (lv_at hl 2 rfl) ?_
    refine x_iload_n hx hb dJ2_fastRemove_23 rfl (lv_at hl 3 rfl) ?_
    refine x_iconst (v := 1) hx hb dJ2_fastRemove_24 (by decide) ?_
    refine x_iadd hx hb dJ2_fastRemove_25 ?_
    refine x_aload_nO hx hb dJ2_fastRemove_26 rfl (lv_at hl 2 rfl) ?_
    refine x_iload_n hx hb dJ2_fastRemove_27 rfl (lv_at hl 3 rfl) ?_
    refine x_iload_n hx hb dJ2_fastRemove_28 rfl (lv_at hl 0 rfl) ?_
    refine x_iload_n hx hb dJ2_fastRemove_29 rfl (lv_at hl 3 rfl) ?_
    refine x_isub hx hb dJ2_fastRemove_30 ?_
    refine X.onR (fun b7 hb_ => ?_)
    subst hb_
    refine gy_copyQ E hU hS (hts _ q447) (hts _ q416) (hts _ q415) (hts _ q136) ⟨Nat.le_of_ble_eq_true rfl, Nat.le_of_ble_eq_true rfl⟩ hl.1 (Nat.le_of_ble_eq_true rfl) dJ2_fastRemove_31 (fun G8 H locs hU hS => ?_)
    refine x_aload_n hx hb dJ2_fastRemove_34 rfl (lv_at hl 2 rfl) ?_
    refine x_aload_n hx hb dJ2_fastRemove_35 rfl (lv_at hl 1 rfl) ?_
    refine x_iload_n hx hb dJ2_fastRemove_36 rfl (lv_at hl 0 rfl) ?_
    refine x_dup_x1 hx hb dJ2_fastRemove_37 rfl rfl ?_
    refine gy_put (v := .int (v3 - (1 : Int32))) (ty0 := tyJ2) E hU hS (ci := 10) rfl in_J2 tyJ2_ok nmJ2 2 (by decide) (hts _ q178) (fun _ h => h) (Or.inl rfl) rfl rfl dJ2_fastRemove_38 (fun G9 H locs hU hS => ?_)
    refine x_null hx hb dJ2_fastRemove_41 ?_
    refine gy_aast (r := none) E hU hS dJ2_fastRemove_42 (fun G10 H locs hU hS => ?_)
    exact y_vret hx hb hr hlk hZ hU hS rfl rfl hU.1 dJ2_fastRemove_43
section KZ
variable {ρ : Type} {p : Program} {l : Launch} {e : Env} {R : Room} {s : State} {m : MethodId} {args : Array Value} {below : List Frame} {meth : Method} {c : Code} {H : Heap} {locs : List Loc} {Qf : ρ → State → Prop}
variable {cc : ByteArray} {pc nL L M q0 : Nat} {ls : Array Slot} {rest : List Value}
variable {D : va_G} {ct : CT} {ck : Nat → UC} {N : Nat} {ad : Nat → Nat} {P : Nat → Nat → Option Nat} {A : Nat → Prop} {S : US} {w : Int64} {G0 G : GS}
theorem kzJ2_L_fastRemove {p1 : (Option Nat)} {p2 : Int32} (E : ME p m c cc nL s args RJ2 D clW ct) (hZ : YC ct R s A G0) (hY : YW D clW ck ct N ad P A S w G0 G H) (hS : va_S A s.heap H locs) (hR : 1 + 1 ≤ R.frames ∧ 8 + (4 + 11) + 60 ≤ R.locals) (hsize : ls.size = nL) (hW : (rest.map fun v => v.category).sum ≤ 8) (hdg : decode cc pc = .ok (.invokevirtual 144, 3)) {kp : GS → Option ρ} (kk : ∀ (o : GS) (H1 : Heap) (locs1 : List Loc), YW D clW ck ct N ad P A S w G0 o H1 → va_S A s.heap H1 locs1 → X p l e R s m args below meth c H1 locs1 (o.2.1 - G0.2.1) (o.2.2 - G0.2.2) Qf (kp o) (F0 m (pc + 3) ls (rest))) : X p l e R s m args below meth c H locs (G.2.1 - G0.2.1) (G.2.2 - G0.2.2) Qf (hC G.1 q0 10 (callK (sL_fastRemove ct G q0 p1 p2) kp)) (F0 m pc ls (.int p2 :: va_rf p1 :: .ref q0 :: rest)) := X.hC fun fs bw hq => gy_mx (val' := fun (o : GS) => none) (len := 3) (So := fun (o : GS) => S) (Po := fun (o : GS) => P) (Gn := fun (o : GS) => o) hZ hY hS (fun o ho => rqV (As := [va_rf p1, .int p2]) E hY.1.any (recvA E.2.1 hY.1.1.2.1 hq rfl) (by rw [hY.1.2.1]; exact mYL_fastRemove l D ct ck N ad P S w G q0 p1 p2 o ho) (cwV 2 E.1.2.2.2.2 (lw_V q443 q445 qs5 q117 q446) rfl rfl rfl (by decide +kernel) hR) rfl hsize rfl hW hdg (hY.room hZ)) kk
end KZ

set_option maxHeartbeats 4000000 in
theorem mYL_remove (l : Launch) (D : va_G) (ct : CT) (ck : Nat → UC) (N : Nat) (ad : Nat → Nat) (P : Nat → Nat → Option Nat) (S : US) (w : Int64) (G0 : GS) (q0 : Nat) (p1 : Int32) (o : ((Option Nat) × GS)) (ho : sL_remove ct G0 q0 p1 = some o) : Met l yJ2_remove (ws_ yJ2_remove cJ2_remove 4 (some (.object "java/lang/Object"))) { frames := 3, cells := nmax ct - G0.2.1, slots := zmax ct - G0.2.2, locals := 83 } (mP D clW ct [.ref q0, .int p1] G0.2.1 (MW D clW ck ct N ad P (fun _ => True) S w G0)) (yC (some (va_rf o.1)) (MW D clW ck ct N ad P (mA N ad G0) S w o.2) G0 o.2 (mA N ad G0)) (nmax ct - G0.2.1) (zmax ct - G0.2.2) (mA N ad G0) := by
  refine Y.start (val := fun (o : ((Option Nat) × GS)) => some (va_rf o.1)) (Bt := fun (o : ((Option Nat) × GS)) => MW D clW ck ct N ad P (mA N ad G0) S w o.2) (Go := fun (o : ((Option Nat) × GS)) => o.2) ho (by decide) (Nat.le_of_ble_eq_true rfl) (lv := [(0, .ref q0), (1, .int p1)]) rfl ?_
  intro p e s m args below meth c E hr hlk hnm hZ hU hS ls hl
  obtain ⟨⟨hx, hb, hml, hown, hts⟩, hK, hJ⟩ := id E
  replace hr : meth.sig.returnType = some (FieldType.object "java/lang/Object") ∧ ((∃ n, (FieldType.object "java/lang/Object") = .object n) ∨ ∃ t, (FieldType.object "java/lang/Object") = .array t) := ⟨hr, Or.inl ⟨_, rfl⟩⟩
  unfold sL_remove
  refine x_iload_n hx hb dJ2_remove_0 rfl (lv_at hl 1 rfl) ?_
  refine x_aload_n hx hb dJ2_remove_1 rfl (lv_at hl 0 rfl) ?_
  refine fx_getI E hU.1.1.2.1 (ci := 10) rfl in_J2 2 (by decide) (hts _ q178) (fun _ h => h) dJ2_remove_2 (fun v1 => ?_)
  refine kzJ2_O_checkIndex E hZ hU hS ⟨Nat.le_of_ble_eq_true rfl, Nat.le_of_ble_eq_true rfl⟩ hl.1 (Nat.le_of_ble_eq_true rfl) dJ2_remove_5 (fun o2 H locs hU hS => ?_)
  refine x_pop hx hb dJ2_remove_8 rfl ?_
  refine x_aload_n hx hb dJ2_remove_9 rfl (lv_at hl 0 rfl) ?_
  refine fx_getR E hU.1.1.2.1 (ci := 10) rfl in_J2 1 (by decide) (hts _ q177) (fun _ h => h) dJ2_remove_10 (fun r3 => ?_)
  refine x_astore_nO (lv' := [(2, va_rf r3), (0, .ref q0), (1, .int p1)]) hx hb dJ2_remove_13 rfl hl (by decide) rfl (fun ls hl => ?_)
  refine x_aload_nO hx hb dJ2_remove_14 rfl (lv_at hl 0 rfl) ?_
  refine x_iload_n hx hb dJ2_remove_15 rfl (lv_at hl 2 rfl) ?_
  refine X.onR (fun b4 hb_ => ?_)
  subst hb_
  refine fx_aaload E hU.1.1.2.1 (t := 4) rfl dJ2_remove_16 (fun r5 => ?_)
  refine x_astore_nO (lv' := [(3, va_rf r5), (2, .ref b4), (0, .ref q0), (1, .int p1)]) hx hb dJ2_remove_17 rfl hl (by decide) rfl (fun ls hl => ?_)
  refine x_aload_n hx hb dJ2_remove_18 rfl (lv_at hl 2 rfl) ?_
  refine x_aload_n hx hb dJ2_remove_19 rfl (lv_at hl 1 rfl) ?_
  refine x_iload_n hx hb dJ2_remove_20 rfl (lv_at hl 3 rfl) ?_
  refine kzJ2_L_fastRemove E hZ hU hS ⟨Nat.le_of_ble_eq_true rfl, Nat.le_of_ble_eq_true rfl⟩ hl.1 (Nat.le_of_ble_eq_true rfl) dJ2_remove_21 (fun o6 H locs hU hS => ?_)
  refine x_aload_nO hx hb dJ2_remove_24 rfl (lv_at hl 0 rfl) ?_
  exact y_aret (r := r5) hx hb hr hlk hZ hU hS rfl rfl hU.1 dJ2_remove_25
section KZ
variable {ρ : Type} {p : Program} {l : Launch} {e : Env} {R : Room} {s : State} {m : MethodId} {args : Array Value} {below : List Frame} {meth : Method} {c : Code} {H : Heap} {locs : List Loc} {Qf : ρ → State → Prop}
variable {cc : ByteArray} {pc nL L M q0 : Nat} {ls : Array Slot} {rest : List Value}
variable {D : va_G} {ct : CT} {ck : Nat → UC} {N : Nat} {ad : Nat → Nat} {P : Nat → Nat → Option Nat} {A : Nat → Prop} {S : US} {w : Int64} {G0 G : GS}
theorem kzX1_L_remove {p1 : Int32} (E : ME p m c cc nL s args RX1 D clW ct) (hZ : YC ct R s A G0) (hY : YW D clW ck ct N ad P A S w G0 G H) (hS : va_S A s.heap H locs) (hR : 3 + 1 ≤ R.frames ∧ 8 + (4 + 11) + 83 ≤ R.locals) (hsize : ls.size = nL) (hW : (rest.map fun v => v.category).sum ≤ 8) (hdg : decode cc pc = .ok (.invokeinterface 197 2, 5)) {kp : ((Option Nat) × GS) → Option ρ} (kk : ∀ (o : ((Option Nat) × GS)) (H1 : Heap) (locs1 : List Loc), YW D clW ck ct N ad P A S w G0 o.2 H1 → va_S A s.heap H1 locs1 → X p l e R s m args below meth c H1 locs1 (o.2.2.1 - G0.2.1) (o.2.2.2 - G0.2.2) Qf (kp o) (F0 m (pc + 5) ls (va_rf o.1 :: rest))) : X p l e R s m args below meth c H locs (G.2.1 - G0.2.1) (G.2.2 - G0.2.2) Qf (hC G.1 q0 10 (callK (sL_remove ct G q0 p1) kp)) (F0 m pc ls (.int p1 :: .ref q0 :: rest)) := X.hC fun fs bw hq => gy_mx (val' := fun (o : ((Option Nat) × GS)) => some (va_rf o.1)) (len := 5) (So := fun (o : ((Option Nat) × GS)) => S) (Po := fun (o : ((Option Nat) × GS)) => P) (Gn := fun (o : ((Option Nat) × GS)) => o.2) hZ hY hS (fun o ho => rqF (As := [.int p1]) E hY.1.any (E.2.1.1 10 _ rfl).2 (recvA E.2.1 hY.1.1.2.1 hq rfl) (by rw [hY.1.2.1]; exact mYL_remove l D ct ck N ad P S w G q0 p1 o ho) (va_cwF 1 E.1.2.2.2.2 (lw_F q429 q432 q434 q117 q436) rfl rfl rfl (E.2.2.2.2.2.1 ("java/util/ArrayList", ⟨"java/util/List", "remove", "(I)Ljava/lang/Object;"⟩, ⟨"java/util/ArrayList", "remove", "(I)Ljava/lang/Object;"⟩) (List.mem_of_getElem? (i := 2) rfl)) (by decide +kernel) hR) rfl hsize rfl hW hdg (hY.room hZ)) kk
end KZ

set_option maxHeartbeats 4000000 in
theorem mYL_toArray (l : Launch) (D : va_G) (ct : CT) (ck : Nat → UC) (N : Nat) (ad : Nat → Nat) (P : Nat → Nat → Option Nat) (S : US) (w : Int64) (G0 : GS) (q0 : Nat) (o : ((Option Nat) × GS)) (ho : sL_toArray ct G0 q0 = some o) : Met l yJ2_toArray (ws_ yJ2_toArray cJ2_toArray 1 (some (.array (.object "java/lang/Object")))) { frames := 3, cells := nmax ct - G0.2.1, slots := zmax ct - G0.2.2, locals := 104 } (mP D clW ct [.ref q0] G0.2.1 (MW D clW ck ct N ad P (fun _ => True) S w G0)) (yC (some (va_rf o.1)) (MW D clW ck ct N ad P (mA N ad G0) S w o.2) G0 o.2 (mA N ad G0)) (nmax ct - G0.2.1) (zmax ct - G0.2.2) (mA N ad G0) := by
  refine Y.start (val := fun (o : ((Option Nat) × GS)) => some (va_rf o.1)) (Bt := fun (o : ((Option Nat) × GS)) => MW D clW ck ct N ad P (mA N ad G0) S w o.2) (Go := fun (o : ((Option Nat) × GS)) => o.2) ho (by decide) (Nat.le_of_ble_eq_true rfl) (lv := [(0, .ref q0)]) rfl ?_
  intro p e s m args below meth c E hr hlk hnm hZ hU hS ls hl
  obtain ⟨⟨hx, hb, hml, hown, hts⟩, hK, hJ⟩ := id E
  replace hr : meth.sig.returnType = some (FieldType.array (FieldType.object "java/lang/Object")) ∧ ((∃ n, (FieldType.array (FieldType.object "java/lang/Object")) = .object n) ∨ ∃ t, (FieldType.array (FieldType.object "java/lang/Object")) = .array t) := ⟨hr, Or.inr ⟨_, rfl⟩⟩
  unfold sL_toArray
  refine x_aload_n hx hb dJ2_toArray_0 rfl (lv_at hl 0 rfl) ?_
  refine fx_getR E hU.1.1.2.1 (ci := 10) rfl in_J2 1 (by decide) (hts _ q177) (fun _ h => h) dJ2_toArray_1 (fun r1 => ?_)
  refine x_aload_n hx hb dJ2_toArray_4 rfl (lv_at hl 0 rfl) ?_
  refine fx_getI E hU.1.1.2.1 (ci := 10) rfl in_J2 2 (by decide) (hts _ q178) (fun _ h => h) dJ2_toArray_5 (fun v2 => ?_)
  refine kzJ2_Y_copyOf E hZ hU hS ⟨Nat.le_of_ble_eq_true rfl, Nat.le_of_ble_eq_true rfl⟩ hl.1 (Nat.le_of_ble_eq_true rfl) dJ2_toArray_8 (fun o3 H locs hU hS => ?_)
  exact y_aret (r := o3.1) hx hb hr hlk hZ hU hS rfl rfl hU.1 dJ2_toArray_11
section KZ
variable {ρ : Type} {p : Program} {l : Launch} {e : Env} {R : Room} {s : State} {m : MethodId} {args : Array Value} {below : List Frame} {meth : Method} {c : Code} {H : Heap} {locs : List Loc} {Qf : ρ → State → Prop}
variable {cc : ByteArray} {pc nL L M q0 : Nat} {ls : Array Slot} {rest : List Value}
variable {D : va_G} {ct : CT} {ck : Nat → UC} {N : Nat} {ad : Nat → Nat} {P : Nat → Nat → Option Nat} {A : Nat → Prop} {S : US} {w : Int64} {G0 G : GS}
theorem kzJ2_L_toArray (E : ME p m c cc nL s args RJ2 D clW ct) (hZ : YC ct R s A G0) (hY : YW D clW ck ct N ad P A S w G0 G H) (hS : va_S A s.heap H locs) (hR : 3 + 1 ≤ R.frames ∧ 8 + (1 + 11) + 104 ≤ R.locals) (hsize : ls.size = nL) (hW : (rest.map fun v => v.category).sum ≤ 8) (hdg : decode cc pc = .ok (.invokeinterface 42 1, 5)) {kp : ((Option Nat) × GS) → Option ρ} (kk : ∀ (o : ((Option Nat) × GS)) (H1 : Heap) (locs1 : List Loc), YW D clW ck ct N ad P A S w G0 o.2 H1 → va_S A s.heap H1 locs1 → X p l e R s m args below meth c H1 locs1 (o.2.2.1 - G0.2.1) (o.2.2.2 - G0.2.2) Qf (kp o) (F0 m (pc + 5) ls (va_rf o.1 :: rest))) : X p l e R s m args below meth c H locs (G.2.1 - G0.2.1) (G.2.2 - G0.2.2) Qf (hC G.1 q0 10 (callK (sL_toArray ct G q0) kp)) (F0 m pc ls (.ref q0 :: rest)) := X.hC fun fs bw hq => gy_mx (val' := fun (o : ((Option Nat) × GS)) => some (va_rf o.1)) (len := 5) (So := fun (o : ((Option Nat) × GS)) => S) (Po := fun (o : ((Option Nat) × GS)) => P) (Gn := fun (o : ((Option Nat) × GS)) => o.2) hZ hY hS (fun o ho => rqF (As := []) E hY.1.any (E.2.1.1 10 _ rfl).2 (recvA E.2.1 hY.1.1.2.1 hq rfl) (by rw [hY.1.2.1]; exact mYL_toArray l D ct ck N ad P S w G q0 o ho) (va_cwF 0 E.1.2.2.2.2 (lw_F q666 q670 q672 q117 q674) rfl rfl rfl (E.2.2.2.2.2.1 ("java/util/ArrayList", ⟨"java/util/Collection", "toArray", "()[Ljava/lang/Object;"⟩, ⟨"java/util/ArrayList", "toArray", "()[Ljava/lang/Object;"⟩) (List.mem_of_getElem? (i := 5) rfl)) (by decide +kernel) hR) rfl hsize rfl hW hdg (hY.room hZ)) kk
end KZ

set_option maxHeartbeats 4000000 in
theorem mYM_init (l : Launch) (D : va_G) (ct : CT) (ck : Nat → UC) (N : Nat) (ad : Nat → Nat) (P : Nat → Nat → Option Nat) (S : US) (w : Int64) (G0 : GS) (q0 : Nat) (o : GS) (ho : sM_init ct G0 q0 = some o) : Met l yJ17_init (ws_ yJ17_init cJ17_init 1 none) { frames := 1, cells := nmax ct - G0.2.1, slots := zmax ct - G0.2.2, locals := 60 } (mP D clW ct [.ref q0] G0.2.1 (MW D clW ck ct N ad P (fun _ => True) S w G0)) (yC (none) (MW D clW ck ct N ad P (mA N ad G0) S w o) G0 o (mA N ad G0)) (nmax ct - G0.2.1) (zmax ct - G0.2.2) (mA N ad G0) := by
  refine Y.start (val := fun (o : GS) => none) (Bt := fun (o : GS) => MW D clW ck ct N ad P (mA N ad G0) S w o) (Go := fun (o : GS) => o) ho (by decide) (Nat.le_of_ble_eq_true rfl) (lv := [(0, .ref q0)]) rfl ?_
  intro p e s m args below meth c E hr hlk hnm hZ hU hS ls hl
  obtain ⟨⟨hx, hb, hml, hown, hts⟩, hK, hJ⟩ := id E
  unfold sM_init
  refine x_aload_n hx hb dJ17_init_0 rfl (lv_at hl 0 rfl) ?_
  refine gx_objInit E (hts _ q1357) (hts _ q155) (hts _ q156) ⟨Nat.le_of_ble_eq_true rfl, Nat.le_of_ble_eq_true rfl⟩ hl.1 (Nat.le_of_ble_eq_true rfl) dJ17_init_1 ?_
  exact y_vret hx hb hr hlk hZ hU hS rfl rfl hU.1 dJ17_init_4
section KZ
variable {ρ : Type} {p : Program} {l : Launch} {e : Env} {R : Room} {s : State} {m : MethodId} {args : Array Value} {below : List Frame} {meth : Method} {c : Code} {H : Heap} {locs : List Loc} {Qf : ρ → State → Prop}
variable {cc : ByteArray} {pc nL L M q0 : Nat} {ls : Array Slot} {rest : List Value}
variable {D : va_G} {ct : CT} {ck : Nat → UC} {N : Nat} {ad : Nat → Nat} {P : Nat → Nat → Option Nat} {A : Nat → Prop} {S : US} {w : Int64} {G0 G : GS}
theorem kzJ18_M_init (E : ME p m c cc nL s args RJ18 D clW ct) (hZ : YC ct R s A G0) (hY : YW D clW ck ct N ad P A S w G0 G H) (hS : va_S A s.heap H locs) (hR : 1 + 1 ≤ R.frames ∧ 8 + (1 + 11) + 60 ≤ R.locals) (hsize : ls.size = nL) (hW : (rest.map fun v => v.category).sum ≤ 8) (hdg : decode cc pc = .ok (.invokespecial 202, 3)) {kp : GS → Option ρ} (kk : ∀ (o : GS) (H1 : Heap) (locs1 : List Loc), YW D clW ck ct N ad P A S w G0 o H1 → va_S A s.heap H1 locs1 → X p l e R s m args below meth c H1 locs1 (o.2.1 - G0.2.1) (o.2.2 - G0.2.2) Qf (kp o) (F0 m (pc + 3) ls (rest))) : X p l e R s m args below meth c H locs (G.2.1 - G0.2.1) (G.2.2 - G0.2.2) Qf (callK (sM_init ct G q0) kp) (F0 m pc ls (.ref q0 :: rest)) := gy_mx (val' := fun (o : GS) => none) (len := 3) (So := fun (o : GS) => S) (Po := fun (o : GS) => P) (Gn := fun (o : GS) => o) hZ hY hS (fun o ho => rqI (As := []) E hY.1.any (by rw [hY.1.2.1]; exact mYM_init l D ct ck N ad P S w G q0 o ho) ⟨callB_of 0 E.1.2.2.2.2 (lw_meth q1356) rfl rfl rfl (E.1.2.2.2.2 _ q137) (E.1.2.2.2.2 _ q1354) (by decide +kernel) hR, rfl, E.1.2.2.2.2 _ q1355⟩ rfl hsize rfl hW hdg (hY.room hZ)) kk
end KZ

set_option maxHeartbeats 4000000 in
theorem mYN_init (l : Launch) (D : va_G) (ct : CT) (ck : Nat → UC) (N : Nat) (ad : Nat → Nat) (P : Nat → Nat → Option Nat) (S : US) (w : Int64) (G0 : GS) (q0 : Nat) (p1 : Int32) (o : GS) (ho : sN_init ct G0 q0 p1 = some o) : Met l yJ18_init (ws_ yJ18_init cJ18_init 2 none) { frames := 2, cells := nmax ct - G0.2.1, slots := zmax ct - G0.2.2, locals := 80 } (mP D clW ct [.ref q0, .int p1] G0.2.1 (MW D clW ck ct N ad P (fun _ => True) S w G0)) (yC (none) (MW D clW ck ct N ad P (mA N ad G0) S w o) G0 o (mA N ad G0)) (nmax ct - G0.2.1) (zmax ct - G0.2.2) (mA N ad G0) := by
  refine Y.start (val := fun (o : GS) => none) (Bt := fun (o : GS) => MW D clW ck ct N ad P (mA N ad G0) S w o) (Go := fun (o : GS) => o) ho (by decide) (Nat.le_of_ble_eq_true rfl) (lv := [(0, .ref q0), (1, .int p1)]) rfl ?_
  intro p e s m args below meth c E hr hlk hnm hZ hU hS ls hl
  obtain ⟨⟨hx, hb, hml, hown, hts⟩, hK, hJ⟩ := id E
  unfold sN_init
  refine x_aload_n hx hb dJ18_init_0 rfl (lv_at hl 0 rfl) ?_
  refine kzJ18_M_init E hZ hU hS ⟨Nat.le_of_ble_eq_true rfl, Nat.le_of_ble_eq_true rfl⟩ hl.1 (Nat.le_of_ble_eq_true rfl) dJ18_init_1 (fun o1 H locs hU hS => ?_)
  refine x_aload_n hx hb dJ18_init_4 rfl (lv_at hl 0 rfl) ?_
  refine x_iload_n hx hb dJ18_init_5 rfl (lv_at hl 1 rfl) ?_
  refine gy_put (v := .int p1) (ty0 := tyJ18) E hU hS (ci := 12) rfl in_J18 tyJ18_ok nmJ18 0 (by decide) (hts _ q1358) (fun _ h => h) (Or.inr ⟨rfl, hnm, rfl⟩) rfl rfl dJ18_init_6 (fun G2 H locs hU hS => ?_)
  exact y_vret hx hb hr hlk hZ hU hS rfl rfl hU.1 dJ18_init_9
section KZ
variable {ρ : Type} {p : Program} {l : Launch} {e : Env} {R : Room} {s : State} {m : MethodId} {args : Array Value} {below : List Frame} {meth : Method} {c : Code} {H : Heap} {locs : List Loc} {Qf : ρ → State → Prop}
variable {cc : ByteArray} {pc nL L M q0 : Nat} {ls : Array Slot} {rest : List Value}
variable {D : va_G} {ct : CT} {ck : Nat → UC} {N : Nat} {ad : Nat → Nat} {P : Nat → Nat → Option Nat} {A : Nat → Prop} {S : US} {w : Int64} {G0 G : GS}
theorem kzJ18_N_init {p1 : Int32} (E : ME p m c cc nL s args RJ18 D clW ct) (hZ : YC ct R s A G0) (hY : YW D clW ck ct N ad P A S w G0 G H) (hS : va_S A s.heap H locs) (hR : 2 + 1 ≤ R.frames ∧ 8 + (2 + 11) + 80 ≤ R.locals) (hsize : ls.size = nL) (hW : (rest.map fun v => v.category).sum ≤ 8) (hdg : decode cc pc = .ok (.invokespecial 199, 3)) {kp : GS → Option ρ} (kk : ∀ (o : GS) (H1 : Heap) (locs1 : List Loc), YW D clW ck ct N ad P A S w G0 o H1 → va_S A s.heap H1 locs1 → X p l e R s m args below meth c H1 locs1 (o.2.1 - G0.2.1) (o.2.2 - G0.2.2) Qf (kp o) (F0 m (pc + 3) ls (rest))) : X p l e R s m args below meth c H locs (G.2.1 - G0.2.1) (G.2.2 - G0.2.2) Qf (callK (sN_init ct G q0 p1) kp) (F0 m pc ls (.int p1 :: .ref q0 :: rest)) := gy_mx (val' := fun (o : GS) => none) (len := 3) (So := fun (o : GS) => S) (Po := fun (o : GS) => P) (Gn := fun (o : GS) => o) hZ hY hS (fun o ho => rqI (As := [.int p1]) E hY.1.any (by rw [hY.1.2.1]; exact mYN_init l D ct ck N ad P S w G q0 p1 o ho) ⟨callB_of 1 E.1.2.2.2.2 (lw_meth q1353) rfl rfl rfl (E.1.2.2.2.2 _ q138) (E.1.2.2.2.2 _ q1351) (by decide +kernel) hR, rfl, E.1.2.2.2.2 _ q1352⟩ rfl hsize rfl hW hdg (hY.room hZ)) kk
end KZ

set_option maxHeartbeats 4000000 in
theorem mYN_valueOf (l : Launch) (D : va_G) (ct : CT) (ck : Nat → UC) (N : Nat) (ad : Nat → Nat) (P : Nat → Nat → Option Nat) (S : US) (w : Int64) (G0 : GS) (p1 : Int32) (o : ((Option Nat) × GS)) (ho : sN_valueOf ct G0 p1 = some o) : Met l yJ18_valueOf (ws_ yJ18_valueOf cJ18_valueOf 1 (some (.object "java/lang/Integer"))) { frames := 3, cells := nmax ct - G0.2.1, slots := zmax ct - G0.2.2, locals := 101 } (mP D clW ct [.int p1] G0.2.1 (MW D clW ck ct N ad P (fun _ => True) S w G0)) (yC (some (va_rf o.1)) (MW D clW ck ct N ad P (mA N ad G0) S w o.2) G0 o.2 (mA N ad G0)) (nmax ct - G0.2.1) (zmax ct - G0.2.2) (mA N ad G0) := by
  refine Y.start (val := fun (o : ((Option Nat) × GS)) => some (va_rf o.1)) (Bt := fun (o : ((Option Nat) × GS)) => MW D clW ck ct N ad P (mA N ad G0) S w o.2) (Go := fun (o : ((Option Nat) × GS)) => o.2) ho (by decide) (Nat.le_of_ble_eq_true rfl) (lv := [(0, .int p1)]) rfl ?_
  intro p e s m args below meth c E hr hlk hnm hZ hU hS ls hl
  obtain ⟨⟨hx, hb, hml, hown, hts⟩, hK, hJ⟩ := id E
  replace hr : meth.sig.returnType = some (FieldType.object "java/lang/Integer") ∧ ((∃ n, (FieldType.object "java/lang/Integer") = .object n) ∨ ∃ t, (FieldType.object "java/lang/Integer") = .array t) := ⟨hr, Or.inl ⟨_, rfl⟩⟩
  unfold sN_valueOf
  refine x_iload_n hx hb dJ18_valueOf_0 rfl (lv_at hl 0 rfl) ?_
  refine x_bipush (v := -128) hx hb dJ18_valueOf_1 (by decide) ?_
  refine x_icmp_lt (tgt := 23) hx hb dJ18_valueOf_3 (by decide) (fun hc => ?_) (fun hc => ?_)
  · refine gy_new (ty := tyJ18) E hZ hU hS in_J18 tyJ18_ok (hts _ q1349) (hts _ q1350) (hts _ q138) (ci := 12) rfl (by decide) dJ18_valueOf_23 (fun q1 G2 H hU hS => ?_)
    refine x_dup hx hb dJ18_valueOf_26 rfl ?_
    refine x_iload_n hx hb dJ18_valueOf_27 rfl (lv_at hl 0 rfl) ?_
    refine kzJ18_N_init E hZ hU hS ⟨Nat.le_of_ble_eq_true rfl, Nat.le_of_ble_eq_true rfl⟩ hl.1 (Nat.le_of_ble_eq_true rfl) dJ18_valueOf_28 (fun o3 H locs hU hS => ?_)
    exact y_aret (r := (some q1)) hx hb hr hlk hZ hU hS rfl rfl hU.1 dJ18_valueOf_31
  · refine x_iload_n hx hb dJ18_valueOf_6 rfl (lv_at hl 0 rfl) ?_
    refine gx_gets E hU.1.1 (List.mem_of_getElem? (i := 4) rfl) (hts _ q1345) (fun _ h => h) dJ18_valueOf_7 ?_
    refine x_icmp_gt (tgt := 23) hx hb dJ18_valueOf_10 (by decide) (fun hc => ?_) (fun hc => ?_)
    · refine gy_new (ty := tyJ18) E hZ hU hS in_J18 tyJ18_ok (hts _ q1349) (hts _ q1350) (hts _ q138) (ci := 12) rfl (by decide) dJ18_valueOf_23 (fun q4 G5 H hU hS => ?_)
      refine x_dup hx hb dJ18_valueOf_26 rfl ?_
      refine x_iload_n hx hb dJ18_valueOf_27 rfl (lv_at hl 0 rfl) ?_
      refine kzJ18_N_init E hZ hU hS ⟨Nat.le_of_ble_eq_true rfl, Nat.le_of_ble_eq_true rfl⟩ hl.1 (Nat.le_of_ble_eq_true rfl) dJ18_valueOf_28 (fun o6 H locs hU hS => ?_)
      exact y_aret (r := (some q4)) hx hb hr hlk hZ hU hS rfl rfl hU.1 dJ18_valueOf_31
    · refine gx_gets E hU.1.1 (List.mem_of_getElem? (i := 3) rfl) (hts _ q1347) (fun _ h => h) dJ18_valueOf_13 ?_
      refine x_iload_n hx hb dJ18_valueOf_16 rfl (lv_at hl 0 rfl) ?_
      refine x_sipush (v := 128) hx hb dJ18_valueOf_17 (by decide) ?_
      refine x_iadd hx hb dJ18_valueOf_20 ?_
      refine gx_cacheL E hU.1.1 dJ18_valueOf_21 ?_
      exact y_aret (r := (some (ct.2.1 (1000 + (p1 + (128 : Int32)).toNatClampNeg)))) hx hb hr hlk hZ hU hS rfl rfl hU.1 dJ18_valueOf_22
section KZ
variable {ρ : Type} {p : Program} {l : Launch} {e : Env} {R : Room} {s : State} {m : MethodId} {args : Array Value} {below : List Frame} {meth : Method} {c : Code} {H : Heap} {locs : List Loc} {Qf : ρ → State → Prop}
variable {cc : ByteArray} {pc nL L M q0 : Nat} {ls : Array Slot} {rest : List Value}
variable {D : va_G} {ct : CT} {ck : Nat → UC} {N : Nat} {ad : Nat → Nat} {P : Nat → Nat → Option Nat} {A : Nat → Prop} {S : US} {w : Int64} {G0 G : GS}
theorem kzX1_N_valueOf {p1 : Int32} (E : ME p m c cc nL s args RX1 D clW ct) (hZ : YC ct R s A G0) (hY : YW D clW ck ct N ad P A S w G0 G H) (hS : va_S A s.heap H locs) (hR : 3 + 1 ≤ R.frames ∧ 8 + (1 + 11) + 101 ≤ R.locals) (hsize : ls.size = nL) (hW : (rest.map fun v => v.category).sum ≤ 8) (hdg : decode cc pc = .ok (.invokestatic 304, 3)) {kp : ((Option Nat) × GS) → Option ρ} (kk : ∀ (o : ((Option Nat) × GS)) (H1 : Heap) (locs1 : List Loc), YW D clW ck ct N ad P A S w G0 o.2 H1 → va_S A s.heap H1 locs1 → X p l e R s m args below meth c H1 locs1 (o.2.2.1 - G0.2.1) (o.2.2.2 - G0.2.2) Qf (kp o) (F0 m (pc + 3) ls (va_rf o.1 :: rest))) : X p l e R s m args below meth c H locs (G.2.1 - G0.2.1) (G.2.2 - G0.2.2) Qf (callK (sN_valueOf ct G p1) kp) (F0 m pc ls (.int p1 :: rest)) := gy_mx (val' := fun (o : ((Option Nat) × GS)) => some (va_rf o.1)) (len := 3) (So := fun (o : ((Option Nat) × GS)) => S) (Po := fun (o : ((Option Nat) × GS)) => P) (Gn := fun (o : ((Option Nat) × GS)) => o.2) hZ hY hS (fun o ho => rqS (As := [.int p1]) E hY.1.any (by rw [hY.1.2.1]; exact mYN_valueOf l D ct ck N ad P S w G p1 o ho) (va_cwS 1 E.1.2.2.2.2 (lw_S q1747 q1343 q138 q1344) rfl rfl rfl (by decide +kernel) hR) rfl hsize rfl hW hdg (hY.room hZ)) kk
end KZ
